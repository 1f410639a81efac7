/-! THE REFERENCE, walks 2 -/
set_option maxRecDepth 100000
theorem lkX3_70 : gLkS RX3 70 yX3_in cX3_in 3 (some .boolean) 3 := ⟨⟨q1558, q1559, q111, q1560⟩, ⟨by decide, by decide⟩, by decide +kernel⟩
theorem lkX3_188 : gLkV RX3 188 yX3_isOne cX3_isOne 4 (some .boolean) 3 := ⟨⟨q1692, q1694, qs73, q111, q1695⟩, ⟨by decide, by decide⟩, by decide +kernel⟩
theorem lkX3_191 : gLkS RX3 191 yX3_unless cX3_unless 1 (some .int) 1 := ⟨⟨q1696, q1697, q111, q1698⟩, ⟨by decide, by decide⟩, by decide +kernel⟩
theorem lkX3_156 : gLkV RX3 156 yX3_isRefused cX3_isRefused 2 (some .boolean) 1 := ⟨⟨q1561, q1563, qs48, q111, q1564⟩, ⟨by decide, by decide⟩, by decide +kernel⟩
theorem lkX3_198 : gLkV RX3 198 yX3_heardBy cX3_heardBy 12 (some .int) 5 := ⟨⟨q1714, q1716, qs76, q111, q1717⟩, ⟨by decide, by decide⟩, by decide +kernel⟩
theorem lkX3_195 : gLkS RX3 195 yX3_unless_2 cX3_unless_2 2 (some .int) 2 := ⟨⟨q1711, q1712, q111, q1713⟩, ⟨by decide, by decide⟩, by decide +kernel⟩
theorem lkX3_202 : gLkV RX3 202 yX3_silences cX3_silences 7 (some .int) 5 := ⟨⟨q1730, q1732, qs78, q111, q1733⟩, ⟨by decide, by decide⟩, by decide +kernel⟩
theorem lkX3_300 : gLkV RX3 300 yX3_masked cX3_masked 5 (some .int) 3 := ⟨⟨q1860, q1862, qs94, q111, q1863⟩, ⟨by decide, by decide⟩, by decide +kernel⟩
theorem lkX3_303 : gLkV RX3 303 yX3_toldOf cX3_toldOf 6 (some .int) 3 := ⟨⟨q1868, q1870, qs95, q111, q1871⟩, ⟨by decide, by decide⟩, by decide +kernel⟩
theorem lkX3_306 : gLkV RX3 306 yX3_areThrough cX3_areThrough 3 (some .boolean) 1 := ⟨⟨q1876, q1878, qs96, q111, q1879⟩, ⟨by decide, by decide⟩, by decide +kernel⟩
theorem lkX3_241 : gLkV RX3 241 yX3_doesNeed cX3_doesNeed 5 (some .boolean) 3 := ⟨⟨q1804, q1806, qs89, q111, q1807⟩, ⟨by decide, by decide⟩, by decide +kernel⟩
theorem lkX3_251 : gLkV RX3 251 yX3_bound cX3_bound 3 (some .int) 2 := ⟨⟨q1676, q1678, qs72, q111, q1679⟩, ⟨by decide, by decide⟩, by decide +kernel⟩
theorem lkX3_248 : gLkV RX3 248 yX3_firstNoise cX3_firstNoise 3 (some .int) 2 := ⟨⟨q1668, q1670, qs70, q111, q1671⟩, ⟨by decide, by decide⟩, by decide +kernel⟩
theorem lkX3_309 : gLkS RX3 309 yX3_lacks cX3_lacks 2 (some .int) 2 := ⟨⟨q1888, q1889, q111, q1890⟩, ⟨by decide, by decide⟩, by decide +kernel⟩
theorem lkX3_312 : gLkV RX3 312 yX3_plainOrNone cX3_plainOrNone 5 (some .int) 3 := ⟨⟨q1903, q1905, qs98, q111, q1906⟩, ⟨by decide, by decide⟩, by decide +kernel⟩
theorem lkX3_315 : gLkV RX3 315 yX3_isHelped cX3_isHelped 6 (some .boolean) 3 := ⟨⟨q1907, q1909, qs99, q111, q1910⟩, ⟨by decide, by decide⟩, by decide +kernel⟩
theorem lkX3_318 : gLkV RX3 318 yX3_doubtsOf cX3_doubtsOf 9 (some .int) 2 := ⟨⟨q1899, q1901, qs97, q111, q1902⟩, ⟨by decide, by decide⟩, by decide +kernel⟩
theorem c_X3_isOne {G : gG} {h : gH} {h0 : gH} {m : Nat} {ad : Nat → Nat} {f : Nat → Int} {g : Nat → Int → Int} (M : mSt G h0 h m ad f g) (route : Int) (ear : Int) (tone : Int) (hroute1 : -2147483648 ≤ route) (hroute2 : route ≤ 2147483647) (hear1 : -2147483648 ≤ ear) (hear2 : ear ≤ 2147483647) (htone1 : -2147483648 ≤ tone) (htone2 : tone ≤ 2147483647) (hf8 : f 8 = 0 ∨ f 8 = 1) (hO8 : f 8 = 1 → mOk (g 6) (g 18)) : gC G yX3_isOne (.code yX3_isOne cX3_isOne 4 (some .boolean)) 1 0 0 [.ref m, .int (iI route), .int (iI ear), .int (iI tone)] h (fun r h' => r = some (.int (iI (gb (mOne (f 8) (g 6) route ear tone)))) ∧ h = h') := by
  refine gC.of (by decide) (Nat.le_of_ble_eq_true rfl) rfl ?_
  intro X C E hI
  have C : gCtx G X cX3_isOne 4 RX3 1 (some .boolean) := C
  rcases id hf8 with e8 | e8
  · refine g_aload_n C dX3_isOne_0 0 rfl ?_
    refine g_get C dX3_isOne_1 kcX3 8 q1471 (fun _ _ _ _ h9 => h9) M.o (Nat.le_of_ble_eq_true rfl) rfl ?_
    rw [show f 8 = 0 from e8]
    refine g_if_eq C dX3_isOne_4 (tgt := 45) (by decide) (gRo (by decide) (by decide)) (fun _ => ?_) (fun q => absurd (by decide) q)
    refine g_iconst C dX3_isOne_45 ?_
    refine g_bret C E dX3_isOne_46 rfl false rfl ?_
    exact ⟨rB (by simp [mOne, *]), rfl⟩
  · have hO := hO8 e8
    obtain ⟨hI_, hr, hn, hT, hS_⟩ := id hO
    obtain ⟨hi0, hi1, hi2, hi3, hi4, hi5, hiA, hiR⟩ := id hI_
    obtain ⟨hs1, hs3, hs4, hs5, hs6, hs7, hs8, hs11, hs2⟩ := id hS_
    refine g_aload_n C dX3_isOne_0 0 rfl ?_
    refine g_get C dX3_isOne_1 kcX3 8 q1471 (fun _ _ _ _ h9 => h9) M.o (Nat.le_of_ble_eq_true rfl) rfl ?_
    rw [show f 8 = 1 from e8]
    refine g_if_eq C dX3_isOne_4 (tgt := 45) (by decide) (gRo (by decide) (by decide)) (fun q => absurd q (by decide)) (fun _ => ?_)
    refine g_iload_n C dX3_isOne_7 1 rfl ?_
    refine g_iconst C dX3_isOne_8 ?_
    refine g_iconst C dX3_isOne_9 ?_
    refine g_callS C dX3_isOne_10 lkX3_70 (As := [.int (iI route), .int (iI 0), .int (iI 1)]) (c_X3_in route 0 1 (by omega) (by omega) (by decide) (by decide) (by decide) (by decide)) rfl rfl ⟨Nat.le_of_ble_eq_true rfl, Nat.le_of_ble_eq_true rfl⟩ (Nat.le_of_ble_eq_true rfl) ?_
    rintro _ _ ⟨rfl, rfl⟩
    refine g_ifF C dX3_isOne_13 (tgt := 45) (by decide) (fun c13 => ?_) (fun c13 => ?_)
    · have fb1 := mIn_f.mp c13
      refine g_iconst C dX3_isOne_45 ?_
      refine g_bret C E dX3_isOne_46 rfl false rfl ?_
      exact ⟨rB (by simp [mOne, *]), rfl⟩
    · have fb2 := mIn_t.mp c13
      refine g_iload_n C dX3_isOne_16 2 rfl ?_
      refine g_iconst C dX3_isOne_17 ?_
      refine g_iconst C dX3_isOne_18 ?_
      refine g_callS C dX3_isOne_19 lkX3_70 (As := [.int (iI ear), .int (iI 0), .int (iI 1)]) (c_X3_in ear 0 1 (by omega) (by omega) (by decide) (by decide) (by decide) (by decide)) rfl rfl ⟨Nat.le_of_ble_eq_true rfl, Nat.le_of_ble_eq_true rfl⟩ (Nat.le_of_ble_eq_true rfl) ?_
      rintro _ _ ⟨rfl, rfl⟩
      refine g_ifF C dX3_isOne_22 (tgt := 45) (by decide) (fun c22 => ?_) (fun c22 => ?_)
      · have fb3 := mIn_f.mp c22
        refine g_iconst C dX3_isOne_45 ?_
        refine g_bret C E dX3_isOne_46 rfl false rfl ?_
        exact ⟨rB (by simp [mOne, *]), rfl⟩
      · have fb4 := mIn_t.mp c22
        refine g_iload_n C dX3_isOne_25 3 rfl ?_
        refine g_iconst C dX3_isOne_26 ?_
        refine g_aload_n C dX3_isOne_27 0 rfl ?_
        refine g_get C dX3_isOne_28 kcX3 6 q1469 (fun _ _ _ _ h9 => h9) M.o (Nat.le_of_ble_eq_true rfl) rfl ?_
        refine g_iconst C dX3_isOne_31 ?_
        refine g_iald C dX3_isOne_32 (v := g 6 0) M.a6 (by decide) (by decide) (by decide) rfl ?_
        refine g_iconst C dX3_isOne_33 ?_
        refine g_isub C dX3_isOne_34 (v := g 6 0 - 1) rfl ?_
        refine g_callS C dX3_isOne_35 lkX3_70 (As := [.int (iI tone), .int (iI 0), .int (iI (g 6 0 - 1))]) (c_X3_in tone 0 (g 6 0 - 1) (by omega) (by omega) (by decide) (by decide) (by omega) (by omega)) rfl rfl ⟨Nat.le_of_ble_eq_true rfl, Nat.le_of_ble_eq_true rfl⟩ (Nat.le_of_ble_eq_true rfl) ?_
        rintro _ _ ⟨rfl, rfl⟩
        refine g_ifF C dX3_isOne_38 (tgt := 45) (by decide) (fun c38 => ?_) (fun c38 => ?_)
        · have fb5 := mIn_f.mp c38
          refine g_iconst C dX3_isOne_45 ?_
          refine g_bret C E dX3_isOne_46 rfl false rfl ?_
          exact ⟨rB (by simp [mOne, *]), rfl⟩
        · have fb6 := mIn_t.mp c38
          refine g_iconst C dX3_isOne_41 ?_
          refine g_goto C dX3_isOne_42 (tgt := 46) (by decide) ?_
          refine g_bret C E dX3_isOne_46 rfl true rfl ?_
          exact ⟨rB (by simp [mOne, *]), rfl⟩
theorem c_X3_isRefused {G : gG} {h : gH} {h0 : gH} {m : Nat} {ad : Nat → Nat} {f : Nat → Int} {g : Nat → Int → Int} (M : mSt G h0 h m ad f g) (why : Int) (hwhy1 : -2147483648 ≤ why) (hwhy2 : why ≤ 2147483647) : gC G yX3_isRefused (.code yX3_isRefused cX3_isRefused 2 (some .boolean)) 0 0 0 [.ref m, .int (iI why)] h (fun r h' => r = some (.int (iI (gb (decide (why ≠ 0))))) ∧ mSt G h0 h' m ad (mRef f why) g) := by
  refine gC.of (by decide) (Nat.le_of_ble_eq_true rfl) rfl ?_
  intro X C E hI
  have C : gCtx G X cX3_isRefused 2 RX3 0 (some .boolean) := C
  refine g_aload_n C dX3_isRefused_0 0 rfl ?_
  refine g_iconst C dX3_isRefused_1 ?_
  refine g_put C dX3_isRefused_2 kcX3 0 q1463 (fun _ _ _ _ h9 => h9) M.o rfl (Nat.le_of_ble_eq_true rfl) rfl rfl (Nat.le_of_ble_eq_true rfl) (fs2 := mFs ad (va_up f 0 0)) rfl (fun h1 hh2 => ?_)
  have M3 : mSt G h0 h1 m ad (va_up f 0 0) g := M.put hh2 rfl
  refine g_aload_n C dX3_isRefused_5 0 rfl ?_
  refine g_iconst C dX3_isRefused_6 ?_
  refine g_put C dX3_isRefused_7 kcX3 3 q1466 (fun _ _ _ _ h9 => h9) M3.o rfl (Nat.le_of_ble_eq_true rfl) rfl rfl (Nat.le_of_ble_eq_true rfl) (fs2 := mFs ad (va_up (va_up f 0 0) 3 (-1))) rfl (fun h4 hh5 => ?_)
  have M6 : mSt G h0 h4 m ad (va_up (va_up f 0 0) 3 (-1)) g := M3.put hh5 rfl
  refine g_aload_n C dX3_isRefused_10 0 rfl ?_
  refine g_iload_n C dX3_isRefused_11 1 rfl ?_
  refine g_put C dX3_isRefused_12 kcX3 1 q1464 (fun _ _ _ _ h9 => h9) M6.o rfl (Nat.le_of_ble_eq_true rfl) rfl rfl (Nat.le_of_ble_eq_true rfl) (fs2 := mFs ad (va_up (va_up (va_up f 0 0) 3 (-1)) 1 why)) rfl (fun h7 hh8 => ?_)
  have M9 : mSt G h0 h7 m ad (va_up (va_up (va_up f 0 0) 3 (-1)) 1 why) g := M6.put hh8 rfl
  refine g_iload_n C dX3_isRefused_15 1 rfl ?_
  refine g_if_eq C dX3_isRefused_16 (tgt := 23) (by decide) (gRo (by omega) (by omega)) (fun c16 => ?_) (fun c16 => ?_)
  · refine g_iconst C dX3_isRefused_23 ?_
    refine g_bret C E dX3_isRefused_24 rfl false rfl ?_
    exact ⟨rB (by simp [*]), M9⟩
  · refine g_iconst C dX3_isRefused_19 ?_
    refine g_goto C dX3_isRefused_20 (tgt := 24) (by decide) ?_
    refine g_bret C E dX3_isRefused_24 rfl true rfl ?_
    exact ⟨rB (by simp [*]), M9⟩
theorem c_X3_ownOf {G : gG} {h : gH} {h0 : gH} {m : Nat} {ad : Nat → Nat} {f : Nat → Int} {g : Nat → Int → Int} (M : mSt G h0 h m ad f g) (route : Int) (ear : Int) (tone : Int) (hrt : 0 ≤ route ∧ route ≤ 1) (he : 0 ≤ ear ∧ ear ≤ 1) (ht : 0 ≤ tone ∧ tone < 6) : gC G yX3_ownOf (.code yX3_ownOf cX3_ownOf 4 (some .int)) 1 0 0 [.ref m, .int (iI route), .int (iI ear), .int (iI tone)] h (fun r h' => r = some (.int (iI (g 6 (6 + 12 * route + 6 * ear + tone)))) ∧ h = h') := by
  refine gC.of (by decide) (Nat.le_of_ble_eq_true rfl) rfl ?_
  intro X C E hI
  have C : gCtx G X cX3_ownOf 4 RX3 1 (some .int) := C
  rcases (show route = 0 ∨ route = 1 by omega) with rfl | rfl
  · refine g_iload_n C dX3_ownOf_0 1 rfl ?_
    refine g_if_ne C dX3_ownOf_1 (tgt := 13) (by decide) (gRo (by decide) (by decide)) (fun q => absurd (by decide) q) (fun _ => ?_)
    refine g_aload_n C dX3_ownOf_4 0 rfl ?_
    refine g_iload_n C dX3_ownOf_5 2 rfl ?_
    refine g_iload_n C dX3_ownOf_6 3 rfl ?_
    refine g_callV C dX3_ownOf_7 lkX3_181 M.o rfl (As := [.int (iI ear), .int (iI tone)]) (c_X3_airOf M ear tone (by omega) (by omega)) rfl rfl ⟨Nat.le_of_ble_eq_true rfl, Nat.le_of_ble_eq_true rfl⟩ (Nat.le_of_ble_eq_true rfl) ?_
    rintro _ _ ⟨rfl, rfl⟩
    refine g_goto C dX3_ownOf_10 (tgt := 19) (by decide) ?_
    refine g_iret C E dX3_ownOf_19 rfl ?_
    exact ⟨rI (by congr 1 <;> omega), rfl⟩
  · refine g_iload_n C dX3_ownOf_0 1 rfl ?_
    refine g_if_ne C dX3_ownOf_1 (tgt := 13) (by decide) (gRo (by decide) (by decide)) (fun _ => ?_) (fun q => absurd q (by decide))
    refine g_aload_n C dX3_ownOf_13 0 rfl ?_
    refine g_iload_n C dX3_ownOf_14 2 rfl ?_
    refine g_iload_n C dX3_ownOf_15 3 rfl ?_
    refine g_callV C dX3_ownOf_16 lkX3_177 M.o rfl (As := [.int (iI ear), .int (iI tone)]) (c_X3_boneOf M ear tone (by omega) (by omega)) rfl rfl ⟨Nat.le_of_ble_eq_true rfl, Nat.le_of_ble_eq_true rfl⟩ (Nat.le_of_ble_eq_true rfl) ?_
    rintro _ _ ⟨rfl, rfl⟩
    refine g_iret C E dX3_ownOf_19 rfl ?_
    exact ⟨rI (by congr 1 <;> omega), rfl⟩
theorem c_X3_listener {G : gG} {h : gH} {h0 : gH} {m : Nat} {ad : Nat → Nat} {f : Nat → Int} {g : Nat → Int → Int} (M : mSt G h0 h m ad f g) (route : Int) (ear : Int) (tone : Int) (hroute1 : -2147483648 ≤ route) (hroute2 : route ≤ 2147483647) (hear1 : -2147483648 ≤ ear) (hear2 : ear ≤ 2147483647) (htone1 : -2147483648 ≤ tone) (htone2 : tone ≤ 2147483647) (hf8 : f 8 = 0 ∨ f 8 = 1) (hO8 : f 8 = 1 → mOk (g 6) (g 18)) : gC G yX3_listener (.code yX3_listener cX3_listener 4 (some .int)) 2 0 0 [.ref m, .int (iI route), .int (iI ear), .int (iI tone)] h (fun r h' => r = some (.int (iI (mAns (mW1 (mOne (f 8) (g 6) route ear tone)) (g 6 (6 + 12 * route + 6 * ear + tone))))) ∧ mSt G h0 h' m ad (mRef f (mW1 (mOne (f 8) (g 6) route ear tone))) g) := by
  refine gC.of (by decide) (Nat.le_of_ble_eq_true rfl) rfl ?_
  intro X C E hI
  have C : gCtx G X cX3_listener 4 RX3 2 (some .int) := C
  refine g_aload_n C dX3_listener_0 0 rfl ?_
  refine g_aload_n C dX3_listener_1 0 rfl ?_
  refine g_iload_n C dX3_listener_2 1 rfl ?_
  refine g_iload_n C dX3_listener_3 2 rfl ?_
  refine g_iload_n C dX3_listener_4 3 rfl ?_
  refine g_callV C dX3_listener_5 lkX3_188 M.o rfl (As := [.int (iI route), .int (iI ear), .int (iI tone)]) (c_X3_isOne M route ear tone (by omega) (by omega) (by omega) (by omega) (by omega) (by omega) hf8 hO8) rfl rfl ⟨Nat.le_of_ble_eq_true rfl, Nat.le_of_ble_eq_true rfl⟩ (Nat.le_of_ble_eq_true rfl) ?_
  rintro _ _ ⟨rfl, rfl⟩
  cases hb1 : mOne (f 8) (g 6) route ear tone
  · refine g_callS C dX3_listener_8 lkX3_191 (As := [.int (iI (gb false))]) (c_X3_unless false) rfl rfl ⟨Nat.le_of_ble_eq_true rfl, Nat.le_of_ble_eq_true rfl⟩ (Nat.le_of_ble_eq_true rfl) ?_
    rintro _ _ ⟨rfl, rfl⟩
    show gW X h 0 0 11 [(0, .ref m), (1, .int (iI route)), (2, .int (iI ear)), (3, .int (iI tone))] [.int (iI 1), .ref m]
    refine g_callV C dX3_listener_11 lkX3_156 M.o rfl (As := [.int (iI 1)]) (c_X3_isRefused M 1 (by decide) (by decide)) rfl rfl ⟨Nat.le_of_ble_eq_true rfl, Nat.le_of_ble_eq_true rfl⟩ (Nat.le_of_ble_eq_true rfl) ?_
    rintro _ h2 ⟨rfl, M3⟩
    show gW X h2 0 0 14 [(0, .ref m), (1, .int (iI route)), (2, .int (iI ear)), (3, .int (iI tone))] [.int (iI (gb true))]
    refine g_ifF C dX3_listener_14 (tgt := 19) (by decide) (fun q => absurd q (by decide)) (fun q => ?_)
    refine g_iconst C dX3_listener_17 ?_
    refine g_iret C E dX3_listener_18 rfl ?_
    try rw [hb1]
    exact ⟨rfl, M3⟩
  · have fb4 := mOne_t hb1
    have hO := hO8 fb4.1
    obtain ⟨hI_, hr, hn, hT, hS_⟩ := id hO
    obtain ⟨hi0, hi1, hi2, hi3, hi4, hi5, hiA, hiR⟩ := id hI_
    obtain ⟨hs1, hs3, hs4, hs5, hs6, hs7, hs8, hs11, hs2⟩ := id hS_
    refine g_callS C dX3_listener_8 lkX3_191 (As := [.int (iI (gb true))]) (c_X3_unless true) rfl rfl ⟨Nat.le_of_ble_eq_true rfl, Nat.le_of_ble_eq_true rfl⟩ (Nat.le_of_ble_eq_true rfl) ?_
    rintro _ _ ⟨rfl, rfl⟩
    show gW X h 0 0 11 [(0, .ref m), (1, .int (iI route)), (2, .int (iI ear)), (3, .int (iI tone))] [.int (iI 0), .ref m]
    refine g_callV C dX3_listener_11 lkX3_156 M.o rfl (As := [.int (iI 0)]) (c_X3_isRefused M 0 (by decide) (by decide)) rfl rfl ⟨Nat.le_of_ble_eq_true rfl, Nat.le_of_ble_eq_true rfl⟩ (Nat.le_of_ble_eq_true rfl) ?_
    rintro _ h5 ⟨rfl, M6⟩
    show gW X h5 0 0 14 [(0, .ref m), (1, .int (iI route)), (2, .int (iI ear)), (3, .int (iI tone))] [.int (iI (gb false))]
    refine g_ifF C dX3_listener_14 (tgt := 19) (by decide) (fun q => ?_) (fun q => absurd q (by decide))
    refine g_iload_n C dX3_listener_19 1 rfl ?_
    refine g_if_ne C dX3_listener_20 (tgt := 32) (by decide) (gRo (by omega) (by omega)) (fun c20 => ?_) (fun c20 => ?_)
    · refine g_aload_n C dX3_listener_32 0 rfl ?_
      refine g_iload_n C dX3_listener_33 2 rfl ?_
      refine g_iload_n C dX3_listener_34 3 rfl ?_
      refine g_callV C dX3_listener_35 lkX3_177 M6.o rfl (As := [.int (iI ear), .int (iI tone)]) (c_X3_boneOf M6 ear tone (by omega) (by omega)) rfl rfl ⟨Nat.le_of_ble_eq_true rfl, Nat.le_of_ble_eq_true rfl⟩ (Nat.le_of_ble_eq_true rfl) ?_
      rintro _ _ ⟨rfl, rfl⟩
      show gW X h5 0 0 38 [(0, .ref m), (1, .int (iI route)), (2, .int (iI ear)), (3, .int (iI tone))] [.int (iI (g 6 (18 + 6 * ear + tone)))]
      have b7 := hiA (18 + 6 * ear + tone) (by omega) (by omega)
      refine g_iret C E dX3_listener_38 rfl ?_
      try rw [hb1]
      exact ⟨rI (show g 6 (18 + 6 * ear + tone) = g 6 (6 + 12 * route + 6 * ear + tone) from by grind), M6⟩
    · refine g_aload_n C dX3_listener_23 0 rfl ?_
      refine g_iload_n C dX3_listener_24 2 rfl ?_
      refine g_iload_n C dX3_listener_25 3 rfl ?_
      refine g_callV C dX3_listener_26 lkX3_181 M6.o rfl (As := [.int (iI ear), .int (iI tone)]) (c_X3_airOf M6 ear tone (by omega) (by omega)) rfl rfl ⟨Nat.le_of_ble_eq_true rfl, Nat.le_of_ble_eq_true rfl⟩ (Nat.le_of_ble_eq_true rfl) ?_
      rintro _ _ ⟨rfl, rfl⟩
      show gW X h5 0 0 29 [(0, .ref m), (1, .int (iI route)), (2, .int (iI ear)), (3, .int (iI tone))] [.int (iI (g 6 (6 + 6 * ear + tone)))]
      have b8 := hiA (6 + 6 * ear + tone) (by omega) (by omega)
      refine g_goto C dX3_listener_29 (tgt := 38) (by decide) ?_
      refine g_iret C E dX3_listener_38 rfl ?_
      try rw [hb1]
      exact ⟨rI (show g 6 (6 + 6 * ear + tone) = g 6 (6 + 12 * route + 6 * ear + tone) from by grind), M6⟩
theorem c_X3_leastOf {G : gG} {h : gH} {h0 : gH} {m : Nat} {ad : Nat → Nat} {f : Nat → Int} {g : Nat → Int → Int} (M : mSt G h0 h m ad f g) (route : Int) (ear : Int) (tone : Int) (noise : Int) (hO : mOk (g 6) (g 18)) (hrt : 0 ≤ route ∧ route ≤ 1) (he : 0 ≤ ear ∧ ear ≤ 1) (ht : 0 ≤ tone ∧ tone < 6) (hno : -1 ≤ noise ∧ noise ≤ 1000) : gC G yX3_leastOf (.code yX3_leastOf cX3_leastOf 6 (some .int)) 3 0 0 [.ref m, .int (iI route), .int (iI ear), .int (iI tone), .int (iI noise)] h (fun r h' => r = some (.int (iI (mLeast (g 6) route ear tone noise))) ∧ h = h') := by
  refine gC.of (by decide) (Nat.le_of_ble_eq_true rfl) rfl ?_
  intro X C E hI
  have C : gCtx G X cX3_leastOf 6 RX3 3 (some .int) := C
  obtain ⟨hI_, hr, hn, hT, hS_⟩ := id hO
  obtain ⟨hi0, hi1, hi2, hi3, hi4, hi5, hiA, hiR⟩ := id hI_
  obtain ⟨hs1, hs3, hs4, hs5, hs6, hs7, hs8, hs11, hs2⟩ := id hS_
  refine g_iconst C dX3_leastOf_0 ?_
  refine g_istore C dX3_leastOf_1 (lv' := [(5, .int (iI 0)), (0, .ref m), (1, .int (iI route)), (2, .int (iI ear)), (3, .int (iI tone)), (4, .int (iI noise))]) (Nat.le_of_ble_eq_true rfl) rfl ?_
  have L3 : ∀ (n : Nat) (lv : Int) (hk : 0 ≤ lv ∧ lv ≤ 25) (hn9 : 25 - lv < n) (hs : mWhile (fun v => decide (mHB (g 6) route ear tone v noise = 0)) (25 - lv).toNat lv = mLeast (g 6) route ear tone noise), gW X h 0 0 3 [(5, .int (iI lv)), (0, .ref m), (1, .int (iI route)), (2, .int (iI ear)), (3, .int (iI tone)), (4, .int (iI noise))] [] := by
    intro n
    induction n with
    | zero => intro lv hk hn9 hs; exfalso; omega
    | succ n ih =>
      intro lv hk hn9 hs
      refine g_iload C dX3_leastOf_3 0 rfl ?_
      refine g_bipush C dX3_leastOf_5 (by decide) ?_
      refine g_icmp_ge C dX3_leastOf_7 (tgt := 30) (by decide) (gRo (by omega) (by omega)) (gRo (by decide) (by decide)) (fun c7 => ?_) (fun c7 => ?_)
      · refine g_iload C dX3_leastOf_30 0 rfl ?_
        refine g_iret C E dX3_leastOf_32 rfl ?_
        exact ⟨rI (by rw [← hs]; first | exact (mWhile_end (by omega)).symm | exact (mWhile_stop (decide_eq_false (by assumption))).symm), rfl⟩
      · refine g_aload_n C dX3_leastOf_10 1 rfl ?_
        refine g_iload_n C dX3_leastOf_11 2 rfl ?_
        refine g_iload_n C dX3_leastOf_12 3 rfl ?_
        refine g_iload_n C dX3_leastOf_13 4 rfl ?_
        refine g_iload C dX3_leastOf_14 0 rfl ?_
        refine g_iload C dX3_leastOf_16 5 rfl ?_
        refine g_callV C dX3_leastOf_18 lkX3_198 M.o rfl (As := [.int (iI route), .int (iI ear), .int (iI tone), .int (iI lv), .int (iI noise)]) (c_X3_heardBy M route ear tone lv noise hO (by omega) (by omega) (by omega) (by omega) (by omega)) rfl rfl ⟨Nat.le_of_ble_eq_true rfl, Nat.le_of_ble_eq_true rfl⟩ (Nat.le_of_ble_eq_true rfl) ?_
        rintro _ _ ⟨rfl, rfl⟩
        have b1 := mHB_b (g 6) route ear tone lv noise
        refine g_if_ne C dX3_leastOf_21 (tgt := 30) (by decide) (gRo (by omega) (by omega)) (fun c21 => ?_) (fun c21 => ?_)
        · refine g_iload C dX3_leastOf_30 0 rfl ?_
          refine g_iret C E dX3_leastOf_32 rfl ?_
          exact ⟨rI (by rw [← hs]; first | exact (mWhile_end (by omega)).symm | exact (mWhile_stop (decide_eq_false (by assumption))).symm), rfl⟩
        · refine g_iinc C dX3_leastOf_24 (v := lv + 1) (lv' := [(5, .int (iI (lv + 1))), (0, .ref m), (1, .int (iI route)), (2, .int (iI ear)), (3, .int (iI tone)), (4, .int (iI noise))]) 0 rfl rfl (Nat.le_of_ble_eq_true rfl) rfl ?_
          refine g_goto C dX3_leastOf_27 (tgt := 3) (by decide) ?_
          exact ih (lv + 1) (by omega) (by omega) ((mWhile_step (p := fun v => decide (mHB (g 6) route ear tone v noise = 0)) (by omega) (decide_eq_true (by assumption))).trans hs)
  exact L3 26 0 (by omega) (by omega) rfl
theorem c_X3_least {G : gG} {h : gH} {h0 : gH} {m : Nat} {ad : Nat → Nat} {f : Nat → Int} {g : Nat → Int → Int} (M : mSt G h0 h m ad f g) (route : Int) (ear : Int) (tone : Int) (noise : Int) (hroute1 : -2147483648 ≤ route) (hroute2 : route ≤ 2147483647) (hear1 : -2147483648 ≤ ear) (hear2 : ear ≤ 2147483647) (htone1 : -2147483648 ≤ tone) (htone2 : tone ≤ 2147483647) (hnoise1 : -2147483648 ≤ noise) (hnoise2 : noise ≤ 2147483647) (hf8 : f 8 = 0 ∨ f 8 = 1) (hO8 : f 8 = 1 → mOk (g 6) (g 18)) : gC G yX3_least (.code yX3_least cX3_least 6 (some .int)) 3 0 0 [.ref m, .int (iI route), .int (iI ear), .int (iI tone), .int (iI noise)] h (fun r h' => r = some (.int (iI (mAns (mW2 (mOne (f 8) (g 6) route ear tone) (mIn noise (-1) 24)) (mLeast (g 6) route ear tone noise)))) ∧ mSt G h0 h' m ad (mRef f (mW2 (mOne (f 8) (g 6) route ear tone) (mIn noise (-1) 24))) g) := by
  refine gC.of (by decide) (Nat.le_of_ble_eq_true rfl) rfl ?_
  intro X C E hI
  have C : gCtx G X cX3_least 6 RX3 3 (some .int) := C
  refine g_aload_n C dX3_least_0 0 rfl ?_
  refine g_aload_n C dX3_least_1 0 rfl ?_
  refine g_iload_n C dX3_least_2 1 rfl ?_
  refine g_iload_n C dX3_least_3 2 rfl ?_
  refine g_iload_n C dX3_least_4 3 rfl ?_
  refine g_callV C dX3_least_5 lkX3_188 M.o rfl (As := [.int (iI route), .int (iI ear), .int (iI tone)]) (c_X3_isOne M route ear tone (by omega) (by omega) (by omega) (by omega) (by omega) (by omega) hf8 hO8) rfl rfl ⟨Nat.le_of_ble_eq_true rfl, Nat.le_of_ble_eq_true rfl⟩ (Nat.le_of_ble_eq_true rfl) ?_
  rintro _ _ ⟨rfl, rfl⟩
  refine g_iload C dX3_least_8 4 rfl ?_
  refine g_iconst C dX3_least_10 ?_
  refine g_bipush C dX3_least_11 (by decide) ?_
  refine g_callS C dX3_least_13 lkX3_70 (As := [.int (iI noise), .int (iI (-1)), .int (iI 24)]) (c_X3_in noise (-1) 24 (by omega) (by omega) (by decide) (by decide) (by decide) (by decide)) rfl rfl ⟨Nat.le_of_ble_eq_true rfl, Nat.le_of_ble_eq_true rfl⟩ (Nat.le_of_ble_eq_true rfl) ?_
  rintro _ _ ⟨rfl, rfl⟩
  cases hb1 : mOne (f 8) (g 6) route ear tone
  · cases hb2 : mIn noise (-1) 24
    · have fb3 := mIn_f.mp hb2
      refine g_callS C dX3_least_16 lkX3_195 (As := [.int (iI (gb false)), .int (iI (gb false))]) (c_X3_unless_2 false false) rfl rfl ⟨Nat.le_of_ble_eq_true rfl, Nat.le_of_ble_eq_true rfl⟩ (Nat.le_of_ble_eq_true rfl) ?_
      rintro _ _ ⟨rfl, rfl⟩
      show gW X h 0 0 19 [(0, .ref m), (1, .int (iI route)), (2, .int (iI ear)), (3, .int (iI tone)), (4, .int (iI noise))] [.int (iI 1), .ref m]
      refine g_callV C dX3_least_19 lkX3_156 M.o rfl (As := [.int (iI 1)]) (c_X3_isRefused M 1 (by decide) (by decide)) rfl rfl ⟨Nat.le_of_ble_eq_true rfl, Nat.le_of_ble_eq_true rfl⟩ (Nat.le_of_ble_eq_true rfl) ?_
      rintro _ h4 ⟨rfl, M5⟩
      show gW X h4 0 0 22 [(0, .ref m), (1, .int (iI route)), (2, .int (iI ear)), (3, .int (iI tone)), (4, .int (iI noise))] [.int (iI (gb true))]
      refine g_ifF C dX3_least_22 (tgt := 27) (by decide) (fun q => absurd q (by decide)) (fun q => ?_)
      refine g_iconst C dX3_least_25 ?_
      refine g_iret C E dX3_least_26 rfl ?_
      try rw [hb1]
      try rw [hb2]
      exact ⟨rfl, M5⟩
    · have fb6 := mIn_t.mp hb2
      refine g_callS C dX3_least_16 lkX3_195 (As := [.int (iI (gb false)), .int (iI (gb true))]) (c_X3_unless_2 false true) rfl rfl ⟨Nat.le_of_ble_eq_true rfl, Nat.le_of_ble_eq_true rfl⟩ (Nat.le_of_ble_eq_true rfl) ?_
      rintro _ _ ⟨rfl, rfl⟩
      show gW X h 0 0 19 [(0, .ref m), (1, .int (iI route)), (2, .int (iI ear)), (3, .int (iI tone)), (4, .int (iI noise))] [.int (iI 1), .ref m]
      refine g_callV C dX3_least_19 lkX3_156 M.o rfl (As := [.int (iI 1)]) (c_X3_isRefused M 1 (by decide) (by decide)) rfl rfl ⟨Nat.le_of_ble_eq_true rfl, Nat.le_of_ble_eq_true rfl⟩ (Nat.le_of_ble_eq_true rfl) ?_
      rintro _ h7 ⟨rfl, M8⟩
      show gW X h7 0 0 22 [(0, .ref m), (1, .int (iI route)), (2, .int (iI ear)), (3, .int (iI tone)), (4, .int (iI noise))] [.int (iI (gb true))]
      refine g_ifF C dX3_least_22 (tgt := 27) (by decide) (fun q => absurd q (by decide)) (fun q => ?_)
      refine g_iconst C dX3_least_25 ?_
      refine g_iret C E dX3_least_26 rfl ?_
      try rw [hb1]
      try rw [hb2]
      exact ⟨rfl, M8⟩
  · have fb9 := mOne_t hb1
    have hO := hO8 fb9.1
    obtain ⟨hI_, hr, hn, hT, hS_⟩ := id hO
    obtain ⟨hi0, hi1, hi2, hi3, hi4, hi5, hiA, hiR⟩ := id hI_
    obtain ⟨hs1, hs3, hs4, hs5, hs6, hs7, hs8, hs11, hs2⟩ := id hS_
    cases hb10 : mIn noise (-1) 24
    · have fb11 := mIn_f.mp hb10
      refine g_callS C dX3_least_16 lkX3_195 (As := [.int (iI (gb true)), .int (iI (gb false))]) (c_X3_unless_2 true false) rfl rfl ⟨Nat.le_of_ble_eq_true rfl, Nat.le_of_ble_eq_true rfl⟩ (Nat.le_of_ble_eq_true rfl) ?_
      rintro _ _ ⟨rfl, rfl⟩
      show gW X h 0 0 19 [(0, .ref m), (1, .int (iI route)), (2, .int (iI ear)), (3, .int (iI tone)), (4, .int (iI noise))] [.int (iI 2), .ref m]
      refine g_callV C dX3_least_19 lkX3_156 M.o rfl (As := [.int (iI 2)]) (c_X3_isRefused M 2 (by decide) (by decide)) rfl rfl ⟨Nat.le_of_ble_eq_true rfl, Nat.le_of_ble_eq_true rfl⟩ (Nat.le_of_ble_eq_true rfl) ?_
      rintro _ h12 ⟨rfl, M13⟩
      show gW X h12 0 0 22 [(0, .ref m), (1, .int (iI route)), (2, .int (iI ear)), (3, .int (iI tone)), (4, .int (iI noise))] [.int (iI (gb true))]
      refine g_ifF C dX3_least_22 (tgt := 27) (by decide) (fun q => absurd q (by decide)) (fun q => ?_)
      refine g_iconst C dX3_least_25 ?_
      refine g_iret C E dX3_least_26 rfl ?_
      try rw [hb1]
      try rw [hb10]
      exact ⟨rfl, M13⟩
    · have fb14 := mIn_t.mp hb10
      refine g_callS C dX3_least_16 lkX3_195 (As := [.int (iI (gb true)), .int (iI (gb true))]) (c_X3_unless_2 true true) rfl rfl ⟨Nat.le_of_ble_eq_true rfl, Nat.le_of_ble_eq_true rfl⟩ (Nat.le_of_ble_eq_true rfl) ?_
      rintro _ _ ⟨rfl, rfl⟩
      show gW X h 0 0 19 [(0, .ref m), (1, .int (iI route)), (2, .int (iI ear)), (3, .int (iI tone)), (4, .int (iI noise))] [.int (iI 0), .ref m]
      refine g_callV C dX3_least_19 lkX3_156 M.o rfl (As := [.int (iI 0)]) (c_X3_isRefused M 0 (by decide) (by decide)) rfl rfl ⟨Nat.le_of_ble_eq_true rfl, Nat.le_of_ble_eq_true rfl⟩ (Nat.le_of_ble_eq_true rfl) ?_
      rintro _ h15 ⟨rfl, M16⟩
      show gW X h15 0 0 22 [(0, .ref m), (1, .int (iI route)), (2, .int (iI ear)), (3, .int (iI tone)), (4, .int (iI noise))] [.int (iI (gb false))]
      refine g_ifF C dX3_least_22 (tgt := 27) (by decide) (fun q => ?_) (fun q => absurd q (by decide))
      refine g_iconst C dX3_least_27 ?_
      refine g_istore C dX3_least_28 (lv' := [(5, .int (iI 0)), (0, .ref m), (1, .int (iI route)), (2, .int (iI ear)), (3, .int (iI tone)), (4, .int (iI noise))]) (Nat.le_of_ble_eq_true rfl) rfl ?_
      have L30 : ∀ (n : Nat) (lv : Int) (hk : 0 ≤ lv ∧ lv ≤ 25) (hn9 : 25 - lv < n) (hs : mWhile (fun v => decide (mHB (g 6) route ear tone v noise = 0)) (25 - lv).toNat lv = mLeast (g 6) route ear tone noise), gW X h15 0 0 30 [(5, .int (iI lv)), (0, .ref m), (1, .int (iI route)), (2, .int (iI ear)), (3, .int (iI tone)), (4, .int (iI noise))] [] := by
        intro n
        induction n with
        | zero => intro lv hk hn9 hs; exfalso; omega
        | succ n ih =>
          intro lv hk hn9 hs
          refine g_iload C dX3_least_30 0 rfl ?_
          refine g_bipush C dX3_least_32 (by decide) ?_
          refine g_icmp_ge C dX3_least_34 (tgt := 57) (by decide) (gRo (by omega) (by omega)) (gRo (by decide) (by decide)) (fun c34 => ?_) (fun c34 => ?_)
          · refine g_iload C dX3_least_57 0 rfl ?_
            refine g_iret C E dX3_least_59 rfl ?_
            try rw [hb1]
            try rw [hb10]
            exact ⟨rI (show lv = mLeast (g 6) route ear tone noise from (by rw [← hs]; first | exact (mWhile_end (by omega)).symm | exact (mWhile_stop (decide_eq_false (by assumption))).symm)), M16⟩
          · refine g_aload_n C dX3_least_37 1 rfl ?_
            refine g_iload_n C dX3_least_38 2 rfl ?_
            refine g_iload_n C dX3_least_39 3 rfl ?_
            refine g_iload_n C dX3_least_40 4 rfl ?_
            refine g_iload C dX3_least_41 0 rfl ?_
            refine g_iload C dX3_least_43 5 rfl ?_
            refine g_callV C dX3_least_45 lkX3_198 M16.o rfl (As := [.int (iI route), .int (iI ear), .int (iI tone), .int (iI lv), .int (iI noise)]) (c_X3_heardBy M16 route ear tone lv noise hO (by omega) (by omega) (by omega) (by omega) (by omega)) rfl rfl ⟨Nat.le_of_ble_eq_true rfl, Nat.le_of_ble_eq_true rfl⟩ (Nat.le_of_ble_eq_true rfl) ?_
            rintro _ _ ⟨rfl, rfl⟩
            show gW X h15 0 0 48 [(5, .int (iI lv)), (0, .ref m), (1, .int (iI route)), (2, .int (iI ear)), (3, .int (iI tone)), (4, .int (iI noise))] [.int (iI (mHB (g 6) route ear tone lv noise))]
            have b17 := mHB_b (g 6) route ear tone lv noise
            refine g_if_ne C dX3_least_48 (tgt := 57) (by decide) (gRo (by omega) (by omega)) (fun c48 => ?_) (fun c48 => ?_)
            · refine g_iload C dX3_least_57 0 rfl ?_
              refine g_iret C E dX3_least_59 rfl ?_
              try rw [hb1]
              try rw [hb10]
              exact ⟨rI (show lv = mLeast (g 6) route ear tone noise from (by rw [← hs]; first | exact (mWhile_end (by omega)).symm | exact (mWhile_stop (decide_eq_false (by assumption))).symm)), M16⟩
            · refine g_iinc C dX3_least_51 (v := lv + 1) (lv' := [(5, .int (iI (lv + 1))), (0, .ref m), (1, .int (iI route)), (2, .int (iI ear)), (3, .int (iI tone)), (4, .int (iI noise))]) 0 rfl rfl (Nat.le_of_ble_eq_true rfl) rfl ?_
              refine g_goto C dX3_least_54 (tgt := 30) (by decide) ?_
              exact ih (lv + 1) (by omega) (by omega) ((mWhile_step (p := fun v => decide (mHB (g 6) route ear tone v noise = 0)) (by omega) (decide_eq_true (by assumption))).trans hs)
      exact L30 26 0 (by omega) (by omega) rfl
theorem c_X3_hears {G : gG} {h : gH} {h0 : gH} {m : Nat} {ad : Nat → Nat} {f : Nat → Int} {g : Nat → Int → Int} (M : mSt G h0 h m ad f g) (route : Int) (ear : Int) (tone : Int) (level : Int) (noise : Int) (hroute1 : -2147483648 ≤ route) (hroute2 : route ≤ 2147483647) (hear1 : -2147483648 ≤ ear) (hear2 : ear ≤ 2147483647) (htone1 : -2147483648 ≤ tone) (htone2 : tone ≤ 2147483647) (hlevel1 : -2147483648 ≤ level) (hlevel2 : level ≤ 2147483647) (hnoise1 : -2147483648 ≤ noise) (hnoise2 : noise ≤ 2147483647) (hf8 : f 8 = 0 ∨ f 8 = 1) (hO8 : f 8 = 1 → mOk (g 6) (g 18)) : gC G yX3_hears (.code yX3_hears cX3_hears 6 (some .int)) 3 0 0 [.ref m, .int (iI route), .int (iI ear), .int (iI tone), .int (iI level), .int (iI noise)] h (fun r h' => r = some (.int (iI (mAns (mW2 (mOne (f 8) (g 6) route ear tone) (mIn level 0 24 && mIn noise (-1) 24)) (mHB (g 6) route ear tone level noise)))) ∧ mSt G h0 h' m ad (mRef f (mW2 (mOne (f 8) (g 6) route ear tone) (mIn level 0 24 && mIn noise (-1) 24))) g) := by
  refine gC.of (by decide) (Nat.le_of_ble_eq_true rfl) rfl ?_
  intro X C E hI
  have C : gCtx G X cX3_hears 6 RX3 3 (some .int) := C
  refine g_aload_n C dX3_hears_0 0 rfl ?_
  refine g_aload_n C dX3_hears_1 0 rfl ?_
  refine g_iload_n C dX3_hears_2 1 rfl ?_
  refine g_iload_n C dX3_hears_3 2 rfl ?_
  refine g_iload_n C dX3_hears_4 3 rfl ?_
  refine g_callV C dX3_hears_5 lkX3_188 M.o rfl (As := [.int (iI route), .int (iI ear), .int (iI tone)]) (c_X3_isOne M route ear tone (by omega) (by omega) (by omega) (by omega) (by omega) (by omega) hf8 hO8) rfl rfl ⟨Nat.le_of_ble_eq_true rfl, Nat.le_of_ble_eq_true rfl⟩ (Nat.le_of_ble_eq_true rfl) ?_
  rintro _ _ ⟨rfl, rfl⟩
  refine g_iload C dX3_hears_8 4 rfl ?_
  refine g_iconst C dX3_hears_10 ?_
  refine g_bipush C dX3_hears_11 (by decide) ?_
  refine g_callS C dX3_hears_13 lkX3_70 (As := [.int (iI level), .int (iI 0), .int (iI 24)]) (c_X3_in level 0 24 (by omega) (by omega) (by decide) (by decide) (by decide) (by decide)) rfl rfl ⟨Nat.le_of_ble_eq_true rfl, Nat.le_of_ble_eq_true rfl⟩ (Nat.le_of_ble_eq_true rfl) ?_
  rintro _ _ ⟨rfl, rfl⟩
  refine g_ifF C dX3_hears_16 (tgt := 34) (by decide) (fun c16 => ?_) (fun c16 => ?_)
  · have fb1 := mIn_f.mp c16
    refine g_iconst C dX3_hears_34 ?_
    cases hb2 : mOne (f 8) (g 6) route ear tone
    · refine g_callS C dX3_hears_35 lkX3_195 (As := [.int (iI (gb false)), .int (iI 0)]) (c_X3_unless_2 false false) rfl rfl ⟨Nat.le_of_ble_eq_true rfl, Nat.le_of_ble_eq_true rfl⟩ (Nat.le_of_ble_eq_true rfl) ?_
      rintro _ _ ⟨rfl, rfl⟩
      show gW X h 0 0 38 [(0, .ref m), (1, .int (iI route)), (2, .int (iI ear)), (3, .int (iI tone)), (4, .int (iI level)), (5, .int (iI noise))] [.int (iI 1), .ref m]
      refine g_callV C dX3_hears_38 lkX3_156 M.o rfl (As := [.int (iI 1)]) (c_X3_isRefused M 1 (by decide) (by decide)) rfl rfl ⟨Nat.le_of_ble_eq_true rfl, Nat.le_of_ble_eq_true rfl⟩ (Nat.le_of_ble_eq_true rfl) ?_
      rintro _ h3 ⟨rfl, M4⟩
      show gW X h3 0 0 41 [(0, .ref m), (1, .int (iI route)), (2, .int (iI ear)), (3, .int (iI tone)), (4, .int (iI level)), (5, .int (iI noise))] [.int (iI (gb true))]
      refine g_ifF C dX3_hears_41 (tgt := 46) (by decide) (fun q => absurd q (by decide)) (fun q => ?_)
      refine g_iconst C dX3_hears_44 ?_
      refine g_iret C E dX3_hears_45 rfl ?_
      try rw [c16]
      try rw [hb2]
      exact ⟨rfl, M4⟩
    · have fb5 := mOne_t hb2
      have hO := hO8 fb5.1
      obtain ⟨hI_, hr, hn, hT, hS_⟩ := id hO
      obtain ⟨hi0, hi1, hi2, hi3, hi4, hi5, hiA, hiR⟩ := id hI_
      obtain ⟨hs1, hs3, hs4, hs5, hs6, hs7, hs8, hs11, hs2⟩ := id hS_
      refine g_callS C dX3_hears_35 lkX3_195 (As := [.int (iI (gb true)), .int (iI 0)]) (c_X3_unless_2 true false) rfl rfl ⟨Nat.le_of_ble_eq_true rfl, Nat.le_of_ble_eq_true rfl⟩ (Nat.le_of_ble_eq_true rfl) ?_
      rintro _ _ ⟨rfl, rfl⟩
      show gW X h 0 0 38 [(0, .ref m), (1, .int (iI route)), (2, .int (iI ear)), (3, .int (iI tone)), (4, .int (iI level)), (5, .int (iI noise))] [.int (iI 2), .ref m]
      refine g_callV C dX3_hears_38 lkX3_156 M.o rfl (As := [.int (iI 2)]) (c_X3_isRefused M 2 (by decide) (by decide)) rfl rfl ⟨Nat.le_of_ble_eq_true rfl, Nat.le_of_ble_eq_true rfl⟩ (Nat.le_of_ble_eq_true rfl) ?_
      rintro _ h6 ⟨rfl, M7⟩
      show gW X h6 0 0 41 [(0, .ref m), (1, .int (iI route)), (2, .int (iI ear)), (3, .int (iI tone)), (4, .int (iI level)), (5, .int (iI noise))] [.int (iI (gb true))]
      refine g_ifF C dX3_hears_41 (tgt := 46) (by decide) (fun q => absurd q (by decide)) (fun q => ?_)
      refine g_iconst C dX3_hears_44 ?_
      refine g_iret C E dX3_hears_45 rfl ?_
      try rw [c16]
      try rw [hb2]
      exact ⟨rfl, M7⟩
  · have fb8 := mIn_t.mp c16
    refine g_iload C dX3_hears_19 5 rfl ?_
    refine g_iconst C dX3_hears_21 ?_
    refine g_bipush C dX3_hears_22 (by decide) ?_
    refine g_callS C dX3_hears_24 lkX3_70 (As := [.int (iI noise), .int (iI (-1)), .int (iI 24)]) (c_X3_in noise (-1) 24 (by omega) (by omega) (by decide) (by decide) (by decide) (by decide)) rfl rfl ⟨Nat.le_of_ble_eq_true rfl, Nat.le_of_ble_eq_true rfl⟩ (Nat.le_of_ble_eq_true rfl) ?_
    rintro _ _ ⟨rfl, rfl⟩
    refine g_ifF C dX3_hears_27 (tgt := 34) (by decide) (fun c27 => ?_) (fun c27 => ?_)
    · have fb9 := mIn_f.mp c27
      refine g_iconst C dX3_hears_34 ?_
      cases hb10 : mOne (f 8) (g 6) route ear tone
      · refine g_callS C dX3_hears_35 lkX3_195 (As := [.int (iI (gb false)), .int (iI 0)]) (c_X3_unless_2 false false) rfl rfl ⟨Nat.le_of_ble_eq_true rfl, Nat.le_of_ble_eq_true rfl⟩ (Nat.le_of_ble_eq_true rfl) ?_
        rintro _ _ ⟨rfl, rfl⟩
        show gW X h 0 0 38 [(0, .ref m), (1, .int (iI route)), (2, .int (iI ear)), (3, .int (iI tone)), (4, .int (iI level)), (5, .int (iI noise))] [.int (iI 1), .ref m]
        refine g_callV C dX3_hears_38 lkX3_156 M.o rfl (As := [.int (iI 1)]) (c_X3_isRefused M 1 (by decide) (by decide)) rfl rfl ⟨Nat.le_of_ble_eq_true rfl, Nat.le_of_ble_eq_true rfl⟩ (Nat.le_of_ble_eq_true rfl) ?_
        rintro _ h11 ⟨rfl, M12⟩
        show gW X h11 0 0 41 [(0, .ref m), (1, .int (iI route)), (2, .int (iI ear)), (3, .int (iI tone)), (4, .int (iI level)), (5, .int (iI noise))] [.int (iI (gb true))]
        refine g_ifF C dX3_hears_41 (tgt := 46) (by decide) (fun q => absurd q (by decide)) (fun q => ?_)
        refine g_iconst C dX3_hears_44 ?_
        refine g_iret C E dX3_hears_45 rfl ?_
        try rw [c16]
        try rw [c27]
        try rw [hb10]
        exact ⟨rfl, M12⟩
      · have fb13 := mOne_t hb10
        have hO := hO8 fb13.1
        obtain ⟨hI_, hr, hn, hT, hS_⟩ := id hO
        obtain ⟨hi0, hi1, hi2, hi3, hi4, hi5, hiA, hiR⟩ := id hI_
        obtain ⟨hs1, hs3, hs4, hs5, hs6, hs7, hs8, hs11, hs2⟩ := id hS_
        refine g_callS C dX3_hears_35 lkX3_195 (As := [.int (iI (gb true)), .int (iI 0)]) (c_X3_unless_2 true false) rfl rfl ⟨Nat.le_of_ble_eq_true rfl, Nat.le_of_ble_eq_true rfl⟩ (Nat.le_of_ble_eq_true rfl) ?_
        rintro _ _ ⟨rfl, rfl⟩
        show gW X h 0 0 38 [(0, .ref m), (1, .int (iI route)), (2, .int (iI ear)), (3, .int (iI tone)), (4, .int (iI level)), (5, .int (iI noise))] [.int (iI 2), .ref m]
        refine g_callV C dX3_hears_38 lkX3_156 M.o rfl (As := [.int (iI 2)]) (c_X3_isRefused M 2 (by decide) (by decide)) rfl rfl ⟨Nat.le_of_ble_eq_true rfl, Nat.le_of_ble_eq_true rfl⟩ (Nat.le_of_ble_eq_true rfl) ?_
        rintro _ h14 ⟨rfl, M15⟩
        show gW X h14 0 0 41 [(0, .ref m), (1, .int (iI route)), (2, .int (iI ear)), (3, .int (iI tone)), (4, .int (iI level)), (5, .int (iI noise))] [.int (iI (gb true))]
        refine g_ifF C dX3_hears_41 (tgt := 46) (by decide) (fun q => absurd q (by decide)) (fun q => ?_)
        refine g_iconst C dX3_hears_44 ?_
        refine g_iret C E dX3_hears_45 rfl ?_
        try rw [c16]
        try rw [c27]
        try rw [hb10]
        exact ⟨rfl, M15⟩
    · have fb16 := mIn_t.mp c27
      refine g_iconst C dX3_hears_30 ?_
      refine g_goto C dX3_hears_31 (tgt := 35) (by decide) ?_
      cases hb17 : mOne (f 8) (g 6) route ear tone
      · refine g_callS C dX3_hears_35 lkX3_195 (As := [.int (iI (gb false)), .int (iI 1)]) (c_X3_unless_2 false true) rfl rfl ⟨Nat.le_of_ble_eq_true rfl, Nat.le_of_ble_eq_true rfl⟩ (Nat.le_of_ble_eq_true rfl) ?_
        rintro _ _ ⟨rfl, rfl⟩
        show gW X h 0 0 38 [(0, .ref m), (1, .int (iI route)), (2, .int (iI ear)), (3, .int (iI tone)), (4, .int (iI level)), (5, .int (iI noise))] [.int (iI 1), .ref m]
        refine g_callV C dX3_hears_38 lkX3_156 M.o rfl (As := [.int (iI 1)]) (c_X3_isRefused M 1 (by decide) (by decide)) rfl rfl ⟨Nat.le_of_ble_eq_true rfl, Nat.le_of_ble_eq_true rfl⟩ (Nat.le_of_ble_eq_true rfl) ?_
        rintro _ h18 ⟨rfl, M19⟩
        show gW X h18 0 0 41 [(0, .ref m), (1, .int (iI route)), (2, .int (iI ear)), (3, .int (iI tone)), (4, .int (iI level)), (5, .int (iI noise))] [.int (iI (gb true))]
        refine g_ifF C dX3_hears_41 (tgt := 46) (by decide) (fun q => absurd q (by decide)) (fun q => ?_)
        refine g_iconst C dX3_hears_44 ?_
        refine g_iret C E dX3_hears_45 rfl ?_
        try rw [c16]
        try rw [c27]
        try rw [hb17]
        exact ⟨rfl, M19⟩
      · have fb20 := mOne_t hb17
        have hO := hO8 fb20.1
        obtain ⟨hI_, hr, hn, hT, hS_⟩ := id hO
        obtain ⟨hi0, hi1, hi2, hi3, hi4, hi5, hiA, hiR⟩ := id hI_
        obtain ⟨hs1, hs3, hs4, hs5, hs6, hs7, hs8, hs11, hs2⟩ := id hS_
        refine g_callS C dX3_hears_35 lkX3_195 (As := [.int (iI (gb true)), .int (iI 1)]) (c_X3_unless_2 true true) rfl rfl ⟨Nat.le_of_ble_eq_true rfl, Nat.le_of_ble_eq_true rfl⟩ (Nat.le_of_ble_eq_true rfl) ?_
        rintro _ _ ⟨rfl, rfl⟩
        show gW X h 0 0 38 [(0, .ref m), (1, .int (iI route)), (2, .int (iI ear)), (3, .int (iI tone)), (4, .int (iI level)), (5, .int (iI noise))] [.int (iI 0), .ref m]
        refine g_callV C dX3_hears_38 lkX3_156 M.o rfl (As := [.int (iI 0)]) (c_X3_isRefused M 0 (by decide) (by decide)) rfl rfl ⟨Nat.le_of_ble_eq_true rfl, Nat.le_of_ble_eq_true rfl⟩ (Nat.le_of_ble_eq_true rfl) ?_
        rintro _ h21 ⟨rfl, M22⟩
        show gW X h21 0 0 41 [(0, .ref m), (1, .int (iI route)), (2, .int (iI ear)), (3, .int (iI tone)), (4, .int (iI level)), (5, .int (iI noise))] [.int (iI (gb false))]
        refine g_ifF C dX3_hears_41 (tgt := 46) (by decide) (fun q => ?_) (fun q => absurd q (by decide))
        refine g_aload_n C dX3_hears_46 0 rfl ?_
        refine g_iload_n C dX3_hears_47 1 rfl ?_
        refine g_iload_n C dX3_hears_48 2 rfl ?_
        refine g_iload_n C dX3_hears_49 3 rfl ?_
        refine g_iload C dX3_hears_50 4 rfl ?_
        refine g_iload C dX3_hears_52 5 rfl ?_
        refine g_callV C dX3_hears_54 lkX3_198 M22.o rfl (As := [.int (iI route), .int (iI ear), .int (iI tone), .int (iI level), .int (iI noise)]) (c_X3_heardBy M22 route ear tone level noise hO (by omega) (by omega) (by omega) (by omega) (by omega)) rfl rfl ⟨Nat.le_of_ble_eq_true rfl, Nat.le_of_ble_eq_true rfl⟩ (Nat.le_of_ble_eq_true rfl) ?_
        rintro _ _ ⟨rfl, rfl⟩
        show gW X h21 0 0 57 [(0, .ref m), (1, .int (iI route)), (2, .int (iI ear)), (3, .int (iI tone)), (4, .int (iI level)), (5, .int (iI noise))] [.int (iI (mHB (g 6) route ear tone level noise))]
        have b23 := mHB_b (g 6) route ear tone level noise
        refine g_iret C E dX3_hears_57 rfl ?_
        try rw [c16]
        try rw [c27]
        try rw [hb17]
        exact ⟨rI (show mHB (g 6) route ear tone level noise = mHB (g 6) route ear tone level noise from rfl), M22⟩
theorem c_X3_silences {G : gG} {h : gH} {h0 : gH} {m : Nat} {ad : Nat → Nat} {f : Nat → Int} {g : Nat → Int → Int} (M : mSt G h0 h m ad f g) (who : Int) (route : Int) (ear : Int) (tone : Int) (level : Int) (hO : mOk (g 6) (g 18)) (hw : 0 ≤ who ∧ who ≤ 1) (hrt : 0 ≤ route ∧ route ≤ 1) (he : 0 ≤ ear ∧ ear ≤ 1) (ht : 0 ≤ tone ∧ tone < 6) (hl : -200 ≤ level ∧ level ≤ 200) : gC G yX3_silences (.code yX3_silences cX3_silences 7 (some .int)) 3 0 0 [.ref m, .int (iI who), .int (iI route), .int (iI ear), .int (iI tone), .int (iI level)] h (fun r h' => r = some (.int (iI (mSil (g 6) who route ear tone level))) ∧ h = h') := by
  refine gC.of (by decide) (Nat.le_of_ble_eq_true rfl) rfl ?_
  intro X C E hI
  have C : gCtx G X cX3_silences 7 RX3 3 (some .int) := C
  obtain ⟨hI_, hr, hn, hT, hS_⟩ := id hO
  obtain ⟨hi0, hi1, hi2, hi3, hi4, hi5, hiA, hiR⟩ := id hI_
  obtain ⟨hs1, hs3, hs4, hs5, hs6, hs7, hs8, hs11, hs2⟩ := id hS_
  refine g_iconst C dX3_silences_0 ?_
  refine g_istore C dX3_silences_1 (lv' := [(6, .int (iI 0)), (0, .ref m), (1, .int (iI who)), (2, .int (iI route)), (3, .int (iI ear)), (4, .int (iI tone)), (5, .int (iI level))]) (Nat.le_of_ble_eq_true rfl) rfl ?_
  have L3 : ∀ (n : Nat) (k : Int) (hk : 0 ≤ k ∧ k ≤ 25) (hn9 : 25 - k < n) (hs : mFind (fun n => !mHear (g 6) route ear tone level n who) (25 - k).toNat k = mSil (g 6) who route ear tone level), gW X h 0 0 3 [(6, .int (iI k)), (0, .ref m), (1, .int (iI who)), (2, .int (iI route)), (3, .int (iI ear)), (4, .int (iI tone)), (5, .int (iI level))] [] := by
    intro n
    induction n with
    | zero => intro k hk hn9 hs; exfalso; omega
    | succ n ih =>
      intro k hk hn9 hs
      refine g_iload C dX3_silences_3 0 rfl ?_
      refine g_bipush C dX3_silences_5 (by decide) ?_
      refine g_icmp_gt C dX3_silences_7 (tgt := 38) (by decide) (gRo (by omega) (by omega)) (gRo (by decide) (by decide)) (fun c7 => ?_) (fun c7 => ?_)
      · refine g_bipush C dX3_silences_38 (by decide) ?_
        refine g_iret C E dX3_silences_40 rfl ?_
        exact ⟨rI (by rw [← hs]; first | exact (mFind_end (by omega)).symm | exact (mFind_hit (by omega) (by rw [c26]; rfl)).symm), rfl⟩
      · refine g_aload_n C dX3_silences_10 1 rfl ?_
        refine g_iload_n C dX3_silences_11 3 rfl ?_
        refine g_iload_n C dX3_silences_12 4 rfl ?_
        refine g_iload C dX3_silences_13 5 rfl ?_
        refine g_iload C dX3_silences_15 6 rfl ?_
        refine g_iload C dX3_silences_17 0 rfl ?_
        refine g_callV C dX3_silences_19 lkX3_198 M.o rfl (As := [.int (iI route), .int (iI ear), .int (iI tone), .int (iI level), .int (iI k)]) (c_X3_heardBy M route ear tone level k hO (by omega) (by omega) (by omega) (by omega) (by omega)) rfl rfl ⟨Nat.le_of_ble_eq_true rfl, Nat.le_of_ble_eq_true rfl⟩ (Nat.le_of_ble_eq_true rfl) ?_
        rintro _ _ ⟨rfl, rfl⟩
        have b1 := mHB_b (g 6) route ear tone level k
        refine g_iload_n C dX3_silences_22 2 rfl ?_
        refine g_ishr C dX3_silences_23 (mHB_sh (by omega)) ?_
        refine g_iconst C dX3_silences_24 ?_
        refine g_iand C dX3_silences_25 (mHB_an (by omega)) ?_
        refine g_ifT C dX3_silences_26 (tgt := 32) (by decide) (fun c26 => ?_) (fun c26 => ?_)
        · refine g_iinc C dX3_silences_32 (v := k + 1) (lv' := [(6, .int (iI (k + 1))), (0, .ref m), (1, .int (iI who)), (2, .int (iI route)), (3, .int (iI ear)), (4, .int (iI tone)), (5, .int (iI level))]) 0 rfl rfl (Nat.le_of_ble_eq_true rfl) rfl ?_
          refine g_goto C dX3_silences_35 (tgt := 3) (by decide) ?_
          exact ih (k + 1) (by omega) (by omega) ((mFind_step (p := fun n => !mHear (g 6) route ear tone level n who) (by omega) (by rw [c26]; rfl)).trans hs)
        · refine g_iload C dX3_silences_29 0 rfl ?_
          refine g_iret C E dX3_silences_31 rfl ?_
          exact ⟨rI (by rw [← hs]; first | exact (mFind_end (by omega)).symm | exact (mFind_hit (by omega) (by rw [c26]; rfl)).symm), rfl⟩
  exact L3 26 0 (by omega) (by omega) rfl
theorem c_X3_quiets {G : gG} {h : gH} {h0 : gH} {m : Nat} {ad : Nat → Nat} {f : Nat → Int} {g : Nat → Int → Int} (M : mSt G h0 h m ad f g) (route : Int) (ear : Int) (tone : Int) (level : Int) (hroute1 : -2147483648 ≤ route) (hroute2 : route ≤ 2147483647) (hear1 : -2147483648 ≤ ear) (hear2 : ear ≤ 2147483647) (htone1 : -2147483648 ≤ tone) (htone2 : tone ≤ 2147483647) (hlevel1 : -2147483648 ≤ level) (hlevel2 : level ≤ 2147483647) (hf8 : f 8 = 0 ∨ f 8 = 1) (hO8 : f 8 = 1 → mOk (g 6) (g 18)) : gC G yX3_quiets (.code yX3_quiets cX3_quiets 5 (some .int)) 4 0 0 [.ref m, .int (iI route), .int (iI ear), .int (iI tone), .int (iI level)] h (fun r h' => r = some (.int (iI (mAns (mW2 (mOne (f 8) (g 6) route ear tone) (mIn level 0 24)) (mSil (g 6) (1 - ear) route ear tone level)))) ∧ mSt G h0 h' m ad (mRef f (mW2 (mOne (f 8) (g 6) route ear tone) (mIn level 0 24))) g) := by
  refine gC.of (by decide) (Nat.le_of_ble_eq_true rfl) rfl ?_
  intro X C E hI
  have C : gCtx G X cX3_quiets 5 RX3 4 (some .int) := C
  refine g_aload_n C dX3_quiets_0 0 rfl ?_
  refine g_aload_n C dX3_quiets_1 0 rfl ?_
  refine g_iload_n C dX3_quiets_2 1 rfl ?_
  refine g_iload_n C dX3_quiets_3 2 rfl ?_
  refine g_iload_n C dX3_quiets_4 3 rfl ?_
  refine g_callV C dX3_quiets_5 lkX3_188 M.o rfl (As := [.int (iI route), .int (iI ear), .int (iI tone)]) (c_X3_isOne M route ear tone (by omega) (by omega) (by omega) (by omega) (by omega) (by omega) hf8 hO8) rfl rfl ⟨Nat.le_of_ble_eq_true rfl, Nat.le_of_ble_eq_true rfl⟩ (Nat.le_of_ble_eq_true rfl) ?_
  rintro _ _ ⟨rfl, rfl⟩
  refine g_iload C dX3_quiets_8 4 rfl ?_
  refine g_iconst C dX3_quiets_10 ?_
  refine g_bipush C dX3_quiets_11 (by decide) ?_
  refine g_callS C dX3_quiets_13 lkX3_70 (As := [.int (iI level), .int (iI 0), .int (iI 24)]) (c_X3_in level 0 24 (by omega) (by omega) (by decide) (by decide) (by decide) (by decide)) rfl rfl ⟨Nat.le_of_ble_eq_true rfl, Nat.le_of_ble_eq_true rfl⟩ (Nat.le_of_ble_eq_true rfl) ?_
  rintro _ _ ⟨rfl, rfl⟩
  cases hb1 : mOne (f 8) (g 6) route ear tone
  · cases hb2 : mIn level 0 24
    · have fb3 := mIn_f.mp hb2
      refine g_callS C dX3_quiets_16 lkX3_195 (As := [.int (iI (gb false)), .int (iI (gb false))]) (c_X3_unless_2 false false) rfl rfl ⟨Nat.le_of_ble_eq_true rfl, Nat.le_of_ble_eq_true rfl⟩ (Nat.le_of_ble_eq_true rfl) ?_
      rintro _ _ ⟨rfl, rfl⟩
      show gW X h 0 0 19 [(0, .ref m), (1, .int (iI route)), (2, .int (iI ear)), (3, .int (iI tone)), (4, .int (iI level))] [.int (iI 1), .ref m]
      refine g_callV C dX3_quiets_19 lkX3_156 M.o rfl (As := [.int (iI 1)]) (c_X3_isRefused M 1 (by decide) (by decide)) rfl rfl ⟨Nat.le_of_ble_eq_true rfl, Nat.le_of_ble_eq_true rfl⟩ (Nat.le_of_ble_eq_true rfl) ?_
      rintro _ h4 ⟨rfl, M5⟩
      show gW X h4 0 0 22 [(0, .ref m), (1, .int (iI route)), (2, .int (iI ear)), (3, .int (iI tone)), (4, .int (iI level))] [.int (iI (gb true))]
      refine g_ifF C dX3_quiets_22 (tgt := 27) (by decide) (fun q => absurd q (by decide)) (fun q => ?_)
      refine g_iconst C dX3_quiets_25 ?_
      refine g_iret C E dX3_quiets_26 rfl ?_
      try rw [hb1]
      try rw [hb2]
      exact ⟨rfl, M5⟩
    · have fb6 := mIn_t.mp hb2
      refine g_callS C dX3_quiets_16 lkX3_195 (As := [.int (iI (gb false)), .int (iI (gb true))]) (c_X3_unless_2 false true) rfl rfl ⟨Nat.le_of_ble_eq_true rfl, Nat.le_of_ble_eq_true rfl⟩ (Nat.le_of_ble_eq_true rfl) ?_
      rintro _ _ ⟨rfl, rfl⟩
      show gW X h 0 0 19 [(0, .ref m), (1, .int (iI route)), (2, .int (iI ear)), (3, .int (iI tone)), (4, .int (iI level))] [.int (iI 1), .ref m]
      refine g_callV C dX3_quiets_19 lkX3_156 M.o rfl (As := [.int (iI 1)]) (c_X3_isRefused M 1 (by decide) (by decide)) rfl rfl ⟨Nat.le_of_ble_eq_true rfl, Nat.le_of_ble_eq_true rfl⟩ (Nat.le_of_ble_eq_true rfl) ?_
      rintro _ h7 ⟨rfl, M8⟩
      show gW X h7 0 0 22 [(0, .ref m), (1, .int (iI route)), (2, .int (iI ear)), (3, .int (iI tone)), (4, .int (iI level))] [.int (iI (gb true))]
      refine g_ifF C dX3_quiets_22 (tgt := 27) (by decide) (fun q => absurd q (by decide)) (fun q => ?_)
      refine g_iconst C dX3_quiets_25 ?_
      refine g_iret C E dX3_quiets_26 rfl ?_
      try rw [hb1]
      try rw [hb2]
      exact ⟨rfl, M8⟩
  · have fb9 := mOne_t hb1
    have hO := hO8 fb9.1
    obtain ⟨hI_, hr, hn, hT, hS_⟩ := id hO
    obtain ⟨hi0, hi1, hi2, hi3, hi4, hi5, hiA, hiR⟩ := id hI_
    obtain ⟨hs1, hs3, hs4, hs5, hs6, hs7, hs8, hs11, hs2⟩ := id hS_
    cases hb10 : mIn level 0 24
    · have fb11 := mIn_f.mp hb10
      refine g_callS C dX3_quiets_16 lkX3_195 (As := [.int (iI (gb true)), .int (iI (gb false))]) (c_X3_unless_2 true false) rfl rfl ⟨Nat.le_of_ble_eq_true rfl, Nat.le_of_ble_eq_true rfl⟩ (Nat.le_of_ble_eq_true rfl) ?_
      rintro _ _ ⟨rfl, rfl⟩
      show gW X h 0 0 19 [(0, .ref m), (1, .int (iI route)), (2, .int (iI ear)), (3, .int (iI tone)), (4, .int (iI level))] [.int (iI 2), .ref m]
      refine g_callV C dX3_quiets_19 lkX3_156 M.o rfl (As := [.int (iI 2)]) (c_X3_isRefused M 2 (by decide) (by decide)) rfl rfl ⟨Nat.le_of_ble_eq_true rfl, Nat.le_of_ble_eq_true rfl⟩ (Nat.le_of_ble_eq_true rfl) ?_
      rintro _ h12 ⟨rfl, M13⟩
      show gW X h12 0 0 22 [(0, .ref m), (1, .int (iI route)), (2, .int (iI ear)), (3, .int (iI tone)), (4, .int (iI level))] [.int (iI (gb true))]
      refine g_ifF C dX3_quiets_22 (tgt := 27) (by decide) (fun q => absurd q (by decide)) (fun q => ?_)
      refine g_iconst C dX3_quiets_25 ?_
      refine g_iret C E dX3_quiets_26 rfl ?_
      try rw [hb1]
      try rw [hb10]
      exact ⟨rfl, M13⟩
    · have fb14 := mIn_t.mp hb10
      refine g_callS C dX3_quiets_16 lkX3_195 (As := [.int (iI (gb true)), .int (iI (gb true))]) (c_X3_unless_2 true true) rfl rfl ⟨Nat.le_of_ble_eq_true rfl, Nat.le_of_ble_eq_true rfl⟩ (Nat.le_of_ble_eq_true rfl) ?_
      rintro _ _ ⟨rfl, rfl⟩
      show gW X h 0 0 19 [(0, .ref m), (1, .int (iI route)), (2, .int (iI ear)), (3, .int (iI tone)), (4, .int (iI level))] [.int (iI 0), .ref m]
      refine g_callV C dX3_quiets_19 lkX3_156 M.o rfl (As := [.int (iI 0)]) (c_X3_isRefused M 0 (by decide) (by decide)) rfl rfl ⟨Nat.le_of_ble_eq_true rfl, Nat.le_of_ble_eq_true rfl⟩ (Nat.le_of_ble_eq_true rfl) ?_
      rintro _ h15 ⟨rfl, M16⟩
      show gW X h15 0 0 22 [(0, .ref m), (1, .int (iI route)), (2, .int (iI ear)), (3, .int (iI tone)), (4, .int (iI level))] [.int (iI (gb false))]
      refine g_ifF C dX3_quiets_22 (tgt := 27) (by decide) (fun q => ?_) (fun q => absurd q (by decide))
      refine g_aload_n C dX3_quiets_27 0 rfl ?_
      refine g_iconst C dX3_quiets_28 ?_
      refine g_iload_n C dX3_quiets_29 2 rfl ?_
      refine g_isub C dX3_quiets_30 (v := 1 - ear) rfl ?_
      refine g_iload_n C dX3_quiets_31 1 rfl ?_
      refine g_iload_n C dX3_quiets_32 2 rfl ?_
      refine g_iload_n C dX3_quiets_33 3 rfl ?_
      refine g_iload C dX3_quiets_34 4 rfl ?_
      refine g_callV C dX3_quiets_36 lkX3_202 M16.o rfl (As := [.int (iI (1 - ear)), .int (iI route), .int (iI ear), .int (iI tone), .int (iI level)]) (c_X3_silences M16 (1 - ear) route ear tone level hO (by omega) (by omega) (by omega) (by omega) (by omega)) rfl rfl ⟨Nat.le_of_ble_eq_true rfl, Nat.le_of_ble_eq_true rfl⟩ (Nat.le_of_ble_eq_true rfl) ?_
      rintro _ _ ⟨rfl, rfl⟩
      show gW X h15 0 0 39 [(0, .ref m), (1, .int (iI route)), (2, .int (iI ear)), (3, .int (iI tone)), (4, .int (iI level))] [.int (iI (mSil (g 6) (1 - ear) route ear tone level))]
      have b17 := mSil_b (g 6) (1 - ear) route ear tone level
      refine g_iret C E dX3_quiets_39 rfl ?_
      try rw [hb1]
      try rw [hb10]
      exact ⟨rI (show mSil (g 6) (1 - ear) route ear tone level = mSil (g 6) (1 - ear) route ear tone level from rfl), M16⟩
theorem c_X3_spoils {G : gG} {h : gH} {h0 : gH} {m : Nat} {ad : Nat → Nat} {f : Nat → Int} {g : Nat → Int → Int} (M : mSt G h0 h m ad f g) (route : Int) (ear : Int) (tone : Int) (level : Int) (hroute1 : -2147483648 ≤ route) (hroute2 : route ≤ 2147483647) (hear1 : -2147483648 ≤ ear) (hear2 : ear ≤ 2147483647) (htone1 : -2147483648 ≤ tone) (htone2 : tone ≤ 2147483647) (hlevel1 : -2147483648 ≤ level) (hlevel2 : level ≤ 2147483647) (hf8 : f 8 = 0 ∨ f 8 = 1) (hO8 : f 8 = 1 → mOk (g 6) (g 18)) : gC G yX3_spoils (.code yX3_spoils cX3_spoils 6 (some .int)) 4 0 0 [.ref m, .int (iI route), .int (iI ear), .int (iI tone), .int (iI level)] h (fun r h' => r = some (.int (iI (mAns (mW2 (mOne (f 8) (g 6) route ear tone) (mIn level 0 24)) (if mHear (g 6) route ear tone level (-1) ear = true then mSil (g 6) ear route ear tone level else -2)))) ∧ mSt G h0 h' m ad (mRef f (mW2 (mOne (f 8) (g 6) route ear tone) (mIn level 0 24))) g) := by
  refine gC.of (by decide) (Nat.le_of_ble_eq_true rfl) rfl ?_
  intro X C E hI
  have C : gCtx G X cX3_spoils 6 RX3 4 (some .int) := C
  refine g_aload_n C dX3_spoils_0 0 rfl ?_
  refine g_aload_n C dX3_spoils_1 0 rfl ?_
  refine g_iload_n C dX3_spoils_2 1 rfl ?_
  refine g_iload_n C dX3_spoils_3 2 rfl ?_
  refine g_iload_n C dX3_spoils_4 3 rfl ?_
  refine g_callV C dX3_spoils_5 lkX3_188 M.o rfl (As := [.int (iI route), .int (iI ear), .int (iI tone)]) (c_X3_isOne M route ear tone (by omega) (by omega) (by omega) (by omega) (by omega) (by omega) hf8 hO8) rfl rfl ⟨Nat.le_of_ble_eq_true rfl, Nat.le_of_ble_eq_true rfl⟩ (Nat.le_of_ble_eq_true rfl) ?_
  rintro _ _ ⟨rfl, rfl⟩
  refine g_iload C dX3_spoils_8 4 rfl ?_
  refine g_iconst C dX3_spoils_10 ?_
  refine g_bipush C dX3_spoils_11 (by decide) ?_
  refine g_callS C dX3_spoils_13 lkX3_70 (As := [.int (iI level), .int (iI 0), .int (iI 24)]) (c_X3_in level 0 24 (by omega) (by omega) (by decide) (by decide) (by decide) (by decide)) rfl rfl ⟨Nat.le_of_ble_eq_true rfl, Nat.le_of_ble_eq_true rfl⟩ (Nat.le_of_ble_eq_true rfl) ?_
  rintro _ _ ⟨rfl, rfl⟩
  cases hb1 : mOne (f 8) (g 6) route ear tone
  · cases hb2 : mIn level 0 24
    · have fb3 := mIn_f.mp hb2
      refine g_callS C dX3_spoils_16 lkX3_195 (As := [.int (iI (gb false)), .int (iI (gb false))]) (c_X3_unless_2 false false) rfl rfl ⟨Nat.le_of_ble_eq_true rfl, Nat.le_of_ble_eq_true rfl⟩ (Nat.le_of_ble_eq_true rfl) ?_
      rintro _ _ ⟨rfl, rfl⟩
      show gW X h 0 0 19 [(0, .ref m), (1, .int (iI route)), (2, .int (iI ear)), (3, .int (iI tone)), (4, .int (iI level))] [.int (iI 1), .ref m]
      refine g_callV C dX3_spoils_19 lkX3_156 M.o rfl (As := [.int (iI 1)]) (c_X3_isRefused M 1 (by decide) (by decide)) rfl rfl ⟨Nat.le_of_ble_eq_true rfl, Nat.le_of_ble_eq_true rfl⟩ (Nat.le_of_ble_eq_true rfl) ?_
      rintro _ h4 ⟨rfl, M5⟩
      show gW X h4 0 0 22 [(0, .ref m), (1, .int (iI route)), (2, .int (iI ear)), (3, .int (iI tone)), (4, .int (iI level))] [.int (iI (gb true))]
      refine g_ifF C dX3_spoils_22 (tgt := 27) (by decide) (fun q => absurd q (by decide)) (fun q => ?_)
      refine g_iconst C dX3_spoils_25 ?_
      refine g_iret C E dX3_spoils_26 rfl ?_
      try rw [hb1]
      try rw [hb2]
      exact ⟨rfl, M5⟩
    · have fb6 := mIn_t.mp hb2
      refine g_callS C dX3_spoils_16 lkX3_195 (As := [.int (iI (gb false)), .int (iI (gb true))]) (c_X3_unless_2 false true) rfl rfl ⟨Nat.le_of_ble_eq_true rfl, Nat.le_of_ble_eq_true rfl⟩ (Nat.le_of_ble_eq_true rfl) ?_
      rintro _ _ ⟨rfl, rfl⟩
      show gW X h 0 0 19 [(0, .ref m), (1, .int (iI route)), (2, .int (iI ear)), (3, .int (iI tone)), (4, .int (iI level))] [.int (iI 1), .ref m]
      refine g_callV C dX3_spoils_19 lkX3_156 M.o rfl (As := [.int (iI 1)]) (c_X3_isRefused M 1 (by decide) (by decide)) rfl rfl ⟨Nat.le_of_ble_eq_true rfl, Nat.le_of_ble_eq_true rfl⟩ (Nat.le_of_ble_eq_true rfl) ?_
      rintro _ h7 ⟨rfl, M8⟩
      show gW X h7 0 0 22 [(0, .ref m), (1, .int (iI route)), (2, .int (iI ear)), (3, .int (iI tone)), (4, .int (iI level))] [.int (iI (gb true))]
      refine g_ifF C dX3_spoils_22 (tgt := 27) (by decide) (fun q => absurd q (by decide)) (fun q => ?_)
      refine g_iconst C dX3_spoils_25 ?_
      refine g_iret C E dX3_spoils_26 rfl ?_
      try rw [hb1]
      try rw [hb2]
      exact ⟨rfl, M8⟩
  · have fb9 := mOne_t hb1
    have hO := hO8 fb9.1
    obtain ⟨hI_, hr, hn, hT, hS_⟩ := id hO
    obtain ⟨hi0, hi1, hi2, hi3, hi4, hi5, hiA, hiR⟩ := id hI_
    obtain ⟨hs1, hs3, hs4, hs5, hs6, hs7, hs8, hs11, hs2⟩ := id hS_
    cases hb10 : mIn level 0 24
    · have fb11 := mIn_f.mp hb10
      refine g_callS C dX3_spoils_16 lkX3_195 (As := [.int (iI (gb true)), .int (iI (gb false))]) (c_X3_unless_2 true false) rfl rfl ⟨Nat.le_of_ble_eq_true rfl, Nat.le_of_ble_eq_true rfl⟩ (Nat.le_of_ble_eq_true rfl) ?_
      rintro _ _ ⟨rfl, rfl⟩
      show gW X h 0 0 19 [(0, .ref m), (1, .int (iI route)), (2, .int (iI ear)), (3, .int (iI tone)), (4, .int (iI level))] [.int (iI 2), .ref m]
      refine g_callV C dX3_spoils_19 lkX3_156 M.o rfl (As := [.int (iI 2)]) (c_X3_isRefused M 2 (by decide) (by decide)) rfl rfl ⟨Nat.le_of_ble_eq_true rfl, Nat.le_of_ble_eq_true rfl⟩ (Nat.le_of_ble_eq_true rfl) ?_
      rintro _ h12 ⟨rfl, M13⟩
      show gW X h12 0 0 22 [(0, .ref m), (1, .int (iI route)), (2, .int (iI ear)), (3, .int (iI tone)), (4, .int (iI level))] [.int (iI (gb true))]
      refine g_ifF C dX3_spoils_22 (tgt := 27) (by decide) (fun q => absurd q (by decide)) (fun q => ?_)
      refine g_iconst C dX3_spoils_25 ?_
      refine g_iret C E dX3_spoils_26 rfl ?_
      try rw [hb1]
      try rw [hb10]
      exact ⟨rfl, M13⟩
    · have fb14 := mIn_t.mp hb10
      refine g_callS C dX3_spoils_16 lkX3_195 (As := [.int (iI (gb true)), .int (iI (gb true))]) (c_X3_unless_2 true true) rfl rfl ⟨Nat.le_of_ble_eq_true rfl, Nat.le_of_ble_eq_true rfl⟩ (Nat.le_of_ble_eq_true rfl) ?_
      rintro _ _ ⟨rfl, rfl⟩
      show gW X h 0 0 19 [(0, .ref m), (1, .int (iI route)), (2, .int (iI ear)), (3, .int (iI tone)), (4, .int (iI level))] [.int (iI 0), .ref m]
      refine g_callV C dX3_spoils_19 lkX3_156 M.o rfl (As := [.int (iI 0)]) (c_X3_isRefused M 0 (by decide) (by decide)) rfl rfl ⟨Nat.le_of_ble_eq_true rfl, Nat.le_of_ble_eq_true rfl⟩ (Nat.le_of_ble_eq_true rfl) ?_
      rintro _ h15 ⟨rfl, M16⟩
      show gW X h15 0 0 22 [(0, .ref m), (1, .int (iI route)), (2, .int (iI ear)), (3, .int (iI tone)), (4, .int (iI level))] [.int (iI (gb false))]
      refine g_ifF C dX3_spoils_22 (tgt := 27) (by decide) (fun q => ?_) (fun q => absurd q (by decide))
      refine g_aload_n C dX3_spoils_27 0 rfl ?_
      refine g_iload_n C dX3_spoils_28 1 rfl ?_
      refine g_iload_n C dX3_spoils_29 2 rfl ?_
      refine g_iload_n C dX3_spoils_30 3 rfl ?_
      refine g_iload C dX3_spoils_31 4 rfl ?_
      refine g_iconst C dX3_spoils_33 ?_
      refine g_callV C dX3_spoils_34 lkX3_198 M16.o rfl (As := [.int (iI route), .int (iI ear), .int (iI tone), .int (iI level), .int (iI (-1))]) (c_X3_heardBy M16 route ear tone level (-1) hO (by omega) (by omega) (by omega) (by omega) (by omega)) rfl rfl ⟨Nat.le_of_ble_eq_true rfl, Nat.le_of_ble_eq_true rfl⟩ (Nat.le_of_ble_eq_true rfl) ?_
      rintro _ _ ⟨rfl, rfl⟩
      show gW X h15 0 0 37 [(0, .ref m), (1, .int (iI route)), (2, .int (iI ear)), (3, .int (iI tone)), (4, .int (iI level))] [.int (iI (mHB (g 6) route ear tone level (-1)))]
      have b17 := mHB_b (g 6) route ear tone level (-1)
      refine g_iload_n C dX3_spoils_37 2 rfl ?_
      refine g_ishr C dX3_spoils_38 (mHB_sh (by omega)) ?_
      refine g_iconst C dX3_spoils_39 ?_
      refine g_iand C dX3_spoils_40 (mHB_an (by omega)) ?_
      refine g_iconst C dX3_spoils_41 ?_
      refine g_icmp_ne C dX3_spoils_42 (tgt := 49) (by decide) (gb_R _) (gRo (by decide) (by decide)) (fun c42 => ?_) (fun c42 => ?_)
      · refine g_iconst C dX3_spoils_49 ?_
        refine g_istore C dX3_spoils_50 (lv' := [(5, .int (iI 0)), (0, .ref m), (1, .int (iI route)), (2, .int (iI ear)), (3, .int (iI tone)), (4, .int (iI level))]) (Nat.le_of_ble_eq_true rfl) rfl ?_
        refine g_iload C dX3_spoils_52 0 rfl ?_
        refine g_if_eq C dX3_spoils_54 (tgt := 70) (by decide) (gRo (by decide) (by decide)) (fun _ => ?_) (fun q => absurd (by decide) q)
        refine g_bipush C dX3_spoils_70 (by decide) ?_
        refine g_iret C E dX3_spoils_72 rfl ?_
        try rw [hb1]
        try rw [hb10]
        exact ⟨rI (show -2 = if mHear (g 6) route ear tone level (-1) ear = true then mSil (g 6) ear route ear tone level else -2 from by grind [gb]), M16⟩
      · refine g_iconst C dX3_spoils_45 ?_
        refine g_goto C dX3_spoils_46 (tgt := 50) (by decide) ?_
        refine g_istore C dX3_spoils_50 (lv' := [(5, .int (iI 1)), (0, .ref m), (1, .int (iI route)), (2, .int (iI ear)), (3, .int (iI tone)), (4, .int (iI level))]) (Nat.le_of_ble_eq_true rfl) rfl ?_
        refine g_iload C dX3_spoils_52 0 rfl ?_
        refine g_if_eq C dX3_spoils_54 (tgt := 70) (by decide) (gRo (by decide) (by decide)) (fun q => absurd q (by decide)) (fun _ => ?_)
        refine g_aload_n C dX3_spoils_57 1 rfl ?_
        refine g_iload_n C dX3_spoils_58 3 rfl ?_
        refine g_iload_n C dX3_spoils_59 2 rfl ?_
        refine g_iload_n C dX3_spoils_60 3 rfl ?_
        refine g_iload_n C dX3_spoils_61 4 rfl ?_
        refine g_iload C dX3_spoils_62 5 rfl ?_
        refine g_callV C dX3_spoils_64 lkX3_202 M16.o rfl (As := [.int (iI ear), .int (iI route), .int (iI ear), .int (iI tone), .int (iI level)]) (c_X3_silences M16 ear route ear tone level hO (by omega) (by omega) (by omega) (by omega) (by omega)) rfl rfl ⟨Nat.le_of_ble_eq_true rfl, Nat.le_of_ble_eq_true rfl⟩ (Nat.le_of_ble_eq_true rfl) ?_
        rintro _ _ ⟨rfl, rfl⟩
        show gW X h15 0 0 67 [(5, .int (iI 1)), (0, .ref m), (1, .int (iI route)), (2, .int (iI ear)), (3, .int (iI tone)), (4, .int (iI level))] [.int (iI (mSil (g 6) ear route ear tone level))]
        have b18 := mSil_b (g 6) ear route ear tone level
        refine g_goto C dX3_spoils_67 (tgt := 72) (by decide) ?_
        refine g_iret C E dX3_spoils_72 rfl ?_
        try rw [hb1]
        try rw [hb10]
        exact ⟨rI (show mSil (g 6) ear route ear tone level = if mHear (g 6) route ear tone level (-1) ear = true then mSil (g 6) ear route ear tone level else -2 from by grind [gb]), M16⟩
theorem c_X3_masked {G : gG} {h : gH} {h0 : gH} {m : Nat} {ad : Nat → Nat} {f : Nat → Int} {g : Nat → Int → Int} (M : mSt G h0 h m ad f g) (route : Int) (ear : Int) (tone : Int) (hO : mOk (g 6) (g 18)) (hrt : 0 ≤ route ∧ route ≤ 1) (he : 0 ≤ ear ∧ ear ≤ 1) (ht : 0 ≤ tone ∧ tone < g 6 0) : gC G yX3_masked (.code yX3_masked cX3_masked 5 (some .int)) 1 0 0 [.ref m, .int (iI route), .int (iI ear), .int (iI tone)] h (fun r h' => r = some (.int (iI (mMk (g 6) (g 18) route ear tone))) ∧ h = h') := by
  refine gC.of (by decide) (Nat.le_of_ble_eq_true rfl) rfl ?_
  intro X C E hI
  have C : gCtx G X cX3_masked 5 RX3 1 (some .int) := C
  obtain ⟨hI_, hr, hn, hT, hS_⟩ := id hO
  obtain ⟨hi0, hi1, hi2, hi3, hi4, hi5, hiA, hiR⟩ := id hI_
  obtain ⟨hs1, hs3, hs4, hs5, hs6, hs7, hs8, hs11, hs2⟩ := id hS_
  refine g_iconst C dX3_masked_0 ?_
  refine g_aload_n C dX3_masked_1 0 rfl ?_
  refine g_get C dX3_masked_2 kcX3 6 q1469 (fun _ _ _ _ h9 => h9) M.o (Nat.le_of_ble_eq_true rfl) rfl ?_
  refine g_iconst C dX3_masked_5 ?_
  refine g_iald C dX3_masked_6 (v := g 6 0) M.a6 (by decide) (by decide) (by decide) rfl ?_
  refine g_imul C dX3_masked_7 (v := 4 * (g 6 0)) rfl ?_
  refine g_istore C dX3_masked_8 (lv' := [(4, .int (iI (4 * (g 6 0)))), (0, .ref m), (1, .int (iI route)), (2, .int (iI ear)), (3, .int (iI tone))]) (Nat.le_of_ble_eq_true rfl) rfl ?_
  have L10 : ∀ (n : Nat) (k : Int) (hk : 4 * g 6 0 ≤ k ∧ k ≤ g 18 0) (hn9 : g 18 0 - k < n) (hs : mFind (mMkP (g 18) route ear tone) (g 18 0 - k).toNat k = mMk (g 6) (g 18) route ear tone), gW X h 0 0 10 [(4, .int (iI k)), (0, .ref m), (1, .int (iI route)), (2, .int (iI ear)), (3, .int (iI tone))] [] := by
    intro n
    induction n with
    | zero => intro k hk hn9 hs; exfalso; omega
    | succ n ih =>
      intro k hk hn9 hs
      refine g_iload C dX3_masked_10 0 rfl ?_
      refine g_aload_n C dX3_masked_12 1 rfl ?_
      refine g_get C dX3_masked_13 kcX3 18 q1481 (fun _ _ _ _ h9 => h9) M.o (Nat.le_of_ble_eq_true rfl) rfl ?_
      refine g_iconst C dX3_masked_16 ?_
      refine g_iald C dX3_masked_17 (v := g 18 0) M.a18 (by decide) (by decide) (by decide) rfl ?_
      refine g_icmp_ge C dX3_masked_18 (tgt := 75) (by decide) (gRo (by omega) (by omega)) (hr _) (fun c18 => ?_) (fun c18 => ?_)
      · refine g_bipush C dX3_masked_75 (by decide) ?_
        refine g_iret C E dX3_masked_77 rfl ?_
        exact ⟨rI (by rw [← hs]; first | exact (mFind_end (by omega)).symm | exact (mFind_hit (by omega) (a3t (decide_eq_true c33) (decide_eq_true c48) (decide_eq_true c63))).symm), rfl⟩
      · refine g_aload_n C dX3_masked_21 1 rfl ?_
        refine g_get C dX3_masked_22 kcX3 18 q1481 (fun _ _ _ _ h9 => h9) M.o (Nat.le_of_ble_eq_true rfl) rfl ?_
        refine g_iload C dX3_masked_25 0 rfl ?_
        refine g_iconst C dX3_masked_27 ?_
        refine g_callS C dX3_masked_28 lkX3_213 (As := [.int (iI k), .int (iI 0)]) (c_X3_at k 0) rfl rfl ⟨Nat.le_of_ble_eq_true rfl, Nat.le_of_ble_eq_true rfl⟩ (Nat.le_of_ble_eq_true rfl) ?_
        rintro _ _ ⟨rfl, rfl⟩
        refine g_iald C dX3_masked_31 (v := g 18 (112 + 11 * k + 0)) M.a18 (by decide) (by omega) (by omega) rfl ?_
        refine g_iload_n C dX3_masked_32 2 rfl ?_
        refine g_icmp_ne C dX3_masked_33 (tgt := 69) (by decide) (hr _) (gRo (by omega) (by omega)) (fun c33 => ?_) (fun c33 => ?_)
        · refine g_iinc C dX3_masked_69 (v := k + 1) (lv' := [(4, .int (iI (k + 1))), (0, .ref m), (1, .int (iI route)), (2, .int (iI ear)), (3, .int (iI tone))]) 0 rfl rfl (Nat.le_of_ble_eq_true rfl) rfl ?_
          refine g_goto C dX3_masked_72 (tgt := 10) (by decide) ?_
          exact ih (k + 1) (by omega) (by omega) ((mFind_step (p := mMkP (g 18) route ear tone) (by omega) (by first | exact a3f1 (decide_eq_false c33) | exact a3f2 (decide_eq_false c48) | exact a3f3 (decide_eq_false c63))).trans hs)
        · refine g_aload_n C dX3_masked_36 1 rfl ?_
          refine g_get C dX3_masked_37 kcX3 18 q1481 (fun _ _ _ _ h9 => h9) M.o (Nat.le_of_ble_eq_true rfl) rfl ?_
          refine g_iload C dX3_masked_40 0 rfl ?_
          refine g_iconst C dX3_masked_42 ?_
          refine g_callS C dX3_masked_43 lkX3_213 (As := [.int (iI k), .int (iI 1)]) (c_X3_at k 1) rfl rfl ⟨Nat.le_of_ble_eq_true rfl, Nat.le_of_ble_eq_true rfl⟩ (Nat.le_of_ble_eq_true rfl) ?_
          rintro _ _ ⟨rfl, rfl⟩
          refine g_iald C dX3_masked_46 (v := g 18 (112 + 11 * k + 1)) M.a18 (by decide) (by omega) (by omega) rfl ?_
          refine g_iload_n C dX3_masked_47 3 rfl ?_
          refine g_icmp_ne C dX3_masked_48 (tgt := 69) (by decide) (hr _) (gRo (by omega) (by omega)) (fun c48 => ?_) (fun c48 => ?_)
          · refine g_iinc C dX3_masked_69 (v := k + 1) (lv' := [(4, .int (iI (k + 1))), (0, .ref m), (1, .int (iI route)), (2, .int (iI ear)), (3, .int (iI tone))]) 0 rfl rfl (Nat.le_of_ble_eq_true rfl) rfl ?_
            refine g_goto C dX3_masked_72 (tgt := 10) (by decide) ?_
            exact ih (k + 1) (by omega) (by omega) ((mFind_step (p := mMkP (g 18) route ear tone) (by omega) (by first | exact a3f1 (decide_eq_false c33) | exact a3f2 (decide_eq_false c48) | exact a3f3 (decide_eq_false c63))).trans hs)
          · refine g_aload_n C dX3_masked_51 1 rfl ?_
            refine g_get C dX3_masked_52 kcX3 18 q1481 (fun _ _ _ _ h9 => h9) M.o (Nat.le_of_ble_eq_true rfl) rfl ?_
            refine g_iload C dX3_masked_55 0 rfl ?_
            refine g_iconst C dX3_masked_57 ?_
            refine g_callS C dX3_masked_58 lkX3_213 (As := [.int (iI k), .int (iI 2)]) (c_X3_at k 2) rfl rfl ⟨Nat.le_of_ble_eq_true rfl, Nat.le_of_ble_eq_true rfl⟩ (Nat.le_of_ble_eq_true rfl) ?_
            rintro _ _ ⟨rfl, rfl⟩
            refine g_iald C dX3_masked_61 (v := g 18 (112 + 11 * k + 2)) M.a18 (by decide) (by omega) (by omega) rfl ?_
            refine g_iload_n C dX3_masked_62 4 rfl ?_
            refine g_icmp_ne C dX3_masked_63 (tgt := 69) (by decide) (hr _) (gRo (by omega) (by omega)) (fun c63 => ?_) (fun c63 => ?_)
            · refine g_iinc C dX3_masked_69 (v := k + 1) (lv' := [(4, .int (iI (k + 1))), (0, .ref m), (1, .int (iI route)), (2, .int (iI ear)), (3, .int (iI tone))]) 0 rfl rfl (Nat.le_of_ble_eq_true rfl) rfl ?_
              refine g_goto C dX3_masked_72 (tgt := 10) (by decide) ?_
              exact ih (k + 1) (by omega) (by omega) ((mFind_step (p := mMkP (g 18) route ear tone) (by omega) (by first | exact a3f1 (decide_eq_false c33) | exact a3f2 (decide_eq_false c48) | exact a3f3 (decide_eq_false c63))).trans hs)
            · refine g_iload C dX3_masked_66 0 rfl ?_
              refine g_iret C E dX3_masked_68 rfl ?_
              exact ⟨rI (by rw [← hs]; first | exact (mFind_end (by omega)).symm | exact (mFind_hit (by omega) (a3t (decide_eq_true c33) (decide_eq_true c48) (decide_eq_true c63))).symm), rfl⟩
  exact L10 ((g 18 0 - 4 * g 6 0).toNat + 1) (4 * (g 6 0)) (by omega) (by omega) rfl
theorem c_X3_toldOf {G : gG} {h : gH} {h0 : gH} {m : Nat} {ad : Nat → Nat} {f : Nat → Int} {g : Nat → Int → Int} (M : mSt G h0 h m ad f g) (route : Int) (ear : Int) (tone : Int) (hO : mOk (g 6) (g 18)) (hrt : 0 ≤ route ∧ route ≤ 1) (he : 0 ≤ ear ∧ ear ≤ 1) (ht : 0 ≤ tone ∧ tone < g 6 0) : gC G yX3_toldOf (.code yX3_toldOf cX3_toldOf 6 (some .int)) 2 0 0 [.ref m, .int (iI route), .int (iI ear), .int (iI tone)] h (fun r h' => r = some (.int (iI (mTold (g 6) (g 18) route ear tone))) ∧ h = h') := by
  refine gC.of (by decide) (Nat.le_of_ble_eq_true rfl) rfl ?_
  intro X C E hI
  have C : gCtx G X cX3_toldOf 6 RX3 2 (some .int) := C
  obtain ⟨hI_, hr, hn, hT, hS_⟩ := id hO
  obtain ⟨hi0, hi1, hi2, hi3, hi4, hi5, hiA, hiR⟩ := id hI_
  obtain ⟨hs1, hs3, hs4, hs5, hs6, hs7, hs8, hs11, hs2⟩ := id hS_
  refine g_aload_n C dX3_toldOf_0 0 rfl ?_
  refine g_iload_n C dX3_toldOf_1 1 rfl ?_
  refine g_iload_n C dX3_toldOf_2 2 rfl ?_
  refine g_iload_n C dX3_toldOf_3 3 rfl ?_
  refine g_callV C dX3_toldOf_4 lkX3_300 M.o rfl (As := [.int (iI route), .int (iI ear), .int (iI tone)]) (c_X3_masked M route ear tone hO (by omega) (by omega) (by omega)) rfl rfl ⟨Nat.le_of_ble_eq_true rfl, Nat.le_of_ble_eq_true rfl⟩ (Nat.le_of_ble_eq_true rfl) ?_
  rintro _ _ ⟨rfl, rfl⟩
  have b1 := mMk_b hO route ear tone
  refine g_istore C dX3_toldOf_7 (lv' := [(4, .int (iI (mMk (g 6) (g 18) route ear tone))), (0, .ref m), (1, .int (iI route)), (2, .int (iI ear)), (3, .int (iI tone))]) (Nat.le_of_ble_eq_true rfl) rfl ?_
  refine g_iload C dX3_toldOf_9 0 rfl ?_
  refine g_bipush C dX3_toldOf_11 (by decide) ?_
  refine g_icmp_ne C dX3_toldOf_13 (tgt := 26) (by decide) (gRo (by omega) (by omega)) (gRo (by decide) (by decide)) (fun c13 => ?_) (fun c13 => ?_)
  · refine g_iload C dX3_toldOf_26 0 rfl ?_
    refine g_istore C dX3_toldOf_28 (lv' := [(4, .int (iI (mMk (g 6) (g 18) route ear tone))), (0, .ref m), (1, .int (iI route)), (2, .int (iI ear)), (3, .int (iI tone))]) (Nat.le_of_ble_eq_true rfl) rfl ?_
    refine g_aload_n C dX3_toldOf_30 1 rfl ?_
    refine g_get C dX3_toldOf_31 kcX3 18 q1481 (fun _ _ _ _ h9 => h9) M.o (Nat.le_of_ble_eq_true rfl) rfl ?_
    refine g_iload C dX3_toldOf_34 0 rfl ?_
    refine g_iconst C dX3_toldOf_36 ?_
    refine g_callS C dX3_toldOf_37 lkX3_213 (As := [.int (iI (mMk (g 6) (g 18) route ear tone)), .int (iI 4)]) (c_X3_at (mMk (g 6) (g 18) route ear tone) 4) rfl rfl ⟨Nat.le_of_ble_eq_true rfl, Nat.le_of_ble_eq_true rfl⟩ (Nat.le_of_ble_eq_true rfl) ?_
    rintro _ _ ⟨rfl, rfl⟩
    refine g_iald C dX3_toldOf_40 (v := g 18 (112 + 11 * (mMk (g 6) (g 18) route ear tone) + 4)) M.a18 (by decide) (by omega) (by omega) rfl ?_
    refine g_istore C dX3_toldOf_41 (lv' := [(5, .int (iI (g 18 (112 + 11 * (mMk (g 6) (g 18) route ear tone) + 4)))), (4, .int (iI (mMk (g 6) (g 18) route ear tone))), (0, .ref m), (1, .int (iI route)), (2, .int (iI ear)), (3, .int (iI tone))]) (Nat.le_of_ble_eq_true rfl) rfl ?_
    refine g_iload C dX3_toldOf_43 0 rfl ?_
    refine g_iconst C dX3_toldOf_45 ?_
    refine g_icmp_ne C dX3_toldOf_46 (tgt := 63) (by decide) (hr _) (gRo (by decide) (by decide)) (fun c46 => ?_) (fun c46 => ?_)
    · refine g_iload C dX3_toldOf_63 0 rfl ?_
      refine g_iconst C dX3_toldOf_65 ?_
      refine g_icmp_ge C dX3_toldOf_66 (tgt := 74) (by decide) (hr _) (gRo (by decide) (by decide)) (fun c66 => ?_) (fun c66 => ?_)
      · refine g_bipush C dX3_toldOf_74 (by decide) ?_
        refine g_iret C E dX3_toldOf_76 rfl ?_
        exact ⟨rI (by unfold mTold mMkOr; grind), rfl⟩
      · refine g_bipush C dX3_toldOf_69 (by decide) ?_
        refine g_goto C dX3_toldOf_71 (tgt := 76) (by decide) ?_
        refine g_iret C E dX3_toldOf_76 rfl ?_
        exact ⟨rI (by unfold mTold mMkOr; grind), rfl⟩
    · refine g_aload_n C dX3_toldOf_49 2 rfl ?_
      refine g_get C dX3_toldOf_50 kcX3 18 q1481 (fun _ _ _ _ h9 => h9) M.o (Nat.le_of_ble_eq_true rfl) rfl ?_
      refine g_iload C dX3_toldOf_53 1 rfl ?_
      refine g_iconst C dX3_toldOf_55 ?_
      refine g_callS C dX3_toldOf_56 lkX3_213 (As := [.int (iI (mMk (g 6) (g 18) route ear tone)), .int (iI 5)]) (c_X3_at (mMk (g 6) (g 18) route ear tone) 5) rfl rfl ⟨Nat.le_of_ble_eq_true rfl, Nat.le_of_ble_eq_true rfl⟩ (Nat.le_of_ble_eq_true rfl) ?_
      rintro _ _ ⟨rfl, rfl⟩
      refine g_iald C dX3_toldOf_59 (v := g 18 (112 + 11 * (mMk (g 6) (g 18) route ear tone) + 5)) M.a18 (by decide) (by omega) (by omega) rfl ?_
      refine g_goto C dX3_toldOf_60 (tgt := 76) (by decide) ?_
      refine g_iret C E dX3_toldOf_76 rfl ?_
      exact ⟨rI (by unfold mTold mMkOr; grind), rfl⟩
  · refine g_aload_n C dX3_toldOf_16 1 rfl ?_
    refine g_iload_n C dX3_toldOf_17 2 rfl ?_
    refine g_iload_n C dX3_toldOf_18 3 rfl ?_
    refine g_iload_n C dX3_toldOf_19 4 rfl ?_
    refine g_callV C dX3_toldOf_20 lkX3_226 M.o rfl (As := [.int (iI route), .int (iI ear), .int (iI tone)]) (c_X3_plain M route ear tone) rfl rfl ⟨Nat.le_of_ble_eq_true rfl, Nat.le_of_ble_eq_true rfl⟩ (Nat.le_of_ble_eq_true rfl) ?_
    rintro _ _ ⟨rfl, rfl⟩
    have b2 := mPlain_b hO.1 (route := route) (ear := ear) (tone := tone) (by omega) (by omega) (by omega)
    refine g_goto C dX3_toldOf_23 (tgt := 28) (by decide) ?_
    refine g_istore C dX3_toldOf_28 (lv' := [(4, .int (iI (mPlain (g 6) route ear tone))), (0, .ref m), (1, .int (iI route)), (2, .int (iI ear)), (3, .int (iI tone))]) (Nat.le_of_ble_eq_true rfl) rfl ?_
    refine g_aload_n C dX3_toldOf_30 1 rfl ?_
    refine g_get C dX3_toldOf_31 kcX3 18 q1481 (fun _ _ _ _ h9 => h9) M.o (Nat.le_of_ble_eq_true rfl) rfl ?_
    refine g_iload C dX3_toldOf_34 0 rfl ?_
    refine g_iconst C dX3_toldOf_36 ?_
    refine g_callS C dX3_toldOf_37 lkX3_213 (As := [.int (iI (mPlain (g 6) route ear tone)), .int (iI 4)]) (c_X3_at (mPlain (g 6) route ear tone) 4) rfl rfl ⟨Nat.le_of_ble_eq_true rfl, Nat.le_of_ble_eq_true rfl⟩ (Nat.le_of_ble_eq_true rfl) ?_
    rintro _ _ ⟨rfl, rfl⟩
    refine g_iald C dX3_toldOf_40 (v := g 18 (112 + 11 * (mPlain (g 6) route ear tone) + 4)) M.a18 (by decide) (by omega) (by omega) rfl ?_
    refine g_istore C dX3_toldOf_41 (lv' := [(5, .int (iI (g 18 (112 + 11 * (mPlain (g 6) route ear tone) + 4)))), (4, .int (iI (mPlain (g 6) route ear tone))), (0, .ref m), (1, .int (iI route)), (2, .int (iI ear)), (3, .int (iI tone))]) (Nat.le_of_ble_eq_true rfl) rfl ?_
    refine g_iload C dX3_toldOf_43 0 rfl ?_
    refine g_iconst C dX3_toldOf_45 ?_
    refine g_icmp_ne C dX3_toldOf_46 (tgt := 63) (by decide) (hr _) (gRo (by decide) (by decide)) (fun c46 => ?_) (fun c46 => ?_)
    · refine g_iload C dX3_toldOf_63 0 rfl ?_
      refine g_iconst C dX3_toldOf_65 ?_
      refine g_icmp_ge C dX3_toldOf_66 (tgt := 74) (by decide) (hr _) (gRo (by decide) (by decide)) (fun c66 => ?_) (fun c66 => ?_)
      · refine g_bipush C dX3_toldOf_74 (by decide) ?_
        refine g_iret C E dX3_toldOf_76 rfl ?_
        exact ⟨rI (by unfold mTold mMkOr; grind), rfl⟩
      · refine g_bipush C dX3_toldOf_69 (by decide) ?_
        refine g_goto C dX3_toldOf_71 (tgt := 76) (by decide) ?_
        refine g_iret C E dX3_toldOf_76 rfl ?_
        exact ⟨rI (by unfold mTold mMkOr; grind), rfl⟩
    · refine g_aload_n C dX3_toldOf_49 2 rfl ?_
      refine g_get C dX3_toldOf_50 kcX3 18 q1481 (fun _ _ _ _ h9 => h9) M.o (Nat.le_of_ble_eq_true rfl) rfl ?_
      refine g_iload C dX3_toldOf_53 1 rfl ?_
      refine g_iconst C dX3_toldOf_55 ?_
      refine g_callS C dX3_toldOf_56 lkX3_213 (As := [.int (iI (mPlain (g 6) route ear tone)), .int (iI 5)]) (c_X3_at (mPlain (g 6) route ear tone) 5) rfl rfl ⟨Nat.le_of_ble_eq_true rfl, Nat.le_of_ble_eq_true rfl⟩ (Nat.le_of_ble_eq_true rfl) ?_
      rintro _ _ ⟨rfl, rfl⟩
      refine g_iald C dX3_toldOf_59 (v := g 18 (112 + 11 * (mPlain (g 6) route ear tone) + 5)) M.a18 (by decide) (by omega) (by omega) rfl ?_
      refine g_goto C dX3_toldOf_60 (tgt := 76) (by decide) ?_
      refine g_iret C E dX3_toldOf_76 rfl ?_
      exact ⟨rI (by unfold mTold mMkOr; grind), rfl⟩
theorem c_X3_told {G : gG} {h : gH} {h0 : gH} {m : Nat} {ad : Nat → Nat} {f : Nat → Int} {g : Nat → Int → Int} (M : mSt G h0 h m ad f g) (route : Int) (ear : Int) (tone : Int) (hroute1 : -2147483648 ≤ route) (hroute2 : route ≤ 2147483647) (hear1 : -2147483648 ≤ ear) (hear2 : ear ≤ 2147483647) (htone1 : -2147483648 ≤ tone) (htone2 : tone ≤ 2147483647) (hf8 : f 8 = 0 ∨ f 8 = 1) (hO8 : f 8 = 1 → mOk (g 6) (g 18)) : gC G yX3_told (.code yX3_told cX3_told 4 (some .int)) 3 0 0 [.ref m, .int (iI route), .int (iI ear), .int (iI tone)] h (fun r h' => r = some (.int (iI (mAns (mW1 (mOne (f 8) (g 6) route ear tone)) (mTold (g 6) (g 18) route ear tone)))) ∧ mSt G h0 h' m ad (mRef f (mW1 (mOne (f 8) (g 6) route ear tone))) g) := by
  refine gC.of (by decide) (Nat.le_of_ble_eq_true rfl) rfl ?_
  intro X C E hI
  have C : gCtx G X cX3_told 4 RX3 3 (some .int) := C
  refine g_aload_n C dX3_told_0 0 rfl ?_
  refine g_aload_n C dX3_told_1 0 rfl ?_
  refine g_iload_n C dX3_told_2 1 rfl ?_
  refine g_iload_n C dX3_told_3 2 rfl ?_
  refine g_iload_n C dX3_told_4 3 rfl ?_
  refine g_callV C dX3_told_5 lkX3_188 M.o rfl (As := [.int (iI route), .int (iI ear), .int (iI tone)]) (c_X3_isOne M route ear tone (by omega) (by omega) (by omega) (by omega) (by omega) (by omega) hf8 hO8) rfl rfl ⟨Nat.le_of_ble_eq_true rfl, Nat.le_of_ble_eq_true rfl⟩ (Nat.le_of_ble_eq_true rfl) ?_
  rintro _ _ ⟨rfl, rfl⟩
  cases hb1 : mOne (f 8) (g 6) route ear tone
  · refine g_callS C dX3_told_8 lkX3_191 (As := [.int (iI (gb false))]) (c_X3_unless false) rfl rfl ⟨Nat.le_of_ble_eq_true rfl, Nat.le_of_ble_eq_true rfl⟩ (Nat.le_of_ble_eq_true rfl) ?_
    rintro _ _ ⟨rfl, rfl⟩
    show gW X h 0 0 11 [(0, .ref m), (1, .int (iI route)), (2, .int (iI ear)), (3, .int (iI tone))] [.int (iI 1), .ref m]
    refine g_callV C dX3_told_11 lkX3_156 M.o rfl (As := [.int (iI 1)]) (c_X3_isRefused M 1 (by decide) (by decide)) rfl rfl ⟨Nat.le_of_ble_eq_true rfl, Nat.le_of_ble_eq_true rfl⟩ (Nat.le_of_ble_eq_true rfl) ?_
    rintro _ h2 ⟨rfl, M3⟩
    show gW X h2 0 0 14 [(0, .ref m), (1, .int (iI route)), (2, .int (iI ear)), (3, .int (iI tone))] [.int (iI (gb true))]
    refine g_ifF C dX3_told_14 (tgt := 21) (by decide) (fun q => absurd q (by decide)) (fun q => ?_)
    refine g_iconst C dX3_told_17 ?_
    refine g_goto C dX3_told_18 (tgt := 28) (by decide) ?_
    refine g_iret C E dX3_told_28 rfl ?_
    try rw [hb1]
    exact ⟨rfl, M3⟩
  · have fb4 := mOne_t hb1
    have hO := hO8 fb4.1
    obtain ⟨hI_, hr, hn, hT, hS_⟩ := id hO
    obtain ⟨hi0, hi1, hi2, hi3, hi4, hi5, hiA, hiR⟩ := id hI_
    obtain ⟨hs1, hs3, hs4, hs5, hs6, hs7, hs8, hs11, hs2⟩ := id hS_
    refine g_callS C dX3_told_8 lkX3_191 (As := [.int (iI (gb true))]) (c_X3_unless true) rfl rfl ⟨Nat.le_of_ble_eq_true rfl, Nat.le_of_ble_eq_true rfl⟩ (Nat.le_of_ble_eq_true rfl) ?_
    rintro _ _ ⟨rfl, rfl⟩
    show gW X h 0 0 11 [(0, .ref m), (1, .int (iI route)), (2, .int (iI ear)), (3, .int (iI tone))] [.int (iI 0), .ref m]
    refine g_callV C dX3_told_11 lkX3_156 M.o rfl (As := [.int (iI 0)]) (c_X3_isRefused M 0 (by decide) (by decide)) rfl rfl ⟨Nat.le_of_ble_eq_true rfl, Nat.le_of_ble_eq_true rfl⟩ (Nat.le_of_ble_eq_true rfl) ?_
    rintro _ h5 ⟨rfl, M6⟩
    show gW X h5 0 0 14 [(0, .ref m), (1, .int (iI route)), (2, .int (iI ear)), (3, .int (iI tone))] [.int (iI (gb false))]
    refine g_ifF C dX3_told_14 (tgt := 21) (by decide) (fun q => ?_) (fun q => absurd q (by decide))
    refine g_aload_n C dX3_told_21 0 rfl ?_
    refine g_iload_n C dX3_told_22 1 rfl ?_
    refine g_iload_n C dX3_told_23 2 rfl ?_
    refine g_iload_n C dX3_told_24 3 rfl ?_
    refine g_callV C dX3_told_25 lkX3_303 M6.o rfl (As := [.int (iI route), .int (iI ear), .int (iI tone)]) (c_X3_toldOf M6 route ear tone hO (by omega) (by omega) (show 0 ≤ tone ∧ tone < g 6 0 from by omega)) rfl rfl ⟨Nat.le_of_ble_eq_true rfl, Nat.le_of_ble_eq_true rfl⟩ (Nat.le_of_ble_eq_true rfl) ?_
    rintro _ _ ⟨rfl, rfl⟩
    show gW X h5 0 0 28 [(0, .ref m), (1, .int (iI route)), (2, .int (iI ear)), (3, .int (iI tone))] [.int (iI (mTold (g 6) (g 18) route ear tone))]
    have b7 := mTold_b hO (route := route) (ear := ear) (tone := tone) (by omega) (by omega) (by omega)
    refine g_iret C E dX3_told_28 rfl ?_
    try rw [hb1]
    exact ⟨rI (show mTold (g 6) (g 18) route ear tone = mTold (g 6) (g 18) route ear tone from rfl), M6⟩
theorem c_X3_find {G : gG} {h : gH} {h0 : gH} {m : Nat} {ad : Nat → Nat} {f : Nat → Int} {g : Nat → Int → Int} (M : mSt G h0 h m ad f g) (route : Int) (ear : Int) (tone : Int) (masked : Bool) (hroute1 : -2147483648 ≤ route) (hroute2 : route ≤ 2147483647) (hear1 : -2147483648 ≤ ear) (hear2 : ear ≤ 2147483647) (htone1 : -2147483648 ≤ tone) (htone2 : tone ≤ 2147483647) (hf8 : f 8 = 0 ∨ f 8 = 1) (hO8 : f 8 = 1 → mOk (g 6) (g 18)) : gC G yX3_find (.code yX3_find cX3_find 5 (some .int)) 2 0 0 [.ref m, .int (iI route), .int (iI ear), .int (iI tone), .int (iI (gb masked))] h (fun r h' => r = some (.int (iI (mAns (mW1 (mOne (f 8) (g 6) route ear tone)) (if masked = true then mMk (g 6) (g 18) route ear tone else mPlain (g 6) route ear tone)))) ∧ mSt G h0 h' m ad (mRef f (mW1 (mOne (f 8) (g 6) route ear tone))) g) := by
  refine gC.of (by decide) (Nat.le_of_ble_eq_true rfl) rfl ?_
  intro X C E hI
  have C : gCtx G X cX3_find 5 RX3 2 (some .int) := C
  refine g_aload_n C dX3_find_0 0 rfl ?_
  refine g_aload_n C dX3_find_1 0 rfl ?_
  refine g_iload_n C dX3_find_2 1 rfl ?_
  refine g_iload_n C dX3_find_3 2 rfl ?_
  refine g_iload_n C dX3_find_4 3 rfl ?_
  refine g_callV C dX3_find_5 lkX3_188 M.o rfl (As := [.int (iI route), .int (iI ear), .int (iI tone)]) (c_X3_isOne M route ear tone (by omega) (by omega) (by omega) (by omega) (by omega) (by omega) hf8 hO8) rfl rfl ⟨Nat.le_of_ble_eq_true rfl, Nat.le_of_ble_eq_true rfl⟩ (Nat.le_of_ble_eq_true rfl) ?_
  rintro _ _ ⟨rfl, rfl⟩
  cases hb1 : mOne (f 8) (g 6) route ear tone
  · refine g_callS C dX3_find_8 lkX3_191 (As := [.int (iI (gb false))]) (c_X3_unless false) rfl rfl ⟨Nat.le_of_ble_eq_true rfl, Nat.le_of_ble_eq_true rfl⟩ (Nat.le_of_ble_eq_true rfl) ?_
    rintro _ _ ⟨rfl, rfl⟩
    show gW X h 0 0 11 [(0, .ref m), (1, .int (iI route)), (2, .int (iI ear)), (3, .int (iI tone)), (4, .int (iI (gb masked)))] [.int (iI 1), .ref m]
    refine g_callV C dX3_find_11 lkX3_156 M.o rfl (As := [.int (iI 1)]) (c_X3_isRefused M 1 (by decide) (by decide)) rfl rfl ⟨Nat.le_of_ble_eq_true rfl, Nat.le_of_ble_eq_true rfl⟩ (Nat.le_of_ble_eq_true rfl) ?_
    rintro _ h2 ⟨rfl, M3⟩
    show gW X h2 0 0 14 [(0, .ref m), (1, .int (iI route)), (2, .int (iI ear)), (3, .int (iI tone)), (4, .int (iI (gb masked)))] [.int (iI (gb true))]
    refine g_ifF C dX3_find_14 (tgt := 19) (by decide) (fun q => absurd q (by decide)) (fun q => ?_)
    refine g_iconst C dX3_find_17 ?_
    refine g_iret C E dX3_find_18 rfl ?_
    try rw [hb1]
    exact ⟨rfl, M3⟩
  · have fb4 := mOne_t hb1
    have hO := hO8 fb4.1
    obtain ⟨hI_, hr, hn, hT, hS_⟩ := id hO
    obtain ⟨hi0, hi1, hi2, hi3, hi4, hi5, hiA, hiR⟩ := id hI_
    obtain ⟨hs1, hs3, hs4, hs5, hs6, hs7, hs8, hs11, hs2⟩ := id hS_
    refine g_callS C dX3_find_8 lkX3_191 (As := [.int (iI (gb true))]) (c_X3_unless true) rfl rfl ⟨Nat.le_of_ble_eq_true rfl, Nat.le_of_ble_eq_true rfl⟩ (Nat.le_of_ble_eq_true rfl) ?_
    rintro _ _ ⟨rfl, rfl⟩
    show gW X h 0 0 11 [(0, .ref m), (1, .int (iI route)), (2, .int (iI ear)), (3, .int (iI tone)), (4, .int (iI (gb masked)))] [.int (iI 0), .ref m]
    refine g_callV C dX3_find_11 lkX3_156 M.o rfl (As := [.int (iI 0)]) (c_X3_isRefused M 0 (by decide) (by decide)) rfl rfl ⟨Nat.le_of_ble_eq_true rfl, Nat.le_of_ble_eq_true rfl⟩ (Nat.le_of_ble_eq_true rfl) ?_
    rintro _ h5 ⟨rfl, M6⟩
    show gW X h5 0 0 14 [(0, .ref m), (1, .int (iI route)), (2, .int (iI ear)), (3, .int (iI tone)), (4, .int (iI (gb masked)))] [.int (iI (gb false))]
    refine g_ifF C dX3_find_14 (tgt := 19) (by decide) (fun q => ?_) (fun q => absurd q (by decide))
    refine g_iload C dX3_find_19 4 rfl ?_
    refine g_ifF C dX3_find_21 (tgt := 34) (by decide) (fun c21 => ?_) (fun c21 => ?_)
    · refine g_aload_n C dX3_find_34 0 rfl ?_
      refine g_iload_n C dX3_find_35 1 rfl ?_
      refine g_iload_n C dX3_find_36 2 rfl ?_
      refine g_iload_n C dX3_find_37 3 rfl ?_
      refine g_callV C dX3_find_38 lkX3_226 M6.o rfl (As := [.int (iI route), .int (iI ear), .int (iI tone)]) (c_X3_plain M6 route ear tone) rfl rfl ⟨Nat.le_of_ble_eq_true rfl, Nat.le_of_ble_eq_true rfl⟩ (Nat.le_of_ble_eq_true rfl) ?_
      rintro _ _ ⟨rfl, rfl⟩
      show gW X h5 0 0 41 [(0, .ref m), (1, .int (iI route)), (2, .int (iI ear)), (3, .int (iI tone)), (4, .int (iI (gb masked)))] [.int (iI (mPlain (g 6) route ear tone))]
      have b7 := mPlain_b hO.1 (route := route) (ear := ear) (tone := tone) (by omega) (by omega) (by omega)
      refine g_iret C E dX3_find_41 rfl ?_
      try rw [hb1]
      exact ⟨rI (show mPlain (g 6) route ear tone = if masked = true then mMk (g 6) (g 18) route ear tone else mPlain (g 6) route ear tone from by grind), M6⟩
    · refine g_aload_n C dX3_find_24 0 rfl ?_
      refine g_iload_n C dX3_find_25 1 rfl ?_
      refine g_iload_n C dX3_find_26 2 rfl ?_
      refine g_iload_n C dX3_find_27 3 rfl ?_
      refine g_callV C dX3_find_28 lkX3_300 M6.o rfl (As := [.int (iI route), .int (iI ear), .int (iI tone)]) (c_X3_masked M6 route ear tone hO (by omega) (by omega) (show 0 ≤ tone ∧ tone < g 6 0 from by omega)) rfl rfl ⟨Nat.le_of_ble_eq_true rfl, Nat.le_of_ble_eq_true rfl⟩ (Nat.le_of_ble_eq_true rfl) ?_
      rintro _ _ ⟨rfl, rfl⟩
      show gW X h5 0 0 31 [(0, .ref m), (1, .int (iI route)), (2, .int (iI ear)), (3, .int (iI tone)), (4, .int (iI (gb masked)))] [.int (iI (mMk (g 6) (g 18) route ear tone))]
      have b8 := mMk_b hO route ear tone
      refine g_goto C dX3_find_31 (tgt := 41) (by decide) ?_
      refine g_iret C E dX3_find_41 rfl ?_
      try rw [hb1]
      exact ⟨rI (show mMk (g 6) (g 18) route ear tone = if masked = true then mMk (g 6) (g 18) route ear tone else mPlain (g 6) route ear tone from by grind), M6⟩
theorem c_X3_areThrough {G : gG} {h : gH} {h0 : gH} {m : Nat} {ad : Nat → Nat} {f : Nat → Int} {g : Nat → Int → Int} (M : mSt G h0 h m ad f g) (tone : Int) (hO : mOk (g 6) (g 18)) (ht : 0 ≤ tone ∧ tone < g 6 0) : gC G yX3_areThrough (.code yX3_areThrough cX3_areThrough 3 (some .boolean)) 1 0 0 [.ref m, .int (iI tone)] h (fun r h' => r = some (.int (iI (gb (mThr (g 6) (g 18) tone)))) ∧ h = h') := by
  refine gC.of (by decide) (Nat.le_of_ble_eq_true rfl) rfl ?_
  intro X C E hI
  have C : gCtx G X cX3_areThrough 3 RX3 1 (some .boolean) := C
  obtain ⟨hI_, hr, hn, hT, hS_⟩ := id hO
  obtain ⟨hi0, hi1, hi2, hi3, hi4, hi5, hiA, hiR⟩ := id hI_
  obtain ⟨hs1, hs3, hs4, hs5, hs6, hs7, hs8, hs11, hs2⟩ := id hS_
  refine g_iconst C dX3_areThrough_0 ?_
  refine g_istore_n C dX3_areThrough_1 (lv' := [(2, .int (iI 0)), (0, .ref m), (1, .int (iI tone))]) 2 rfl (Nat.le_of_ble_eq_true rfl) rfl ?_
  refine g_iload_n C dX3_areThrough_2 0 rfl ?_
  refine g_iconst C dX3_areThrough_3 ?_
  refine g_icmp_ge C dX3_areThrough_4 (tgt := 39) (by decide) (gRo (by decide) (by decide)) (gRo (by decide) (by decide)) (fun q => absurd q (by decide)) (fun _ => ?_)
  refine g_aload_n C dX3_areThrough_7 1 rfl ?_
  refine g_get C dX3_areThrough_8 kcX3 18 q1481 (fun _ _ _ _ h9 => h9) M.o (Nat.le_of_ble_eq_true rfl) rfl ?_
  refine g_aload_n C dX3_areThrough_11 1 rfl ?_
  refine g_iload_n C dX3_areThrough_12 0 rfl ?_
  refine g_iconst C dX3_areThrough_13 ?_
  refine g_idiv C dX3_areThrough_14 (v := 0) ⟨by decide, by decide⟩ ⟨by decide, by decide⟩ (by decide) ?_
  refine g_iload_n C dX3_areThrough_15 0 rfl ?_
  refine g_iconst C dX3_areThrough_16 ?_
  refine g_irem C dX3_areThrough_17 (v := 0) ⟨by decide, by decide⟩ ⟨by decide, by decide⟩ (by decide) ?_
  refine g_iload_n C dX3_areThrough_18 2 rfl ?_
  refine g_callV C dX3_areThrough_19 lkX3_226 M.o rfl (As := [.int (iI 0), .int (iI 0), .int (iI tone)]) (c_X3_plain M 0 0 tone) rfl rfl ⟨Nat.le_of_ble_eq_true rfl, Nat.le_of_ble_eq_true rfl⟩ (Nat.le_of_ble_eq_true rfl) ?_
  rintro _ _ ⟨rfl, rfl⟩
  have b1 := mPlain_b hO.1 (route := 0) (ear := 0) (tone := tone) (by omega) (by omega) (by omega)
  refine g_iconst C dX3_areThrough_22 ?_
  refine g_callS C dX3_areThrough_23 lkX3_213 (As := [.int (iI (mPlain (g 6) 0 0 tone)), .int (iI 4)]) (c_X3_at (mPlain (g 6) 0 0 tone) 4) rfl rfl ⟨Nat.le_of_ble_eq_true rfl, Nat.le_of_ble_eq_true rfl⟩ (Nat.le_of_ble_eq_true rfl) ?_
  rintro _ _ ⟨rfl, rfl⟩
  refine g_iald C dX3_areThrough_26 (v := g 18 (112 + 11 * (mPlain (g 6) 0 0 tone) + 4)) M.a18 (by decide) (by omega) (by omega) rfl ?_
  refine g_iconst C dX3_areThrough_27 ?_
  refine g_icmp_ge C dX3_areThrough_28 (tgt := 33) (by decide) (hr _) (gRo (by decide) (by decide)) (fun c28 => ?_) (fun c28 => ?_)
  · refine g_iinc C dX3_areThrough_33 (v := 1) (lv' := [(2, .int (iI 1)), (0, .ref m), (1, .int (iI tone))]) 0 rfl (by decide) (Nat.le_of_ble_eq_true rfl) rfl ?_
    refine g_goto C dX3_areThrough_36 (tgt := 2) (by decide) ?_
    refine g_iload_n C dX3_areThrough_2 0 rfl ?_
    refine g_iconst C dX3_areThrough_3 ?_
    refine g_icmp_ge C dX3_areThrough_4 (tgt := 39) (by decide) (gRo (by decide) (by decide)) (gRo (by decide) (by decide)) (fun q => absurd q (by decide)) (fun _ => ?_)
    refine g_aload_n C dX3_areThrough_7 1 rfl ?_
    refine g_get C dX3_areThrough_8 kcX3 18 q1481 (fun _ _ _ _ h9 => h9) M.o (Nat.le_of_ble_eq_true rfl) rfl ?_
    refine g_aload_n C dX3_areThrough_11 1 rfl ?_
    refine g_iload_n C dX3_areThrough_12 0 rfl ?_
    refine g_iconst C dX3_areThrough_13 ?_
    refine g_idiv C dX3_areThrough_14 (v := 0) ⟨by decide, by decide⟩ ⟨by decide, by decide⟩ (by decide) ?_
    refine g_iload_n C dX3_areThrough_15 0 rfl ?_
    refine g_iconst C dX3_areThrough_16 ?_
    refine g_irem C dX3_areThrough_17 (v := 1) ⟨by decide, by decide⟩ ⟨by decide, by decide⟩ (by decide) ?_
    refine g_iload_n C dX3_areThrough_18 2 rfl ?_
    refine g_callV C dX3_areThrough_19 lkX3_226 M.o rfl (As := [.int (iI 0), .int (iI 1), .int (iI tone)]) (c_X3_plain M 0 1 tone) rfl rfl ⟨Nat.le_of_ble_eq_true rfl, Nat.le_of_ble_eq_true rfl⟩ (Nat.le_of_ble_eq_true rfl) ?_
    rintro _ _ ⟨rfl, rfl⟩
    have b2 := mPlain_b hO.1 (route := 0) (ear := 1) (tone := tone) (by omega) (by omega) (by omega)
    refine g_iconst C dX3_areThrough_22 ?_
    refine g_callS C dX3_areThrough_23 lkX3_213 (As := [.int (iI (mPlain (g 6) 0 1 tone)), .int (iI 4)]) (c_X3_at (mPlain (g 6) 0 1 tone) 4) rfl rfl ⟨Nat.le_of_ble_eq_true rfl, Nat.le_of_ble_eq_true rfl⟩ (Nat.le_of_ble_eq_true rfl) ?_
    rintro _ _ ⟨rfl, rfl⟩
    refine g_iald C dX3_areThrough_26 (v := g 18 (112 + 11 * (mPlain (g 6) 0 1 tone) + 4)) M.a18 (by decide) (by omega) (by omega) rfl ?_
    refine g_iconst C dX3_areThrough_27 ?_
    refine g_icmp_ge C dX3_areThrough_28 (tgt := 33) (by decide) (hr _) (gRo (by decide) (by decide)) (fun c28 => ?_) (fun c28 => ?_)
    · refine g_iinc C dX3_areThrough_33 (v := 2) (lv' := [(2, .int (iI 2)), (0, .ref m), (1, .int (iI tone))]) 0 rfl (by decide) (Nat.le_of_ble_eq_true rfl) rfl ?_
      refine g_goto C dX3_areThrough_36 (tgt := 2) (by decide) ?_
      refine g_iload_n C dX3_areThrough_2 0 rfl ?_
      refine g_iconst C dX3_areThrough_3 ?_
      refine g_icmp_ge C dX3_areThrough_4 (tgt := 39) (by decide) (gRo (by decide) (by decide)) (gRo (by decide) (by decide)) (fun q => absurd q (by decide)) (fun _ => ?_)
      refine g_aload_n C dX3_areThrough_7 1 rfl ?_
      refine g_get C dX3_areThrough_8 kcX3 18 q1481 (fun _ _ _ _ h9 => h9) M.o (Nat.le_of_ble_eq_true rfl) rfl ?_
      refine g_aload_n C dX3_areThrough_11 1 rfl ?_
      refine g_iload_n C dX3_areThrough_12 0 rfl ?_
      refine g_iconst C dX3_areThrough_13 ?_
      refine g_idiv C dX3_areThrough_14 (v := 1) ⟨by decide, by decide⟩ ⟨by decide, by decide⟩ (by decide) ?_
      refine g_iload_n C dX3_areThrough_15 0 rfl ?_
      refine g_iconst C dX3_areThrough_16 ?_
      refine g_irem C dX3_areThrough_17 (v := 0) ⟨by decide, by decide⟩ ⟨by decide, by decide⟩ (by decide) ?_
      refine g_iload_n C dX3_areThrough_18 2 rfl ?_
      refine g_callV C dX3_areThrough_19 lkX3_226 M.o rfl (As := [.int (iI 1), .int (iI 0), .int (iI tone)]) (c_X3_plain M 1 0 tone) rfl rfl ⟨Nat.le_of_ble_eq_true rfl, Nat.le_of_ble_eq_true rfl⟩ (Nat.le_of_ble_eq_true rfl) ?_
      rintro _ _ ⟨rfl, rfl⟩
      have b3 := mPlain_b hO.1 (route := 1) (ear := 0) (tone := tone) (by omega) (by omega) (by omega)
      refine g_iconst C dX3_areThrough_22 ?_
      refine g_callS C dX3_areThrough_23 lkX3_213 (As := [.int (iI (mPlain (g 6) 1 0 tone)), .int (iI 4)]) (c_X3_at (mPlain (g 6) 1 0 tone) 4) rfl rfl ⟨Nat.le_of_ble_eq_true rfl, Nat.le_of_ble_eq_true rfl⟩ (Nat.le_of_ble_eq_true rfl) ?_
      rintro _ _ ⟨rfl, rfl⟩
      refine g_iald C dX3_areThrough_26 (v := g 18 (112 + 11 * (mPlain (g 6) 1 0 tone) + 4)) M.a18 (by decide) (by omega) (by omega) rfl ?_
      refine g_iconst C dX3_areThrough_27 ?_
      refine g_icmp_ge C dX3_areThrough_28 (tgt := 33) (by decide) (hr _) (gRo (by decide) (by decide)) (fun c28 => ?_) (fun c28 => ?_)
      · refine g_iinc C dX3_areThrough_33 (v := 3) (lv' := [(2, .int (iI 3)), (0, .ref m), (1, .int (iI tone))]) 0 rfl (by decide) (Nat.le_of_ble_eq_true rfl) rfl ?_
        refine g_goto C dX3_areThrough_36 (tgt := 2) (by decide) ?_
        refine g_iload_n C dX3_areThrough_2 0 rfl ?_
        refine g_iconst C dX3_areThrough_3 ?_
        refine g_icmp_ge C dX3_areThrough_4 (tgt := 39) (by decide) (gRo (by decide) (by decide)) (gRo (by decide) (by decide)) (fun q => absurd q (by decide)) (fun _ => ?_)
        refine g_aload_n C dX3_areThrough_7 1 rfl ?_
        refine g_get C dX3_areThrough_8 kcX3 18 q1481 (fun _ _ _ _ h9 => h9) M.o (Nat.le_of_ble_eq_true rfl) rfl ?_
        refine g_aload_n C dX3_areThrough_11 1 rfl ?_
        refine g_iload_n C dX3_areThrough_12 0 rfl ?_
        refine g_iconst C dX3_areThrough_13 ?_
        refine g_idiv C dX3_areThrough_14 (v := 1) ⟨by decide, by decide⟩ ⟨by decide, by decide⟩ (by decide) ?_
        refine g_iload_n C dX3_areThrough_15 0 rfl ?_
        refine g_iconst C dX3_areThrough_16 ?_
        refine g_irem C dX3_areThrough_17 (v := 1) ⟨by decide, by decide⟩ ⟨by decide, by decide⟩ (by decide) ?_
        refine g_iload_n C dX3_areThrough_18 2 rfl ?_
        refine g_callV C dX3_areThrough_19 lkX3_226 M.o rfl (As := [.int (iI 1), .int (iI 1), .int (iI tone)]) (c_X3_plain M 1 1 tone) rfl rfl ⟨Nat.le_of_ble_eq_true rfl, Nat.le_of_ble_eq_true rfl⟩ (Nat.le_of_ble_eq_true rfl) ?_
        rintro _ _ ⟨rfl, rfl⟩
        have b4 := mPlain_b hO.1 (route := 1) (ear := 1) (tone := tone) (by omega) (by omega) (by omega)
        refine g_iconst C dX3_areThrough_22 ?_
        refine g_callS C dX3_areThrough_23 lkX3_213 (As := [.int (iI (mPlain (g 6) 1 1 tone)), .int (iI 4)]) (c_X3_at (mPlain (g 6) 1 1 tone) 4) rfl rfl ⟨Nat.le_of_ble_eq_true rfl, Nat.le_of_ble_eq_true rfl⟩ (Nat.le_of_ble_eq_true rfl) ?_
        rintro _ _ ⟨rfl, rfl⟩
        refine g_iald C dX3_areThrough_26 (v := g 18 (112 + 11 * (mPlain (g 6) 1 1 tone) + 4)) M.a18 (by decide) (by omega) (by omega) rfl ?_
        refine g_iconst C dX3_areThrough_27 ?_
        refine g_icmp_ge C dX3_areThrough_28 (tgt := 33) (by decide) (hr _) (gRo (by decide) (by decide)) (fun c28 => ?_) (fun c28 => ?_)
        · refine g_iinc C dX3_areThrough_33 (v := 4) (lv' := [(2, .int (iI 4)), (0, .ref m), (1, .int (iI tone))]) 0 rfl (by decide) (Nat.le_of_ble_eq_true rfl) rfl ?_
          refine g_goto C dX3_areThrough_36 (tgt := 2) (by decide) ?_
          refine g_iload_n C dX3_areThrough_2 0 rfl ?_
          refine g_iconst C dX3_areThrough_3 ?_
          refine g_icmp_ge C dX3_areThrough_4 (tgt := 39) (by decide) (gRo (by decide) (by decide)) (gRo (by decide) (by decide)) (fun _ => ?_) (fun q => absurd (by decide) q)
          refine g_iconst C dX3_areThrough_39 ?_
          refine g_bret C E dX3_areThrough_40 rfl true rfl ?_
          exact ⟨rB (by unfold mThr; grind), rfl⟩
        · refine g_iconst C dX3_areThrough_31 ?_
          refine g_bret C E dX3_areThrough_32 rfl false rfl ?_
          exact ⟨rB (by unfold mThr; grind), rfl⟩
      · refine g_iconst C dX3_areThrough_31 ?_
        refine g_bret C E dX3_areThrough_32 rfl false rfl ?_
        exact ⟨rB (by unfold mThr; grind), rfl⟩
    · refine g_iconst C dX3_areThrough_31 ?_
      refine g_bret C E dX3_areThrough_32 rfl false rfl ?_
      exact ⟨rB (by unfold mThr; grind), rfl⟩
  · refine g_iconst C dX3_areThrough_31 ?_
    refine g_bret C E dX3_areThrough_32 rfl false rfl ?_
    exact ⟨rB (by unfold mThr; grind), rfl⟩
theorem c_X3_needs {G : gG} {h : gH} {h0 : gH} {m : Nat} {ad : Nat → Nat} {f : Nat → Int} {g : Nat → Int → Int} (M : mSt G h0 h m ad f g) (route : Int) (ear : Int) (tone : Int) (hroute1 : -2147483648 ≤ route) (hroute2 : route ≤ 2147483647) (hear1 : -2147483648 ≤ ear) (hear2 : ear ≤ 2147483647) (htone1 : -2147483648 ≤ tone) (htone2 : tone ≤ 2147483647) (hf8 : f 8 = 0 ∨ f 8 = 1) (hO8 : f 8 = 1 → mOk (g 6) (g 18)) : gC G yX3_needs (.code yX3_needs cX3_needs 4 (some .int)) 4 0 0 [.ref m, .int (iI route), .int (iI ear), .int (iI tone)] h (fun r h' => r = some (.int (iI (mAns (mW1 (mOne (f 8) (g 6) route ear tone)) (if mThr (g 6) (g 18) tone = true then gb (mNeed (g 6) (g 18) route ear tone) else -2)))) ∧ mSt G h0 h' m ad (mRef f (mW1 (mOne (f 8) (g 6) route ear tone))) g) := by
  refine gC.of (by decide) (Nat.le_of_ble_eq_true rfl) rfl ?_
  intro X C E hI
  have C : gCtx G X cX3_needs 4 RX3 4 (some .int) := C
  refine g_aload_n C dX3_needs_0 0 rfl ?_
  refine g_aload_n C dX3_needs_1 0 rfl ?_
  refine g_iload_n C dX3_needs_2 1 rfl ?_
  refine g_iload_n C dX3_needs_3 2 rfl ?_
  refine g_iload_n C dX3_needs_4 3 rfl ?_
  refine g_callV C dX3_needs_5 lkX3_188 M.o rfl (As := [.int (iI route), .int (iI ear), .int (iI tone)]) (c_X3_isOne M route ear tone (by omega) (by omega) (by omega) (by omega) (by omega) (by omega) hf8 hO8) rfl rfl ⟨Nat.le_of_ble_eq_true rfl, Nat.le_of_ble_eq_true rfl⟩ (Nat.le_of_ble_eq_true rfl) ?_
  rintro _ _ ⟨rfl, rfl⟩
  cases hb1 : mOne (f 8) (g 6) route ear tone
  · refine g_callS C dX3_needs_8 lkX3_191 (As := [.int (iI (gb false))]) (c_X3_unless false) rfl rfl ⟨Nat.le_of_ble_eq_true rfl, Nat.le_of_ble_eq_true rfl⟩ (Nat.le_of_ble_eq_true rfl) ?_
    rintro _ _ ⟨rfl, rfl⟩
    show gW X h 0 0 11 [(0, .ref m), (1, .int (iI route)), (2, .int (iI ear)), (3, .int (iI tone))] [.int (iI 1), .ref m]
    refine g_callV C dX3_needs_11 lkX3_156 M.o rfl (As := [.int (iI 1)]) (c_X3_isRefused M 1 (by decide) (by decide)) rfl rfl ⟨Nat.le_of_ble_eq_true rfl, Nat.le_of_ble_eq_true rfl⟩ (Nat.le_of_ble_eq_true rfl) ?_
    rintro _ h2 ⟨rfl, M3⟩
    show gW X h2 0 0 14 [(0, .ref m), (1, .int (iI route)), (2, .int (iI ear)), (3, .int (iI tone))] [.int (iI (gb true))]
    refine g_ifF C dX3_needs_14 (tgt := 19) (by decide) (fun q => absurd q (by decide)) (fun q => ?_)
    refine g_iconst C dX3_needs_17 ?_
    refine g_iret C E dX3_needs_18 rfl ?_
    try rw [hb1]
    exact ⟨rfl, M3⟩
  · have fb4 := mOne_t hb1
    have hO := hO8 fb4.1
    obtain ⟨hI_, hr, hn, hT, hS_⟩ := id hO
    obtain ⟨hi0, hi1, hi2, hi3, hi4, hi5, hiA, hiR⟩ := id hI_
    obtain ⟨hs1, hs3, hs4, hs5, hs6, hs7, hs8, hs11, hs2⟩ := id hS_
    refine g_callS C dX3_needs_8 lkX3_191 (As := [.int (iI (gb true))]) (c_X3_unless true) rfl rfl ⟨Nat.le_of_ble_eq_true rfl, Nat.le_of_ble_eq_true rfl⟩ (Nat.le_of_ble_eq_true rfl) ?_
    rintro _ _ ⟨rfl, rfl⟩
    show gW X h 0 0 11 [(0, .ref m), (1, .int (iI route)), (2, .int (iI ear)), (3, .int (iI tone))] [.int (iI 0), .ref m]
    refine g_callV C dX3_needs_11 lkX3_156 M.o rfl (As := [.int (iI 0)]) (c_X3_isRefused M 0 (by decide) (by decide)) rfl rfl ⟨Nat.le_of_ble_eq_true rfl, Nat.le_of_ble_eq_true rfl⟩ (Nat.le_of_ble_eq_true rfl) ?_
    rintro _ h5 ⟨rfl, M6⟩
    show gW X h5 0 0 14 [(0, .ref m), (1, .int (iI route)), (2, .int (iI ear)), (3, .int (iI tone))] [.int (iI (gb false))]
    refine g_ifF C dX3_needs_14 (tgt := 19) (by decide) (fun q => ?_) (fun q => absurd q (by decide))
    refine g_aload_n C dX3_needs_19 0 rfl ?_
    refine g_iload_n C dX3_needs_20 3 rfl ?_
    refine g_callV C dX3_needs_21 lkX3_306 M6.o rfl (As := [.int (iI tone)]) (c_X3_areThrough M6 tone hO (show 0 ≤ tone ∧ tone < g 6 0 from by omega)) rfl rfl ⟨Nat.le_of_ble_eq_true rfl, Nat.le_of_ble_eq_true rfl⟩ (Nat.le_of_ble_eq_true rfl) ?_
    rintro _ _ ⟨rfl, rfl⟩
    show gW X h5 0 0 24 [(0, .ref m), (1, .int (iI route)), (2, .int (iI ear)), (3, .int (iI tone))] [.int (iI (gb (mThr (g 6) (g 18) tone)))]
    refine g_ifT C dX3_needs_24 (tgt := 32) (by decide) (fun c24 => ?_) (fun c24 => ?_)
    · refine g_aload_n C dX3_needs_32 0 rfl ?_
      refine g_iload_n C dX3_needs_33 1 rfl ?_
      refine g_iload_n C dX3_needs_34 2 rfl ?_
      refine g_iload_n C dX3_needs_35 3 rfl ?_
      refine g_callV C dX3_needs_36 lkX3_241 M6.o rfl (As := [.int (iI route), .int (iI ear), .int (iI tone)]) (c_X3_doesNeed M6 route ear tone hO (by omega) (by omega) (show 0 ≤ tone ∧ tone < g 6 0 from by omega)) rfl rfl ⟨Nat.le_of_ble_eq_true rfl, Nat.le_of_ble_eq_true rfl⟩ (Nat.le_of_ble_eq_true rfl) ?_
      rintro _ _ ⟨rfl, rfl⟩
      show gW X h5 0 0 39 [(0, .ref m), (1, .int (iI route)), (2, .int (iI ear)), (3, .int (iI tone))] [.int (iI (gb (mNeed (g 6) (g 18) route ear tone)))]
      refine g_ifF C dX3_needs_39 (tgt := 46) (by decide) (fun c39 => ?_) (fun c39 => ?_)
      · refine g_iconst C dX3_needs_46 ?_
        refine g_iret C E dX3_needs_47 rfl ?_
        try rw [hb1]
        exact ⟨rI (show 0 = if mThr (g 6) (g 18) tone = true then gb (mNeed (g 6) (g 18) route ear tone) else -2 from by grind [gb]), M6⟩
      · refine g_iconst C dX3_needs_42 ?_
        refine g_goto C dX3_needs_43 (tgt := 47) (by decide) ?_
        refine g_iret C E dX3_needs_47 rfl ?_
        try rw [hb1]
        exact ⟨rI (show 1 = if mThr (g 6) (g 18) tone = true then gb (mNeed (g 6) (g 18) route ear tone) else -2 from by grind [gb]), M6⟩
    · refine g_bipush C dX3_needs_27 (by decide) ?_
      refine g_goto C dX3_needs_29 (tgt := 47) (by decide) ?_
      refine g_iret C E dX3_needs_47 rfl ?_
      try rw [hb1]
      exact ⟨rI (show -2 = if mThr (g 6) (g 18) tone = true then gb (mNeed (g 6) (g 18) route ear tone) else -2 from by grind [gb]), M6⟩
theorem c_X3_noise {G : gG} {h : gH} {h0 : gH} {m : Nat} {ad : Nat → Nat} {f : Nat → Int} {g : Nat → Int → Int} (M : mSt G h0 h m ad f g) (ear : Int) (tone : Int) (what : Int) (hear1 : -2147483648 ≤ ear) (hear2 : ear ≤ 2147483647) (htone1 : -2147483648 ≤ tone) (htone2 : tone ≤ 2147483647) (hwhat1 : -2147483648 ≤ what) (hwhat2 : what ≤ 2147483647) (hf8 : f 8 = 0 ∨ f 8 = 1) (hO8 : f 8 = 1 → mOk (g 6) (g 18)) : gC G yX3_noise (.code yX3_noise cX3_noise 4 (some .int)) 3 0 0 [.ref m, .int (iI ear), .int (iI tone), .int (iI what)] h (fun r h' => r = some (.int (iI (mAns (mW1 (mOne (f 8) (g 6) 0 ear tone && mIn what 0 1)) (if what = 0 then (if mProved (g 18) (mPlain (g 6) 0 (1 - ear) tone) = true then mFirst (g 6) (g 18) ear tone else -2) else (if mProved (g 18) (mPlain (g 6) 1 ear tone) = true then mBound (g 6) (g 18) ear tone else -2))))) ∧ mSt G h0 h' m ad (mRef f (mW1 (mOne (f 8) (g 6) 0 ear tone && mIn what 0 1))) g) := by
  refine gC.of (by decide) (Nat.le_of_ble_eq_true rfl) rfl ?_
  intro X C E hI
  have C : gCtx G X cX3_noise 4 RX3 3 (some .int) := C
  refine g_aload_n C dX3_noise_0 0 rfl ?_
  refine g_aload_n C dX3_noise_1 0 rfl ?_
  refine g_iconst C dX3_noise_2 ?_
  refine g_iload_n C dX3_noise_3 1 rfl ?_
  refine g_iload_n C dX3_noise_4 2 rfl ?_
  refine g_callV C dX3_noise_5 lkX3_188 M.o rfl (As := [.int (iI 0), .int (iI ear), .int (iI tone)]) (c_X3_isOne M 0 ear tone (by decide) (by decide) (by omega) (by omega) (by omega) (by omega) hf8 hO8) rfl rfl ⟨Nat.le_of_ble_eq_true rfl, Nat.le_of_ble_eq_true rfl⟩ (Nat.le_of_ble_eq_true rfl) ?_
  rintro _ _ ⟨rfl, rfl⟩
  refine g_ifF C dX3_noise_8 (tgt := 24) (by decide) (fun c8 => ?_) (fun c8 => ?_)
  · refine g_iconst C dX3_noise_24 ?_
    refine g_callS C dX3_noise_25 lkX3_191 (As := [.int (iI 0)]) (c_X3_unless false) rfl rfl ⟨Nat.le_of_ble_eq_true rfl, Nat.le_of_ble_eq_true rfl⟩ (Nat.le_of_ble_eq_true rfl) ?_
    rintro _ _ ⟨rfl, rfl⟩
    show gW X h 0 0 28 [(0, .ref m), (1, .int (iI ear)), (2, .int (iI tone)), (3, .int (iI what))] [.int (iI 1), .ref m]
    refine g_callV C dX3_noise_28 lkX3_156 M.o rfl (As := [.int (iI 1)]) (c_X3_isRefused M 1 (by decide) (by decide)) rfl rfl ⟨Nat.le_of_ble_eq_true rfl, Nat.le_of_ble_eq_true rfl⟩ (Nat.le_of_ble_eq_true rfl) ?_
    rintro _ h1 ⟨rfl, M2⟩
    show gW X h1 0 0 31 [(0, .ref m), (1, .int (iI ear)), (2, .int (iI tone)), (3, .int (iI what))] [.int (iI (gb true))]
    refine g_ifF C dX3_noise_31 (tgt := 36) (by decide) (fun q => absurd q (by decide)) (fun q => ?_)
    refine g_iconst C dX3_noise_34 ?_
    refine g_iret C E dX3_noise_35 rfl ?_
    try rw [c8]
    exact ⟨rfl, M2⟩
  · have fb3 := mOne_t c8
    have hO := hO8 fb3.1
    obtain ⟨hI_, hr, hn, hT, hS_⟩ := id hO
    obtain ⟨hi0, hi1, hi2, hi3, hi4, hi5, hiA, hiR⟩ := id hI_
    obtain ⟨hs1, hs3, hs4, hs5, hs6, hs7, hs8, hs11, hs2⟩ := id hS_
    refine g_iload_n C dX3_noise_11 3 rfl ?_
    refine g_iconst C dX3_noise_12 ?_
    refine g_iconst C dX3_noise_13 ?_
    refine g_callS C dX3_noise_14 lkX3_70 (As := [.int (iI what), .int (iI 0), .int (iI 1)]) (c_X3_in what 0 1 (by omega) (by omega) (by decide) (by decide) (by decide) (by decide)) rfl rfl ⟨Nat.le_of_ble_eq_true rfl, Nat.le_of_ble_eq_true rfl⟩ (Nat.le_of_ble_eq_true rfl) ?_
    rintro _ _ ⟨rfl, rfl⟩
    refine g_ifF C dX3_noise_17 (tgt := 24) (by decide) (fun c17 => ?_) (fun c17 => ?_)
    · have fb4 := mIn_f.mp c17
      refine g_iconst C dX3_noise_24 ?_
      refine g_callS C dX3_noise_25 lkX3_191 (As := [.int (iI 0)]) (c_X3_unless false) rfl rfl ⟨Nat.le_of_ble_eq_true rfl, Nat.le_of_ble_eq_true rfl⟩ (Nat.le_of_ble_eq_true rfl) ?_
      rintro _ _ ⟨rfl, rfl⟩
      show gW X h 0 0 28 [(0, .ref m), (1, .int (iI ear)), (2, .int (iI tone)), (3, .int (iI what))] [.int (iI 1), .ref m]
      refine g_callV C dX3_noise_28 lkX3_156 M.o rfl (As := [.int (iI 1)]) (c_X3_isRefused M 1 (by decide) (by decide)) rfl rfl ⟨Nat.le_of_ble_eq_true rfl, Nat.le_of_ble_eq_true rfl⟩ (Nat.le_of_ble_eq_true rfl) ?_
      rintro _ h5 ⟨rfl, M6⟩
      show gW X h5 0 0 31 [(0, .ref m), (1, .int (iI ear)), (2, .int (iI tone)), (3, .int (iI what))] [.int (iI (gb true))]
      refine g_ifF C dX3_noise_31 (tgt := 36) (by decide) (fun q => absurd q (by decide)) (fun q => ?_)
      refine g_iconst C dX3_noise_34 ?_
      refine g_iret C E dX3_noise_35 rfl ?_
      try rw [c8]
      try rw [c17]
      exact ⟨rfl, M6⟩
    · have fb7 := mIn_t.mp c17
      refine g_iconst C dX3_noise_20 ?_
      refine g_goto C dX3_noise_21 (tgt := 25) (by decide) ?_
      refine g_callS C dX3_noise_25 lkX3_191 (As := [.int (iI 1)]) (c_X3_unless true) rfl rfl ⟨Nat.le_of_ble_eq_true rfl, Nat.le_of_ble_eq_true rfl⟩ (Nat.le_of_ble_eq_true rfl) ?_
      rintro _ _ ⟨rfl, rfl⟩
      show gW X h 0 0 28 [(0, .ref m), (1, .int (iI ear)), (2, .int (iI tone)), (3, .int (iI what))] [.int (iI 0), .ref m]
      refine g_callV C dX3_noise_28 lkX3_156 M.o rfl (As := [.int (iI 0)]) (c_X3_isRefused M 0 (by decide) (by decide)) rfl rfl ⟨Nat.le_of_ble_eq_true rfl, Nat.le_of_ble_eq_true rfl⟩ (Nat.le_of_ble_eq_true rfl) ?_
      rintro _ h8 ⟨rfl, M9⟩
      show gW X h8 0 0 31 [(0, .ref m), (1, .int (iI ear)), (2, .int (iI tone)), (3, .int (iI what))] [.int (iI (gb false))]
      refine g_ifF C dX3_noise_31 (tgt := 36) (by decide) (fun q => ?_) (fun q => absurd q (by decide))
      refine g_aload_n C dX3_noise_36 0 rfl ?_
      refine g_iload_n C dX3_noise_37 3 rfl ?_
      refine g_if_ne C dX3_noise_38 (tgt := 53) (by decide) (gRo (by omega) (by omega)) (fun c38 => ?_) (fun c38 => ?_)
      · refine g_aload_n C dX3_noise_53 0 rfl ?_
        refine g_iconst C dX3_noise_54 ?_
        refine g_iload_n C dX3_noise_55 1 rfl ?_
        refine g_iload_n C dX3_noise_56 2 rfl ?_
        refine g_callV C dX3_noise_57 lkX3_226 M9.o rfl (As := [.int (iI 1), .int (iI ear), .int (iI tone)]) (c_X3_plain M9 1 ear tone) rfl rfl ⟨Nat.le_of_ble_eq_true rfl, Nat.le_of_ble_eq_true rfl⟩ (Nat.le_of_ble_eq_true rfl) ?_
        rintro _ _ ⟨rfl, rfl⟩
        show gW X h8 0 0 60 [(0, .ref m), (1, .int (iI ear)), (2, .int (iI tone)), (3, .int (iI what))] [.int (iI (mPlain (g 6) 1 ear tone)), .ref m]
        have b10 := mPlain_b hO.1 (route := 1) (ear := ear) (tone := tone) (by omega) (by omega) (by omega)
        refine g_callV C dX3_noise_60 lkX3_229 M9.o rfl (As := [.int (iI (mPlain (g 6) 1 ear tone))]) (c_X3_isProved M9 (mPlain (g 6) 1 ear tone) hO (by omega)) rfl rfl ⟨Nat.le_of_ble_eq_true rfl, Nat.le_of_ble_eq_true rfl⟩ (Nat.le_of_ble_eq_true rfl) ?_
        rintro _ _ ⟨rfl, rfl⟩
        show gW X h8 0 0 63 [(0, .ref m), (1, .int (iI ear)), (2, .int (iI tone)), (3, .int (iI what))] [.int (iI (gb (mProved (g 18) (mPlain (g 6) 1 ear tone))))]
        refine g_ifT C dX3_noise_63 (tgt := 69) (by decide) (fun c63 => ?_) (fun c63 => ?_)
        · refine g_iload_n C dX3_noise_69 3 rfl ?_
          refine g_if_ne C dX3_noise_70 (tgt := 82) (by decide) (gRo (by omega) (by omega)) (fun c70 => ?_) (fun c70 => ?_)
          · refine g_aload_n C dX3_noise_82 0 rfl ?_
            refine g_iload_n C dX3_noise_83 1 rfl ?_
            refine g_iload_n C dX3_noise_84 2 rfl ?_
            refine g_callV C dX3_noise_85 lkX3_251 M9.o rfl (As := [.int (iI ear), .int (iI tone)]) (c_X3_bound M9 ear tone hO (by omega) (show 0 ≤ tone ∧ tone < g 6 0 from by omega)) rfl rfl ⟨Nat.le_of_ble_eq_true rfl, Nat.le_of_ble_eq_true rfl⟩ (Nat.le_of_ble_eq_true rfl) ?_
            rintro _ _ ⟨rfl, rfl⟩
            show gW X h8 0 0 88 [(0, .ref m), (1, .int (iI ear)), (2, .int (iI tone)), (3, .int (iI what))] [.int (iI (mBound (g 6) (g 18) ear tone))]
            have b11 := mBound_b hO (ear := ear) (tone := tone) (by omega) (by omega)
            refine g_iret C E dX3_noise_88 rfl ?_
            try rw [c8]
            try rw [c17]
            exact ⟨rI (show mBound (g 6) (g 18) ear tone = if what = 0 then (if mProved (g 18) (mPlain (g 6) 0 (1 - ear) tone) = true then mFirst (g 6) (g 18) ear tone else -2) else (if mProved (g 18) (mPlain (g 6) 1 ear tone) = true then mBound (g 6) (g 18) ear tone else -2) from by grind), M9⟩
          · refine g_aload_n C dX3_noise_73 0 rfl ?_
            refine g_iload_n C dX3_noise_74 1 rfl ?_
            refine g_iload_n C dX3_noise_75 2 rfl ?_
            refine g_callV C dX3_noise_76 lkX3_248 M9.o rfl (As := [.int (iI ear), .int (iI tone)]) (c_X3_firstNoise M9 ear tone hO (by omega) (show 0 ≤ tone ∧ tone < g 6 0 from by omega)) rfl rfl ⟨Nat.le_of_ble_eq_true rfl, Nat.le_of_ble_eq_true rfl⟩ (Nat.le_of_ble_eq_true rfl) ?_
            rintro _ _ ⟨rfl, rfl⟩
            show gW X h8 0 0 79 [(0, .ref m), (1, .int (iI ear)), (2, .int (iI tone)), (3, .int (iI what))] [.int (iI (mFirst (g 6) (g 18) ear tone))]
            have b12 := mFirst_b hO (ear := ear) (tone := tone) (by omega) (by omega)
            refine g_goto C dX3_noise_79 (tgt := 88) (by decide) ?_
            refine g_iret C E dX3_noise_88 rfl ?_
            try rw [c8]
            try rw [c17]
            exact ⟨rI (show mFirst (g 6) (g 18) ear tone = if what = 0 then (if mProved (g 18) (mPlain (g 6) 0 (1 - ear) tone) = true then mFirst (g 6) (g 18) ear tone else -2) else (if mProved (g 18) (mPlain (g 6) 1 ear tone) = true then mBound (g 6) (g 18) ear tone else -2) from by grind), M9⟩
        · refine g_bipush C dX3_noise_66 (by decide) ?_
          refine g_iret C E dX3_noise_68 rfl ?_
          try rw [c8]
          try rw [c17]
          exact ⟨rI (show -2 = if what = 0 then (if mProved (g 18) (mPlain (g 6) 0 (1 - ear) tone) = true then mFirst (g 6) (g 18) ear tone else -2) else (if mProved (g 18) (mPlain (g 6) 1 ear tone) = true then mBound (g 6) (g 18) ear tone else -2) from by grind), M9⟩
      · refine g_aload_n C dX3_noise_41 0 rfl ?_
        refine g_iconst C dX3_noise_42 ?_
        refine g_iconst C dX3_noise_43 ?_
        refine g_iload_n C dX3_noise_44 1 rfl ?_
        refine g_isub C dX3_noise_45 (v := 1 - ear) rfl ?_
        refine g_iload_n C dX3_noise_46 2 rfl ?_
        refine g_callV C dX3_noise_47 lkX3_226 M9.o rfl (As := [.int (iI 0), .int (iI (1 - ear)), .int (iI tone)]) (c_X3_plain M9 0 (1 - ear) tone) rfl rfl ⟨Nat.le_of_ble_eq_true rfl, Nat.le_of_ble_eq_true rfl⟩ (Nat.le_of_ble_eq_true rfl) ?_
        rintro _ _ ⟨rfl, rfl⟩
        show gW X h8 0 0 50 [(0, .ref m), (1, .int (iI ear)), (2, .int (iI tone)), (3, .int (iI what))] [.int (iI (mPlain (g 6) 0 (1 - ear) tone)), .ref m]
        have b13 := mPlain_b hO.1 (route := 0) (ear := (1 - ear)) (tone := tone) (by omega) (by omega) (by omega)
        refine g_goto C dX3_noise_50 (tgt := 60) (by decide) ?_
        refine g_callV C dX3_noise_60 lkX3_229 M9.o rfl (As := [.int (iI (mPlain (g 6) 0 (1 - ear) tone))]) (c_X3_isProved M9 (mPlain (g 6) 0 (1 - ear) tone) hO (by omega)) rfl rfl ⟨Nat.le_of_ble_eq_true rfl, Nat.le_of_ble_eq_true rfl⟩ (Nat.le_of_ble_eq_true rfl) ?_
        rintro _ _ ⟨rfl, rfl⟩
        show gW X h8 0 0 63 [(0, .ref m), (1, .int (iI ear)), (2, .int (iI tone)), (3, .int (iI what))] [.int (iI (gb (mProved (g 18) (mPlain (g 6) 0 (1 - ear) tone))))]
        refine g_ifT C dX3_noise_63 (tgt := 69) (by decide) (fun c63 => ?_) (fun c63 => ?_)
        · refine g_iload_n C dX3_noise_69 3 rfl ?_
          refine g_if_ne C dX3_noise_70 (tgt := 82) (by decide) (gRo (by omega) (by omega)) (fun c70 => ?_) (fun c70 => ?_)
          · refine g_aload_n C dX3_noise_82 0 rfl ?_
            refine g_iload_n C dX3_noise_83 1 rfl ?_
            refine g_iload_n C dX3_noise_84 2 rfl ?_
            refine g_callV C dX3_noise_85 lkX3_251 M9.o rfl (As := [.int (iI ear), .int (iI tone)]) (c_X3_bound M9 ear tone hO (by omega) (show 0 ≤ tone ∧ tone < g 6 0 from by omega)) rfl rfl ⟨Nat.le_of_ble_eq_true rfl, Nat.le_of_ble_eq_true rfl⟩ (Nat.le_of_ble_eq_true rfl) ?_
            rintro _ _ ⟨rfl, rfl⟩
            show gW X h8 0 0 88 [(0, .ref m), (1, .int (iI ear)), (2, .int (iI tone)), (3, .int (iI what))] [.int (iI (mBound (g 6) (g 18) ear tone))]
            have b14 := mBound_b hO (ear := ear) (tone := tone) (by omega) (by omega)
            refine g_iret C E dX3_noise_88 rfl ?_
            try rw [c8]
            try rw [c17]
            exact ⟨rI (show mBound (g 6) (g 18) ear tone = if what = 0 then (if mProved (g 18) (mPlain (g 6) 0 (1 - ear) tone) = true then mFirst (g 6) (g 18) ear tone else -2) else (if mProved (g 18) (mPlain (g 6) 1 ear tone) = true then mBound (g 6) (g 18) ear tone else -2) from by grind), M9⟩
          · refine g_aload_n C dX3_noise_73 0 rfl ?_
            refine g_iload_n C dX3_noise_74 1 rfl ?_
            refine g_iload_n C dX3_noise_75 2 rfl ?_
            refine g_callV C dX3_noise_76 lkX3_248 M9.o rfl (As := [.int (iI ear), .int (iI tone)]) (c_X3_firstNoise M9 ear tone hO (by omega) (show 0 ≤ tone ∧ tone < g 6 0 from by omega)) rfl rfl ⟨Nat.le_of_ble_eq_true rfl, Nat.le_of_ble_eq_true rfl⟩ (Nat.le_of_ble_eq_true rfl) ?_
            rintro _ _ ⟨rfl, rfl⟩
            show gW X h8 0 0 79 [(0, .ref m), (1, .int (iI ear)), (2, .int (iI tone)), (3, .int (iI what))] [.int (iI (mFirst (g 6) (g 18) ear tone))]
            have b15 := mFirst_b hO (ear := ear) (tone := tone) (by omega) (by omega)
            refine g_goto C dX3_noise_79 (tgt := 88) (by decide) ?_
            refine g_iret C E dX3_noise_88 rfl ?_
            try rw [c8]
            try rw [c17]
            exact ⟨rI (show mFirst (g 6) (g 18) ear tone = if what = 0 then (if mProved (g 18) (mPlain (g 6) 0 (1 - ear) tone) = true then mFirst (g 6) (g 18) ear tone else -2) else (if mProved (g 18) (mPlain (g 6) 1 ear tone) = true then mBound (g 6) (g 18) ear tone else -2) from by grind), M9⟩
        · refine g_bipush C dX3_noise_66 (by decide) ?_
          refine g_iret C E dX3_noise_68 rfl ?_
          try rw [c8]
          try rw [c17]
          exact ⟨rI (show -2 = if what = 0 then (if mProved (g 18) (mPlain (g 6) 0 (1 - ear) tone) = true then mFirst (g 6) (g 18) ear tone else -2) else (if mProved (g 18) (mPlain (g 6) 1 ear tone) = true then mBound (g 6) (g 18) ear tone else -2) from by grind), M9⟩
theorem c_X3_lacks {G : gG} {h : gH}  (a : Int) (b : Int) (ha1 : -2147483648 ≤ a) (ha2 : a ≤ 2147483647) (hb1 : -2147483648 ≤ b) (hb2 : b ≤ 2147483647) : gC G yX3_lacks (.code yX3_lacks cX3_lacks 2 (some .int)) 0 0 0 [.int (iI a), .int (iI b)] h (fun r h' => r = some (.int (iI (mLacks a b))) ∧ h = h') := by
  refine gC.of (by decide) (Nat.le_of_ble_eq_true rfl) rfl ?_
  intro X C E hI
  have C : gCtx G X cX3_lacks 2 RX3 0 (some .int) := C
  refine g_iload_n C dX3_lacks_0 0 rfl ?_
  refine g_bipush C dX3_lacks_1 (by decide) ?_
  refine g_icmp_eq C dX3_lacks_3 (tgt := 12) (by decide) (gRo (by omega) (by omega)) (gRo (by decide) (by decide)) (fun c3 => ?_) (fun c3 => ?_)
  · refine g_bipush C dX3_lacks_12 (by decide) ?_
    refine g_goto C dX3_lacks_14 (tgt := 35) (by decide) ?_
    refine g_iret C E dX3_lacks_35 rfl ?_
    exact ⟨rI (by unfold mLacks; grind), rfl⟩
  · refine g_iload_n C dX3_lacks_6 1 rfl ?_
    refine g_bipush C dX3_lacks_7 (by decide) ?_
    refine g_icmp_ne C dX3_lacks_9 (tgt := 17) (by decide) (gRo (by omega) (by omega)) (gRo (by decide) (by decide)) (fun c9 => ?_) (fun c9 => ?_)
    · refine g_iload_n C dX3_lacks_17 0 rfl ?_
      refine g_bipush C dX3_lacks_18 (by decide) ?_
      refine g_icmp_eq C dX3_lacks_20 (tgt := 29) (by decide) (gRo (by omega) (by omega)) (gRo (by decide) (by decide)) (fun c20 => ?_) (fun c20 => ?_)
      · refine g_bipush C dX3_lacks_29 (by decide) ?_
        refine g_goto C dX3_lacks_31 (tgt := 35) (by decide) ?_
        refine g_iret C E dX3_lacks_35 rfl ?_
        exact ⟨rI (by unfold mLacks; grind), rfl⟩
      · refine g_iload_n C dX3_lacks_23 1 rfl ?_
        refine g_bipush C dX3_lacks_24 (by decide) ?_
        refine g_icmp_ne C dX3_lacks_26 (tgt := 34) (by decide) (gRo (by omega) (by omega)) (gRo (by decide) (by decide)) (fun c26 => ?_) (fun c26 => ?_)
        · refine g_iconst C dX3_lacks_34 ?_
          refine g_iret C E dX3_lacks_35 rfl ?_
          exact ⟨rI (by unfold mLacks; grind), rfl⟩
        · refine g_bipush C dX3_lacks_29 (by decide) ?_
          refine g_goto C dX3_lacks_31 (tgt := 35) (by decide) ?_
          refine g_iret C E dX3_lacks_35 rfl ?_
          exact ⟨rI (by unfold mLacks; grind), rfl⟩
    · refine g_bipush C dX3_lacks_12 (by decide) ?_
      refine g_goto C dX3_lacks_14 (tgt := 35) (by decide) ?_
      refine g_iret C E dX3_lacks_35 rfl ?_
      exact ⟨rI (by unfold mLacks; grind), rfl⟩
theorem c_X3_apart {G : gG} {h : gH} {h0 : gH} {m : Nat} {ad : Nat → Nat} {f : Nat → Int} {g : Nat → Int → Int} (M : mSt G h0 h m ad f g) (ear : Int) (tone : Int) (hear1 : -2147483648 ≤ ear) (hear2 : ear ≤ 2147483647) (htone1 : -2147483648 ≤ tone) (htone2 : tone ≤ 2147483647) (hf8 : f 8 = 0 ∨ f 8 = 1) (hO8 : f 8 = 1 → mOk (g 6) (g 18)) : gC G yX3_apart (.code yX3_apart cX3_apart 6 (some .int)) 3 0 0 [.ref m, .int (iI ear), .int (iI tone)] h (fun r h' => r = some (.int (iI (mAns (mW1 (mOne (f 8) (g 6) 0 ear tone)) (mApart (mTold (g 6) (g 18) 0 ear tone) (mTold (g 6) (g 18) 1 ear tone))))) ∧ mSt G h0 h' m ad (mRef f (mW1 (mOne (f 8) (g 6) 0 ear tone))) g) := by
  refine gC.of (by decide) (Nat.le_of_ble_eq_true rfl) rfl ?_
  intro X C E hI
  have C : gCtx G X cX3_apart 6 RX3 3 (some .int) := C
  refine g_aload_n C dX3_apart_0 0 rfl ?_
  refine g_aload_n C dX3_apart_1 0 rfl ?_
  refine g_iconst C dX3_apart_2 ?_
  refine g_iload_n C dX3_apart_3 1 rfl ?_
  refine g_iload_n C dX3_apart_4 2 rfl ?_
  refine g_callV C dX3_apart_5 lkX3_188 M.o rfl (As := [.int (iI 0), .int (iI ear), .int (iI tone)]) (c_X3_isOne M 0 ear tone (by decide) (by decide) (by omega) (by omega) (by omega) (by omega) hf8 hO8) rfl rfl ⟨Nat.le_of_ble_eq_true rfl, Nat.le_of_ble_eq_true rfl⟩ (Nat.le_of_ble_eq_true rfl) ?_
  rintro _ _ ⟨rfl, rfl⟩
  cases hb1 : mOne (f 8) (g 6) 0 ear tone
  · refine g_callS C dX3_apart_8 lkX3_191 (As := [.int (iI (gb false))]) (c_X3_unless false) rfl rfl ⟨Nat.le_of_ble_eq_true rfl, Nat.le_of_ble_eq_true rfl⟩ (Nat.le_of_ble_eq_true rfl) ?_
    rintro _ _ ⟨rfl, rfl⟩
    show gW X h 0 0 11 [(0, .ref m), (1, .int (iI ear)), (2, .int (iI tone))] [.int (iI 1), .ref m]
    refine g_callV C dX3_apart_11 lkX3_156 M.o rfl (As := [.int (iI 1)]) (c_X3_isRefused M 1 (by decide) (by decide)) rfl rfl ⟨Nat.le_of_ble_eq_true rfl, Nat.le_of_ble_eq_true rfl⟩ (Nat.le_of_ble_eq_true rfl) ?_
    rintro _ h2 ⟨rfl, M3⟩
    show gW X h2 0 0 14 [(0, .ref m), (1, .int (iI ear)), (2, .int (iI tone))] [.int (iI (gb true))]
    refine g_ifF C dX3_apart_14 (tgt := 19) (by decide) (fun q => absurd q (by decide)) (fun q => ?_)
    refine g_iconst C dX3_apart_17 ?_
    refine g_iret C E dX3_apart_18 rfl ?_
    try rw [hb1]
    exact ⟨rfl, M3⟩
  · have fb4 := mOne_t hb1
    have hO := hO8 fb4.1
    obtain ⟨hI_, hr, hn, hT, hS_⟩ := id hO
    obtain ⟨hi0, hi1, hi2, hi3, hi4, hi5, hiA, hiR⟩ := id hI_
    obtain ⟨hs1, hs3, hs4, hs5, hs6, hs7, hs8, hs11, hs2⟩ := id hS_
    refine g_callS C dX3_apart_8 lkX3_191 (As := [.int (iI (gb true))]) (c_X3_unless true) rfl rfl ⟨Nat.le_of_ble_eq_true rfl, Nat.le_of_ble_eq_true rfl⟩ (Nat.le_of_ble_eq_true rfl) ?_
    rintro _ _ ⟨rfl, rfl⟩
    show gW X h 0 0 11 [(0, .ref m), (1, .int (iI ear)), (2, .int (iI tone))] [.int (iI 0), .ref m]
    refine g_callV C dX3_apart_11 lkX3_156 M.o rfl (As := [.int (iI 0)]) (c_X3_isRefused M 0 (by decide) (by decide)) rfl rfl ⟨Nat.le_of_ble_eq_true rfl, Nat.le_of_ble_eq_true rfl⟩ (Nat.le_of_ble_eq_true rfl) ?_
    rintro _ h5 ⟨rfl, M6⟩
    show gW X h5 0 0 14 [(0, .ref m), (1, .int (iI ear)), (2, .int (iI tone))] [.int (iI (gb false))]
    refine g_ifF C dX3_apart_14 (tgt := 19) (by decide) (fun q => ?_) (fun q => absurd q (by decide))
    refine g_aload_n C dX3_apart_19 0 rfl ?_
    refine g_iconst C dX3_apart_20 ?_
    refine g_iload_n C dX3_apart_21 1 rfl ?_
    refine g_iload_n C dX3_apart_22 2 rfl ?_
    refine g_callV C dX3_apart_23 lkX3_303 M6.o rfl (As := [.int (iI 0), .int (iI ear), .int (iI tone)]) (c_X3_toldOf M6 0 ear tone hO (by omega) (by omega) (show 0 ≤ tone ∧ tone < g 6 0 from by omega)) rfl rfl ⟨Nat.le_of_ble_eq_true rfl, Nat.le_of_ble_eq_true rfl⟩ (Nat.le_of_ble_eq_true rfl) ?_
    rintro _ _ ⟨rfl, rfl⟩
    show gW X h5 0 0 26 [(0, .ref m), (1, .int (iI ear)), (2, .int (iI tone))] [.int (iI (mTold (g 6) (g 18) 0 ear tone))]
    have b7 := mTold_b hO (route := 0) (ear := ear) (tone := tone) (by omega) (by omega) (by omega)
    refine g_istore_n C dX3_apart_26 (lv' := [(3, .int (iI (mTold (g 6) (g 18) 0 ear tone))), (0, .ref m), (1, .int (iI ear)), (2, .int (iI tone))]) 3 rfl (Nat.le_of_ble_eq_true rfl) rfl ?_
    refine g_aload_n C dX3_apart_27 1 rfl ?_
    refine g_iconst C dX3_apart_28 ?_
    refine g_iload_n C dX3_apart_29 2 rfl ?_
    refine g_iload_n C dX3_apart_30 3 rfl ?_
    refine g_callV C dX3_apart_31 lkX3_303 M6.o rfl (As := [.int (iI 1), .int (iI ear), .int (iI tone)]) (c_X3_toldOf M6 1 ear tone hO (by omega) (by omega) (show 0 ≤ tone ∧ tone < g 6 0 from by omega)) rfl rfl ⟨Nat.le_of_ble_eq_true rfl, Nat.le_of_ble_eq_true rfl⟩ (Nat.le_of_ble_eq_true rfl) ?_
    rintro _ _ ⟨rfl, rfl⟩
    show gW X h5 0 0 34 [(3, .int (iI (mTold (g 6) (g 18) 0 ear tone))), (0, .ref m), (1, .int (iI ear)), (2, .int (iI tone))] [.int (iI (mTold (g 6) (g 18) 1 ear tone))]
    have b8 := mTold_b hO (route := 1) (ear := ear) (tone := tone) (by omega) (by omega) (by omega)
    refine g_istore C dX3_apart_34 (lv' := [(4, .int (iI (mTold (g 6) (g 18) 1 ear tone))), (3, .int (iI (mTold (g 6) (g 18) 0 ear tone))), (0, .ref m), (1, .int (iI ear)), (2, .int (iI tone))]) (Nat.le_of_ble_eq_true rfl) rfl ?_
    refine g_iload_n C dX3_apart_36 1 rfl ?_
    refine g_iload C dX3_apart_37 0 rfl ?_
    refine g_callS C dX3_apart_39 lkX3_309 (As := [.int (iI (mTold (g 6) (g 18) 0 ear tone)), .int (iI (mTold (g 6) (g 18) 1 ear tone))]) (c_X3_lacks (mTold (g 6) (g 18) 0 ear tone) (mTold (g 6) (g 18) 1 ear tone) (by omega) (by omega) (by omega) (by omega)) rfl rfl ⟨Nat.le_of_ble_eq_true rfl, Nat.le_of_ble_eq_true rfl⟩ (Nat.le_of_ble_eq_true rfl) ?_
    rintro _ _ ⟨rfl, rfl⟩
    have b9 := mLacks_b (mTold (g 6) (g 18) 0 ear tone) (mTold (g 6) (g 18) 1 ear tone)
    refine g_istore C dX3_apart_42 (lv' := [(5, .int (iI (mLacks (mTold (g 6) (g 18) 0 ear tone) (mTold (g 6) (g 18) 1 ear tone)))), (4, .int (iI (mTold (g 6) (g 18) 1 ear tone))), (3, .int (iI (mTold (g 6) (g 18) 0 ear tone))), (0, .ref m), (1, .int (iI ear)), (2, .int (iI tone))]) (Nat.le_of_ble_eq_true rfl) rfl ?_
    refine g_iload C dX3_apart_44 0 rfl ?_
    refine g_if_eq C dX3_apart_46 (tgt := 54) (by decide) (gRo (by omega) (by omega)) (fun c46 => ?_) (fun c46 => ?_)
    · refine g_bipush C dX3_apart_54 (by decide) ?_
      refine g_iload_n C dX3_apart_56 2 rfl ?_
      refine g_iadd C dX3_apart_57 (v := 100 + mTold (g 6) (g 18) 0 ear tone) rfl ?_
      refine g_iload C dX3_apart_58 1 rfl ?_
      refine g_isub C dX3_apart_60 (v := 100 + mTold (g 6) (g 18) 0 ear tone - (mTold (g 6) (g 18) 1 ear tone)) rfl ?_
      refine g_iret C E dX3_apart_61 rfl ?_
      try rw [hb1]
      exact ⟨rI (show 100 + mTold (g 6) (g 18) 0 ear tone - (mTold (g 6) (g 18) 1 ear tone) = mApart (mTold (g 6) (g 18) 0 ear tone) (mTold (g 6) (g 18) 1 ear tone) from by unfold mApart; grind), M6⟩
    · refine g_iload C dX3_apart_49 0 rfl ?_
      refine g_goto C dX3_apart_51 (tgt := 61) (by decide) ?_
      refine g_iret C E dX3_apart_61 rfl ?_
      try rw [hb1]
      exact ⟨rI (show mLacks (mTold (g 6) (g 18) 0 ear tone) (mTold (g 6) (g 18) 1 ear tone) = mApart (mTold (g 6) (g 18) 0 ear tone) (mTold (g 6) (g 18) 1 ear tone) from by unfold mApart; grind), M6⟩
theorem c_X3_loss {G : gG} {h : gH} {h0 : gH} {m : Nat} {ad : Nat → Nat} {f : Nat → Int} {g : Nat → Int → Int} (M : mSt G h0 h m ad f g) (ear : Int) (tone : Int) (hear1 : -2147483648 ≤ ear) (hear2 : ear ≤ 2147483647) (htone1 : -2147483648 ≤ tone) (htone2 : tone ≤ 2147483647) (hf8 : f 8 = 0 ∨ f 8 = 1) (hO8 : f 8 = 1 → mOk (g 6) (g 18)) : gC G yX3_loss (.code yX3_loss cX3_loss 7 (some .int)) 3 0 0 [.ref m, .int (iI ear), .int (iI tone)] h (fun r h' => r = some (.int (iI (mAns (mW1 (mOne (f 8) (g 6) 0 ear tone)) (mLoss (g 6 2) (mTold (g 6) (g 18) 0 ear tone) (mTold (g 6) (g 18) 1 ear tone))))) ∧ mSt G h0 h' m ad (mRef f (mW1 (mOne (f 8) (g 6) 0 ear tone))) g) := by
  refine gC.of (by decide) (Nat.le_of_ble_eq_true rfl) rfl ?_
  intro X C E hI
  have C : gCtx G X cX3_loss 7 RX3 3 (some .int) := C
  refine g_aload_n C dX3_loss_0 0 rfl ?_
  refine g_aload_n C dX3_loss_1 0 rfl ?_
  refine g_iconst C dX3_loss_2 ?_
  refine g_iload_n C dX3_loss_3 1 rfl ?_
  refine g_iload_n C dX3_loss_4 2 rfl ?_
  refine g_callV C dX3_loss_5 lkX3_188 M.o rfl (As := [.int (iI 0), .int (iI ear), .int (iI tone)]) (c_X3_isOne M 0 ear tone (by decide) (by decide) (by omega) (by omega) (by omega) (by omega) hf8 hO8) rfl rfl ⟨Nat.le_of_ble_eq_true rfl, Nat.le_of_ble_eq_true rfl⟩ (Nat.le_of_ble_eq_true rfl) ?_
  rintro _ _ ⟨rfl, rfl⟩
  cases hb1 : mOne (f 8) (g 6) 0 ear tone
  · refine g_callS C dX3_loss_8 lkX3_191 (As := [.int (iI (gb false))]) (c_X3_unless false) rfl rfl ⟨Nat.le_of_ble_eq_true rfl, Nat.le_of_ble_eq_true rfl⟩ (Nat.le_of_ble_eq_true rfl) ?_
    rintro _ _ ⟨rfl, rfl⟩
    show gW X h 0 0 11 [(0, .ref m), (1, .int (iI ear)), (2, .int (iI tone))] [.int (iI 1), .ref m]
    refine g_callV C dX3_loss_11 lkX3_156 M.o rfl (As := [.int (iI 1)]) (c_X3_isRefused M 1 (by decide) (by decide)) rfl rfl ⟨Nat.le_of_ble_eq_true rfl, Nat.le_of_ble_eq_true rfl⟩ (Nat.le_of_ble_eq_true rfl) ?_
    rintro _ h2 ⟨rfl, M3⟩
    show gW X h2 0 0 14 [(0, .ref m), (1, .int (iI ear)), (2, .int (iI tone))] [.int (iI (gb true))]
    refine g_ifF C dX3_loss_14 (tgt := 19) (by decide) (fun q => absurd q (by decide)) (fun q => ?_)
    refine g_iconst C dX3_loss_17 ?_
    refine g_iret C E dX3_loss_18 rfl ?_
    try rw [hb1]
    exact ⟨rfl, M3⟩
  · have fb4 := mOne_t hb1
    have hO := hO8 fb4.1
    obtain ⟨hI_, hr, hn, hT, hS_⟩ := id hO
    obtain ⟨hi0, hi1, hi2, hi3, hi4, hi5, hiA, hiR⟩ := id hI_
    obtain ⟨hs1, hs3, hs4, hs5, hs6, hs7, hs8, hs11, hs2⟩ := id hS_
    refine g_callS C dX3_loss_8 lkX3_191 (As := [.int (iI (gb true))]) (c_X3_unless true) rfl rfl ⟨Nat.le_of_ble_eq_true rfl, Nat.le_of_ble_eq_true rfl⟩ (Nat.le_of_ble_eq_true rfl) ?_
    rintro _ _ ⟨rfl, rfl⟩
    show gW X h 0 0 11 [(0, .ref m), (1, .int (iI ear)), (2, .int (iI tone))] [.int (iI 0), .ref m]
    refine g_callV C dX3_loss_11 lkX3_156 M.o rfl (As := [.int (iI 0)]) (c_X3_isRefused M 0 (by decide) (by decide)) rfl rfl ⟨Nat.le_of_ble_eq_true rfl, Nat.le_of_ble_eq_true rfl⟩ (Nat.le_of_ble_eq_true rfl) ?_
    rintro _ h5 ⟨rfl, M6⟩
    show gW X h5 0 0 14 [(0, .ref m), (1, .int (iI ear)), (2, .int (iI tone))] [.int (iI (gb false))]
    refine g_ifF C dX3_loss_14 (tgt := 19) (by decide) (fun q => ?_) (fun q => absurd q (by decide))
    refine g_aload_n C dX3_loss_19 0 rfl ?_
    refine g_iconst C dX3_loss_20 ?_
    refine g_iload_n C dX3_loss_21 1 rfl ?_
    refine g_iload_n C dX3_loss_22 2 rfl ?_
    refine g_callV C dX3_loss_23 lkX3_303 M6.o rfl (As := [.int (iI 0), .int (iI ear), .int (iI tone)]) (c_X3_toldOf M6 0 ear tone hO (by omega) (by omega) (show 0 ≤ tone ∧ tone < g 6 0 from by omega)) rfl rfl ⟨Nat.le_of_ble_eq_true rfl, Nat.le_of_ble_eq_true rfl⟩ (Nat.le_of_ble_eq_true rfl) ?_
    rintro _ _ ⟨rfl, rfl⟩
    show gW X h5 0 0 26 [(0, .ref m), (1, .int (iI ear)), (2, .int (iI tone))] [.int (iI (mTold (g 6) (g 18) 0 ear tone))]
    have b7 := mTold_b hO (route := 0) (ear := ear) (tone := tone) (by omega) (by omega) (by omega)
    refine g_istore_n C dX3_loss_26 (lv' := [(3, .int (iI (mTold (g 6) (g 18) 0 ear tone))), (0, .ref m), (1, .int (iI ear)), (2, .int (iI tone))]) 3 rfl (Nat.le_of_ble_eq_true rfl) rfl ?_
    refine g_aload_n C dX3_loss_27 1 rfl ?_
    refine g_iconst C dX3_loss_28 ?_
    refine g_iload_n C dX3_loss_29 2 rfl ?_
    refine g_iload_n C dX3_loss_30 3 rfl ?_
    refine g_callV C dX3_loss_31 lkX3_303 M6.o rfl (As := [.int (iI 1), .int (iI ear), .int (iI tone)]) (c_X3_toldOf M6 1 ear tone hO (by omega) (by omega) (show 0 ≤ tone ∧ tone < g 6 0 from by omega)) rfl rfl ⟨Nat.le_of_ble_eq_true rfl, Nat.le_of_ble_eq_true rfl⟩ (Nat.le_of_ble_eq_true rfl) ?_
    rintro _ _ ⟨rfl, rfl⟩
    show gW X h5 0 0 34 [(3, .int (iI (mTold (g 6) (g 18) 0 ear tone))), (0, .ref m), (1, .int (iI ear)), (2, .int (iI tone))] [.int (iI (mTold (g 6) (g 18) 1 ear tone))]
    have b8 := mTold_b hO (route := 1) (ear := ear) (tone := tone) (by omega) (by omega) (by omega)
    refine g_istore C dX3_loss_34 (lv' := [(4, .int (iI (mTold (g 6) (g 18) 1 ear tone))), (3, .int (iI (mTold (g 6) (g 18) 0 ear tone))), (0, .ref m), (1, .int (iI ear)), (2, .int (iI tone))]) (Nat.le_of_ble_eq_true rfl) rfl ?_
    refine g_iload_n C dX3_loss_36 1 rfl ?_
    refine g_iload C dX3_loss_37 0 rfl ?_
    refine g_callS C dX3_loss_39 lkX3_309 (As := [.int (iI (mTold (g 6) (g 18) 0 ear tone)), .int (iI (mTold (g 6) (g 18) 1 ear tone))]) (c_X3_lacks (mTold (g 6) (g 18) 0 ear tone) (mTold (g 6) (g 18) 1 ear tone) (by omega) (by omega) (by omega) (by omega)) rfl rfl ⟨Nat.le_of_ble_eq_true rfl, Nat.le_of_ble_eq_true rfl⟩ (Nat.le_of_ble_eq_true rfl) ?_
    rintro _ _ ⟨rfl, rfl⟩
    have b9 := mLacks_b (mTold (g 6) (g 18) 0 ear tone) (mTold (g 6) (g 18) 1 ear tone)
    refine g_istore C dX3_loss_42 (lv' := [(5, .int (iI (mLacks (mTold (g 6) (g 18) 0 ear tone) (mTold (g 6) (g 18) 1 ear tone)))), (4, .int (iI (mTold (g 6) (g 18) 1 ear tone))), (3, .int (iI (mTold (g 6) (g 18) 0 ear tone))), (0, .ref m), (1, .int (iI ear)), (2, .int (iI tone))]) (Nat.le_of_ble_eq_true rfl) rfl ?_
    refine g_iload C dX3_loss_44 0 rfl ?_
    refine g_if_eq C dX3_loss_46 (tgt := 52) (by decide) (gRo (by omega) (by omega)) (fun c46 => ?_) (fun c46 => ?_)
    · refine g_iload_n C dX3_loss_52 2 rfl ?_
      refine g_iconst C dX3_loss_53 ?_
      refine g_icmp_gt C dX3_loss_54 (tgt := 59) (by decide) (gRo (by omega) (by omega)) (gRo (by decide) (by decide)) (fun c54 => ?_) (fun c54 => ?_)
      · refine g_iload_n C dX3_loss_59 2 rfl ?_
        refine g_iload C dX3_loss_60 1 rfl ?_
        refine g_isub C dX3_loss_62 (v := mTold (g 6) (g 18) 0 ear tone - (mTold (g 6) (g 18) 1 ear tone)) rfl ?_
        refine g_aload_n C dX3_loss_63 3 rfl ?_
        refine g_get C dX3_loss_64 kcX3 6 q1469 (fun _ _ _ _ h9 => h9) M6.o (Nat.le_of_ble_eq_true rfl) (w := .ref (ad 6)) rfl ?_
        refine g_iconst C dX3_loss_67 ?_
        refine g_iald C dX3_loss_68 (v := g 6 2) M6.a6 (by decide) (by decide) (by decide) rfl ?_
        refine g_icmp_lt C dX3_loss_69 (tgt := 76) (by decide) (gRo (by omega) (by omega)) (hiR _) (fun c69 => ?_) (fun c69 => ?_)
        · refine g_iconst C dX3_loss_76 ?_
          refine g_istore C dX3_loss_77 (lv' := [(6, .int (iI 0)), (5, .int (iI (mLacks (mTold (g 6) (g 18) 0 ear tone) (mTold (g 6) (g 18) 1 ear tone)))), (4, .int (iI (mTold (g 6) (g 18) 1 ear tone))), (3, .int (iI (mTold (g 6) (g 18) 0 ear tone))), (0, .ref m), (1, .int (iI ear)), (2, .int (iI tone))]) (Nat.le_of_ble_eq_true rfl) rfl ?_
          refine g_iload C dX3_loss_79 2 rfl ?_
          refine g_iconst C dX3_loss_81 ?_
          refine g_icmp_gt C dX3_loss_82 (tgt := 94) (by decide) (gRo (by omega) (by omega)) (gRo (by decide) (by decide)) (fun c82 => ?_) (fun c82 => ?_)
          · refine g_iload C dX3_loss_94 0 rfl ?_
            refine g_if_eq C dX3_loss_96 (tgt := 103) (by decide) (gRo (by decide) (by decide)) (fun _ => ?_) (fun q => absurd (by decide) q)
            refine g_iconst C dX3_loss_103 ?_
            refine g_iret C E dX3_loss_104 rfl ?_
            try rw [hb1]
            exact ⟨rI (show 2 = mLoss (g 6 2) (mTold (g 6) (g 18) 0 ear tone) (mTold (g 6) (g 18) 1 ear tone) from by unfold mLoss; grind), M6⟩
          · refine g_iload C dX3_loss_85 0 rfl ?_
            refine g_if_eq C dX3_loss_87 (tgt := 94) (by decide) (gRo (by decide) (by decide)) (fun _ => ?_) (fun q => absurd (by decide) q)
            refine g_iload C dX3_loss_94 0 rfl ?_
            refine g_if_eq C dX3_loss_96 (tgt := 103) (by decide) (gRo (by decide) (by decide)) (fun _ => ?_) (fun q => absurd (by decide) q)
            refine g_iconst C dX3_loss_103 ?_
            refine g_iret C E dX3_loss_104 rfl ?_
            try rw [hb1]
            exact ⟨rI (show 2 = mLoss (g 6 2) (mTold (g 6) (g 18) 0 ear tone) (mTold (g 6) (g 18) 1 ear tone) from by unfold mLoss; grind), M6⟩
        · refine g_iconst C dX3_loss_72 ?_
          refine g_goto C dX3_loss_73 (tgt := 77) (by decide) ?_
          refine g_istore C dX3_loss_77 (lv' := [(6, .int (iI 1)), (5, .int (iI (mLacks (mTold (g 6) (g 18) 0 ear tone) (mTold (g 6) (g 18) 1 ear tone)))), (4, .int (iI (mTold (g 6) (g 18) 1 ear tone))), (3, .int (iI (mTold (g 6) (g 18) 0 ear tone))), (0, .ref m), (1, .int (iI ear)), (2, .int (iI tone))]) (Nat.le_of_ble_eq_true rfl) rfl ?_
          refine g_iload C dX3_loss_79 2 rfl ?_
          refine g_iconst C dX3_loss_81 ?_
          refine g_icmp_gt C dX3_loss_82 (tgt := 94) (by decide) (gRo (by omega) (by omega)) (gRo (by decide) (by decide)) (fun c82 => ?_) (fun c82 => ?_)
          · refine g_iload C dX3_loss_94 0 rfl ?_
            refine g_if_eq C dX3_loss_96 (tgt := 103) (by decide) (gRo (by decide) (by decide)) (fun q => absurd q (by decide)) (fun _ => ?_)
            refine g_iconst C dX3_loss_99 ?_
            refine g_goto C dX3_loss_100 (tgt := 104) (by decide) ?_
            refine g_iret C E dX3_loss_104 rfl ?_
            try rw [hb1]
            exact ⟨rI (show 3 = mLoss (g 6 2) (mTold (g 6) (g 18) 0 ear tone) (mTold (g 6) (g 18) 1 ear tone) from by unfold mLoss; grind), M6⟩
          · refine g_iload C dX3_loss_85 0 rfl ?_
            refine g_if_eq C dX3_loss_87 (tgt := 94) (by decide) (gRo (by decide) (by decide)) (fun q => absurd q (by decide)) (fun _ => ?_)
            refine g_iconst C dX3_loss_90 ?_
            refine g_goto C dX3_loss_91 (tgt := 104) (by decide) ?_
            refine g_iret C E dX3_loss_104 rfl ?_
            try rw [hb1]
            exact ⟨rI (show 1 = mLoss (g 6 2) (mTold (g 6) (g 18) 0 ear tone) (mTold (g 6) (g 18) 1 ear tone) from by unfold mLoss; grind), M6⟩
      · refine g_iconst C dX3_loss_57 ?_
        refine g_iret C E dX3_loss_58 rfl ?_
        try rw [hb1]
        exact ⟨rI (show 0 = mLoss (g 6 2) (mTold (g 6) (g 18) 0 ear tone) (mTold (g 6) (g 18) 1 ear tone) from by unfold mLoss; grind), M6⟩
    · refine g_iload C dX3_loss_49 0 rfl ?_
      refine g_iret C E dX3_loss_51 rfl ?_
      try rw [hb1]
      exact ⟨rI (show mLacks (mTold (g 6) (g 18) 0 ear tone) (mTold (g 6) (g 18) 1 ear tone) = mLoss (g 6 2) (mTold (g 6) (g 18) 0 ear tone) (mTold (g 6) (g 18) 1 ear tone) from by unfold mLoss; grind), M6⟩
theorem c_X3_plainOrNone {G : gG} {h : gH} {h0 : gH} {m : Nat} {ad : Nat → Nat} {f : Nat → Int} {g : Nat → Int → Int} (M : mSt G h0 h m ad f g) (route : Int) (ear : Int) (tone : Int) (hO : mOk (g 6) (g 18)) (hrt : 0 ≤ route ∧ route ≤ 1) (he : 0 ≤ ear ∧ ear ≤ 1) (ht : 0 ≤ tone ∧ tone < g 6 0) : gC G yX3_plainOrNone (.code yX3_plainOrNone cX3_plainOrNone 5 (some .int)) 2 0 0 [.ref m, .int (iI route), .int (iI ear), .int (iI tone)] h (fun r h' => r = some (.int (iI (mPON (g 6) (g 18) route ear tone))) ∧ h = h') := by
  refine gC.of (by decide) (Nat.le_of_ble_eq_true rfl) rfl ?_
  intro X C E hI
  have C : gCtx G X cX3_plainOrNone 5 RX3 2 (some .int) := C
  obtain ⟨hI_, hr, hn, hT, hS_⟩ := id hO
  obtain ⟨hi0, hi1, hi2, hi3, hi4, hi5, hiA, hiR⟩ := id hI_
  obtain ⟨hs1, hs3, hs4, hs5, hs6, hs7, hs8, hs11, hs2⟩ := id hS_
  refine g_aload_n C dX3_plainOrNone_0 0 rfl ?_
  refine g_iload_n C dX3_plainOrNone_1 1 rfl ?_
  refine g_iload_n C dX3_plainOrNone_2 2 rfl ?_
  refine g_iload_n C dX3_plainOrNone_3 3 rfl ?_
  refine g_callV C dX3_plainOrNone_4 lkX3_226 M.o rfl (As := [.int (iI route), .int (iI ear), .int (iI tone)]) (c_X3_plain M route ear tone) rfl rfl ⟨Nat.le_of_ble_eq_true rfl, Nat.le_of_ble_eq_true rfl⟩ (Nat.le_of_ble_eq_true rfl) ?_
  rintro _ _ ⟨rfl, rfl⟩
  have b1 := mPlain_b hO.1 (route := route) (ear := ear) (tone := tone) (by omega) (by omega) (by omega)
  refine g_istore C dX3_plainOrNone_7 (lv' := [(4, .int (iI (mPlain (g 6) route ear tone))), (0, .ref m), (1, .int (iI route)), (2, .int (iI ear)), (3, .int (iI tone))]) (Nat.le_of_ble_eq_true rfl) rfl ?_
  refine g_aload_n C dX3_plainOrNone_9 1 rfl ?_
  refine g_iload C dX3_plainOrNone_10 0 rfl ?_
  refine g_callV C dX3_plainOrNone_12 lkX3_229 M.o rfl (As := [.int (iI (mPlain (g 6) route ear tone))]) (c_X3_isProved M (mPlain (g 6) route ear tone) hO (by omega)) rfl rfl ⟨Nat.le_of_ble_eq_true rfl, Nat.le_of_ble_eq_true rfl⟩ (Nat.le_of_ble_eq_true rfl) ?_
  rintro _ _ ⟨rfl, rfl⟩
  refine g_ifF C dX3_plainOrNone_15 (tgt := 32) (by decide) (fun c15 => ?_) (fun c15 => ?_)
  · refine g_bipush C dX3_plainOrNone_32 (by decide) ?_
    refine g_iret C E dX3_plainOrNone_34 rfl ?_
    exact ⟨rI (by unfold mPON; grind), rfl⟩
  · refine g_aload_n C dX3_plainOrNone_18 1 rfl ?_
    refine g_get C dX3_plainOrNone_19 kcX3 18 q1481 (fun _ _ _ _ h9 => h9) M.o (Nat.le_of_ble_eq_true rfl) rfl ?_
    refine g_iload C dX3_plainOrNone_22 0 rfl ?_
    refine g_iconst C dX3_plainOrNone_24 ?_
    refine g_callS C dX3_plainOrNone_25 lkX3_213 (As := [.int (iI (mPlain (g 6) route ear tone)), .int (iI 5)]) (c_X3_at (mPlain (g 6) route ear tone) 5) rfl rfl ⟨Nat.le_of_ble_eq_true rfl, Nat.le_of_ble_eq_true rfl⟩ (Nat.le_of_ble_eq_true rfl) ?_
    rintro _ _ ⟨rfl, rfl⟩
    refine g_iald C dX3_plainOrNone_28 (v := g 18 (112 + 11 * (mPlain (g 6) route ear tone) + 5)) M.a18 (by decide) (by omega) (by omega) rfl ?_
    refine g_goto C dX3_plainOrNone_29 (tgt := 34) (by decide) ?_
    refine g_iret C E dX3_plainOrNone_34 rfl ?_
    exact ⟨rI (by unfold mPON; grind), rfl⟩
theorem c_X3_isHelped {G : gG} {h : gH} {h0 : gH} {m : Nat} {ad : Nat → Nat} {f : Nat → Int} {g : Nat → Int → Int} (M : mSt G h0 h m ad f g) (route : Int) (ear : Int) (tone : Int) (hO : mOk (g 6) (g 18)) (hrt : 0 ≤ route ∧ route ≤ 1) (he : 0 ≤ ear ∧ ear ≤ 1) (ht : 0 ≤ tone ∧ tone < g 6 0) : gC G yX3_isHelped (.code yX3_isHelped cX3_isHelped 6 (some .boolean)) 3 0 0 [.ref m, .int (iI route), .int (iI ear), .int (iI tone)] h (fun r h' => r = some (.int (iI (gb (mHelp (g 6) (g 18) route ear tone)))) ∧ h = h') := by
  refine gC.of (by decide) (Nat.le_of_ble_eq_true rfl) rfl ?_
  intro X C E hI
  have C : gCtx G X cX3_isHelped 6 RX3 3 (some .boolean) := C
  obtain ⟨hI_, hr, hn, hT, hS_⟩ := id hO
  obtain ⟨hi0, hi1, hi2, hi3, hi4, hi5, hiA, hiR⟩ := id hI_
  obtain ⟨hs1, hs3, hs4, hs5, hs6, hs7, hs8, hs11, hs2⟩ := id hS_
  refine g_aload_n C dX3_isHelped_0 0 rfl ?_
  refine g_iload_n C dX3_isHelped_1 1 rfl ?_
  refine g_iload_n C dX3_isHelped_2 2 rfl ?_
  refine g_iload_n C dX3_isHelped_3 3 rfl ?_
  refine g_callV C dX3_isHelped_4 lkX3_300 M.o rfl (As := [.int (iI route), .int (iI ear), .int (iI tone)]) (c_X3_masked M route ear tone hO (by omega) (by omega) (by omega)) rfl rfl ⟨Nat.le_of_ble_eq_true rfl, Nat.le_of_ble_eq_true rfl⟩ (Nat.le_of_ble_eq_true rfl) ?_
  rintro _ _ ⟨rfl, rfl⟩
  have b1 := mMk_b hO route ear tone
  refine g_istore C dX3_isHelped_7 (lv' := [(4, .int (iI (mMk (g 6) (g 18) route ear tone))), (0, .ref m), (1, .int (iI route)), (2, .int (iI ear)), (3, .int (iI tone))]) (Nat.le_of_ble_eq_true rfl) rfl ?_
  refine g_aload_n C dX3_isHelped_9 1 rfl ?_
  refine g_iload_n C dX3_isHelped_10 2 rfl ?_
  refine g_iload_n C dX3_isHelped_11 3 rfl ?_
  refine g_iload_n C dX3_isHelped_12 4 rfl ?_
  refine g_callV C dX3_isHelped_13 lkX3_312 M.o rfl (As := [.int (iI route), .int (iI ear), .int (iI tone)]) (c_X3_plainOrNone M route ear tone hO (by omega) (by omega) (by omega)) rfl rfl ⟨Nat.le_of_ble_eq_true rfl, Nat.le_of_ble_eq_true rfl⟩ (Nat.le_of_ble_eq_true rfl) ?_
  rintro _ _ ⟨rfl, rfl⟩
  have b2 := mPON_b hO (route := route) (ear := ear) (tone := tone) (by omega) (by omega) (by omega)
  refine g_istore C dX3_isHelped_16 (lv' := [(5, .int (iI (mPON (g 6) (g 18) route ear tone))), (4, .int (iI (mMk (g 6) (g 18) route ear tone))), (0, .ref m), (1, .int (iI route)), (2, .int (iI ear)), (3, .int (iI tone))]) (Nat.le_of_ble_eq_true rfl) rfl ?_
  refine g_iload C dX3_isHelped_18 1 rfl ?_
  refine g_bipush C dX3_isHelped_20 (by decide) ?_
  refine g_icmp_eq C dX3_isHelped_22 (tgt := 61) (by decide) (gRo (by omega) (by omega)) (gRo (by decide) (by decide)) (fun c22 => ?_) (fun c22 => ?_)
  · refine g_iconst C dX3_isHelped_61 ?_
    refine g_bret C E dX3_isHelped_62 rfl false rfl ?_
    exact ⟨rB (by unfold mHelp; grind), rfl⟩
  · refine g_aload_n C dX3_isHelped_25 2 rfl ?_
    refine g_iload C dX3_isHelped_26 1 rfl ?_
    refine g_callV C dX3_isHelped_28 lkX3_229 M.o rfl (As := [.int (iI (mMk (g 6) (g 18) route ear tone))]) (c_X3_isProved M (mMk (g 6) (g 18) route ear tone) hO (by omega)) rfl rfl ⟨Nat.le_of_ble_eq_true rfl, Nat.le_of_ble_eq_true rfl⟩ (Nat.le_of_ble_eq_true rfl) ?_
    rintro _ _ ⟨rfl, rfl⟩
    refine g_ifF C dX3_isHelped_31 (tgt := 61) (by decide) (fun c31 => ?_) (fun c31 => ?_)
    · refine g_iconst C dX3_isHelped_61 ?_
      refine g_bret C E dX3_isHelped_62 rfl false rfl ?_
      exact ⟨rB (by unfold mHelp; grind), rfl⟩
    · refine g_iload C dX3_isHelped_34 0 rfl ?_
      refine g_bipush C dX3_isHelped_36 (by decide) ?_
      refine g_icmp_eq C dX3_isHelped_38 (tgt := 61) (by decide) (gRo (by omega) (by omega)) (gRo (by decide) (by decide)) (fun c38 => ?_) (fun c38 => ?_)
      · refine g_iconst C dX3_isHelped_61 ?_
        refine g_bret C E dX3_isHelped_62 rfl false rfl ?_
        exact ⟨rB (by unfold mHelp; grind), rfl⟩
      · refine g_aload_n C dX3_isHelped_41 2 rfl ?_
        refine g_get C dX3_isHelped_42 kcX3 18 q1481 (fun _ _ _ _ h9 => h9) M.o (Nat.le_of_ble_eq_true rfl) rfl ?_
        refine g_iload C dX3_isHelped_45 1 rfl ?_
        refine g_iconst C dX3_isHelped_47 ?_
        refine g_callS C dX3_isHelped_48 lkX3_213 (As := [.int (iI (mMk (g 6) (g 18) route ear tone)), .int (iI 5)]) (c_X3_at (mMk (g 6) (g 18) route ear tone) 5) rfl rfl ⟨Nat.le_of_ble_eq_true rfl, Nat.le_of_ble_eq_true rfl⟩ (Nat.le_of_ble_eq_true rfl) ?_
        rintro _ _ ⟨rfl, rfl⟩
        refine g_iald C dX3_isHelped_51 (v := g 18 (112 + 11 * (mMk (g 6) (g 18) route ear tone) + 5)) M.a18 (by decide) (by omega) (by omega) rfl ?_
        refine g_iload C dX3_isHelped_52 0 rfl ?_
        refine g_icmp_ge C dX3_isHelped_54 (tgt := 61) (by decide) (hr _) (gRo (by omega) (by omega)) (fun c54 => ?_) (fun c54 => ?_)
        · refine g_iconst C dX3_isHelped_61 ?_
          refine g_bret C E dX3_isHelped_62 rfl false rfl ?_
          exact ⟨rB (by unfold mHelp; grind), rfl⟩
        · refine g_iconst C dX3_isHelped_57 ?_
          refine g_goto C dX3_isHelped_58 (tgt := 62) (by decide) ?_
          refine g_bret C E dX3_isHelped_62 rfl true rfl ?_
          exact ⟨rB (by unfold mHelp; grind), rfl⟩
theorem c_X3_doubtsOf {G : gG} {h : gH} {h0 : gH} {m : Nat} {ad : Nat → Nat} {f : Nat → Int} {g : Nat → Int → Int} (M : mSt G h0 h m ad f g) (ear : Int) (tone : Int) (hO : mOk (g 6) (g 18)) (he : 0 ≤ ear ∧ ear ≤ 1) (ht : 0 ≤ tone ∧ tone < g 6 0) : gC G yX3_doubtsOf (.code yX3_doubtsOf cX3_doubtsOf 9 (some .int)) 4 0 0 [.ref m, .int (iI ear), .int (iI tone)] h (fun r h' => r = some (.int (iI (mDb (g 6) (g 18) ear tone))) ∧ h = h') := by
  refine gC.of (by decide) (Nat.le_of_ble_eq_true rfl) rfl ?_
  intro X C E hI
  have C : gCtx G X cX3_doubtsOf 9 RX3 4 (some .int) := C
  obtain ⟨hI_, hr, hn, hT, hS_⟩ := id hO
  obtain ⟨hi0, hi1, hi2, hi3, hi4, hi5, hiA, hiR⟩ := id hI_
  obtain ⟨hs1, hs3, hs4, hs5, hs6, hs7, hs8, hs11, hs2⟩ := id hS_
  refine g_aload_n C dX3_doubtsOf_0 0 rfl ?_
  refine g_iconst C dX3_doubtsOf_1 ?_
  refine g_iload_n C dX3_doubtsOf_2 1 rfl ?_
  refine g_iload_n C dX3_doubtsOf_3 2 rfl ?_
  refine g_callV C dX3_doubtsOf_4 lkX3_312 M.o rfl (As := [.int (iI 0), .int (iI ear), .int (iI tone)]) (c_X3_plainOrNone M 0 ear tone hO (by omega) (by omega) (by omega)) rfl rfl ⟨Nat.le_of_ble_eq_true rfl, Nat.le_of_ble_eq_true rfl⟩ (Nat.le_of_ble_eq_true rfl) ?_
  rintro _ _ ⟨rfl, rfl⟩
  have b1 := mPON_b hO (route := 0) (ear := ear) (tone := tone) (by omega) (by omega) (by omega)
  refine g_istore_n C dX3_doubtsOf_7 (lv' := [(3, .int (iI (mPON (g 6) (g 18) 0 ear tone))), (0, .ref m), (1, .int (iI ear)), (2, .int (iI tone))]) 3 rfl (Nat.le_of_ble_eq_true rfl) rfl ?_
  refine g_aload_n C dX3_doubtsOf_8 1 rfl ?_
  refine g_iconst C dX3_doubtsOf_9 ?_
  refine g_iload_n C dX3_doubtsOf_10 2 rfl ?_
  refine g_iload_n C dX3_doubtsOf_11 3 rfl ?_
  refine g_callV C dX3_doubtsOf_12 lkX3_312 M.o rfl (As := [.int (iI 1), .int (iI ear), .int (iI tone)]) (c_X3_plainOrNone M 1 ear tone hO (by omega) (by omega) (by omega)) rfl rfl ⟨Nat.le_of_ble_eq_true rfl, Nat.le_of_ble_eq_true rfl⟩ (Nat.le_of_ble_eq_true rfl) ?_
  rintro _ _ ⟨rfl, rfl⟩
  have b2 := mPON_b hO (route := 1) (ear := ear) (tone := tone) (by omega) (by omega) (by omega)
  refine g_istore C dX3_doubtsOf_15 (lv' := [(4, .int (iI (mPON (g 6) (g 18) 1 ear tone))), (3, .int (iI (mPON (g 6) (g 18) 0 ear tone))), (0, .ref m), (1, .int (iI ear)), (2, .int (iI tone))]) (Nat.le_of_ble_eq_true rfl) rfl ?_
  refine g_aload_n C dX3_doubtsOf_17 2 rfl ?_
  refine g_iconst C dX3_doubtsOf_18 ?_
  refine g_iconst C dX3_doubtsOf_19 ?_
  refine g_iload_n C dX3_doubtsOf_20 3 rfl ?_
  refine g_isub C dX3_doubtsOf_21 (v := 1 - ear) rfl ?_
  refine g_iload_n C dX3_doubtsOf_22 4 rfl ?_
  refine g_callV C dX3_doubtsOf_23 lkX3_312 M.o rfl (As := [.int (iI 1), .int (iI (1 - ear)), .int (iI tone)]) (c_X3_plainOrNone M 1 (1 - ear) tone hO (by omega) (by omega) (by omega)) rfl rfl ⟨Nat.le_of_ble_eq_true rfl, Nat.le_of_ble_eq_true rfl⟩ (Nat.le_of_ble_eq_true rfl) ?_
  rintro _ _ ⟨rfl, rfl⟩
  have b3 := mPON_b hO (route := 1) (ear := (1 - ear)) (tone := tone) (by omega) (by omega) (by omega)
  refine g_istore C dX3_doubtsOf_26 (lv' := [(5, .int (iI (mPON (g 6) (g 18) 1 (1 - ear) tone))), (4, .int (iI (mPON (g 6) (g 18) 1 ear tone))), (3, .int (iI (mPON (g 6) (g 18) 0 ear tone))), (0, .ref m), (1, .int (iI ear)), (2, .int (iI tone))]) (Nat.le_of_ble_eq_true rfl) rfl ?_
  have J54 : ∀ (x : Int) (hx : x = mD1 (g 6) (g 18) ear tone), gW X h 0 0 54 [(5, .int (iI (mPON (g 6) (g 18) 1 (1 - ear) tone))), (4, .int (iI (mPON (g 6) (g 18) 1 ear tone))), (3, .int (iI (mPON (g 6) (g 18) 0 ear tone))), (0, .ref m), (1, .int (iI ear)), (2, .int (iI tone))] [.int (iI x)] := by
    intro x hx
    have hbx := mD1_b (g 6) (g 18) ear tone; rw [← hx] at hbx
    refine g_istore C dX3_doubtsOf_54 (lv' := [(6, .int (iI x)), (5, .int (iI (mPON (g 6) (g 18) 1 (1 - ear) tone))), (4, .int (iI (mPON (g 6) (g 18) 1 ear tone))), (3, .int (iI (mPON (g 6) (g 18) 0 ear tone))), (0, .ref m), (1, .int (iI ear)), (2, .int (iI tone))]) (Nat.le_of_ble_eq_true rfl) rfl ?_
    refine g_iload C dX3_doubtsOf_56 0 rfl ?_
    have J89 : ∀ (y : Int) (hy : y = mD2 (g 6) (g 18) ear tone), gW X h 0 0 89 [(6, .int (iI x)), (5, .int (iI (mPON (g 6) (g 18) 1 (1 - ear) tone))), (4, .int (iI (mPON (g 6) (g 18) 1 ear tone))), (3, .int (iI (mPON (g 6) (g 18) 0 ear tone))), (0, .ref m), (1, .int (iI ear)), (2, .int (iI tone))] [.int (iI y), .int (iI x)] := by
      intro y hy
      have hby := mD2_b (g 6) (g 18) ear tone; rw [← hy] at hby
      refine g_ior C dX3_doubtsOf_89 (or2 hbx hby) ?_
      refine g_istore C dX3_doubtsOf_90 (lv' := [(6, .int (iI (x + y))), (5, .int (iI (mPON (g 6) (g 18) 1 (1 - ear) tone))), (4, .int (iI (mPON (g 6) (g 18) 1 ear tone))), (3, .int (iI (mPON (g 6) (g 18) 0 ear tone))), (0, .ref m), (1, .int (iI ear)), (2, .int (iI tone))]) (Nat.le_of_ble_eq_true rfl) rfl ?_
      refine g_aload_n C dX3_doubtsOf_92 4 rfl ?_
      refine g_iconst C dX3_doubtsOf_93 ?_
      refine g_iload_n C dX3_doubtsOf_94 5 rfl ?_
      refine g_iload_n C dX3_doubtsOf_95 6 rfl ?_
      refine g_callV C dX3_doubtsOf_96 lkX3_303 M.o rfl (As := [.int (iI 0), .int (iI ear), .int (iI tone)]) (c_X3_toldOf M 0 ear tone hO (by omega) (by omega) (by omega)) rfl rfl ⟨Nat.le_of_ble_eq_true rfl, Nat.le_of_ble_eq_true rfl⟩ (Nat.le_of_ble_eq_true rfl) ?_
      rintro _ _ ⟨rfl, rfl⟩
      have b4 := mTold_b hO (route := 0) (ear := ear) (tone := tone) (by omega) (by omega) (by omega)
      refine g_istore C dX3_doubtsOf_99 (lv' := [(7, .int (iI (mTold (g 6) (g 18) 0 ear tone))), (6, .int (iI (x + y))), (5, .int (iI (mPON (g 6) (g 18) 1 (1 - ear) tone))), (4, .int (iI (mPON (g 6) (g 18) 1 ear tone))), (3, .int (iI (mPON (g 6) (g 18) 0 ear tone))), (0, .ref m), (1, .int (iI ear)), (2, .int (iI tone))]) (Nat.le_of_ble_eq_true rfl) rfl ?_
      refine g_aload_n C dX3_doubtsOf_101 5 rfl ?_
      refine g_iconst C dX3_doubtsOf_102 ?_
      refine g_iload_n C dX3_doubtsOf_103 6 rfl ?_
      refine g_iload_n C dX3_doubtsOf_104 7 rfl ?_
      refine g_callV C dX3_doubtsOf_105 lkX3_303 M.o rfl (As := [.int (iI 1), .int (iI ear), .int (iI tone)]) (c_X3_toldOf M 1 ear tone hO (by omega) (by omega) (by omega)) rfl rfl ⟨Nat.le_of_ble_eq_true rfl, Nat.le_of_ble_eq_true rfl⟩ (Nat.le_of_ble_eq_true rfl) ?_
      rintro _ _ ⟨rfl, rfl⟩
      have b5 := mTold_b hO (route := 1) (ear := ear) (tone := tone) (by omega) (by omega) (by omega)
      refine g_istore C dX3_doubtsOf_108 (lv' := [(8, .int (iI (mTold (g 6) (g 18) 1 ear tone))), (7, .int (iI (mTold (g 6) (g 18) 0 ear tone))), (6, .int (iI (x + y))), (5, .int (iI (mPON (g 6) (g 18) 1 (1 - ear) tone))), (4, .int (iI (mPON (g 6) (g 18) 1 ear tone))), (3, .int (iI (mPON (g 6) (g 18) 0 ear tone))), (0, .ref m), (1, .int (iI ear)), (2, .int (iI tone))]) (Nat.le_of_ble_eq_true rfl) rfl ?_
      refine g_iload C dX3_doubtsOf_110 2 rfl ?_
      have J129 : ∀ (z : Int) (hz : z = mD3 (g 6) (g 18) ear tone), gW X h 0 0 129 [(8, .int (iI (mTold (g 6) (g 18) 1 ear tone))), (7, .int (iI (mTold (g 6) (g 18) 0 ear tone))), (6, .int (iI (x + y))), (5, .int (iI (mPON (g 6) (g 18) 1 (1 - ear) tone))), (4, .int (iI (mPON (g 6) (g 18) 1 ear tone))), (3, .int (iI (mPON (g 6) (g 18) 0 ear tone))), (0, .ref m), (1, .int (iI ear)), (2, .int (iI tone))] [.int (iI z), .int (iI (x + y))] := by
        intro z hz
        have hbz := mD3_b (g 6) (g 18) ear tone; rw [← hz] at hbz
        refine g_ior C dX3_doubtsOf_129 (or4 (by omega) hbz) ?_
        refine g_istore C dX3_doubtsOf_130 (lv' := [(6, .int (iI (x + y + z))), (8, .int (iI (mTold (g 6) (g 18) 1 ear tone))), (7, .int (iI (mTold (g 6) (g 18) 0 ear tone))), (5, .int (iI (mPON (g 6) (g 18) 1 (1 - ear) tone))), (4, .int (iI (mPON (g 6) (g 18) 1 ear tone))), (3, .int (iI (mPON (g 6) (g 18) 0 ear tone))), (0, .ref m), (1, .int (iI ear)), (2, .int (iI tone))]) (Nat.le_of_ble_eq_true rfl) rfl ?_
        refine g_aload_n C dX3_doubtsOf_132 6 rfl ?_
        refine g_iconst C dX3_doubtsOf_133 ?_
        refine g_iload_n C dX3_doubtsOf_134 7 rfl ?_
        refine g_iload_n C dX3_doubtsOf_135 8 rfl ?_
        refine g_callV C dX3_doubtsOf_136 lkX3_315 M.o rfl (As := [.int (iI 0), .int (iI ear), .int (iI tone)]) (c_X3_isHelped M 0 ear tone hO (by omega) (by omega) (by omega)) rfl rfl ⟨Nat.le_of_ble_eq_true rfl, Nat.le_of_ble_eq_true rfl⟩ (Nat.le_of_ble_eq_true rfl) ?_
        rintro _ _ ⟨rfl, rfl⟩
        refine g_ifT C dX3_doubtsOf_139 (tgt := 152) (by decide) (fun c139 => ?_) (fun c139 => ?_)
        · refine g_iload C dX3_doubtsOf_152 0 rfl ?_
          refine g_bipush C dX3_doubtsOf_154 (by decide) ?_
          refine g_ior C dX3_doubtsOf_156 (or8 (by omega)) ?_
          refine g_goto C dX3_doubtsOf_157 (tgt := 162) (by decide) ?_
          refine g_iret C E dX3_doubtsOf_162 rfl ?_
          exact ⟨rI (by unfold mDb; rw [← hx, ← hy, ← hz]; unfold mD4; grind), rfl⟩
        · refine g_aload_n C dX3_doubtsOf_142 6 rfl ?_
          refine g_iconst C dX3_doubtsOf_143 ?_
          refine g_iload_n C dX3_doubtsOf_144 7 rfl ?_
          refine g_iload_n C dX3_doubtsOf_145 8 rfl ?_
          refine g_callV C dX3_doubtsOf_146 lkX3_315 M.o rfl (As := [.int (iI 1), .int (iI ear), .int (iI tone)]) (c_X3_isHelped M 1 ear tone hO (by omega) (by omega) (by omega)) rfl rfl ⟨Nat.le_of_ble_eq_true rfl, Nat.le_of_ble_eq_true rfl⟩ (Nat.le_of_ble_eq_true rfl) ?_
          rintro _ _ ⟨rfl, rfl⟩
          refine g_ifF C dX3_doubtsOf_149 (tgt := 160) (by decide) (fun c149 => ?_) (fun c149 => ?_)
          · refine g_iload C dX3_doubtsOf_160 0 rfl ?_
            refine g_iret C E dX3_doubtsOf_162 rfl ?_
            exact ⟨rI (by unfold mDb; rw [← hx, ← hy, ← hz]; unfold mD4; grind), rfl⟩
          · refine g_iload C dX3_doubtsOf_152 0 rfl ?_
            refine g_bipush C dX3_doubtsOf_154 (by decide) ?_
            refine g_ior C dX3_doubtsOf_156 (or8 (by omega)) ?_
            refine g_goto C dX3_doubtsOf_157 (tgt := 162) (by decide) ?_
            refine g_iret C E dX3_doubtsOf_162 rfl ?_
            exact ⟨rI (by unfold mDb; rw [← hx, ← hy, ← hz]; unfold mD4; grind), rfl⟩
      refine g_iload C dX3_doubtsOf_112 1 rfl ?_
      refine g_if_lt C dX3_doubtsOf_114 (tgt := 128) (by decide) (gRo (by omega) (by omega)) (fun c114 => ?_) (fun c114 => ?_)
      · refine g_iconst C dX3_doubtsOf_128 ?_
        exact J129 0 (by unfold mD3; grind)
      · refine g_iload C dX3_doubtsOf_117 0 rfl ?_
        refine g_iload C dX3_doubtsOf_119 1 rfl ?_
        refine g_icmp_le C dX3_doubtsOf_121 (tgt := 128) (by decide) (gRo (by omega) (by omega)) (gRo (by omega) (by omega)) (fun c121 => ?_) (fun c121 => ?_)
        · refine g_iconst C dX3_doubtsOf_128 ?_
          exact J129 0 (by unfold mD3; grind)
        · refine g_iconst C dX3_doubtsOf_124 ?_
          refine g_goto C dX3_doubtsOf_125 (tgt := 129) (by decide) ?_
          exact J129 4 (by unfold mD3; grind)
    refine g_iload_n C dX3_doubtsOf_58 3 rfl ?_
    refine g_bipush C dX3_doubtsOf_59 (by decide) ?_
    refine g_icmp_eq C dX3_doubtsOf_61 (tgt := 88) (by decide) (gRo (by omega) (by omega)) (gRo (by decide) (by decide)) (fun c61 => ?_) (fun c61 => ?_)
    · refine g_iconst C dX3_doubtsOf_88 ?_
      exact J89 0 (by unfold mD2; grind)
    · refine g_iload C dX3_doubtsOf_64 1 rfl ?_
      refine g_bipush C dX3_doubtsOf_66 (by decide) ?_
      refine g_icmp_eq C dX3_doubtsOf_68 (tgt := 88) (by decide) (gRo (by omega) (by omega)) (gRo (by decide) (by decide)) (fun c68 => ?_) (fun c68 => ?_)
      · refine g_iconst C dX3_doubtsOf_88 ?_
        exact J89 0 (by unfold mD2; grind)
      · refine g_iload_n C dX3_doubtsOf_71 3 rfl ?_
        refine g_iload C dX3_doubtsOf_72 1 rfl ?_
        refine g_aload_n C dX3_doubtsOf_74 4 rfl ?_
        refine g_get C dX3_doubtsOf_75 kcX3 6 q1469 (fun _ _ _ _ h9 => h9) M.o (Nat.le_of_ble_eq_true rfl) rfl ?_
        refine g_iconst C dX3_doubtsOf_78 ?_
        refine g_iald C dX3_doubtsOf_79 (v := g 6 1) M.a6 (by decide) (by decide) (by decide) rfl ?_
        refine g_iadd C dX3_doubtsOf_80 (v := mPON (g 6) (g 18) 1 (1 - ear) tone + g 6 1) rfl ?_
        refine g_icmp_le C dX3_doubtsOf_81 (tgt := 88) (by decide) (gRo (by omega) (by omega)) (gRo (by omega) (by omega)) (fun c81 => ?_) (fun c81 => ?_)
        · refine g_iconst C dX3_doubtsOf_88 ?_
          exact J89 0 (by unfold mD2; grind)
        · refine g_iconst C dX3_doubtsOf_84 ?_
          refine g_goto C dX3_doubtsOf_85 (tgt := 89) (by decide) ?_
          exact J89 2 (by unfold mD2; grind)
  refine g_iload C dX3_doubtsOf_28 1 rfl ?_
  refine g_bipush C dX3_doubtsOf_30 (by decide) ?_
  refine g_icmp_eq C dX3_doubtsOf_32 (tgt := 53) (by decide) (gRo (by omega) (by omega)) (gRo (by decide) (by decide)) (fun c32 => ?_) (fun c32 => ?_)
  · refine g_iconst C dX3_doubtsOf_53 ?_
    exact J54 0 (by unfold mD1; grind)
  · refine g_iload C dX3_doubtsOf_35 0 rfl ?_
    refine g_bipush C dX3_doubtsOf_37 (by decide) ?_
    refine g_icmp_eq C dX3_doubtsOf_39 (tgt := 53) (by decide) (gRo (by omega) (by omega)) (gRo (by decide) (by decide)) (fun c39 => ?_) (fun c39 => ?_)
    · refine g_iconst C dX3_doubtsOf_53 ?_
      exact J54 0 (by unfold mD1; grind)
    · refine g_iload C dX3_doubtsOf_42 1 rfl ?_
      refine g_iload C dX3_doubtsOf_44 0 rfl ?_
      refine g_icmp_eq C dX3_doubtsOf_46 (tgt := 53) (by decide) (gRo (by omega) (by omega)) (gRo (by omega) (by omega)) (fun c46 => ?_) (fun c46 => ?_)
      · refine g_iconst C dX3_doubtsOf_53 ?_
        exact J54 0 (by unfold mD1; grind)
      · refine g_iconst C dX3_doubtsOf_49 ?_
        refine g_goto C dX3_doubtsOf_50 (tgt := 54) (by decide) ?_
        exact J54 1 (by unfold mD1; grind)
theorem c_X3_doubts {G : gG} {h : gH} {h0 : gH} {m : Nat} {ad : Nat → Nat} {f : Nat → Int} {g : Nat → Int → Int} (M : mSt G h0 h m ad f g) (ear : Int) (tone : Int) (hear1 : -2147483648 ≤ ear) (hear2 : ear ≤ 2147483647) (htone1 : -2147483648 ≤ tone) (htone2 : tone ≤ 2147483647) (hf8 : f 8 = 0 ∨ f 8 = 1) (hO8 : f 8 = 1 → mOk (g 6) (g 18)) : gC G yX3_doubts (.code yX3_doubts cX3_doubts 3 (some .int)) 5 0 0 [.ref m, .int (iI ear), .int (iI tone)] h (fun r h' => r = some (.int (iI (mAns (mW1 (mOne (f 8) (g 6) 0 ear tone)) (mDb (g 6) (g 18) ear tone)))) ∧ mSt G h0 h' m ad (mRef f (mW1 (mOne (f 8) (g 6) 0 ear tone))) g) := by
  refine gC.of (by decide) (Nat.le_of_ble_eq_true rfl) rfl ?_
  intro X C E hI
  have C : gCtx G X cX3_doubts 3 RX3 5 (some .int) := C
  refine g_aload_n C dX3_doubts_0 0 rfl ?_
  refine g_aload_n C dX3_doubts_1 0 rfl ?_
  refine g_iconst C dX3_doubts_2 ?_
  refine g_iload_n C dX3_doubts_3 1 rfl ?_
  refine g_iload_n C dX3_doubts_4 2 rfl ?_
  refine g_callV C dX3_doubts_5 lkX3_188 M.o rfl (As := [.int (iI 0), .int (iI ear), .int (iI tone)]) (c_X3_isOne M 0 ear tone (by decide) (by decide) (by omega) (by omega) (by omega) (by omega) hf8 hO8) rfl rfl ⟨Nat.le_of_ble_eq_true rfl, Nat.le_of_ble_eq_true rfl⟩ (Nat.le_of_ble_eq_true rfl) ?_
  rintro _ _ ⟨rfl, rfl⟩
  cases hb1 : mOne (f 8) (g 6) 0 ear tone
  · refine g_callS C dX3_doubts_8 lkX3_191 (As := [.int (iI (gb false))]) (c_X3_unless false) rfl rfl ⟨Nat.le_of_ble_eq_true rfl, Nat.le_of_ble_eq_true rfl⟩ (Nat.le_of_ble_eq_true rfl) ?_
    rintro _ _ ⟨rfl, rfl⟩
    show gW X h 0 0 11 [(0, .ref m), (1, .int (iI ear)), (2, .int (iI tone))] [.int (iI 1), .ref m]
    refine g_callV C dX3_doubts_11 lkX3_156 M.o rfl (As := [.int (iI 1)]) (c_X3_isRefused M 1 (by decide) (by decide)) rfl rfl ⟨Nat.le_of_ble_eq_true rfl, Nat.le_of_ble_eq_true rfl⟩ (Nat.le_of_ble_eq_true rfl) ?_
    rintro _ h2 ⟨rfl, M3⟩
    show gW X h2 0 0 14 [(0, .ref m), (1, .int (iI ear)), (2, .int (iI tone))] [.int (iI (gb true))]
    refine g_ifF C dX3_doubts_14 (tgt := 21) (by decide) (fun q => absurd q (by decide)) (fun q => ?_)
    refine g_iconst C dX3_doubts_17 ?_
    refine g_goto C dX3_doubts_18 (tgt := 27) (by decide) ?_
    refine g_iret C E dX3_doubts_27 rfl ?_
    try rw [hb1]
    exact ⟨rfl, M3⟩
  · have fb4 := mOne_t hb1
    have hO := hO8 fb4.1
    obtain ⟨hI_, hr, hn, hT, hS_⟩ := id hO
    obtain ⟨hi0, hi1, hi2, hi3, hi4, hi5, hiA, hiR⟩ := id hI_
    obtain ⟨hs1, hs3, hs4, hs5, hs6, hs7, hs8, hs11, hs2⟩ := id hS_
    refine g_callS C dX3_doubts_8 lkX3_191 (As := [.int (iI (gb true))]) (c_X3_unless true) rfl rfl ⟨Nat.le_of_ble_eq_true rfl, Nat.le_of_ble_eq_true rfl⟩ (Nat.le_of_ble_eq_true rfl) ?_
    rintro _ _ ⟨rfl, rfl⟩
    show gW X h 0 0 11 [(0, .ref m), (1, .int (iI ear)), (2, .int (iI tone))] [.int (iI 0), .ref m]
    refine g_callV C dX3_doubts_11 lkX3_156 M.o rfl (As := [.int (iI 0)]) (c_X3_isRefused M 0 (by decide) (by decide)) rfl rfl ⟨Nat.le_of_ble_eq_true rfl, Nat.le_of_ble_eq_true rfl⟩ (Nat.le_of_ble_eq_true rfl) ?_
    rintro _ h5 ⟨rfl, M6⟩
    show gW X h5 0 0 14 [(0, .ref m), (1, .int (iI ear)), (2, .int (iI tone))] [.int (iI (gb false))]
    refine g_ifF C dX3_doubts_14 (tgt := 21) (by decide) (fun q => ?_) (fun q => absurd q (by decide))
    refine g_aload_n C dX3_doubts_21 0 rfl ?_
    refine g_iload_n C dX3_doubts_22 1 rfl ?_
    refine g_iload_n C dX3_doubts_23 2 rfl ?_
    refine g_callV C dX3_doubts_24 lkX3_318 M6.o rfl (As := [.int (iI ear), .int (iI tone)]) (c_X3_doubtsOf M6 ear tone hO (by omega) (show 0 ≤ tone ∧ tone < g 6 0 from by omega)) rfl rfl ⟨Nat.le_of_ble_eq_true rfl, Nat.le_of_ble_eq_true rfl⟩ (Nat.le_of_ble_eq_true rfl) ?_
    rintro _ _ ⟨rfl, rfl⟩
    show gW X h5 0 0 27 [(0, .ref m), (1, .int (iI ear)), (2, .int (iI tone))] [.int (iI (mDb (g 6) (g 18) ear tone))]
    have b7 := mDb_b (g 6) (g 18) ear tone
    refine g_iret C E dX3_doubts_27 rfl ?_
    try rw [hb1]
    exact ⟨rI (show mDb (g 6) (g 18) ear tone = mDb (g 6) (g 18) ear tone from rfl), M6⟩
theorem c_X3_isDoubtful {G : gG} {h : gH} {h0 : gH} {m : Nat} {ad : Nat → Nat} {f : Nat → Int} {g : Nat → Int → Int} (M : mSt G h0 h m ad f g) (tone : Int) (hO : mOk (g 6) (g 18)) (ht : 0 ≤ tone ∧ tone < g 6 0) : gC G yX3_isDoubtful (.code yX3_isDoubtful cX3_isDoubtful 2 (some .boolean)) 5 0 0 [.ref m, .int (iI tone)] h (fun r h' => r = some (.int (iI (gb (mDbt (g 6) (g 18) tone)))) ∧ h = h') := by
  refine gC.of (by decide) (Nat.le_of_ble_eq_true rfl) rfl ?_
  intro X C E hI
  have C : gCtx G X cX3_isDoubtful 2 RX3 5 (some .boolean) := C
  obtain ⟨hI_, hr, hn, hT, hS_⟩ := id hO
  obtain ⟨hi0, hi1, hi2, hi3, hi4, hi5, hiA, hiR⟩ := id hI_
  obtain ⟨hs1, hs3, hs4, hs5, hs6, hs7, hs8, hs11, hs2⟩ := id hS_
  refine g_aload_n C dX3_isDoubtful_0 0 rfl ?_
  refine g_iconst C dX3_isDoubtful_1 ?_
  refine g_iload_n C dX3_isDoubtful_2 1 rfl ?_
  refine g_callV C dX3_isDoubtful_3 lkX3_318 M.o rfl (As := [.int (iI 0), .int (iI tone)]) (c_X3_doubtsOf M 0 tone hO (by omega) (by omega)) rfl rfl ⟨Nat.le_of_ble_eq_true rfl, Nat.le_of_ble_eq_true rfl⟩ (Nat.le_of_ble_eq_true rfl) ?_
  rintro _ _ ⟨rfl, rfl⟩
  have b1 := mDb_b (g 6) (g 18) 0 tone
  refine g_if_ne C dX3_isDoubtful_6 (tgt := 18) (by decide) (gRo (by omega) (by omega)) (fun c6 => ?_) (fun c6 => ?_)
  · refine g_iconst C dX3_isDoubtful_18 ?_
    refine g_goto C dX3_isDoubtful_19 (tgt := 23) (by decide) ?_
    refine g_bret C E dX3_isDoubtful_23 rfl true rfl ?_
    exact ⟨rB (by unfold mDbt; grind), rfl⟩
  · refine g_aload_n C dX3_isDoubtful_9 0 rfl ?_
    refine g_iconst C dX3_isDoubtful_10 ?_
    refine g_iload_n C dX3_isDoubtful_11 1 rfl ?_
    refine g_callV C dX3_isDoubtful_12 lkX3_318 M.o rfl (As := [.int (iI 1), .int (iI tone)]) (c_X3_doubtsOf M 1 tone hO (by omega) (by omega)) rfl rfl ⟨Nat.le_of_ble_eq_true rfl, Nat.le_of_ble_eq_true rfl⟩ (Nat.le_of_ble_eq_true rfl) ?_
    rintro _ _ ⟨rfl, rfl⟩
    have b2 := mDb_b (g 6) (g 18) 1 tone
    refine g_if_eq C dX3_isDoubtful_15 (tgt := 22) (by decide) (gRo (by omega) (by omega)) (fun c15 => ?_) (fun c15 => ?_)
    · refine g_iconst C dX3_isDoubtful_22 ?_
      refine g_bret C E dX3_isDoubtful_23 rfl false rfl ?_
      exact ⟨rB (by unfold mDbt; grind), rfl⟩
    · refine g_iconst C dX3_isDoubtful_18 ?_
      refine g_goto C dX3_isDoubtful_19 (tgt := 23) (by decide) ?_
      refine g_bret C E dX3_isDoubtful_23 rfl true rfl ?_
      exact ⟨rB (by unfold mDbt; grind), rfl⟩
