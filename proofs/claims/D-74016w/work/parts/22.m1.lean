/-! THE REFERENCE, walks 1 -/
set_option maxRecDepth 100000
theorem lkX3_226 : gLkV RX3 226 yX3_plain cX3_plain 4 (some .int) 3 := ⟨⟨q1660, q1662, qs68, q111, q1663⟩, ⟨by decide, by decide⟩, by decide +kernel⟩
theorem lkX3_213 : gLkS RX3 213 yX3_at cX3_at 2 (some .int) 2 := ⟨⟨q1638, q1639, q111, q1640⟩, ⟨by decide, by decide⟩, by decide +kernel⟩
theorem lkX3_229 : gLkV RX3 229 yX3_isProved cX3_isProved 2 (some .boolean) 1 := ⟨⟨q1664, q1666, qs69, q111, q1667⟩, ⟨by decide, by decide⟩, by decide +kernel⟩
theorem lkX3_232 : gLkV RX3 232 yX3_areProved cX3_areProved 2 (some .boolean) 1 := ⟨⟨q1656, q1658, qs67, q111, q1659⟩, ⟨by decide, by decide⟩, by decide +kernel⟩
theorem lkX3_235 : gLkV RX3 235 yX3_plainThreshold cX3_plainThreshold 4 (some .int) 3 := ⟨⟨q1672, q1674, qs71, q111, q1675⟩, ⟨by decide, by decide⟩, by decide +kernel⟩
theorem lkX3_238 : gLkS RX3 238 yX3_lesser cX3_lesser 2 (some .int) 2 := ⟨⟨q1653, q1654, q111, q1655⟩, ⟨by decide, by decide⟩, by decide +kernel⟩
theorem lkX3_177 : gLkV RX3 177 yX3_boneOf cX3_boneOf 3 (some .int) 2 := ⟨⟨q1703, q1705, qs75, q111, q1706⟩, ⟨by decide, by decide⟩, by decide +kernel⟩
theorem lkX3_181 : gLkV RX3 181 yX3_airOf cX3_airOf 3 (some .int) 2 := ⟨⟨q1699, q1701, qs74, q111, q1702⟩, ⟨by decide, by decide⟩, by decide +kernel⟩
theorem lkX3_184 : gLkV RX3 184 yX3_isHeardBy cX3_isHeardBy 5 (some .boolean) 4 := ⟨⟨q1718, q1720, qs77, q111, q1721⟩, ⟨by decide, by decide⟩, by decide +kernel⟩
theorem c_X3_in {G : gG} {h : gH}  (v : Int) (lo : Int) (hi : Int) (hv1 : -2147483648 ≤ v) (hv2 : v ≤ 2147483647) (hlo1 : -2147483648 ≤ lo) (hlo2 : lo ≤ 2147483647) (hhi1 : -2147483648 ≤ hi) (hhi2 : hi ≤ 2147483647) : gC G yX3_in (.code yX3_in cX3_in 3 (some .boolean)) 0 0 0 [.int (iI v), .int (iI lo), .int (iI hi)] h (fun r h' => r = some (.int (iI (gb (mIn v lo hi)))) ∧ h = h') := by
  refine gC.of (by decide) (Nat.le_of_ble_eq_true rfl) rfl ?_
  intro X C E hI
  have C : gCtx G X cX3_in 3 RX3 0 (some .boolean) := C
  refine g_iload_n C dX3_in_0 0 rfl ?_
  refine g_iload_n C dX3_in_1 1 rfl ?_
  refine g_icmp_lt C dX3_in_2 (tgt := 14) (by decide) (gRo (by omega) (by omega)) (gRo (by omega) (by omega)) (fun c2 => ?_) (fun c2 => ?_)
  · refine g_iconst C dX3_in_14 ?_
    refine g_bret C E dX3_in_15 rfl false rfl ?_
    exact ⟨rB (by symm; rw [mIn_f]; omega), rfl⟩
  · refine g_iload_n C dX3_in_5 0 rfl ?_
    refine g_iload_n C dX3_in_6 2 rfl ?_
    refine g_icmp_gt C dX3_in_7 (tgt := 14) (by decide) (gRo (by omega) (by omega)) (gRo (by omega) (by omega)) (fun c7 => ?_) (fun c7 => ?_)
    · refine g_iconst C dX3_in_14 ?_
      refine g_bret C E dX3_in_15 rfl false rfl ?_
      exact ⟨rB (by symm; rw [mIn_f]; omega), rfl⟩
    · refine g_iconst C dX3_in_10 ?_
      refine g_goto C dX3_in_11 (tgt := 15) (by decide) ?_
      refine g_bret C E dX3_in_15 rfl true rfl ?_
      exact ⟨rB (by symm; rw [mIn_t]; omega), rfl⟩
theorem c_X3_lesser {G : gG} {h : gH}  (a : Int) (b : Int) (ha1 : -2147483648 ≤ a) (ha2 : a ≤ 2147483647) (hb1 : -2147483648 ≤ b) (hb2 : b ≤ 2147483647) : gC G yX3_lesser (.code yX3_lesser cX3_lesser 2 (some .int)) 0 0 0 [.int (iI a), .int (iI b)] h (fun r h' => r = some (.int (iI (min a b))) ∧ h = h') := by
  refine gC.of (by decide) (Nat.le_of_ble_eq_true rfl) rfl ?_
  intro X C E hI
  have C : gCtx G X cX3_lesser 2 RX3 0 (some .int) := C
  refine g_iload_n C dX3_lesser_0 0 rfl ?_
  refine g_iload_n C dX3_lesser_1 1 rfl ?_
  refine g_icmp_ge C dX3_lesser_2 (tgt := 9) (by decide) (gRo (by omega) (by omega)) (gRo (by omega) (by omega)) (fun c2 => ?_) (fun c2 => ?_)
  · refine g_iload_n C dX3_lesser_9 1 rfl ?_
    refine g_iret C E dX3_lesser_10 rfl ?_
    exact ⟨rI (by omega), rfl⟩
  · refine g_iload_n C dX3_lesser_5 0 rfl ?_
    refine g_goto C dX3_lesser_6 (tgt := 10) (by decide) ?_
    refine g_iret C E dX3_lesser_10 rfl ?_
    exact ⟨rI (by omega), rfl⟩
theorem c_X3_unless {G : gG} {h : gH}  (b : Bool)  : gC G yX3_unless (.code yX3_unless cX3_unless 1 (some .int)) 0 0 0 [.int (iI (gb b))] h (fun r h' => r = some (.int (iI (if b then 0 else 1))) ∧ h = h') := by
  refine gC.of (by decide) (Nat.le_of_ble_eq_true rfl) rfl ?_
  intro X C E hI
  have C : gCtx G X cX3_unless 1 RX3 0 (some .int) := C
  refine g_iload_n C dX3_unless_0 0 rfl ?_
  refine g_ifF C dX3_unless_1 (tgt := 8) (by decide) (fun c1 => ?_) (fun c1 => ?_)
  · refine g_iconst C dX3_unless_8 ?_
    refine g_iret C E dX3_unless_9 rfl ?_
    exact ⟨rI (by simp [*]), rfl⟩
  · refine g_iconst C dX3_unless_4 ?_
    refine g_goto C dX3_unless_5 (tgt := 9) (by decide) ?_
    refine g_iret C E dX3_unless_9 rfl ?_
    exact ⟨rI (by simp [*]), rfl⟩
theorem c_X3_unless_2 {G : gG} {h : gH}  (b : Bool) (c : Bool)  : gC G yX3_unless_2 (.code yX3_unless_2 cX3_unless_2 2 (some .int)) 0 0 0 [.int (iI (gb b)), .int (iI (gb c))] h (fun r h' => r = some (.int (iI (if b then (if c then 0 else 2) else 1))) ∧ h = h') := by
  refine gC.of (by decide) (Nat.le_of_ble_eq_true rfl) rfl ?_
  intro X C E hI
  have C : gCtx G X cX3_unless_2 2 RX3 0 (some .int) := C
  refine g_iload_n C dX3_unless_2_0 0 rfl ?_
  refine g_ifT C dX3_unless_2_1 (tgt := 8) (by decide) (fun c1 => ?_) (fun c1 => ?_)
  · refine g_iload_n C dX3_unless_2_8 1 rfl ?_
    refine g_ifF C dX3_unless_2_9 (tgt := 16) (by decide) (fun c9 => ?_) (fun c9 => ?_)
    · refine g_iconst C dX3_unless_2_16 ?_
      refine g_iret C E dX3_unless_2_17 rfl ?_
      exact ⟨rI (by simp [*]), rfl⟩
    · refine g_iconst C dX3_unless_2_12 ?_
      refine g_goto C dX3_unless_2_13 (tgt := 17) (by decide) ?_
      refine g_iret C E dX3_unless_2_17 rfl ?_
      exact ⟨rI (by simp [*]), rfl⟩
  · refine g_iconst C dX3_unless_2_4 ?_
    refine g_goto C dX3_unless_2_5 (tgt := 17) (by decide) ?_
    refine g_iret C E dX3_unless_2_17 rfl ?_
    exact ⟨rI (by simp [*]), rfl⟩
theorem c_X3_at {G : gG} {h : gH}  (k : Int) (j : Int)  : gC G yX3_at (.code yX3_at cX3_at 2 (some .int)) 0 0 0 [.int (iI k), .int (iI j)] h (fun r h' => r = some (.int (iI (112 + 11 * k + j))) ∧ h = h') := by
  refine gC.of (by decide) (Nat.le_of_ble_eq_true rfl) rfl ?_
  intro X C E hI
  have C : gCtx G X cX3_at 2 RX3 0 (some .int) := C
  refine g_bipush C dX3_at_0 (by decide) ?_
  refine g_bipush C dX3_at_2 (by decide) ?_
  refine g_iload_n C dX3_at_4 0 rfl ?_
  refine g_imul C dX3_at_5 (v := 11 * k) rfl ?_
  refine g_iadd C dX3_at_6 (v := 112 + 11 * k) rfl ?_
  refine g_iload_n C dX3_at_7 1 rfl ?_
  refine g_iadd C dX3_at_8 (v := 112 + 11 * k + j) rfl ?_
  refine g_iret C E dX3_at_9 rfl ?_
  exact ⟨rI (by omega), rfl⟩
theorem c_X3_countAt {G : gG} {h : gH}  (k : Int) (j : Int)  : gC G yX3_countAt (.code yX3_countAt cX3_countAt 2 (some .int)) 0 0 0 [.int (iI k), .int (iI j)] h (fun r h' => r = some (.int (iI (12 + 4 * k + j))) ∧ h = h') := by
  refine gC.of (by decide) (Nat.le_of_ble_eq_true rfl) rfl ?_
  intro X C E hI
  have C : gCtx G X cX3_countAt 2 RX3 0 (some .int) := C
  refine g_bipush C dX3_countAt_0 (by decide) ?_
  refine g_iconst C dX3_countAt_2 ?_
  refine g_iload_n C dX3_countAt_3 0 rfl ?_
  refine g_imul C dX3_countAt_4 (v := 4 * k) rfl ?_
  refine g_iadd C dX3_countAt_5 (v := 12 + 4 * k) rfl ?_
  refine g_iload_n C dX3_countAt_6 1 rfl ?_
  refine g_iadd C dX3_countAt_7 (v := 12 + 4 * k + j) rfl ?_
  refine g_iret C E dX3_countAt_8 rfl ?_
  exact ⟨rI (by omega), rfl⟩
theorem c_X3_thrown {G : gG} {h : gH} {h0 : gH} {m : Nat} {ad : Nat → Nat} {f : Nat → Int} {g : Nat → Int → Int} (M : mSt G h0 h m ad f g)  : gC G yX3_thrown (.code yX3_thrown cX3_thrown 1 (some .int)) 0 0 0 [.ref m] h (fun r h' => r = some (.int (iI (f 0))) ∧ h = h') := by
  refine gC.of (by decide) (Nat.le_of_ble_eq_true rfl) rfl ?_
  intro X C E hI
  have C : gCtx G X cX3_thrown 1 RX3 0 (some .int) := C
  refine g_aload_n C dX3_thrown_0 0 rfl ?_
  refine g_get C dX3_thrown_1 kcX3 0 q1463 (fun _ _ _ _ h9 => h9) M.o (Nat.le_of_ble_eq_true rfl) rfl ?_
  refine g_iret C E dX3_thrown_4 rfl ?_
  exact ⟨rfl, rfl⟩
theorem c_X3_airOf {G : gG} {h : gH} {h0 : gH} {m : Nat} {ad : Nat → Nat} {f : Nat → Int} {g : Nat → Int → Int} (M : mSt G h0 h m ad f g) (ear : Int) (tone : Int) (he : 0 ≤ ear ∧ ear ≤ 1) (ht : 0 ≤ tone ∧ tone < 6) : gC G yX3_airOf (.code yX3_airOf cX3_airOf 3 (some .int)) 0 0 0 [.ref m, .int (iI ear), .int (iI tone)] h (fun r h' => r = some (.int (iI (g 6 (6 + 6 * ear + tone)))) ∧ h = h') := by
  refine gC.of (by decide) (Nat.le_of_ble_eq_true rfl) rfl ?_
  intro X C E hI
  have C : gCtx G X cX3_airOf 3 RX3 0 (some .int) := C
  refine g_aload_n C dX3_airOf_0 0 rfl ?_
  refine g_get C dX3_airOf_1 kcX3 6 q1469 (fun _ _ _ _ h9 => h9) M.o (Nat.le_of_ble_eq_true rfl) rfl ?_
  refine g_bipush C dX3_airOf_4 (by decide) ?_
  refine g_bipush C dX3_airOf_6 (by decide) ?_
  refine g_iload_n C dX3_airOf_8 1 rfl ?_
  refine g_imul C dX3_airOf_9 (v := 6 * ear) rfl ?_
  refine g_iadd C dX3_airOf_10 (v := 6 + 6 * ear) rfl ?_
  refine g_iload_n C dX3_airOf_11 2 rfl ?_
  refine g_iadd C dX3_airOf_12 (v := 6 + 6 * ear + tone) rfl ?_
  refine g_iald C dX3_airOf_13 (v := g 6 (6 + 6 * ear + tone)) M.a6 (by decide) (by omega) (by omega) rfl ?_
  refine g_iret C E dX3_airOf_14 rfl ?_
  exact ⟨rfl, rfl⟩
theorem c_X3_boneOf {G : gG} {h : gH} {h0 : gH} {m : Nat} {ad : Nat → Nat} {f : Nat → Int} {g : Nat → Int → Int} (M : mSt G h0 h m ad f g) (ear : Int) (tone : Int) (he : 0 ≤ ear ∧ ear ≤ 1) (ht : 0 ≤ tone ∧ tone < 6) : gC G yX3_boneOf (.code yX3_boneOf cX3_boneOf 3 (some .int)) 0 0 0 [.ref m, .int (iI ear), .int (iI tone)] h (fun r h' => r = some (.int (iI (g 6 (18 + 6 * ear + tone)))) ∧ h = h') := by
  refine gC.of (by decide) (Nat.le_of_ble_eq_true rfl) rfl ?_
  intro X C E hI
  have C : gCtx G X cX3_boneOf 3 RX3 0 (some .int) := C
  refine g_aload_n C dX3_boneOf_0 0 rfl ?_
  refine g_get C dX3_boneOf_1 kcX3 6 q1469 (fun _ _ _ _ h9 => h9) M.o (Nat.le_of_ble_eq_true rfl) rfl ?_
  refine g_bipush C dX3_boneOf_4 (by decide) ?_
  refine g_bipush C dX3_boneOf_6 (by decide) ?_
  refine g_iload_n C dX3_boneOf_8 1 rfl ?_
  refine g_imul C dX3_boneOf_9 (v := 6 * ear) rfl ?_
  refine g_iadd C dX3_boneOf_10 (v := 18 + 6 * ear) rfl ?_
  refine g_iload_n C dX3_boneOf_11 2 rfl ?_
  refine g_iadd C dX3_boneOf_12 (v := 18 + 6 * ear + tone) rfl ?_
  refine g_iald C dX3_boneOf_13 (v := g 6 (18 + 6 * ear + tone)) M.a6 (by decide) (by omega) (by omega) rfl ?_
  refine g_iret C E dX3_boneOf_14 rfl ?_
  exact ⟨rfl, rfl⟩
theorem c_X3_plain {G : gG} {h : gH} {h0 : gH} {m : Nat} {ad : Nat → Nat} {f : Nat → Int} {g : Nat → Int → Int} (M : mSt G h0 h m ad f g) (route : Int) (ear : Int) (tone : Int)  : gC G yX3_plain (.code yX3_plain cX3_plain 4 (some .int)) 0 0 0 [.ref m, .int (iI route), .int (iI ear), .int (iI tone)] h (fun r h' => r = some (.int (iI (mPlain (g 6) route ear tone))) ∧ h = h') := by
  refine gC.of (by decide) (Nat.le_of_ble_eq_true rfl) rfl ?_
  intro X C E hI
  have C : gCtx G X cX3_plain 4 RX3 0 (some .int) := C
  refine g_iconst C dX3_plain_0 ?_
  refine g_aload_n C dX3_plain_1 0 rfl ?_
  refine g_get C dX3_plain_2 kcX3 6 q1469 (fun _ _ _ _ h9 => h9) M.o (Nat.le_of_ble_eq_true rfl) rfl ?_
  refine g_iconst C dX3_plain_5 ?_
  refine g_iald C dX3_plain_6 (v := g 6 0) M.a6 (by decide) (by decide) (by decide) rfl ?_
  refine g_iload_n C dX3_plain_7 1 rfl ?_
  refine g_imul C dX3_plain_8 (v := (g 6 0) * route) rfl ?_
  refine g_iload_n C dX3_plain_9 3 rfl ?_
  refine g_iadd C dX3_plain_10 (v := (g 6 0) * route + tone) rfl ?_
  refine g_imul C dX3_plain_11 (v := 2 * ((g 6 0) * route + tone)) rfl ?_
  refine g_iload_n C dX3_plain_12 2 rfl ?_
  refine g_iadd C dX3_plain_13 (v := 2 * ((g 6 0) * route + tone) + ear) rfl ?_
  refine g_iret C E dX3_plain_14 rfl ?_
  exact ⟨rfl, rfl⟩
theorem c_X3_plainThreshold {G : gG} {h : gH} {h0 : gH} {m : Nat} {ad : Nat → Nat} {f : Nat → Int} {g : Nat → Int → Int} (M : mSt G h0 h m ad f g) (route : Int) (ear : Int) (tone : Int) (hO : mOk (g 6) (g 18)) (hrt : 0 ≤ route ∧ route ≤ 1) (he : 0 ≤ ear ∧ ear ≤ 1) (ht : 0 ≤ tone ∧ tone < g 6 0) : gC G yX3_plainThreshold (.code yX3_plainThreshold cX3_plainThreshold 4 (some .int)) 1 0 0 [.ref m, .int (iI route), .int (iI ear), .int (iI tone)] h (fun r h' => r = some (.int (iI (mPT (g 6) (g 18) route ear tone))) ∧ h = h') := by
  refine gC.of (by decide) (Nat.le_of_ble_eq_true rfl) rfl ?_
  intro X C E hI
  have C : gCtx G X cX3_plainThreshold 4 RX3 1 (some .int) := C
  obtain ⟨hI_, hr, hn, hT, hS_⟩ := id hO
  obtain ⟨hi0, hi1, hi2, hi3, hi4, hi5, hiA, hiR⟩ := id hI_
  obtain ⟨hs1, hs3, hs4, hs5, hs6, hs7, hs8, hs11, hs2⟩ := id hS_
  refine g_aload_n C dX3_plainThreshold_0 0 rfl ?_
  refine g_get C dX3_plainThreshold_1 kcX3 18 q1481 (fun _ _ _ _ h9 => h9) M.o (Nat.le_of_ble_eq_true rfl) rfl ?_
  refine g_aload_n C dX3_plainThreshold_4 0 rfl ?_
  refine g_iload_n C dX3_plainThreshold_5 1 rfl ?_
  refine g_iload_n C dX3_plainThreshold_6 2 rfl ?_
  refine g_iload_n C dX3_plainThreshold_7 3 rfl ?_
  refine g_callV C dX3_plainThreshold_8 lkX3_226 M.o rfl (As := [.int (iI route), .int (iI ear), .int (iI tone)]) (c_X3_plain M route ear tone) rfl rfl ⟨Nat.le_of_ble_eq_true rfl, Nat.le_of_ble_eq_true rfl⟩ (Nat.le_of_ble_eq_true rfl) ?_
  rintro _ _ ⟨rfl, rfl⟩
  have b1 := mPlain_b hO.1 (route := route) (ear := ear) (tone := tone) (by omega) (by omega) (by omega)
  refine g_iconst C dX3_plainThreshold_11 ?_
  refine g_callS C dX3_plainThreshold_12 lkX3_213 (As := [.int (iI (mPlain (g 6) route ear tone)), .int (iI 5)]) (c_X3_at (mPlain (g 6) route ear tone) 5) rfl rfl ⟨Nat.le_of_ble_eq_true rfl, Nat.le_of_ble_eq_true rfl⟩ (Nat.le_of_ble_eq_true rfl) ?_
  rintro _ _ ⟨rfl, rfl⟩
  refine g_iald C dX3_plainThreshold_15 (v := g 18 (112 + 11 * (mPlain (g 6) route ear tone) + 5)) M.a18 (by decide) (by omega) (by omega) rfl ?_
  refine g_iret C E dX3_plainThreshold_16 rfl ?_
  exact ⟨rfl, rfl⟩
theorem c_X3_isProved {G : gG} {h : gH} {h0 : gH} {m : Nat} {ad : Nat → Nat} {f : Nat → Int} {g : Nat → Int → Int} (M : mSt G h0 h m ad f g) (k : Int) (hO : mOk (g 6) (g 18)) (hk : 0 ≤ k ∧ k < 48) : gC G yX3_isProved (.code yX3_isProved cX3_isProved 2 (some .boolean)) 1 0 0 [.ref m, .int (iI k)] h (fun r h' => r = some (.int (iI (gb (mProved (g 18) k)))) ∧ h = h') := by
  refine gC.of (by decide) (Nat.le_of_ble_eq_true rfl) rfl ?_
  intro X C E hI
  have C : gCtx G X cX3_isProved 2 RX3 1 (some .boolean) := C
  obtain ⟨hI_, hr, hn, hT, hS_⟩ := id hO
  obtain ⟨hi0, hi1, hi2, hi3, hi4, hi5, hiA, hiR⟩ := id hI_
  obtain ⟨hs1, hs3, hs4, hs5, hs6, hs7, hs8, hs11, hs2⟩ := id hS_
  refine g_aload_n C dX3_isProved_0 0 rfl ?_
  refine g_get C dX3_isProved_1 kcX3 18 q1481 (fun _ _ _ _ h9 => h9) M.o (Nat.le_of_ble_eq_true rfl) rfl ?_
  refine g_iload_n C dX3_isProved_4 1 rfl ?_
  refine g_iconst C dX3_isProved_5 ?_
  refine g_callS C dX3_isProved_6 lkX3_213 (As := [.int (iI k), .int (iI 4)]) (c_X3_at k 4) rfl rfl ⟨Nat.le_of_ble_eq_true rfl, Nat.le_of_ble_eq_true rfl⟩ (Nat.le_of_ble_eq_true rfl) ?_
  rintro _ _ ⟨rfl, rfl⟩
  refine g_iald C dX3_isProved_9 (v := g 18 (112 + 11 * k + 4)) M.a18 (by decide) (by omega) (by omega) rfl ?_
  refine g_iconst C dX3_isProved_10 ?_
  refine g_icmp_ne C dX3_isProved_11 (tgt := 18) (by decide) (hr _) (gRo (by decide) (by decide)) (fun c11 => ?_) (fun c11 => ?_)
  · refine g_iconst C dX3_isProved_18 ?_
    refine g_bret C E dX3_isProved_19 rfl false rfl ?_
    exact ⟨rB (by simp [mProved, *]), rfl⟩
  · refine g_iconst C dX3_isProved_14 ?_
    refine g_goto C dX3_isProved_15 (tgt := 19) (by decide) ?_
    refine g_bret C E dX3_isProved_19 rfl true rfl ?_
    exact ⟨rB (by simp [mProved, *]), rfl⟩
theorem c_X3_areProved {G : gG} {h : gH} {h0 : gH} {m : Nat} {ad : Nat → Nat} {f : Nat → Int} {g : Nat → Int → Int} (M : mSt G h0 h m ad f g) (tone : Int) (hO : mOk (g 6) (g 18)) (ht : 0 ≤ tone ∧ tone < g 6 0) : gC G yX3_areProved (.code yX3_areProved cX3_areProved 2 (some .boolean)) 2 0 0 [.ref m, .int (iI tone)] h (fun r h' => r = some (.int (iI (gb (mAreP (g 6) (g 18) tone)))) ∧ h = h') := by
  refine gC.of (by decide) (Nat.le_of_ble_eq_true rfl) rfl ?_
  intro X C E hI
  have C : gCtx G X cX3_areProved 2 RX3 2 (some .boolean) := C
  obtain ⟨hI_, hr, hn, hT, hS_⟩ := id hO
  obtain ⟨hi0, hi1, hi2, hi3, hi4, hi5, hiA, hiR⟩ := id hI_
  obtain ⟨hs1, hs3, hs4, hs5, hs6, hs7, hs8, hs11, hs2⟩ := id hS_
  refine g_aload_n C dX3_areProved_0 0 rfl ?_
  refine g_aload_n C dX3_areProved_1 0 rfl ?_
  refine g_iconst C dX3_areProved_2 ?_
  refine g_iconst C dX3_areProved_3 ?_
  refine g_iload_n C dX3_areProved_4 1 rfl ?_
  refine g_callV C dX3_areProved_5 lkX3_226 M.o rfl (As := [.int (iI 0), .int (iI 0), .int (iI tone)]) (c_X3_plain M 0 0 tone) rfl rfl ⟨Nat.le_of_ble_eq_true rfl, Nat.le_of_ble_eq_true rfl⟩ (Nat.le_of_ble_eq_true rfl) ?_
  rintro _ _ ⟨rfl, rfl⟩
  have b1 := mPlain_b hO.1 (route := 0) (ear := 0) (tone := tone) (by omega) (by omega) (by omega)
  refine g_callV C dX3_areProved_8 lkX3_229 M.o rfl (As := [.int (iI (mPlain (g 6) 0 0 tone))]) (c_X3_isProved M (mPlain (g 6) 0 0 tone) hO (by omega)) rfl rfl ⟨Nat.le_of_ble_eq_true rfl, Nat.le_of_ble_eq_true rfl⟩ (Nat.le_of_ble_eq_true rfl) ?_
  rintro _ _ ⟨rfl, rfl⟩
  refine g_ifF C dX3_areProved_11 (tgt := 60) (by decide) (fun c11 => ?_) (fun c11 => ?_)
  · refine g_iconst C dX3_areProved_60 ?_
    refine g_bret C E dX3_areProved_61 rfl false rfl ?_
    exact ⟨rB (by simp [mAreP, *]), rfl⟩
  · refine g_aload_n C dX3_areProved_14 0 rfl ?_
    refine g_aload_n C dX3_areProved_15 0 rfl ?_
    refine g_iconst C dX3_areProved_16 ?_
    refine g_iconst C dX3_areProved_17 ?_
    refine g_iload_n C dX3_areProved_18 1 rfl ?_
    refine g_callV C dX3_areProved_19 lkX3_226 M.o rfl (As := [.int (iI 0), .int (iI 1), .int (iI tone)]) (c_X3_plain M 0 1 tone) rfl rfl ⟨Nat.le_of_ble_eq_true rfl, Nat.le_of_ble_eq_true rfl⟩ (Nat.le_of_ble_eq_true rfl) ?_
    rintro _ _ ⟨rfl, rfl⟩
    have b2 := mPlain_b hO.1 (route := 0) (ear := 1) (tone := tone) (by omega) (by omega) (by omega)
    refine g_callV C dX3_areProved_22 lkX3_229 M.o rfl (As := [.int (iI (mPlain (g 6) 0 1 tone))]) (c_X3_isProved M (mPlain (g 6) 0 1 tone) hO (by omega)) rfl rfl ⟨Nat.le_of_ble_eq_true rfl, Nat.le_of_ble_eq_true rfl⟩ (Nat.le_of_ble_eq_true rfl) ?_
    rintro _ _ ⟨rfl, rfl⟩
    refine g_ifF C dX3_areProved_25 (tgt := 60) (by decide) (fun c25 => ?_) (fun c25 => ?_)
    · refine g_iconst C dX3_areProved_60 ?_
      refine g_bret C E dX3_areProved_61 rfl false rfl ?_
      exact ⟨rB (by simp [mAreP, *]), rfl⟩
    · refine g_aload_n C dX3_areProved_28 0 rfl ?_
      refine g_aload_n C dX3_areProved_29 0 rfl ?_
      refine g_iconst C dX3_areProved_30 ?_
      refine g_iconst C dX3_areProved_31 ?_
      refine g_iload_n C dX3_areProved_32 1 rfl ?_
      refine g_callV C dX3_areProved_33 lkX3_226 M.o rfl (As := [.int (iI 1), .int (iI 0), .int (iI tone)]) (c_X3_plain M 1 0 tone) rfl rfl ⟨Nat.le_of_ble_eq_true rfl, Nat.le_of_ble_eq_true rfl⟩ (Nat.le_of_ble_eq_true rfl) ?_
      rintro _ _ ⟨rfl, rfl⟩
      have b3 := mPlain_b hO.1 (route := 1) (ear := 0) (tone := tone) (by omega) (by omega) (by omega)
      refine g_callV C dX3_areProved_36 lkX3_229 M.o rfl (As := [.int (iI (mPlain (g 6) 1 0 tone))]) (c_X3_isProved M (mPlain (g 6) 1 0 tone) hO (by omega)) rfl rfl ⟨Nat.le_of_ble_eq_true rfl, Nat.le_of_ble_eq_true rfl⟩ (Nat.le_of_ble_eq_true rfl) ?_
      rintro _ _ ⟨rfl, rfl⟩
      refine g_ifF C dX3_areProved_39 (tgt := 60) (by decide) (fun c39 => ?_) (fun c39 => ?_)
      · refine g_iconst C dX3_areProved_60 ?_
        refine g_bret C E dX3_areProved_61 rfl false rfl ?_
        exact ⟨rB (by simp [mAreP, *]), rfl⟩
      · refine g_aload_n C dX3_areProved_42 0 rfl ?_
        refine g_aload_n C dX3_areProved_43 0 rfl ?_
        refine g_iconst C dX3_areProved_44 ?_
        refine g_iconst C dX3_areProved_45 ?_
        refine g_iload_n C dX3_areProved_46 1 rfl ?_
        refine g_callV C dX3_areProved_47 lkX3_226 M.o rfl (As := [.int (iI 1), .int (iI 1), .int (iI tone)]) (c_X3_plain M 1 1 tone) rfl rfl ⟨Nat.le_of_ble_eq_true rfl, Nat.le_of_ble_eq_true rfl⟩ (Nat.le_of_ble_eq_true rfl) ?_
        rintro _ _ ⟨rfl, rfl⟩
        have b4 := mPlain_b hO.1 (route := 1) (ear := 1) (tone := tone) (by omega) (by omega) (by omega)
        refine g_callV C dX3_areProved_50 lkX3_229 M.o rfl (As := [.int (iI (mPlain (g 6) 1 1 tone))]) (c_X3_isProved M (mPlain (g 6) 1 1 tone) hO (by omega)) rfl rfl ⟨Nat.le_of_ble_eq_true rfl, Nat.le_of_ble_eq_true rfl⟩ (Nat.le_of_ble_eq_true rfl) ?_
        rintro _ _ ⟨rfl, rfl⟩
        refine g_ifF C dX3_areProved_53 (tgt := 60) (by decide) (fun c53 => ?_) (fun c53 => ?_)
        · refine g_iconst C dX3_areProved_60 ?_
          refine g_bret C E dX3_areProved_61 rfl false rfl ?_
          exact ⟨rB (by simp [mAreP, *]), rfl⟩
        · refine g_iconst C dX3_areProved_56 ?_
          refine g_goto C dX3_areProved_57 (tgt := 61) (by decide) ?_
          refine g_bret C E dX3_areProved_61 rfl true rfl ?_
          exact ⟨rB (by simp [mAreP, *]), rfl⟩
theorem c_X3_doesNeed {G : gG} {h : gH} {h0 : gH} {m : Nat} {ad : Nat → Nat} {f : Nat → Int} {g : Nat → Int → Int} (M : mSt G h0 h m ad f g) (route : Int) (ear : Int) (tone : Int) (hO : mOk (g 6) (g 18)) (hrt : 0 ≤ route ∧ route ≤ 1) (he : 0 ≤ ear ∧ ear ≤ 1) (ht : 0 ≤ tone ∧ tone < g 6 0) : gC G yX3_doesNeed (.code yX3_doesNeed cX3_doesNeed 5 (some .boolean)) 3 0 0 [.ref m, .int (iI route), .int (iI ear), .int (iI tone)] h (fun r h' => r = some (.int (iI (gb (mNeed (g 6) (g 18) route ear tone)))) ∧ h = h') := by
  refine gC.of (by decide) (Nat.le_of_ble_eq_true rfl) rfl ?_
  intro X C E hI
  have C : gCtx G X cX3_doesNeed 5 RX3 3 (some .boolean) := C
  obtain ⟨hI_, hr, hn, hT, hS_⟩ := id hO
  obtain ⟨hi0, hi1, hi2, hi3, hi4, hi5, hiA, hiR⟩ := id hI_
  obtain ⟨hs1, hs3, hs4, hs5, hs6, hs7, hs8, hs11, hs2⟩ := id hS_
  refine g_aload_n C dX3_doesNeed_0 0 rfl ?_
  refine g_iload_n C dX3_doesNeed_1 3 rfl ?_
  refine g_callV C dX3_doesNeed_2 lkX3_232 M.o rfl (As := [.int (iI tone)]) (c_X3_areProved M tone hO (by omega)) rfl rfl ⟨Nat.le_of_ble_eq_true rfl, Nat.le_of_ble_eq_true rfl⟩ (Nat.le_of_ble_eq_true rfl) ?_
  rintro _ _ ⟨rfl, rfl⟩
  refine g_ifT C dX3_doesNeed_5 (tgt := 10) (by decide) (fun c5 => ?_) (fun c5 => ?_)
  · refine g_aload_n C dX3_doesNeed_10 0 rfl ?_
    refine g_iconst C dX3_doesNeed_11 ?_
    refine g_iload_n C dX3_doesNeed_12 2 rfl ?_
    refine g_iload_n C dX3_doesNeed_13 3 rfl ?_
    refine g_callV C dX3_doesNeed_14 lkX3_235 M.o rfl (As := [.int (iI 0), .int (iI ear), .int (iI tone)]) (c_X3_plainThreshold M 0 ear tone hO (by omega) (by omega) (by omega)) rfl rfl ⟨Nat.le_of_ble_eq_true rfl, Nat.le_of_ble_eq_true rfl⟩ (Nat.le_of_ble_eq_true rfl) ?_
    rintro _ _ ⟨rfl, rfl⟩
    have b1 := mPT_b hO (route := 0) (ear := ear) (tone := tone) (by omega) (by omega) (by omega)
    refine g_istore C dX3_doesNeed_17 (lv' := [(4, .int (iI (mPT (g 6) (g 18) 0 ear tone))), (0, .ref m), (1, .int (iI route)), (2, .int (iI ear)), (3, .int (iI tone))]) (Nat.le_of_ble_eq_true rfl) rfl ?_
    refine g_iload_n C dX3_doesNeed_19 2 rfl ?_
    refine g_iconst C dX3_doesNeed_20 ?_
    refine g_icmp_ne C dX3_doesNeed_21 (tgt := 49) (by decide) (gRo (by omega) (by omega)) (gRo (by decide) (by decide)) (fun c21 => ?_) (fun c21 => ?_)
    · refine g_iload C dX3_doesNeed_49 0 rfl ?_
      refine g_aload_n C dX3_doesNeed_51 1 rfl ?_
      refine g_get C dX3_doesNeed_52 kcX3 6 q1469 (fun _ _ _ _ h9 => h9) M.o (Nat.le_of_ble_eq_true rfl) rfl ?_
      refine g_iconst C dX3_doesNeed_55 ?_
      refine g_iald C dX3_doesNeed_56 (v := g 6 1) M.a6 (by decide) (by decide) (by decide) rfl ?_
      refine g_isub C dX3_doesNeed_57 (v := mPT (g 6) (g 18) 0 ear tone - (g 6 1)) rfl ?_
      refine g_aload_n C dX3_doesNeed_58 1 rfl ?_
      refine g_iconst C dX3_doesNeed_59 ?_
      refine g_iconst C dX3_doesNeed_60 ?_
      refine g_iload_n C dX3_doesNeed_61 4 rfl ?_
      refine g_callV C dX3_doesNeed_62 lkX3_235 M.o rfl (As := [.int (iI 1), .int (iI 0), .int (iI tone)]) (c_X3_plainThreshold M 1 0 tone hO (by omega) (by omega) (by omega)) rfl rfl ⟨Nat.le_of_ble_eq_true rfl, Nat.le_of_ble_eq_true rfl⟩ (Nat.le_of_ble_eq_true rfl) ?_
      rintro _ _ ⟨rfl, rfl⟩
      have b2 := mPT_b hO (route := 1) (ear := 0) (tone := tone) (by omega) (by omega) (by omega)
      refine g_aload_n C dX3_doesNeed_65 1 rfl ?_
      refine g_iconst C dX3_doesNeed_66 ?_
      refine g_iconst C dX3_doesNeed_67 ?_
      refine g_iload_n C dX3_doesNeed_68 4 rfl ?_
      refine g_callV C dX3_doesNeed_69 lkX3_235 M.o rfl (As := [.int (iI 1), .int (iI 1), .int (iI tone)]) (c_X3_plainThreshold M 1 1 tone hO (by omega) (by omega) (by omega)) rfl rfl ⟨Nat.le_of_ble_eq_true rfl, Nat.le_of_ble_eq_true rfl⟩ (Nat.le_of_ble_eq_true rfl) ?_
      rintro _ _ ⟨rfl, rfl⟩
      have b3 := mPT_b hO (route := 1) (ear := 1) (tone := tone) (by omega) (by omega) (by omega)
      refine g_callS C dX3_doesNeed_72 lkX3_238 (As := [.int (iI (mPT (g 6) (g 18) 1 0 tone)), .int (iI (mPT (g 6) (g 18) 1 1 tone))]) (c_X3_lesser (mPT (g 6) (g 18) 1 0 tone) (mPT (g 6) (g 18) 1 1 tone) (by omega) (by omega) (by omega) (by omega)) rfl rfl ⟨Nat.le_of_ble_eq_true rfl, Nat.le_of_ble_eq_true rfl⟩ (Nat.le_of_ble_eq_true rfl) ?_
      rintro _ _ ⟨rfl, rfl⟩
      refine g_icmp_lt C dX3_doesNeed_75 (tgt := 82) (by decide) (gRo (by omega) (by omega)) (gRo (by omega) (by omega)) (fun c75 => ?_) (fun c75 => ?_)
      · refine g_iconst C dX3_doesNeed_82 ?_
        refine g_bret C E dX3_doesNeed_83 rfl false rfl ?_
        exact ⟨rB (by simp [mNeed, *]; try omega), rfl⟩
      · refine g_iconst C dX3_doesNeed_78 ?_
        refine g_goto C dX3_doesNeed_79 (tgt := 83) (by decide) ?_
        refine g_bret C E dX3_doesNeed_83 rfl true rfl ?_
        exact ⟨rB (by simp [mNeed, *]; try omega), rfl⟩
    · refine g_iload C dX3_doesNeed_24 0 rfl ?_
      refine g_aload_n C dX3_doesNeed_26 1 rfl ?_
      refine g_iconst C dX3_doesNeed_27 ?_
      refine g_iload_n C dX3_doesNeed_28 3 rfl ?_
      refine g_iload_n C dX3_doesNeed_29 4 rfl ?_
      refine g_callV C dX3_doesNeed_30 lkX3_235 M.o rfl (As := [.int (iI 1), .int (iI ear), .int (iI tone)]) (c_X3_plainThreshold M 1 ear tone hO (by omega) (by omega) (by omega)) rfl rfl ⟨Nat.le_of_ble_eq_true rfl, Nat.le_of_ble_eq_true rfl⟩ (Nat.le_of_ble_eq_true rfl) ?_
      rintro _ _ ⟨rfl, rfl⟩
      have b4 := mPT_b hO (route := 1) (ear := ear) (tone := tone) (by omega) (by omega) (by omega)
      refine g_isub C dX3_doesNeed_33 (v := mPT (g 6) (g 18) 0 ear tone - (mPT (g 6) (g 18) 1 ear tone)) rfl ?_
      refine g_aload_n C dX3_doesNeed_34 1 rfl ?_
      refine g_get C dX3_doesNeed_35 kcX3 6 q1469 (fun _ _ _ _ h9 => h9) M.o (Nat.le_of_ble_eq_true rfl) rfl ?_
      refine g_iconst C dX3_doesNeed_38 ?_
      refine g_iald C dX3_doesNeed_39 (v := g 6 2) M.a6 (by decide) (by decide) (by decide) rfl ?_
      refine g_icmp_lt C dX3_doesNeed_40 (tgt := 47) (by decide) (gRo (by omega) (by omega)) (hiR _) (fun c40 => ?_) (fun c40 => ?_)
      · refine g_iconst C dX3_doesNeed_47 ?_
        refine g_bret C E dX3_doesNeed_48 rfl false rfl ?_
        exact ⟨rB (by simp [mNeed, *]; try omega), rfl⟩
      · refine g_iconst C dX3_doesNeed_43 ?_
        refine g_goto C dX3_doesNeed_44 (tgt := 48) (by decide) ?_
        refine g_bret C E dX3_doesNeed_48 rfl true rfl ?_
        exact ⟨rB (by simp [mNeed, *]; try omega), rfl⟩
  · refine g_iconst C dX3_doesNeed_8 ?_
    refine g_bret C E dX3_doesNeed_9 rfl false rfl ?_
    exact ⟨rB (by simp [mNeed, *]; try omega), rfl⟩
theorem c_X3_firstNoise {G : gG} {h : gH} {h0 : gH} {m : Nat} {ad : Nat → Nat} {f : Nat → Int} {g : Nat → Int → Int} (M : mSt G h0 h m ad f g) (ear : Int) (tone : Int) (hO : mOk (g 6) (g 18)) (he : 0 ≤ ear ∧ ear ≤ 1) (ht : 0 ≤ tone ∧ tone < g 6 0) : gC G yX3_firstNoise (.code yX3_firstNoise cX3_firstNoise 3 (some .int)) 2 0 0 [.ref m, .int (iI ear), .int (iI tone)] h (fun r h' => r = some (.int (iI (mFirst (g 6) (g 18) ear tone))) ∧ h = h') := by
  refine gC.of (by decide) (Nat.le_of_ble_eq_true rfl) rfl ?_
  intro X C E hI
  have C : gCtx G X cX3_firstNoise 3 RX3 2 (some .int) := C
  obtain ⟨hI_, hr, hn, hT, hS_⟩ := id hO
  obtain ⟨hi0, hi1, hi2, hi3, hi4, hi5, hiA, hiR⟩ := id hI_
  obtain ⟨hs1, hs3, hs4, hs5, hs6, hs7, hs8, hs11, hs2⟩ := id hS_
  refine g_aload_n C dX3_firstNoise_0 0 rfl ?_
  refine g_iconst C dX3_firstNoise_1 ?_
  refine g_iconst C dX3_firstNoise_2 ?_
  refine g_iload_n C dX3_firstNoise_3 1 rfl ?_
  refine g_isub C dX3_firstNoise_4 (v := 1 - ear) rfl ?_
  refine g_iload_n C dX3_firstNoise_5 2 rfl ?_
  refine g_callV C dX3_firstNoise_6 lkX3_235 M.o rfl (As := [.int (iI 0), .int (iI (1 - ear)), .int (iI tone)]) (c_X3_plainThreshold M 0 (1 - ear) tone hO (by omega) (by omega) (by omega)) rfl rfl ⟨Nat.le_of_ble_eq_true rfl, Nat.le_of_ble_eq_true rfl⟩ (Nat.le_of_ble_eq_true rfl) ?_
  rintro _ _ ⟨rfl, rfl⟩
  have b1 := mPT_b hO (route := 0) (ear := (1 - ear)) (tone := tone) (by omega) (by omega) (by omega)
  refine g_iconst C dX3_firstNoise_9 ?_
  refine g_iadd C dX3_firstNoise_10 (v := mPT (g 6) (g 18) 0 (1 - ear) tone + 2) rfl ?_
  refine g_iret C E dX3_firstNoise_11 rfl ?_
  exact ⟨rfl, rfl⟩
theorem c_X3_bound {G : gG} {h : gH} {h0 : gH} {m : Nat} {ad : Nat → Nat} {f : Nat → Int} {g : Nat → Int → Int} (M : mSt G h0 h m ad f g) (ear : Int) (tone : Int) (hO : mOk (g 6) (g 18)) (he : 0 ≤ ear ∧ ear ≤ 1) (ht : 0 ≤ tone ∧ tone < g 6 0) : gC G yX3_bound (.code yX3_bound cX3_bound 3 (some .int)) 2 0 0 [.ref m, .int (iI ear), .int (iI tone)] h (fun r h' => r = some (.int (iI (mBound (g 6) (g 18) ear tone))) ∧ h = h') := by
  refine gC.of (by decide) (Nat.le_of_ble_eq_true rfl) rfl ?_
  intro X C E hI
  have C : gCtx G X cX3_bound 3 RX3 2 (some .int) := C
  obtain ⟨hI_, hr, hn, hT, hS_⟩ := id hO
  obtain ⟨hi0, hi1, hi2, hi3, hi4, hi5, hiA, hiR⟩ := id hI_
  obtain ⟨hs1, hs3, hs4, hs5, hs6, hs7, hs8, hs11, hs2⟩ := id hS_
  refine g_bipush C dX3_bound_0 (by decide) ?_
  refine g_aload_n C dX3_bound_2 0 rfl ?_
  refine g_iconst C dX3_bound_3 ?_
  refine g_iload_n C dX3_bound_4 1 rfl ?_
  refine g_iload_n C dX3_bound_5 2 rfl ?_
  refine g_callV C dX3_bound_6 lkX3_235 M.o rfl (As := [.int (iI 1), .int (iI ear), .int (iI tone)]) (c_X3_plainThreshold M 1 ear tone hO (by omega) (by omega) (by omega)) rfl rfl ⟨Nat.le_of_ble_eq_true rfl, Nat.le_of_ble_eq_true rfl⟩ (Nat.le_of_ble_eq_true rfl) ?_
  rintro _ _ ⟨rfl, rfl⟩
  have b1 := mPT_b hO (route := 1) (ear := ear) (tone := tone) (by omega) (by omega) (by omega)
  refine g_aload_n C dX3_bound_9 0 rfl ?_
  refine g_get C dX3_bound_10 kcX3 6 q1469 (fun _ _ _ _ h9 => h9) M.o (Nat.le_of_ble_eq_true rfl) rfl ?_
  refine g_iconst C dX3_bound_13 ?_
  refine g_iald C dX3_bound_14 (v := g 6 1) M.a6 (by decide) (by decide) (by decide) rfl ?_
  refine g_iadd C dX3_bound_15 (v := mPT (g 6) (g 18) 1 ear tone + g 6 1) rfl ?_
  refine g_iconst C dX3_bound_16 ?_
  refine g_isub C dX3_bound_17 (v := mPT (g 6) (g 18) 1 ear tone + g 6 1 - 1) rfl ?_
  refine g_callS C dX3_bound_18 lkX3_238 (As := [.int (iI 24), .int (iI (mPT (g 6) (g 18) 1 ear tone + g 6 1 - 1))]) (c_X3_lesser 24 (mPT (g 6) (g 18) 1 ear tone + g 6 1 - 1) (by decide) (by decide) (by omega) (by omega)) rfl rfl ⟨Nat.le_of_ble_eq_true rfl, Nat.le_of_ble_eq_true rfl⟩ (Nat.le_of_ble_eq_true rfl) ?_
  rintro _ _ ⟨rfl, rfl⟩
  refine g_iret C E dX3_bound_21 rfl ?_
  exact ⟨rfl, rfl⟩
theorem c_X3_isHeardBy {G : gG} {h : gH} {h0 : gH} {m : Nat} {ad : Nat → Nat} {f : Nat → Int} {g : Nat → Int → Int} (M : mSt G h0 h m ad f g) (ear : Int) (tone : Int) (w : Int) (n : Int) (hO : mOk (g 6) (g 18)) (hw1 : -2147483648 ≤ w) (hw2 : w ≤ 2147483647) (hn1 : -2147483648 ≤ n) (hn2 : n ≤ 2147483647) (he : 0 ≤ ear ∧ ear ≤ 1) (ht : 0 ≤ tone ∧ tone < 6) : gC G yX3_isHeardBy (.code yX3_isHeardBy cX3_isHeardBy 5 (some .boolean)) 1 0 0 [.ref m, .int (iI ear), .int (iI tone), .int (iI w), .int (iI n)] h (fun r h' => r = some (.int (iI (gb (decide (g 6 (18 + 6 * ear + tone) ≤ w) && decide (n ≤ w))))) ∧ h = h') := by
  refine gC.of (by decide) (Nat.le_of_ble_eq_true rfl) rfl ?_
  intro X C E hI
  have C : gCtx G X cX3_isHeardBy 5 RX3 1 (some .boolean) := C
  obtain ⟨hI_, hr, hn, hT, hS_⟩ := id hO
  obtain ⟨hi0, hi1, hi2, hi3, hi4, hi5, hiA, hiR⟩ := id hI_
  obtain ⟨hs1, hs3, hs4, hs5, hs6, hs7, hs8, hs11, hs2⟩ := id hS_
  refine g_iload_n C dX3_isHeardBy_0 3 rfl ?_
  refine g_aload_n C dX3_isHeardBy_1 0 rfl ?_
  refine g_iload_n C dX3_isHeardBy_2 1 rfl ?_
  refine g_iload_n C dX3_isHeardBy_3 2 rfl ?_
  refine g_callV C dX3_isHeardBy_4 lkX3_177 M.o rfl (As := [.int (iI ear), .int (iI tone)]) (c_X3_boneOf M ear tone (by omega) (by omega)) rfl rfl ⟨Nat.le_of_ble_eq_true rfl, Nat.le_of_ble_eq_true rfl⟩ (Nat.le_of_ble_eq_true rfl) ?_
  rintro _ _ ⟨rfl, rfl⟩
  have b1 := hiA (18 + 6 * ear + tone) (by omega) (by omega)
  refine g_icmp_lt C dX3_isHeardBy_7 (tgt := 20) (by decide) (gRo (by omega) (by omega)) (gRo (by omega) (by omega)) (fun c7 => ?_) (fun c7 => ?_)
  · refine g_iconst C dX3_isHeardBy_20 ?_
    refine g_bret C E dX3_isHeardBy_21 rfl false rfl ?_
    exact ⟨rB (by simp [*] <;> omega), rfl⟩
  · refine g_iload_n C dX3_isHeardBy_10 3 rfl ?_
    refine g_iload C dX3_isHeardBy_11 4 rfl ?_
    refine g_icmp_lt C dX3_isHeardBy_13 (tgt := 20) (by decide) (gRo (by omega) (by omega)) (gRo (by omega) (by omega)) (fun c13 => ?_) (fun c13 => ?_)
    · refine g_iconst C dX3_isHeardBy_20 ?_
      refine g_bret C E dX3_isHeardBy_21 rfl false rfl ?_
      exact ⟨rB (by simp [*] <;> omega), rfl⟩
    · refine g_iconst C dX3_isHeardBy_16 ?_
      refine g_goto C dX3_isHeardBy_17 (tgt := 21) (by decide) ?_
      refine g_bret C E dX3_isHeardBy_21 rfl true rfl ?_
      exact ⟨rB (by simp [*] <;> omega), rfl⟩
theorem c_X3_heardBy {G : gG} {h : gH} {h0 : gH} {m : Nat} {ad : Nat → Nat} {f : Nat → Int} {g : Nat → Int → Int} (M : mSt G h0 h m ad f g) (route : Int) (ear : Int) (tone : Int) (level : Int) (noise : Int) (hO : mOk (g 6) (g 18)) (hrt : 0 ≤ route ∧ route ≤ 1) (he : 0 ≤ ear ∧ ear ≤ 1) (ht : 0 ≤ tone ∧ tone < 6) (hl : -200 ≤ level ∧ level ≤ 200) (hno : -1 ≤ noise ∧ noise ≤ 1000) : gC G yX3_heardBy (.code yX3_heardBy cX3_heardBy 12 (some .int)) 2 0 0 [.ref m, .int (iI route), .int (iI ear), .int (iI tone), .int (iI level), .int (iI noise)] h (fun r h' => r = some (.int (iI (mHB (g 6) route ear tone level noise))) ∧ h = h') := by
  refine gC.of (by decide) (Nat.le_of_ble_eq_true rfl) rfl ?_
  intro X C E hI
  have C : gCtx G X cX3_heardBy 12 RX3 2 (some .int) := C
  obtain ⟨hI_, hr, hn, hT, hS_⟩ := id hO
  obtain ⟨hi0, hi1, hi2, hi3, hi4, hi5, hiA, hiR⟩ := id hI_
  obtain ⟨hs1, hs3, hs4, hs5, hs6, hs7, hs8, hs11, hs2⟩ := id hS_
  rcases (show route = 0 ∨ route = 1 by omega) with rfl | rfl
  · rcases (show ear = 0 ∨ ear = 1 by omega) with rfl | rfl
    · refine g_iconst C dX3_heardBy_0 ?_
      refine g_iload_n C dX3_heardBy_1 2 rfl ?_
      refine g_isub C dX3_heardBy_2 (v := 1) (by decide) ?_
      refine g_istore C dX3_heardBy_3 (lv' := [(6, .int (iI 1)), (0, .ref m), (1, .int (iI 0)), (2, .int (iI 0)), (3, .int (iI tone)), (4, .int (iI level)), (5, .int (iI noise))]) (Nat.le_of_ble_eq_true rfl) rfl ?_
      refine g_iload_n C dX3_heardBy_5 2 rfl ?_
      refine g_if_ne C dX3_heardBy_6 (tgt := 28) (by decide) (gRo (by decide) (by decide)) (fun q => absurd (by decide) q) (fun _ => ?_)
      refine g_iload C dX3_heardBy_9 5 rfl ?_
      refine g_aload_n C dX3_heardBy_11 1 rfl ?_
      refine g_iload_n C dX3_heardBy_12 3 rfl ?_
      refine g_iload_n C dX3_heardBy_13 4 rfl ?_
      refine g_callV C dX3_heardBy_14 lkX3_181 M.o rfl (As := [.int (iI 0), .int (iI tone)]) (c_X3_airOf M 0 tone (by omega) (by omega)) rfl rfl ⟨Nat.le_of_ble_eq_true rfl, Nat.le_of_ble_eq_true rfl⟩ (Nat.le_of_ble_eq_true rfl) ?_
      rintro _ _ ⟨rfl, rfl⟩
      have b1 := hiA (6 + 6 * 0 + tone) (by omega) (by omega)
      refine g_aload_n C dX3_heardBy_17 1 rfl ?_
      refine g_iload_n C dX3_heardBy_18 3 rfl ?_
      refine g_iload_n C dX3_heardBy_19 4 rfl ?_
      refine g_callV C dX3_heardBy_20 lkX3_177 M.o rfl (As := [.int (iI 0), .int (iI tone)]) (c_X3_boneOf M 0 tone (by omega) (by omega)) rfl rfl ⟨Nat.le_of_ble_eq_true rfl, Nat.le_of_ble_eq_true rfl⟩ (Nat.le_of_ble_eq_true rfl) ?_
      rintro _ _ ⟨rfl, rfl⟩
      have b2 := hiA (18 + 6 * 0 + tone) (by omega) (by omega)
      refine g_isub C dX3_heardBy_23 (v := g 6 (6 + 6 * 0 + tone) - (g 6 (18 + 6 * 0 + tone))) rfl ?_
      refine g_isub C dX3_heardBy_24 (v := level - (g 6 (6 + 6 * 0 + tone) - (g 6 (18 + 6 * 0 + tone)))) rfl ?_
      refine g_goto C dX3_heardBy_25 (tgt := 30) (by decide) ?_
      refine g_istore C dX3_heardBy_30 (lv' := [(7, .int (iI (level - (g 6 (6 + 6 * 0 + tone) - (g 6 (18 + 6 * 0 + tone)))))), (6, .int (iI 1)), (0, .ref m), (1, .int (iI 0)), (2, .int (iI 0)), (3, .int (iI tone)), (4, .int (iI level)), (5, .int (iI noise))]) (Nat.le_of_ble_eq_true rfl) rfl ?_
      refine g_iload_n C dX3_heardBy_32 3 rfl ?_
      refine g_if_ne C dX3_heardBy_33 (tgt := 48) (by decide) (gRo (by decide) (by decide)) (fun q => absurd (by decide) q) (fun _ => ?_)
      refine g_iload C dX3_heardBy_36 6 rfl ?_
      refine g_aload_n C dX3_heardBy_38 2 rfl ?_
      refine g_get C dX3_heardBy_39 kcX3 6 q1469 (fun _ _ _ _ h9 => h9) M.o (Nat.le_of_ble_eq_true rfl) rfl ?_
      refine g_iconst C dX3_heardBy_42 ?_
      refine g_iald C dX3_heardBy_43 (v := g 6 1) M.a6 (by decide) (by decide) (by decide) rfl ?_
      refine g_isub C dX3_heardBy_44 (v := level - (g 6 1)) rfl ?_
      refine g_goto C dX3_heardBy_45 (tgt := 50) (by decide) ?_
      refine g_istore C dX3_heardBy_50 (lv' := [(8, .int (iI (level - (g 6 1)))), (7, .int (iI (level - (g 6 (6 + 6 * 0 + tone) - (g 6 (18 + 6 * 0 + tone)))))), (6, .int (iI 1)), (0, .ref m), (1, .int (iI 0)), (2, .int (iI 0)), (3, .int (iI tone)), (4, .int (iI level)), (5, .int (iI noise))]) (Nat.le_of_ble_eq_true rfl) rfl ?_
      refine g_iload C dX3_heardBy_52 8 rfl ?_
      refine g_iconst C dX3_heardBy_54 ?_
      refine g_icmp_ne C dX3_heardBy_55 (tgt := 64) (by decide) (gRo (by omega) (by omega)) (gRo (by decide) (by decide)) (fun c55 => ?_) (fun c55 => ?_)
      · refine g_iload C dX3_heardBy_64 8 rfl ?_
        refine g_aload_n C dX3_heardBy_66 3 rfl ?_
        refine g_get C dX3_heardBy_67 kcX3 6 q1469 (fun _ _ _ _ h9 => h9) M.o (Nat.le_of_ble_eq_true rfl) rfl ?_
        refine g_iconst C dX3_heardBy_70 ?_
        refine g_iald C dX3_heardBy_71 (v := g 6 1) M.a6 (by decide) (by decide) (by decide) rfl ?_
        refine g_isub C dX3_heardBy_72 (v := noise - (g 6 1)) rfl ?_
        refine g_istore C dX3_heardBy_73 (lv' := [(9, .int (iI (noise - (g 6 1)))), (8, .int (iI (level - (g 6 1)))), (7, .int (iI (level - (g 6 (6 + 6 * 0 + tone) - (g 6 (18 + 6 * 0 + tone)))))), (6, .int (iI 1)), (0, .ref m), (1, .int (iI 0)), (2, .int (iI 0)), (3, .int (iI tone)), (4, .int (iI level)), (5, .int (iI noise))]) (Nat.le_of_ble_eq_true rfl) rfl ?_
        refine g_iload C dX3_heardBy_75 9 rfl ?_
        refine g_iconst C dX3_heardBy_77 ?_
        refine g_icmp_ne C dX3_heardBy_78 (tgt := 87) (by decide) (gRo (by omega) (by omega)) (gRo (by decide) (by decide)) (fun c78 => ?_) (fun c78 => ?_)
        · refine g_iload C dX3_heardBy_87 9 rfl ?_
          refine g_aload_n C dX3_heardBy_89 4 rfl ?_
          refine g_iload C dX3_heardBy_90 3 rfl ?_
          refine g_iload_n C dX3_heardBy_92 7 rfl ?_
          refine g_callV C dX3_heardBy_93 lkX3_181 M.o rfl (As := [.int (iI 1), .int (iI tone)]) (c_X3_airOf M 1 tone (by omega) (by omega)) rfl rfl ⟨Nat.le_of_ble_eq_true rfl, Nat.le_of_ble_eq_true rfl⟩ (Nat.le_of_ble_eq_true rfl) ?_
          rintro _ _ ⟨rfl, rfl⟩
          have b3 := hiA (6 + 6 * 1 + tone) (by omega) (by omega)
          refine g_aload_n C dX3_heardBy_96 4 rfl ?_
          refine g_iload C dX3_heardBy_97 3 rfl ?_
          refine g_iload_n C dX3_heardBy_99 7 rfl ?_
          refine g_callV C dX3_heardBy_100 lkX3_177 M.o rfl (As := [.int (iI 1), .int (iI tone)]) (c_X3_boneOf M 1 tone (by omega) (by omega)) rfl rfl ⟨Nat.le_of_ble_eq_true rfl, Nat.le_of_ble_eq_true rfl⟩ (Nat.le_of_ble_eq_true rfl) ?_
          rintro _ _ ⟨rfl, rfl⟩
          have b4 := hiA (18 + 6 * 1 + tone) (by omega) (by omega)
          refine g_isub C dX3_heardBy_103 (v := g 6 (6 + 6 * 1 + tone) - (g 6 (18 + 6 * 1 + tone))) rfl ?_
          refine g_isub C dX3_heardBy_104 (v := noise - (g 6 (6 + 6 * 1 + tone) - (g 6 (18 + 6 * 1 + tone)))) rfl ?_
          refine g_istore C dX3_heardBy_105 (lv' := [(10, .int (iI (noise - (g 6 (6 + 6 * 1 + tone) - (g 6 (18 + 6 * 1 + tone)))))), (9, .int (iI (noise - (g 6 1)))), (8, .int (iI (level - (g 6 1)))), (7, .int (iI (level - (g 6 (6 + 6 * 0 + tone) - (g 6 (18 + 6 * 0 + tone)))))), (6, .int (iI 1)), (0, .ref m), (1, .int (iI 0)), (2, .int (iI 0)), (3, .int (iI tone)), (4, .int (iI level)), (5, .int (iI noise))]) (Nat.le_of_ble_eq_true rfl) rfl ?_
          refine g_aload_n C dX3_heardBy_107 5 rfl ?_
          refine g_iload_n C dX3_heardBy_108 7 rfl ?_
          refine g_iload_n C dX3_heardBy_109 8 rfl ?_
          refine g_iload C dX3_heardBy_110 3 rfl ?_
          refine g_iload C dX3_heardBy_112 1 rfl ?_
          refine g_callV C dX3_heardBy_114 lkX3_184 M.o rfl (As := [.int (iI 0), .int (iI tone), .int (iI (level - (g 6 (6 + 6 * 0 + tone) - (g 6 (18 + 6 * 0 + tone))))), .int (iI (noise - (g 6 1)))]) (c_X3_isHeardBy M 0 tone (level - (g 6 (6 + 6 * 0 + tone) - (g 6 (18 + 6 * 0 + tone)))) (noise - (g 6 1)) hO (by omega) (by omega) (by omega) (by omega) (by omega) (by omega)) rfl rfl ⟨Nat.le_of_ble_eq_true rfl, Nat.le_of_ble_eq_true rfl⟩ (Nat.le_of_ble_eq_true rfl) ?_
          rintro _ _ ⟨rfl, rfl⟩
          refine g_ifF C dX3_heardBy_117 (tgt := 126) (by decide) (fun c117 => ?_) (fun c117 => ?_)
          · refine g_iconst C dX3_heardBy_126 ?_
            refine g_istore C dX3_heardBy_127 (lv' := [(11, .int (iI 0)), (10, .int (iI (noise - (g 6 (6 + 6 * 1 + tone) - (g 6 (18 + 6 * 1 + tone)))))), (9, .int (iI (noise - (g 6 1)))), (8, .int (iI (level - (g 6 1)))), (7, .int (iI (level - (g 6 (6 + 6 * 0 + tone) - (g 6 (18 + 6 * 0 + tone)))))), (6, .int (iI 1)), (0, .ref m), (1, .int (iI 0)), (2, .int (iI 0)), (3, .int (iI tone)), (4, .int (iI level)), (5, .int (iI noise))]) (Nat.le_of_ble_eq_true rfl) rfl ?_
            refine g_aload_n C dX3_heardBy_129 6 rfl ?_
            refine g_iload C dX3_heardBy_130 5 rfl ?_
            refine g_iload_n C dX3_heardBy_132 9 rfl ?_
            refine g_iload C dX3_heardBy_133 3 rfl ?_
            refine g_iload C dX3_heardBy_135 1 rfl ?_
            refine g_callV C dX3_heardBy_137 lkX3_184 M.o rfl (As := [.int (iI 1), .int (iI tone), .int (iI (level - (g 6 1))), .int (iI (noise - (g 6 (6 + 6 * 1 + tone) - (g 6 (18 + 6 * 1 + tone)))))]) (c_X3_isHeardBy M 1 tone (level - (g 6 1)) (noise - (g 6 (6 + 6 * 1 + tone) - (g 6 (18 + 6 * 1 + tone)))) hO (by omega) (by omega) (by omega) (by omega) (by omega) (by omega)) rfl rfl ⟨Nat.le_of_ble_eq_true rfl, Nat.le_of_ble_eq_true rfl⟩ (Nat.le_of_ble_eq_true rfl) ?_
            rintro _ _ ⟨rfl, rfl⟩
            refine g_ifF C dX3_heardBy_140 (tgt := 153) (by decide) (fun c140 => ?_) (fun c140 => ?_)
            · refine g_iload C dX3_heardBy_153 0 rfl ?_
              refine g_iret C E dX3_heardBy_155 rfl ?_
              exact ⟨rI (by grind [mHB, mHear, gb]), rfl⟩
            · refine g_iload C dX3_heardBy_143 0 rfl ?_
              refine g_iconst C dX3_heardBy_145 ?_
              refine g_iload C dX3_heardBy_146 5 rfl ?_
              refine g_ishl C dX3_heardBy_148 (v := 2) (by decide) ?_
              refine g_ior C dX3_heardBy_149 (v := 2) (by decide) ?_
              refine g_goto C dX3_heardBy_150 (tgt := 155) (by decide) ?_
              refine g_iret C E dX3_heardBy_155 rfl ?_
              exact ⟨rI (by grind [mHB, mHear, gb]), rfl⟩
          · refine g_iconst C dX3_heardBy_120 ?_
            refine g_iload_n C dX3_heardBy_121 7 rfl ?_
            refine g_ishl C dX3_heardBy_122 (v := 1) (by decide) ?_
            refine g_goto C dX3_heardBy_123 (tgt := 127) (by decide) ?_
            refine g_istore C dX3_heardBy_127 (lv' := [(11, .int (iI 1)), (10, .int (iI (noise - (g 6 (6 + 6 * 1 + tone) - (g 6 (18 + 6 * 1 + tone)))))), (9, .int (iI (noise - (g 6 1)))), (8, .int (iI (level - (g 6 1)))), (7, .int (iI (level - (g 6 (6 + 6 * 0 + tone) - (g 6 (18 + 6 * 0 + tone)))))), (6, .int (iI 1)), (0, .ref m), (1, .int (iI 0)), (2, .int (iI 0)), (3, .int (iI tone)), (4, .int (iI level)), (5, .int (iI noise))]) (Nat.le_of_ble_eq_true rfl) rfl ?_
            refine g_aload_n C dX3_heardBy_129 6 rfl ?_
            refine g_iload C dX3_heardBy_130 5 rfl ?_
            refine g_iload_n C dX3_heardBy_132 9 rfl ?_
            refine g_iload C dX3_heardBy_133 3 rfl ?_
            refine g_iload C dX3_heardBy_135 1 rfl ?_
            refine g_callV C dX3_heardBy_137 lkX3_184 M.o rfl (As := [.int (iI 1), .int (iI tone), .int (iI (level - (g 6 1))), .int (iI (noise - (g 6 (6 + 6 * 1 + tone) - (g 6 (18 + 6 * 1 + tone)))))]) (c_X3_isHeardBy M 1 tone (level - (g 6 1)) (noise - (g 6 (6 + 6 * 1 + tone) - (g 6 (18 + 6 * 1 + tone)))) hO (by omega) (by omega) (by omega) (by omega) (by omega) (by omega)) rfl rfl ⟨Nat.le_of_ble_eq_true rfl, Nat.le_of_ble_eq_true rfl⟩ (Nat.le_of_ble_eq_true rfl) ?_
            rintro _ _ ⟨rfl, rfl⟩
            refine g_ifF C dX3_heardBy_140 (tgt := 153) (by decide) (fun c140 => ?_) (fun c140 => ?_)
            · refine g_iload C dX3_heardBy_153 0 rfl ?_
              refine g_iret C E dX3_heardBy_155 rfl ?_
              exact ⟨rI (by grind [mHB, mHear, gb]), rfl⟩
            · refine g_iload C dX3_heardBy_143 0 rfl ?_
              refine g_iconst C dX3_heardBy_145 ?_
              refine g_iload C dX3_heardBy_146 5 rfl ?_
              refine g_ishl C dX3_heardBy_148 (v := 2) (by decide) ?_
              refine g_ior C dX3_heardBy_149 (v := 3) (by decide) ?_
              refine g_goto C dX3_heardBy_150 (tgt := 155) (by decide) ?_
              refine g_iret C E dX3_heardBy_155 rfl ?_
              exact ⟨rI (by grind [mHB, mHear, gb]), rfl⟩
        · refine g_sipush C dX3_heardBy_81 (by decide) ?_
          refine g_goto C dX3_heardBy_84 (tgt := 105) (by decide) ?_
          refine g_istore C dX3_heardBy_105 (lv' := [(10, .int (iI (-1000))), (9, .int (iI (noise - (g 6 1)))), (8, .int (iI (level - (g 6 1)))), (7, .int (iI (level - (g 6 (6 + 6 * 0 + tone) - (g 6 (18 + 6 * 0 + tone)))))), (6, .int (iI 1)), (0, .ref m), (1, .int (iI 0)), (2, .int (iI 0)), (3, .int (iI tone)), (4, .int (iI level)), (5, .int (iI noise))]) (Nat.le_of_ble_eq_true rfl) rfl ?_
          refine g_aload_n C dX3_heardBy_107 5 rfl ?_
          refine g_iload_n C dX3_heardBy_108 7 rfl ?_
          refine g_iload_n C dX3_heardBy_109 8 rfl ?_
          refine g_iload C dX3_heardBy_110 3 rfl ?_
          refine g_iload C dX3_heardBy_112 1 rfl ?_
          refine g_callV C dX3_heardBy_114 lkX3_184 M.o rfl (As := [.int (iI 0), .int (iI tone), .int (iI (level - (g 6 (6 + 6 * 0 + tone) - (g 6 (18 + 6 * 0 + tone))))), .int (iI (noise - (g 6 1)))]) (c_X3_isHeardBy M 0 tone (level - (g 6 (6 + 6 * 0 + tone) - (g 6 (18 + 6 * 0 + tone)))) (noise - (g 6 1)) hO (by omega) (by omega) (by omega) (by omega) (by omega) (by omega)) rfl rfl ⟨Nat.le_of_ble_eq_true rfl, Nat.le_of_ble_eq_true rfl⟩ (Nat.le_of_ble_eq_true rfl) ?_
          rintro _ _ ⟨rfl, rfl⟩
          refine g_ifF C dX3_heardBy_117 (tgt := 126) (by decide) (fun c117 => ?_) (fun c117 => ?_)
          · refine g_iconst C dX3_heardBy_126 ?_
            refine g_istore C dX3_heardBy_127 (lv' := [(11, .int (iI 0)), (10, .int (iI (-1000))), (9, .int (iI (noise - (g 6 1)))), (8, .int (iI (level - (g 6 1)))), (7, .int (iI (level - (g 6 (6 + 6 * 0 + tone) - (g 6 (18 + 6 * 0 + tone)))))), (6, .int (iI 1)), (0, .ref m), (1, .int (iI 0)), (2, .int (iI 0)), (3, .int (iI tone)), (4, .int (iI level)), (5, .int (iI noise))]) (Nat.le_of_ble_eq_true rfl) rfl ?_
            refine g_aload_n C dX3_heardBy_129 6 rfl ?_
            refine g_iload C dX3_heardBy_130 5 rfl ?_
            refine g_iload_n C dX3_heardBy_132 9 rfl ?_
            refine g_iload C dX3_heardBy_133 3 rfl ?_
            refine g_iload C dX3_heardBy_135 1 rfl ?_
            refine g_callV C dX3_heardBy_137 lkX3_184 M.o rfl (As := [.int (iI 1), .int (iI tone), .int (iI (level - (g 6 1))), .int (iI (-1000))]) (c_X3_isHeardBy M 1 tone (level - (g 6 1)) (-1000) hO (by omega) (by omega) (by decide) (by decide) (by omega) (by omega)) rfl rfl ⟨Nat.le_of_ble_eq_true rfl, Nat.le_of_ble_eq_true rfl⟩ (Nat.le_of_ble_eq_true rfl) ?_
            rintro _ _ ⟨rfl, rfl⟩
            refine g_ifF C dX3_heardBy_140 (tgt := 153) (by decide) (fun c140 => ?_) (fun c140 => ?_)
            · refine g_iload C dX3_heardBy_153 0 rfl ?_
              refine g_iret C E dX3_heardBy_155 rfl ?_
              exact ⟨rI (by grind [mHB, mHear, gb]), rfl⟩
            · refine g_iload C dX3_heardBy_143 0 rfl ?_
              refine g_iconst C dX3_heardBy_145 ?_
              refine g_iload C dX3_heardBy_146 5 rfl ?_
              refine g_ishl C dX3_heardBy_148 (v := 2) (by decide) ?_
              refine g_ior C dX3_heardBy_149 (v := 2) (by decide) ?_
              refine g_goto C dX3_heardBy_150 (tgt := 155) (by decide) ?_
              refine g_iret C E dX3_heardBy_155 rfl ?_
              exact ⟨rI (by grind [mHB, mHear, gb]), rfl⟩
          · refine g_iconst C dX3_heardBy_120 ?_
            refine g_iload_n C dX3_heardBy_121 7 rfl ?_
            refine g_ishl C dX3_heardBy_122 (v := 1) (by decide) ?_
            refine g_goto C dX3_heardBy_123 (tgt := 127) (by decide) ?_
            refine g_istore C dX3_heardBy_127 (lv' := [(11, .int (iI 1)), (10, .int (iI (-1000))), (9, .int (iI (noise - (g 6 1)))), (8, .int (iI (level - (g 6 1)))), (7, .int (iI (level - (g 6 (6 + 6 * 0 + tone) - (g 6 (18 + 6 * 0 + tone)))))), (6, .int (iI 1)), (0, .ref m), (1, .int (iI 0)), (2, .int (iI 0)), (3, .int (iI tone)), (4, .int (iI level)), (5, .int (iI noise))]) (Nat.le_of_ble_eq_true rfl) rfl ?_
            refine g_aload_n C dX3_heardBy_129 6 rfl ?_
            refine g_iload C dX3_heardBy_130 5 rfl ?_
            refine g_iload_n C dX3_heardBy_132 9 rfl ?_
            refine g_iload C dX3_heardBy_133 3 rfl ?_
            refine g_iload C dX3_heardBy_135 1 rfl ?_
            refine g_callV C dX3_heardBy_137 lkX3_184 M.o rfl (As := [.int (iI 1), .int (iI tone), .int (iI (level - (g 6 1))), .int (iI (-1000))]) (c_X3_isHeardBy M 1 tone (level - (g 6 1)) (-1000) hO (by omega) (by omega) (by decide) (by decide) (by omega) (by omega)) rfl rfl ⟨Nat.le_of_ble_eq_true rfl, Nat.le_of_ble_eq_true rfl⟩ (Nat.le_of_ble_eq_true rfl) ?_
            rintro _ _ ⟨rfl, rfl⟩
            refine g_ifF C dX3_heardBy_140 (tgt := 153) (by decide) (fun c140 => ?_) (fun c140 => ?_)
            · refine g_iload C dX3_heardBy_153 0 rfl ?_
              refine g_iret C E dX3_heardBy_155 rfl ?_
              exact ⟨rI (by grind [mHB, mHear, gb]), rfl⟩
            · refine g_iload C dX3_heardBy_143 0 rfl ?_
              refine g_iconst C dX3_heardBy_145 ?_
              refine g_iload C dX3_heardBy_146 5 rfl ?_
              refine g_ishl C dX3_heardBy_148 (v := 2) (by decide) ?_
              refine g_ior C dX3_heardBy_149 (v := 3) (by decide) ?_
              refine g_goto C dX3_heardBy_150 (tgt := 155) (by decide) ?_
              refine g_iret C E dX3_heardBy_155 rfl ?_
              exact ⟨rI (by grind [mHB, mHear, gb]), rfl⟩
      · refine g_sipush C dX3_heardBy_58 (by decide) ?_
        refine g_goto C dX3_heardBy_61 (tgt := 73) (by decide) ?_
        refine g_istore C dX3_heardBy_73 (lv' := [(9, .int (iI (-1000))), (8, .int (iI (level - (g 6 1)))), (7, .int (iI (level - (g 6 (6 + 6 * 0 + tone) - (g 6 (18 + 6 * 0 + tone)))))), (6, .int (iI 1)), (0, .ref m), (1, .int (iI 0)), (2, .int (iI 0)), (3, .int (iI tone)), (4, .int (iI level)), (5, .int (iI noise))]) (Nat.le_of_ble_eq_true rfl) rfl ?_
        refine g_iload C dX3_heardBy_75 9 rfl ?_
        refine g_iconst C dX3_heardBy_77 ?_
        refine g_icmp_ne C dX3_heardBy_78 (tgt := 87) (by decide) (gRo (by omega) (by omega)) (gRo (by decide) (by decide)) (fun c78 => ?_) (fun c78 => ?_)
        · refine g_iload C dX3_heardBy_87 9 rfl ?_
          refine g_aload_n C dX3_heardBy_89 4 rfl ?_
          refine g_iload C dX3_heardBy_90 3 rfl ?_
          refine g_iload_n C dX3_heardBy_92 7 rfl ?_
          refine g_callV C dX3_heardBy_93 lkX3_181 M.o rfl (As := [.int (iI 1), .int (iI tone)]) (c_X3_airOf M 1 tone (by omega) (by omega)) rfl rfl ⟨Nat.le_of_ble_eq_true rfl, Nat.le_of_ble_eq_true rfl⟩ (Nat.le_of_ble_eq_true rfl) ?_
          rintro _ _ ⟨rfl, rfl⟩
          have b5 := hiA (6 + 6 * 1 + tone) (by omega) (by omega)
          refine g_aload_n C dX3_heardBy_96 4 rfl ?_
          refine g_iload C dX3_heardBy_97 3 rfl ?_
          refine g_iload_n C dX3_heardBy_99 7 rfl ?_
          refine g_callV C dX3_heardBy_100 lkX3_177 M.o rfl (As := [.int (iI 1), .int (iI tone)]) (c_X3_boneOf M 1 tone (by omega) (by omega)) rfl rfl ⟨Nat.le_of_ble_eq_true rfl, Nat.le_of_ble_eq_true rfl⟩ (Nat.le_of_ble_eq_true rfl) ?_
          rintro _ _ ⟨rfl, rfl⟩
          have b6 := hiA (18 + 6 * 1 + tone) (by omega) (by omega)
          refine g_isub C dX3_heardBy_103 (v := g 6 (6 + 6 * 1 + tone) - (g 6 (18 + 6 * 1 + tone))) rfl ?_
          refine g_isub C dX3_heardBy_104 (v := noise - (g 6 (6 + 6 * 1 + tone) - (g 6 (18 + 6 * 1 + tone)))) rfl ?_
          refine g_istore C dX3_heardBy_105 (lv' := [(10, .int (iI (noise - (g 6 (6 + 6 * 1 + tone) - (g 6 (18 + 6 * 1 + tone)))))), (9, .int (iI (-1000))), (8, .int (iI (level - (g 6 1)))), (7, .int (iI (level - (g 6 (6 + 6 * 0 + tone) - (g 6 (18 + 6 * 0 + tone)))))), (6, .int (iI 1)), (0, .ref m), (1, .int (iI 0)), (2, .int (iI 0)), (3, .int (iI tone)), (4, .int (iI level)), (5, .int (iI noise))]) (Nat.le_of_ble_eq_true rfl) rfl ?_
          refine g_aload_n C dX3_heardBy_107 5 rfl ?_
          refine g_iload_n C dX3_heardBy_108 7 rfl ?_
          refine g_iload_n C dX3_heardBy_109 8 rfl ?_
          refine g_iload C dX3_heardBy_110 3 rfl ?_
          refine g_iload C dX3_heardBy_112 1 rfl ?_
          refine g_callV C dX3_heardBy_114 lkX3_184 M.o rfl (As := [.int (iI 0), .int (iI tone), .int (iI (level - (g 6 (6 + 6 * 0 + tone) - (g 6 (18 + 6 * 0 + tone))))), .int (iI (-1000))]) (c_X3_isHeardBy M 0 tone (level - (g 6 (6 + 6 * 0 + tone) - (g 6 (18 + 6 * 0 + tone)))) (-1000) hO (by omega) (by omega) (by decide) (by decide) (by omega) (by omega)) rfl rfl ⟨Nat.le_of_ble_eq_true rfl, Nat.le_of_ble_eq_true rfl⟩ (Nat.le_of_ble_eq_true rfl) ?_
          rintro _ _ ⟨rfl, rfl⟩
          refine g_ifF C dX3_heardBy_117 (tgt := 126) (by decide) (fun c117 => ?_) (fun c117 => ?_)
          · refine g_iconst C dX3_heardBy_126 ?_
            refine g_istore C dX3_heardBy_127 (lv' := [(11, .int (iI 0)), (10, .int (iI (noise - (g 6 (6 + 6 * 1 + tone) - (g 6 (18 + 6 * 1 + tone)))))), (9, .int (iI (-1000))), (8, .int (iI (level - (g 6 1)))), (7, .int (iI (level - (g 6 (6 + 6 * 0 + tone) - (g 6 (18 + 6 * 0 + tone)))))), (6, .int (iI 1)), (0, .ref m), (1, .int (iI 0)), (2, .int (iI 0)), (3, .int (iI tone)), (4, .int (iI level)), (5, .int (iI noise))]) (Nat.le_of_ble_eq_true rfl) rfl ?_
            refine g_aload_n C dX3_heardBy_129 6 rfl ?_
            refine g_iload C dX3_heardBy_130 5 rfl ?_
            refine g_iload_n C dX3_heardBy_132 9 rfl ?_
            refine g_iload C dX3_heardBy_133 3 rfl ?_
            refine g_iload C dX3_heardBy_135 1 rfl ?_
            refine g_callV C dX3_heardBy_137 lkX3_184 M.o rfl (As := [.int (iI 1), .int (iI tone), .int (iI (level - (g 6 1))), .int (iI (noise - (g 6 (6 + 6 * 1 + tone) - (g 6 (18 + 6 * 1 + tone)))))]) (c_X3_isHeardBy M 1 tone (level - (g 6 1)) (noise - (g 6 (6 + 6 * 1 + tone) - (g 6 (18 + 6 * 1 + tone)))) hO (by omega) (by omega) (by omega) (by omega) (by omega) (by omega)) rfl rfl ⟨Nat.le_of_ble_eq_true rfl, Nat.le_of_ble_eq_true rfl⟩ (Nat.le_of_ble_eq_true rfl) ?_
            rintro _ _ ⟨rfl, rfl⟩
            refine g_ifF C dX3_heardBy_140 (tgt := 153) (by decide) (fun c140 => ?_) (fun c140 => ?_)
            · refine g_iload C dX3_heardBy_153 0 rfl ?_
              refine g_iret C E dX3_heardBy_155 rfl ?_
              exact ⟨rI (by grind [mHB, mHear, gb]), rfl⟩
            · refine g_iload C dX3_heardBy_143 0 rfl ?_
              refine g_iconst C dX3_heardBy_145 ?_
              refine g_iload C dX3_heardBy_146 5 rfl ?_
              refine g_ishl C dX3_heardBy_148 (v := 2) (by decide) ?_
              refine g_ior C dX3_heardBy_149 (v := 2) (by decide) ?_
              refine g_goto C dX3_heardBy_150 (tgt := 155) (by decide) ?_
              refine g_iret C E dX3_heardBy_155 rfl ?_
              exact ⟨rI (by grind [mHB, mHear, gb]), rfl⟩
          · refine g_iconst C dX3_heardBy_120 ?_
            refine g_iload_n C dX3_heardBy_121 7 rfl ?_
            refine g_ishl C dX3_heardBy_122 (v := 1) (by decide) ?_
            refine g_goto C dX3_heardBy_123 (tgt := 127) (by decide) ?_
            refine g_istore C dX3_heardBy_127 (lv' := [(11, .int (iI 1)), (10, .int (iI (noise - (g 6 (6 + 6 * 1 + tone) - (g 6 (18 + 6 * 1 + tone)))))), (9, .int (iI (-1000))), (8, .int (iI (level - (g 6 1)))), (7, .int (iI (level - (g 6 (6 + 6 * 0 + tone) - (g 6 (18 + 6 * 0 + tone)))))), (6, .int (iI 1)), (0, .ref m), (1, .int (iI 0)), (2, .int (iI 0)), (3, .int (iI tone)), (4, .int (iI level)), (5, .int (iI noise))]) (Nat.le_of_ble_eq_true rfl) rfl ?_
            refine g_aload_n C dX3_heardBy_129 6 rfl ?_
            refine g_iload C dX3_heardBy_130 5 rfl ?_
            refine g_iload_n C dX3_heardBy_132 9 rfl ?_
            refine g_iload C dX3_heardBy_133 3 rfl ?_
            refine g_iload C dX3_heardBy_135 1 rfl ?_
            refine g_callV C dX3_heardBy_137 lkX3_184 M.o rfl (As := [.int (iI 1), .int (iI tone), .int (iI (level - (g 6 1))), .int (iI (noise - (g 6 (6 + 6 * 1 + tone) - (g 6 (18 + 6 * 1 + tone)))))]) (c_X3_isHeardBy M 1 tone (level - (g 6 1)) (noise - (g 6 (6 + 6 * 1 + tone) - (g 6 (18 + 6 * 1 + tone)))) hO (by omega) (by omega) (by omega) (by omega) (by omega) (by omega)) rfl rfl ⟨Nat.le_of_ble_eq_true rfl, Nat.le_of_ble_eq_true rfl⟩ (Nat.le_of_ble_eq_true rfl) ?_
            rintro _ _ ⟨rfl, rfl⟩
            refine g_ifF C dX3_heardBy_140 (tgt := 153) (by decide) (fun c140 => ?_) (fun c140 => ?_)
            · refine g_iload C dX3_heardBy_153 0 rfl ?_
              refine g_iret C E dX3_heardBy_155 rfl ?_
              exact ⟨rI (by grind [mHB, mHear, gb]), rfl⟩
            · refine g_iload C dX3_heardBy_143 0 rfl ?_
              refine g_iconst C dX3_heardBy_145 ?_
              refine g_iload C dX3_heardBy_146 5 rfl ?_
              refine g_ishl C dX3_heardBy_148 (v := 2) (by decide) ?_
              refine g_ior C dX3_heardBy_149 (v := 3) (by decide) ?_
              refine g_goto C dX3_heardBy_150 (tgt := 155) (by decide) ?_
              refine g_iret C E dX3_heardBy_155 rfl ?_
              exact ⟨rI (by grind [mHB, mHear, gb]), rfl⟩
        · refine g_sipush C dX3_heardBy_81 (by decide) ?_
          refine g_goto C dX3_heardBy_84 (tgt := 105) (by decide) ?_
          refine g_istore C dX3_heardBy_105 (lv' := [(10, .int (iI (-1000))), (9, .int (iI (-1000))), (8, .int (iI (level - (g 6 1)))), (7, .int (iI (level - (g 6 (6 + 6 * 0 + tone) - (g 6 (18 + 6 * 0 + tone)))))), (6, .int (iI 1)), (0, .ref m), (1, .int (iI 0)), (2, .int (iI 0)), (3, .int (iI tone)), (4, .int (iI level)), (5, .int (iI noise))]) (Nat.le_of_ble_eq_true rfl) rfl ?_
          refine g_aload_n C dX3_heardBy_107 5 rfl ?_
          refine g_iload_n C dX3_heardBy_108 7 rfl ?_
          refine g_iload_n C dX3_heardBy_109 8 rfl ?_
          refine g_iload C dX3_heardBy_110 3 rfl ?_
          refine g_iload C dX3_heardBy_112 1 rfl ?_
          refine g_callV C dX3_heardBy_114 lkX3_184 M.o rfl (As := [.int (iI 0), .int (iI tone), .int (iI (level - (g 6 (6 + 6 * 0 + tone) - (g 6 (18 + 6 * 0 + tone))))), .int (iI (-1000))]) (c_X3_isHeardBy M 0 tone (level - (g 6 (6 + 6 * 0 + tone) - (g 6 (18 + 6 * 0 + tone)))) (-1000) hO (by omega) (by omega) (by decide) (by decide) (by omega) (by omega)) rfl rfl ⟨Nat.le_of_ble_eq_true rfl, Nat.le_of_ble_eq_true rfl⟩ (Nat.le_of_ble_eq_true rfl) ?_
          rintro _ _ ⟨rfl, rfl⟩
          refine g_ifF C dX3_heardBy_117 (tgt := 126) (by decide) (fun c117 => ?_) (fun c117 => ?_)
          · refine g_iconst C dX3_heardBy_126 ?_
            refine g_istore C dX3_heardBy_127 (lv' := [(11, .int (iI 0)), (10, .int (iI (-1000))), (9, .int (iI (-1000))), (8, .int (iI (level - (g 6 1)))), (7, .int (iI (level - (g 6 (6 + 6 * 0 + tone) - (g 6 (18 + 6 * 0 + tone)))))), (6, .int (iI 1)), (0, .ref m), (1, .int (iI 0)), (2, .int (iI 0)), (3, .int (iI tone)), (4, .int (iI level)), (5, .int (iI noise))]) (Nat.le_of_ble_eq_true rfl) rfl ?_
            refine g_aload_n C dX3_heardBy_129 6 rfl ?_
            refine g_iload C dX3_heardBy_130 5 rfl ?_
            refine g_iload_n C dX3_heardBy_132 9 rfl ?_
            refine g_iload C dX3_heardBy_133 3 rfl ?_
            refine g_iload C dX3_heardBy_135 1 rfl ?_
            refine g_callV C dX3_heardBy_137 lkX3_184 M.o rfl (As := [.int (iI 1), .int (iI tone), .int (iI (level - (g 6 1))), .int (iI (-1000))]) (c_X3_isHeardBy M 1 tone (level - (g 6 1)) (-1000) hO (by omega) (by omega) (by decide) (by decide) (by omega) (by omega)) rfl rfl ⟨Nat.le_of_ble_eq_true rfl, Nat.le_of_ble_eq_true rfl⟩ (Nat.le_of_ble_eq_true rfl) ?_
            rintro _ _ ⟨rfl, rfl⟩
            refine g_ifF C dX3_heardBy_140 (tgt := 153) (by decide) (fun c140 => ?_) (fun c140 => ?_)
            · refine g_iload C dX3_heardBy_153 0 rfl ?_
              refine g_iret C E dX3_heardBy_155 rfl ?_
              exact ⟨rI (by grind [mHB, mHear, gb]), rfl⟩
            · refine g_iload C dX3_heardBy_143 0 rfl ?_
              refine g_iconst C dX3_heardBy_145 ?_
              refine g_iload C dX3_heardBy_146 5 rfl ?_
              refine g_ishl C dX3_heardBy_148 (v := 2) (by decide) ?_
              refine g_ior C dX3_heardBy_149 (v := 2) (by decide) ?_
              refine g_goto C dX3_heardBy_150 (tgt := 155) (by decide) ?_
              refine g_iret C E dX3_heardBy_155 rfl ?_
              exact ⟨rI (by grind [mHB, mHear, gb]), rfl⟩
          · refine g_iconst C dX3_heardBy_120 ?_
            refine g_iload_n C dX3_heardBy_121 7 rfl ?_
            refine g_ishl C dX3_heardBy_122 (v := 1) (by decide) ?_
            refine g_goto C dX3_heardBy_123 (tgt := 127) (by decide) ?_
            refine g_istore C dX3_heardBy_127 (lv' := [(11, .int (iI 1)), (10, .int (iI (-1000))), (9, .int (iI (-1000))), (8, .int (iI (level - (g 6 1)))), (7, .int (iI (level - (g 6 (6 + 6 * 0 + tone) - (g 6 (18 + 6 * 0 + tone)))))), (6, .int (iI 1)), (0, .ref m), (1, .int (iI 0)), (2, .int (iI 0)), (3, .int (iI tone)), (4, .int (iI level)), (5, .int (iI noise))]) (Nat.le_of_ble_eq_true rfl) rfl ?_
            refine g_aload_n C dX3_heardBy_129 6 rfl ?_
            refine g_iload C dX3_heardBy_130 5 rfl ?_
            refine g_iload_n C dX3_heardBy_132 9 rfl ?_
            refine g_iload C dX3_heardBy_133 3 rfl ?_
            refine g_iload C dX3_heardBy_135 1 rfl ?_
            refine g_callV C dX3_heardBy_137 lkX3_184 M.o rfl (As := [.int (iI 1), .int (iI tone), .int (iI (level - (g 6 1))), .int (iI (-1000))]) (c_X3_isHeardBy M 1 tone (level - (g 6 1)) (-1000) hO (by omega) (by omega) (by decide) (by decide) (by omega) (by omega)) rfl rfl ⟨Nat.le_of_ble_eq_true rfl, Nat.le_of_ble_eq_true rfl⟩ (Nat.le_of_ble_eq_true rfl) ?_
            rintro _ _ ⟨rfl, rfl⟩
            refine g_ifF C dX3_heardBy_140 (tgt := 153) (by decide) (fun c140 => ?_) (fun c140 => ?_)
            · refine g_iload C dX3_heardBy_153 0 rfl ?_
              refine g_iret C E dX3_heardBy_155 rfl ?_
              exact ⟨rI (by grind [mHB, mHear, gb]), rfl⟩
            · refine g_iload C dX3_heardBy_143 0 rfl ?_
              refine g_iconst C dX3_heardBy_145 ?_
              refine g_iload C dX3_heardBy_146 5 rfl ?_
              refine g_ishl C dX3_heardBy_148 (v := 2) (by decide) ?_
              refine g_ior C dX3_heardBy_149 (v := 3) (by decide) ?_
              refine g_goto C dX3_heardBy_150 (tgt := 155) (by decide) ?_
              refine g_iret C E dX3_heardBy_155 rfl ?_
              exact ⟨rI (by grind [mHB, mHear, gb]), rfl⟩
    · refine g_iconst C dX3_heardBy_0 ?_
      refine g_iload_n C dX3_heardBy_1 2 rfl ?_
      refine g_isub C dX3_heardBy_2 (v := 0) (by decide) ?_
      refine g_istore C dX3_heardBy_3 (lv' := [(6, .int (iI 0)), (0, .ref m), (1, .int (iI 0)), (2, .int (iI 1)), (3, .int (iI tone)), (4, .int (iI level)), (5, .int (iI noise))]) (Nat.le_of_ble_eq_true rfl) rfl ?_
      refine g_iload_n C dX3_heardBy_5 2 rfl ?_
      refine g_if_ne C dX3_heardBy_6 (tgt := 28) (by decide) (gRo (by decide) (by decide)) (fun q => absurd (by decide) q) (fun _ => ?_)
      refine g_iload C dX3_heardBy_9 5 rfl ?_
      refine g_aload_n C dX3_heardBy_11 1 rfl ?_
      refine g_iload_n C dX3_heardBy_12 3 rfl ?_
      refine g_iload_n C dX3_heardBy_13 4 rfl ?_
      refine g_callV C dX3_heardBy_14 lkX3_181 M.o rfl (As := [.int (iI 1), .int (iI tone)]) (c_X3_airOf M 1 tone (by omega) (by omega)) rfl rfl ⟨Nat.le_of_ble_eq_true rfl, Nat.le_of_ble_eq_true rfl⟩ (Nat.le_of_ble_eq_true rfl) ?_
      rintro _ _ ⟨rfl, rfl⟩
      have b7 := hiA (6 + 6 * 1 + tone) (by omega) (by omega)
      refine g_aload_n C dX3_heardBy_17 1 rfl ?_
      refine g_iload_n C dX3_heardBy_18 3 rfl ?_
      refine g_iload_n C dX3_heardBy_19 4 rfl ?_
      refine g_callV C dX3_heardBy_20 lkX3_177 M.o rfl (As := [.int (iI 1), .int (iI tone)]) (c_X3_boneOf M 1 tone (by omega) (by omega)) rfl rfl ⟨Nat.le_of_ble_eq_true rfl, Nat.le_of_ble_eq_true rfl⟩ (Nat.le_of_ble_eq_true rfl) ?_
      rintro _ _ ⟨rfl, rfl⟩
      have b8 := hiA (18 + 6 * 1 + tone) (by omega) (by omega)
      refine g_isub C dX3_heardBy_23 (v := g 6 (6 + 6 * 1 + tone) - (g 6 (18 + 6 * 1 + tone))) rfl ?_
      refine g_isub C dX3_heardBy_24 (v := level - (g 6 (6 + 6 * 1 + tone) - (g 6 (18 + 6 * 1 + tone)))) rfl ?_
      refine g_goto C dX3_heardBy_25 (tgt := 30) (by decide) ?_
      refine g_istore C dX3_heardBy_30 (lv' := [(7, .int (iI (level - (g 6 (6 + 6 * 1 + tone) - (g 6 (18 + 6 * 1 + tone)))))), (6, .int (iI 0)), (0, .ref m), (1, .int (iI 0)), (2, .int (iI 1)), (3, .int (iI tone)), (4, .int (iI level)), (5, .int (iI noise))]) (Nat.le_of_ble_eq_true rfl) rfl ?_
      refine g_iload_n C dX3_heardBy_32 3 rfl ?_
      refine g_if_ne C dX3_heardBy_33 (tgt := 48) (by decide) (gRo (by decide) (by decide)) (fun q => absurd (by decide) q) (fun _ => ?_)
      refine g_iload C dX3_heardBy_36 6 rfl ?_
      refine g_aload_n C dX3_heardBy_38 2 rfl ?_
      refine g_get C dX3_heardBy_39 kcX3 6 q1469 (fun _ _ _ _ h9 => h9) M.o (Nat.le_of_ble_eq_true rfl) rfl ?_
      refine g_iconst C dX3_heardBy_42 ?_
      refine g_iald C dX3_heardBy_43 (v := g 6 1) M.a6 (by decide) (by decide) (by decide) rfl ?_
      refine g_isub C dX3_heardBy_44 (v := level - (g 6 1)) rfl ?_
      refine g_goto C dX3_heardBy_45 (tgt := 50) (by decide) ?_
      refine g_istore C dX3_heardBy_50 (lv' := [(8, .int (iI (level - (g 6 1)))), (7, .int (iI (level - (g 6 (6 + 6 * 1 + tone) - (g 6 (18 + 6 * 1 + tone)))))), (6, .int (iI 0)), (0, .ref m), (1, .int (iI 0)), (2, .int (iI 1)), (3, .int (iI tone)), (4, .int (iI level)), (5, .int (iI noise))]) (Nat.le_of_ble_eq_true rfl) rfl ?_
      refine g_iload C dX3_heardBy_52 8 rfl ?_
      refine g_iconst C dX3_heardBy_54 ?_
      refine g_icmp_ne C dX3_heardBy_55 (tgt := 64) (by decide) (gRo (by omega) (by omega)) (gRo (by decide) (by decide)) (fun c55 => ?_) (fun c55 => ?_)
      · refine g_iload C dX3_heardBy_64 8 rfl ?_
        refine g_aload_n C dX3_heardBy_66 3 rfl ?_
        refine g_get C dX3_heardBy_67 kcX3 6 q1469 (fun _ _ _ _ h9 => h9) M.o (Nat.le_of_ble_eq_true rfl) rfl ?_
        refine g_iconst C dX3_heardBy_70 ?_
        refine g_iald C dX3_heardBy_71 (v := g 6 1) M.a6 (by decide) (by decide) (by decide) rfl ?_
        refine g_isub C dX3_heardBy_72 (v := noise - (g 6 1)) rfl ?_
        refine g_istore C dX3_heardBy_73 (lv' := [(9, .int (iI (noise - (g 6 1)))), (8, .int (iI (level - (g 6 1)))), (7, .int (iI (level - (g 6 (6 + 6 * 1 + tone) - (g 6 (18 + 6 * 1 + tone)))))), (6, .int (iI 0)), (0, .ref m), (1, .int (iI 0)), (2, .int (iI 1)), (3, .int (iI tone)), (4, .int (iI level)), (5, .int (iI noise))]) (Nat.le_of_ble_eq_true rfl) rfl ?_
        refine g_iload C dX3_heardBy_75 9 rfl ?_
        refine g_iconst C dX3_heardBy_77 ?_
        refine g_icmp_ne C dX3_heardBy_78 (tgt := 87) (by decide) (gRo (by omega) (by omega)) (gRo (by decide) (by decide)) (fun c78 => ?_) (fun c78 => ?_)
        · refine g_iload C dX3_heardBy_87 9 rfl ?_
          refine g_aload_n C dX3_heardBy_89 4 rfl ?_
          refine g_iload C dX3_heardBy_90 3 rfl ?_
          refine g_iload_n C dX3_heardBy_92 7 rfl ?_
          refine g_callV C dX3_heardBy_93 lkX3_181 M.o rfl (As := [.int (iI 0), .int (iI tone)]) (c_X3_airOf M 0 tone (by omega) (by omega)) rfl rfl ⟨Nat.le_of_ble_eq_true rfl, Nat.le_of_ble_eq_true rfl⟩ (Nat.le_of_ble_eq_true rfl) ?_
          rintro _ _ ⟨rfl, rfl⟩
          have b9 := hiA (6 + 6 * 0 + tone) (by omega) (by omega)
          refine g_aload_n C dX3_heardBy_96 4 rfl ?_
          refine g_iload C dX3_heardBy_97 3 rfl ?_
          refine g_iload_n C dX3_heardBy_99 7 rfl ?_
          refine g_callV C dX3_heardBy_100 lkX3_177 M.o rfl (As := [.int (iI 0), .int (iI tone)]) (c_X3_boneOf M 0 tone (by omega) (by omega)) rfl rfl ⟨Nat.le_of_ble_eq_true rfl, Nat.le_of_ble_eq_true rfl⟩ (Nat.le_of_ble_eq_true rfl) ?_
          rintro _ _ ⟨rfl, rfl⟩
          have b10 := hiA (18 + 6 * 0 + tone) (by omega) (by omega)
          refine g_isub C dX3_heardBy_103 (v := g 6 (6 + 6 * 0 + tone) - (g 6 (18 + 6 * 0 + tone))) rfl ?_
          refine g_isub C dX3_heardBy_104 (v := noise - (g 6 (6 + 6 * 0 + tone) - (g 6 (18 + 6 * 0 + tone)))) rfl ?_
          refine g_istore C dX3_heardBy_105 (lv' := [(10, .int (iI (noise - (g 6 (6 + 6 * 0 + tone) - (g 6 (18 + 6 * 0 + tone)))))), (9, .int (iI (noise - (g 6 1)))), (8, .int (iI (level - (g 6 1)))), (7, .int (iI (level - (g 6 (6 + 6 * 1 + tone) - (g 6 (18 + 6 * 1 + tone)))))), (6, .int (iI 0)), (0, .ref m), (1, .int (iI 0)), (2, .int (iI 1)), (3, .int (iI tone)), (4, .int (iI level)), (5, .int (iI noise))]) (Nat.le_of_ble_eq_true rfl) rfl ?_
          refine g_aload_n C dX3_heardBy_107 5 rfl ?_
          refine g_iload_n C dX3_heardBy_108 7 rfl ?_
          refine g_iload_n C dX3_heardBy_109 8 rfl ?_
          refine g_iload C dX3_heardBy_110 3 rfl ?_
          refine g_iload C dX3_heardBy_112 1 rfl ?_
          refine g_callV C dX3_heardBy_114 lkX3_184 M.o rfl (As := [.int (iI 1), .int (iI tone), .int (iI (level - (g 6 (6 + 6 * 1 + tone) - (g 6 (18 + 6 * 1 + tone))))), .int (iI (noise - (g 6 1)))]) (c_X3_isHeardBy M 1 tone (level - (g 6 (6 + 6 * 1 + tone) - (g 6 (18 + 6 * 1 + tone)))) (noise - (g 6 1)) hO (by omega) (by omega) (by omega) (by omega) (by omega) (by omega)) rfl rfl ⟨Nat.le_of_ble_eq_true rfl, Nat.le_of_ble_eq_true rfl⟩ (Nat.le_of_ble_eq_true rfl) ?_
          rintro _ _ ⟨rfl, rfl⟩
          refine g_ifF C dX3_heardBy_117 (tgt := 126) (by decide) (fun c117 => ?_) (fun c117 => ?_)
          · refine g_iconst C dX3_heardBy_126 ?_
            refine g_istore C dX3_heardBy_127 (lv' := [(11, .int (iI 0)), (10, .int (iI (noise - (g 6 (6 + 6 * 0 + tone) - (g 6 (18 + 6 * 0 + tone)))))), (9, .int (iI (noise - (g 6 1)))), (8, .int (iI (level - (g 6 1)))), (7, .int (iI (level - (g 6 (6 + 6 * 1 + tone) - (g 6 (18 + 6 * 1 + tone)))))), (6, .int (iI 0)), (0, .ref m), (1, .int (iI 0)), (2, .int (iI 1)), (3, .int (iI tone)), (4, .int (iI level)), (5, .int (iI noise))]) (Nat.le_of_ble_eq_true rfl) rfl ?_
            refine g_aload_n C dX3_heardBy_129 6 rfl ?_
            refine g_iload C dX3_heardBy_130 5 rfl ?_
            refine g_iload_n C dX3_heardBy_132 9 rfl ?_
            refine g_iload C dX3_heardBy_133 3 rfl ?_
            refine g_iload C dX3_heardBy_135 1 rfl ?_
            refine g_callV C dX3_heardBy_137 lkX3_184 M.o rfl (As := [.int (iI 0), .int (iI tone), .int (iI (level - (g 6 1))), .int (iI (noise - (g 6 (6 + 6 * 0 + tone) - (g 6 (18 + 6 * 0 + tone)))))]) (c_X3_isHeardBy M 0 tone (level - (g 6 1)) (noise - (g 6 (6 + 6 * 0 + tone) - (g 6 (18 + 6 * 0 + tone)))) hO (by omega) (by omega) (by omega) (by omega) (by omega) (by omega)) rfl rfl ⟨Nat.le_of_ble_eq_true rfl, Nat.le_of_ble_eq_true rfl⟩ (Nat.le_of_ble_eq_true rfl) ?_
            rintro _ _ ⟨rfl, rfl⟩
            refine g_ifF C dX3_heardBy_140 (tgt := 153) (by decide) (fun c140 => ?_) (fun c140 => ?_)
            · refine g_iload C dX3_heardBy_153 0 rfl ?_
              refine g_iret C E dX3_heardBy_155 rfl ?_
              exact ⟨rI (by grind [mHB, mHear, gb]), rfl⟩
            · refine g_iload C dX3_heardBy_143 0 rfl ?_
              refine g_iconst C dX3_heardBy_145 ?_
              refine g_iload C dX3_heardBy_146 5 rfl ?_
              refine g_ishl C dX3_heardBy_148 (v := 1) (by decide) ?_
              refine g_ior C dX3_heardBy_149 (v := 1) (by decide) ?_
              refine g_goto C dX3_heardBy_150 (tgt := 155) (by decide) ?_
              refine g_iret C E dX3_heardBy_155 rfl ?_
              exact ⟨rI (by grind [mHB, mHear, gb]), rfl⟩
          · refine g_iconst C dX3_heardBy_120 ?_
            refine g_iload_n C dX3_heardBy_121 7 rfl ?_
            refine g_ishl C dX3_heardBy_122 (v := 2) (by decide) ?_
            refine g_goto C dX3_heardBy_123 (tgt := 127) (by decide) ?_
            refine g_istore C dX3_heardBy_127 (lv' := [(11, .int (iI 2)), (10, .int (iI (noise - (g 6 (6 + 6 * 0 + tone) - (g 6 (18 + 6 * 0 + tone)))))), (9, .int (iI (noise - (g 6 1)))), (8, .int (iI (level - (g 6 1)))), (7, .int (iI (level - (g 6 (6 + 6 * 1 + tone) - (g 6 (18 + 6 * 1 + tone)))))), (6, .int (iI 0)), (0, .ref m), (1, .int (iI 0)), (2, .int (iI 1)), (3, .int (iI tone)), (4, .int (iI level)), (5, .int (iI noise))]) (Nat.le_of_ble_eq_true rfl) rfl ?_
            refine g_aload_n C dX3_heardBy_129 6 rfl ?_
            refine g_iload C dX3_heardBy_130 5 rfl ?_
            refine g_iload_n C dX3_heardBy_132 9 rfl ?_
            refine g_iload C dX3_heardBy_133 3 rfl ?_
            refine g_iload C dX3_heardBy_135 1 rfl ?_
            refine g_callV C dX3_heardBy_137 lkX3_184 M.o rfl (As := [.int (iI 0), .int (iI tone), .int (iI (level - (g 6 1))), .int (iI (noise - (g 6 (6 + 6 * 0 + tone) - (g 6 (18 + 6 * 0 + tone)))))]) (c_X3_isHeardBy M 0 tone (level - (g 6 1)) (noise - (g 6 (6 + 6 * 0 + tone) - (g 6 (18 + 6 * 0 + tone)))) hO (by omega) (by omega) (by omega) (by omega) (by omega) (by omega)) rfl rfl ⟨Nat.le_of_ble_eq_true rfl, Nat.le_of_ble_eq_true rfl⟩ (Nat.le_of_ble_eq_true rfl) ?_
            rintro _ _ ⟨rfl, rfl⟩
            refine g_ifF C dX3_heardBy_140 (tgt := 153) (by decide) (fun c140 => ?_) (fun c140 => ?_)
            · refine g_iload C dX3_heardBy_153 0 rfl ?_
              refine g_iret C E dX3_heardBy_155 rfl ?_
              exact ⟨rI (by grind [mHB, mHear, gb]), rfl⟩
            · refine g_iload C dX3_heardBy_143 0 rfl ?_
              refine g_iconst C dX3_heardBy_145 ?_
              refine g_iload C dX3_heardBy_146 5 rfl ?_
              refine g_ishl C dX3_heardBy_148 (v := 1) (by decide) ?_
              refine g_ior C dX3_heardBy_149 (v := 3) (by decide) ?_
              refine g_goto C dX3_heardBy_150 (tgt := 155) (by decide) ?_
              refine g_iret C E dX3_heardBy_155 rfl ?_
              exact ⟨rI (by grind [mHB, mHear, gb]), rfl⟩
        · refine g_sipush C dX3_heardBy_81 (by decide) ?_
          refine g_goto C dX3_heardBy_84 (tgt := 105) (by decide) ?_
          refine g_istore C dX3_heardBy_105 (lv' := [(10, .int (iI (-1000))), (9, .int (iI (noise - (g 6 1)))), (8, .int (iI (level - (g 6 1)))), (7, .int (iI (level - (g 6 (6 + 6 * 1 + tone) - (g 6 (18 + 6 * 1 + tone)))))), (6, .int (iI 0)), (0, .ref m), (1, .int (iI 0)), (2, .int (iI 1)), (3, .int (iI tone)), (4, .int (iI level)), (5, .int (iI noise))]) (Nat.le_of_ble_eq_true rfl) rfl ?_
          refine g_aload_n C dX3_heardBy_107 5 rfl ?_
          refine g_iload_n C dX3_heardBy_108 7 rfl ?_
          refine g_iload_n C dX3_heardBy_109 8 rfl ?_
          refine g_iload C dX3_heardBy_110 3 rfl ?_
          refine g_iload C dX3_heardBy_112 1 rfl ?_
          refine g_callV C dX3_heardBy_114 lkX3_184 M.o rfl (As := [.int (iI 1), .int (iI tone), .int (iI (level - (g 6 (6 + 6 * 1 + tone) - (g 6 (18 + 6 * 1 + tone))))), .int (iI (noise - (g 6 1)))]) (c_X3_isHeardBy M 1 tone (level - (g 6 (6 + 6 * 1 + tone) - (g 6 (18 + 6 * 1 + tone)))) (noise - (g 6 1)) hO (by omega) (by omega) (by omega) (by omega) (by omega) (by omega)) rfl rfl ⟨Nat.le_of_ble_eq_true rfl, Nat.le_of_ble_eq_true rfl⟩ (Nat.le_of_ble_eq_true rfl) ?_
          rintro _ _ ⟨rfl, rfl⟩
          refine g_ifF C dX3_heardBy_117 (tgt := 126) (by decide) (fun c117 => ?_) (fun c117 => ?_)
          · refine g_iconst C dX3_heardBy_126 ?_
            refine g_istore C dX3_heardBy_127 (lv' := [(11, .int (iI 0)), (10, .int (iI (-1000))), (9, .int (iI (noise - (g 6 1)))), (8, .int (iI (level - (g 6 1)))), (7, .int (iI (level - (g 6 (6 + 6 * 1 + tone) - (g 6 (18 + 6 * 1 + tone)))))), (6, .int (iI 0)), (0, .ref m), (1, .int (iI 0)), (2, .int (iI 1)), (3, .int (iI tone)), (4, .int (iI level)), (5, .int (iI noise))]) (Nat.le_of_ble_eq_true rfl) rfl ?_
            refine g_aload_n C dX3_heardBy_129 6 rfl ?_
            refine g_iload C dX3_heardBy_130 5 rfl ?_
            refine g_iload_n C dX3_heardBy_132 9 rfl ?_
            refine g_iload C dX3_heardBy_133 3 rfl ?_
            refine g_iload C dX3_heardBy_135 1 rfl ?_
            refine g_callV C dX3_heardBy_137 lkX3_184 M.o rfl (As := [.int (iI 0), .int (iI tone), .int (iI (level - (g 6 1))), .int (iI (-1000))]) (c_X3_isHeardBy M 0 tone (level - (g 6 1)) (-1000) hO (by omega) (by omega) (by decide) (by decide) (by omega) (by omega)) rfl rfl ⟨Nat.le_of_ble_eq_true rfl, Nat.le_of_ble_eq_true rfl⟩ (Nat.le_of_ble_eq_true rfl) ?_
            rintro _ _ ⟨rfl, rfl⟩
            refine g_ifF C dX3_heardBy_140 (tgt := 153) (by decide) (fun c140 => ?_) (fun c140 => ?_)
            · refine g_iload C dX3_heardBy_153 0 rfl ?_
              refine g_iret C E dX3_heardBy_155 rfl ?_
              exact ⟨rI (by grind [mHB, mHear, gb]), rfl⟩
            · refine g_iload C dX3_heardBy_143 0 rfl ?_
              refine g_iconst C dX3_heardBy_145 ?_
              refine g_iload C dX3_heardBy_146 5 rfl ?_
              refine g_ishl C dX3_heardBy_148 (v := 1) (by decide) ?_
              refine g_ior C dX3_heardBy_149 (v := 1) (by decide) ?_
              refine g_goto C dX3_heardBy_150 (tgt := 155) (by decide) ?_
              refine g_iret C E dX3_heardBy_155 rfl ?_
              exact ⟨rI (by grind [mHB, mHear, gb]), rfl⟩
          · refine g_iconst C dX3_heardBy_120 ?_
            refine g_iload_n C dX3_heardBy_121 7 rfl ?_
            refine g_ishl C dX3_heardBy_122 (v := 2) (by decide) ?_
            refine g_goto C dX3_heardBy_123 (tgt := 127) (by decide) ?_
            refine g_istore C dX3_heardBy_127 (lv' := [(11, .int (iI 2)), (10, .int (iI (-1000))), (9, .int (iI (noise - (g 6 1)))), (8, .int (iI (level - (g 6 1)))), (7, .int (iI (level - (g 6 (6 + 6 * 1 + tone) - (g 6 (18 + 6 * 1 + tone)))))), (6, .int (iI 0)), (0, .ref m), (1, .int (iI 0)), (2, .int (iI 1)), (3, .int (iI tone)), (4, .int (iI level)), (5, .int (iI noise))]) (Nat.le_of_ble_eq_true rfl) rfl ?_
            refine g_aload_n C dX3_heardBy_129 6 rfl ?_
            refine g_iload C dX3_heardBy_130 5 rfl ?_
            refine g_iload_n C dX3_heardBy_132 9 rfl ?_
            refine g_iload C dX3_heardBy_133 3 rfl ?_
            refine g_iload C dX3_heardBy_135 1 rfl ?_
            refine g_callV C dX3_heardBy_137 lkX3_184 M.o rfl (As := [.int (iI 0), .int (iI tone), .int (iI (level - (g 6 1))), .int (iI (-1000))]) (c_X3_isHeardBy M 0 tone (level - (g 6 1)) (-1000) hO (by omega) (by omega) (by decide) (by decide) (by omega) (by omega)) rfl rfl ⟨Nat.le_of_ble_eq_true rfl, Nat.le_of_ble_eq_true rfl⟩ (Nat.le_of_ble_eq_true rfl) ?_
            rintro _ _ ⟨rfl, rfl⟩
            refine g_ifF C dX3_heardBy_140 (tgt := 153) (by decide) (fun c140 => ?_) (fun c140 => ?_)
            · refine g_iload C dX3_heardBy_153 0 rfl ?_
              refine g_iret C E dX3_heardBy_155 rfl ?_
              exact ⟨rI (by grind [mHB, mHear, gb]), rfl⟩
            · refine g_iload C dX3_heardBy_143 0 rfl ?_
              refine g_iconst C dX3_heardBy_145 ?_
              refine g_iload C dX3_heardBy_146 5 rfl ?_
              refine g_ishl C dX3_heardBy_148 (v := 1) (by decide) ?_
              refine g_ior C dX3_heardBy_149 (v := 3) (by decide) ?_
              refine g_goto C dX3_heardBy_150 (tgt := 155) (by decide) ?_
              refine g_iret C E dX3_heardBy_155 rfl ?_
              exact ⟨rI (by grind [mHB, mHear, gb]), rfl⟩
      · refine g_sipush C dX3_heardBy_58 (by decide) ?_
        refine g_goto C dX3_heardBy_61 (tgt := 73) (by decide) ?_
        refine g_istore C dX3_heardBy_73 (lv' := [(9, .int (iI (-1000))), (8, .int (iI (level - (g 6 1)))), (7, .int (iI (level - (g 6 (6 + 6 * 1 + tone) - (g 6 (18 + 6 * 1 + tone)))))), (6, .int (iI 0)), (0, .ref m), (1, .int (iI 0)), (2, .int (iI 1)), (3, .int (iI tone)), (4, .int (iI level)), (5, .int (iI noise))]) (Nat.le_of_ble_eq_true rfl) rfl ?_
        refine g_iload C dX3_heardBy_75 9 rfl ?_
        refine g_iconst C dX3_heardBy_77 ?_
        refine g_icmp_ne C dX3_heardBy_78 (tgt := 87) (by decide) (gRo (by omega) (by omega)) (gRo (by decide) (by decide)) (fun c78 => ?_) (fun c78 => ?_)
        · refine g_iload C dX3_heardBy_87 9 rfl ?_
          refine g_aload_n C dX3_heardBy_89 4 rfl ?_
          refine g_iload C dX3_heardBy_90 3 rfl ?_
          refine g_iload_n C dX3_heardBy_92 7 rfl ?_
          refine g_callV C dX3_heardBy_93 lkX3_181 M.o rfl (As := [.int (iI 0), .int (iI tone)]) (c_X3_airOf M 0 tone (by omega) (by omega)) rfl rfl ⟨Nat.le_of_ble_eq_true rfl, Nat.le_of_ble_eq_true rfl⟩ (Nat.le_of_ble_eq_true rfl) ?_
          rintro _ _ ⟨rfl, rfl⟩
          have b11 := hiA (6 + 6 * 0 + tone) (by omega) (by omega)
          refine g_aload_n C dX3_heardBy_96 4 rfl ?_
          refine g_iload C dX3_heardBy_97 3 rfl ?_
          refine g_iload_n C dX3_heardBy_99 7 rfl ?_
          refine g_callV C dX3_heardBy_100 lkX3_177 M.o rfl (As := [.int (iI 0), .int (iI tone)]) (c_X3_boneOf M 0 tone (by omega) (by omega)) rfl rfl ⟨Nat.le_of_ble_eq_true rfl, Nat.le_of_ble_eq_true rfl⟩ (Nat.le_of_ble_eq_true rfl) ?_
          rintro _ _ ⟨rfl, rfl⟩
          have b12 := hiA (18 + 6 * 0 + tone) (by omega) (by omega)
          refine g_isub C dX3_heardBy_103 (v := g 6 (6 + 6 * 0 + tone) - (g 6 (18 + 6 * 0 + tone))) rfl ?_
          refine g_isub C dX3_heardBy_104 (v := noise - (g 6 (6 + 6 * 0 + tone) - (g 6 (18 + 6 * 0 + tone)))) rfl ?_
          refine g_istore C dX3_heardBy_105 (lv' := [(10, .int (iI (noise - (g 6 (6 + 6 * 0 + tone) - (g 6 (18 + 6 * 0 + tone)))))), (9, .int (iI (-1000))), (8, .int (iI (level - (g 6 1)))), (7, .int (iI (level - (g 6 (6 + 6 * 1 + tone) - (g 6 (18 + 6 * 1 + tone)))))), (6, .int (iI 0)), (0, .ref m), (1, .int (iI 0)), (2, .int (iI 1)), (3, .int (iI tone)), (4, .int (iI level)), (5, .int (iI noise))]) (Nat.le_of_ble_eq_true rfl) rfl ?_
          refine g_aload_n C dX3_heardBy_107 5 rfl ?_
          refine g_iload_n C dX3_heardBy_108 7 rfl ?_
          refine g_iload_n C dX3_heardBy_109 8 rfl ?_
          refine g_iload C dX3_heardBy_110 3 rfl ?_
          refine g_iload C dX3_heardBy_112 1 rfl ?_
          refine g_callV C dX3_heardBy_114 lkX3_184 M.o rfl (As := [.int (iI 1), .int (iI tone), .int (iI (level - (g 6 (6 + 6 * 1 + tone) - (g 6 (18 + 6 * 1 + tone))))), .int (iI (-1000))]) (c_X3_isHeardBy M 1 tone (level - (g 6 (6 + 6 * 1 + tone) - (g 6 (18 + 6 * 1 + tone)))) (-1000) hO (by omega) (by omega) (by decide) (by decide) (by omega) (by omega)) rfl rfl ⟨Nat.le_of_ble_eq_true rfl, Nat.le_of_ble_eq_true rfl⟩ (Nat.le_of_ble_eq_true rfl) ?_
          rintro _ _ ⟨rfl, rfl⟩
          refine g_ifF C dX3_heardBy_117 (tgt := 126) (by decide) (fun c117 => ?_) (fun c117 => ?_)
          · refine g_iconst C dX3_heardBy_126 ?_
            refine g_istore C dX3_heardBy_127 (lv' := [(11, .int (iI 0)), (10, .int (iI (noise - (g 6 (6 + 6 * 0 + tone) - (g 6 (18 + 6 * 0 + tone)))))), (9, .int (iI (-1000))), (8, .int (iI (level - (g 6 1)))), (7, .int (iI (level - (g 6 (6 + 6 * 1 + tone) - (g 6 (18 + 6 * 1 + tone)))))), (6, .int (iI 0)), (0, .ref m), (1, .int (iI 0)), (2, .int (iI 1)), (3, .int (iI tone)), (4, .int (iI level)), (5, .int (iI noise))]) (Nat.le_of_ble_eq_true rfl) rfl ?_
            refine g_aload_n C dX3_heardBy_129 6 rfl ?_
            refine g_iload C dX3_heardBy_130 5 rfl ?_
            refine g_iload_n C dX3_heardBy_132 9 rfl ?_
            refine g_iload C dX3_heardBy_133 3 rfl ?_
            refine g_iload C dX3_heardBy_135 1 rfl ?_
            refine g_callV C dX3_heardBy_137 lkX3_184 M.o rfl (As := [.int (iI 0), .int (iI tone), .int (iI (level - (g 6 1))), .int (iI (noise - (g 6 (6 + 6 * 0 + tone) - (g 6 (18 + 6 * 0 + tone)))))]) (c_X3_isHeardBy M 0 tone (level - (g 6 1)) (noise - (g 6 (6 + 6 * 0 + tone) - (g 6 (18 + 6 * 0 + tone)))) hO (by omega) (by omega) (by omega) (by omega) (by omega) (by omega)) rfl rfl ⟨Nat.le_of_ble_eq_true rfl, Nat.le_of_ble_eq_true rfl⟩ (Nat.le_of_ble_eq_true rfl) ?_
            rintro _ _ ⟨rfl, rfl⟩
            refine g_ifF C dX3_heardBy_140 (tgt := 153) (by decide) (fun c140 => ?_) (fun c140 => ?_)
            · refine g_iload C dX3_heardBy_153 0 rfl ?_
              refine g_iret C E dX3_heardBy_155 rfl ?_
              exact ⟨rI (by grind [mHB, mHear, gb]), rfl⟩
            · refine g_iload C dX3_heardBy_143 0 rfl ?_
              refine g_iconst C dX3_heardBy_145 ?_
              refine g_iload C dX3_heardBy_146 5 rfl ?_
              refine g_ishl C dX3_heardBy_148 (v := 1) (by decide) ?_
              refine g_ior C dX3_heardBy_149 (v := 1) (by decide) ?_
              refine g_goto C dX3_heardBy_150 (tgt := 155) (by decide) ?_
              refine g_iret C E dX3_heardBy_155 rfl ?_
              exact ⟨rI (by grind [mHB, mHear, gb]), rfl⟩
          · refine g_iconst C dX3_heardBy_120 ?_
            refine g_iload_n C dX3_heardBy_121 7 rfl ?_
            refine g_ishl C dX3_heardBy_122 (v := 2) (by decide) ?_
            refine g_goto C dX3_heardBy_123 (tgt := 127) (by decide) ?_
            refine g_istore C dX3_heardBy_127 (lv' := [(11, .int (iI 2)), (10, .int (iI (noise - (g 6 (6 + 6 * 0 + tone) - (g 6 (18 + 6 * 0 + tone)))))), (9, .int (iI (-1000))), (8, .int (iI (level - (g 6 1)))), (7, .int (iI (level - (g 6 (6 + 6 * 1 + tone) - (g 6 (18 + 6 * 1 + tone)))))), (6, .int (iI 0)), (0, .ref m), (1, .int (iI 0)), (2, .int (iI 1)), (3, .int (iI tone)), (4, .int (iI level)), (5, .int (iI noise))]) (Nat.le_of_ble_eq_true rfl) rfl ?_
            refine g_aload_n C dX3_heardBy_129 6 rfl ?_
            refine g_iload C dX3_heardBy_130 5 rfl ?_
            refine g_iload_n C dX3_heardBy_132 9 rfl ?_
            refine g_iload C dX3_heardBy_133 3 rfl ?_
            refine g_iload C dX3_heardBy_135 1 rfl ?_
            refine g_callV C dX3_heardBy_137 lkX3_184 M.o rfl (As := [.int (iI 0), .int (iI tone), .int (iI (level - (g 6 1))), .int (iI (noise - (g 6 (6 + 6 * 0 + tone) - (g 6 (18 + 6 * 0 + tone)))))]) (c_X3_isHeardBy M 0 tone (level - (g 6 1)) (noise - (g 6 (6 + 6 * 0 + tone) - (g 6 (18 + 6 * 0 + tone)))) hO (by omega) (by omega) (by omega) (by omega) (by omega) (by omega)) rfl rfl ⟨Nat.le_of_ble_eq_true rfl, Nat.le_of_ble_eq_true rfl⟩ (Nat.le_of_ble_eq_true rfl) ?_
            rintro _ _ ⟨rfl, rfl⟩
            refine g_ifF C dX3_heardBy_140 (tgt := 153) (by decide) (fun c140 => ?_) (fun c140 => ?_)
            · refine g_iload C dX3_heardBy_153 0 rfl ?_
              refine g_iret C E dX3_heardBy_155 rfl ?_
              exact ⟨rI (by grind [mHB, mHear, gb]), rfl⟩
            · refine g_iload C dX3_heardBy_143 0 rfl ?_
              refine g_iconst C dX3_heardBy_145 ?_
              refine g_iload C dX3_heardBy_146 5 rfl ?_
              refine g_ishl C dX3_heardBy_148 (v := 1) (by decide) ?_
              refine g_ior C dX3_heardBy_149 (v := 3) (by decide) ?_
              refine g_goto C dX3_heardBy_150 (tgt := 155) (by decide) ?_
              refine g_iret C E dX3_heardBy_155 rfl ?_
              exact ⟨rI (by grind [mHB, mHear, gb]), rfl⟩
        · refine g_sipush C dX3_heardBy_81 (by decide) ?_
          refine g_goto C dX3_heardBy_84 (tgt := 105) (by decide) ?_
          refine g_istore C dX3_heardBy_105 (lv' := [(10, .int (iI (-1000))), (9, .int (iI (-1000))), (8, .int (iI (level - (g 6 1)))), (7, .int (iI (level - (g 6 (6 + 6 * 1 + tone) - (g 6 (18 + 6 * 1 + tone)))))), (6, .int (iI 0)), (0, .ref m), (1, .int (iI 0)), (2, .int (iI 1)), (3, .int (iI tone)), (4, .int (iI level)), (5, .int (iI noise))]) (Nat.le_of_ble_eq_true rfl) rfl ?_
          refine g_aload_n C dX3_heardBy_107 5 rfl ?_
          refine g_iload_n C dX3_heardBy_108 7 rfl ?_
          refine g_iload_n C dX3_heardBy_109 8 rfl ?_
          refine g_iload C dX3_heardBy_110 3 rfl ?_
          refine g_iload C dX3_heardBy_112 1 rfl ?_
          refine g_callV C dX3_heardBy_114 lkX3_184 M.o rfl (As := [.int (iI 1), .int (iI tone), .int (iI (level - (g 6 (6 + 6 * 1 + tone) - (g 6 (18 + 6 * 1 + tone))))), .int (iI (-1000))]) (c_X3_isHeardBy M 1 tone (level - (g 6 (6 + 6 * 1 + tone) - (g 6 (18 + 6 * 1 + tone)))) (-1000) hO (by omega) (by omega) (by decide) (by decide) (by omega) (by omega)) rfl rfl ⟨Nat.le_of_ble_eq_true rfl, Nat.le_of_ble_eq_true rfl⟩ (Nat.le_of_ble_eq_true rfl) ?_
          rintro _ _ ⟨rfl, rfl⟩
          refine g_ifF C dX3_heardBy_117 (tgt := 126) (by decide) (fun c117 => ?_) (fun c117 => ?_)
          · refine g_iconst C dX3_heardBy_126 ?_
            refine g_istore C dX3_heardBy_127 (lv' := [(11, .int (iI 0)), (10, .int (iI (-1000))), (9, .int (iI (-1000))), (8, .int (iI (level - (g 6 1)))), (7, .int (iI (level - (g 6 (6 + 6 * 1 + tone) - (g 6 (18 + 6 * 1 + tone)))))), (6, .int (iI 0)), (0, .ref m), (1, .int (iI 0)), (2, .int (iI 1)), (3, .int (iI tone)), (4, .int (iI level)), (5, .int (iI noise))]) (Nat.le_of_ble_eq_true rfl) rfl ?_
            refine g_aload_n C dX3_heardBy_129 6 rfl ?_
            refine g_iload C dX3_heardBy_130 5 rfl ?_
            refine g_iload_n C dX3_heardBy_132 9 rfl ?_
            refine g_iload C dX3_heardBy_133 3 rfl ?_
            refine g_iload C dX3_heardBy_135 1 rfl ?_
            refine g_callV C dX3_heardBy_137 lkX3_184 M.o rfl (As := [.int (iI 0), .int (iI tone), .int (iI (level - (g 6 1))), .int (iI (-1000))]) (c_X3_isHeardBy M 0 tone (level - (g 6 1)) (-1000) hO (by omega) (by omega) (by decide) (by decide) (by omega) (by omega)) rfl rfl ⟨Nat.le_of_ble_eq_true rfl, Nat.le_of_ble_eq_true rfl⟩ (Nat.le_of_ble_eq_true rfl) ?_
            rintro _ _ ⟨rfl, rfl⟩
            refine g_ifF C dX3_heardBy_140 (tgt := 153) (by decide) (fun c140 => ?_) (fun c140 => ?_)
            · refine g_iload C dX3_heardBy_153 0 rfl ?_
              refine g_iret C E dX3_heardBy_155 rfl ?_
              exact ⟨rI (by grind [mHB, mHear, gb]), rfl⟩
            · refine g_iload C dX3_heardBy_143 0 rfl ?_
              refine g_iconst C dX3_heardBy_145 ?_
              refine g_iload C dX3_heardBy_146 5 rfl ?_
              refine g_ishl C dX3_heardBy_148 (v := 1) (by decide) ?_
              refine g_ior C dX3_heardBy_149 (v := 1) (by decide) ?_
              refine g_goto C dX3_heardBy_150 (tgt := 155) (by decide) ?_
              refine g_iret C E dX3_heardBy_155 rfl ?_
              exact ⟨rI (by grind [mHB, mHear, gb]), rfl⟩
          · refine g_iconst C dX3_heardBy_120 ?_
            refine g_iload_n C dX3_heardBy_121 7 rfl ?_
            refine g_ishl C dX3_heardBy_122 (v := 2) (by decide) ?_
            refine g_goto C dX3_heardBy_123 (tgt := 127) (by decide) ?_
            refine g_istore C dX3_heardBy_127 (lv' := [(11, .int (iI 2)), (10, .int (iI (-1000))), (9, .int (iI (-1000))), (8, .int (iI (level - (g 6 1)))), (7, .int (iI (level - (g 6 (6 + 6 * 1 + tone) - (g 6 (18 + 6 * 1 + tone)))))), (6, .int (iI 0)), (0, .ref m), (1, .int (iI 0)), (2, .int (iI 1)), (3, .int (iI tone)), (4, .int (iI level)), (5, .int (iI noise))]) (Nat.le_of_ble_eq_true rfl) rfl ?_
            refine g_aload_n C dX3_heardBy_129 6 rfl ?_
            refine g_iload C dX3_heardBy_130 5 rfl ?_
            refine g_iload_n C dX3_heardBy_132 9 rfl ?_
            refine g_iload C dX3_heardBy_133 3 rfl ?_
            refine g_iload C dX3_heardBy_135 1 rfl ?_
            refine g_callV C dX3_heardBy_137 lkX3_184 M.o rfl (As := [.int (iI 0), .int (iI tone), .int (iI (level - (g 6 1))), .int (iI (-1000))]) (c_X3_isHeardBy M 0 tone (level - (g 6 1)) (-1000) hO (by omega) (by omega) (by decide) (by decide) (by omega) (by omega)) rfl rfl ⟨Nat.le_of_ble_eq_true rfl, Nat.le_of_ble_eq_true rfl⟩ (Nat.le_of_ble_eq_true rfl) ?_
            rintro _ _ ⟨rfl, rfl⟩
            refine g_ifF C dX3_heardBy_140 (tgt := 153) (by decide) (fun c140 => ?_) (fun c140 => ?_)
            · refine g_iload C dX3_heardBy_153 0 rfl ?_
              refine g_iret C E dX3_heardBy_155 rfl ?_
              exact ⟨rI (by grind [mHB, mHear, gb]), rfl⟩
            · refine g_iload C dX3_heardBy_143 0 rfl ?_
              refine g_iconst C dX3_heardBy_145 ?_
              refine g_iload C dX3_heardBy_146 5 rfl ?_
              refine g_ishl C dX3_heardBy_148 (v := 1) (by decide) ?_
              refine g_ior C dX3_heardBy_149 (v := 3) (by decide) ?_
              refine g_goto C dX3_heardBy_150 (tgt := 155) (by decide) ?_
              refine g_iret C E dX3_heardBy_155 rfl ?_
              exact ⟨rI (by grind [mHB, mHear, gb]), rfl⟩
  · rcases (show ear = 0 ∨ ear = 1 by omega) with rfl | rfl
    · refine g_iconst C dX3_heardBy_0 ?_
      refine g_iload_n C dX3_heardBy_1 2 rfl ?_
      refine g_isub C dX3_heardBy_2 (v := 1) (by decide) ?_
      refine g_istore C dX3_heardBy_3 (lv' := [(6, .int (iI 1)), (0, .ref m), (1, .int (iI 1)), (2, .int (iI 0)), (3, .int (iI tone)), (4, .int (iI level)), (5, .int (iI noise))]) (Nat.le_of_ble_eq_true rfl) rfl ?_
      refine g_iload_n C dX3_heardBy_5 2 rfl ?_
      refine g_if_ne C dX3_heardBy_6 (tgt := 28) (by decide) (gRo (by decide) (by decide)) (fun _ => ?_) (fun q => absurd q (by decide))
      refine g_iload C dX3_heardBy_28 5 rfl ?_
      refine g_istore C dX3_heardBy_30 (lv' := [(7, .int (iI level)), (6, .int (iI 1)), (0, .ref m), (1, .int (iI 1)), (2, .int (iI 0)), (3, .int (iI tone)), (4, .int (iI level)), (5, .int (iI noise))]) (Nat.le_of_ble_eq_true rfl) rfl ?_
      refine g_iload_n C dX3_heardBy_32 3 rfl ?_
      refine g_if_ne C dX3_heardBy_33 (tgt := 48) (by decide) (gRo (by decide) (by decide)) (fun _ => ?_) (fun q => absurd q (by decide))
      refine g_iload C dX3_heardBy_48 6 rfl ?_
      refine g_istore C dX3_heardBy_50 (lv' := [(8, .int (iI level)), (7, .int (iI level)), (6, .int (iI 1)), (0, .ref m), (1, .int (iI 1)), (2, .int (iI 0)), (3, .int (iI tone)), (4, .int (iI level)), (5, .int (iI noise))]) (Nat.le_of_ble_eq_true rfl) rfl ?_
      refine g_iload C dX3_heardBy_52 8 rfl ?_
      refine g_iconst C dX3_heardBy_54 ?_
      refine g_icmp_ne C dX3_heardBy_55 (tgt := 64) (by decide) (gRo (by omega) (by omega)) (gRo (by decide) (by decide)) (fun c55 => ?_) (fun c55 => ?_)
      · refine g_iload C dX3_heardBy_64 8 rfl ?_
        refine g_aload_n C dX3_heardBy_66 3 rfl ?_
        refine g_get C dX3_heardBy_67 kcX3 6 q1469 (fun _ _ _ _ h9 => h9) M.o (Nat.le_of_ble_eq_true rfl) rfl ?_
        refine g_iconst C dX3_heardBy_70 ?_
        refine g_iald C dX3_heardBy_71 (v := g 6 1) M.a6 (by decide) (by decide) (by decide) rfl ?_
        refine g_isub C dX3_heardBy_72 (v := noise - (g 6 1)) rfl ?_
        refine g_istore C dX3_heardBy_73 (lv' := [(9, .int (iI (noise - (g 6 1)))), (8, .int (iI level)), (7, .int (iI level)), (6, .int (iI 1)), (0, .ref m), (1, .int (iI 1)), (2, .int (iI 0)), (3, .int (iI tone)), (4, .int (iI level)), (5, .int (iI noise))]) (Nat.le_of_ble_eq_true rfl) rfl ?_
        refine g_iload C dX3_heardBy_75 9 rfl ?_
        refine g_iconst C dX3_heardBy_77 ?_
        refine g_icmp_ne C dX3_heardBy_78 (tgt := 87) (by decide) (gRo (by omega) (by omega)) (gRo (by decide) (by decide)) (fun c78 => ?_) (fun c78 => ?_)
        · refine g_iload C dX3_heardBy_87 9 rfl ?_
          refine g_aload_n C dX3_heardBy_89 4 rfl ?_
          refine g_iload C dX3_heardBy_90 3 rfl ?_
          refine g_iload_n C dX3_heardBy_92 7 rfl ?_
          refine g_callV C dX3_heardBy_93 lkX3_181 M.o rfl (As := [.int (iI 1), .int (iI tone)]) (c_X3_airOf M 1 tone (by omega) (by omega)) rfl rfl ⟨Nat.le_of_ble_eq_true rfl, Nat.le_of_ble_eq_true rfl⟩ (Nat.le_of_ble_eq_true rfl) ?_
          rintro _ _ ⟨rfl, rfl⟩
          have b13 := hiA (6 + 6 * 1 + tone) (by omega) (by omega)
          refine g_aload_n C dX3_heardBy_96 4 rfl ?_
          refine g_iload C dX3_heardBy_97 3 rfl ?_
          refine g_iload_n C dX3_heardBy_99 7 rfl ?_
          refine g_callV C dX3_heardBy_100 lkX3_177 M.o rfl (As := [.int (iI 1), .int (iI tone)]) (c_X3_boneOf M 1 tone (by omega) (by omega)) rfl rfl ⟨Nat.le_of_ble_eq_true rfl, Nat.le_of_ble_eq_true rfl⟩ (Nat.le_of_ble_eq_true rfl) ?_
          rintro _ _ ⟨rfl, rfl⟩
          have b14 := hiA (18 + 6 * 1 + tone) (by omega) (by omega)
          refine g_isub C dX3_heardBy_103 (v := g 6 (6 + 6 * 1 + tone) - (g 6 (18 + 6 * 1 + tone))) rfl ?_
          refine g_isub C dX3_heardBy_104 (v := noise - (g 6 (6 + 6 * 1 + tone) - (g 6 (18 + 6 * 1 + tone)))) rfl ?_
          refine g_istore C dX3_heardBy_105 (lv' := [(10, .int (iI (noise - (g 6 (6 + 6 * 1 + tone) - (g 6 (18 + 6 * 1 + tone)))))), (9, .int (iI (noise - (g 6 1)))), (8, .int (iI level)), (7, .int (iI level)), (6, .int (iI 1)), (0, .ref m), (1, .int (iI 1)), (2, .int (iI 0)), (3, .int (iI tone)), (4, .int (iI level)), (5, .int (iI noise))]) (Nat.le_of_ble_eq_true rfl) rfl ?_
          refine g_aload_n C dX3_heardBy_107 5 rfl ?_
          refine g_iload_n C dX3_heardBy_108 7 rfl ?_
          refine g_iload_n C dX3_heardBy_109 8 rfl ?_
          refine g_iload C dX3_heardBy_110 3 rfl ?_
          refine g_iload C dX3_heardBy_112 1 rfl ?_
          refine g_callV C dX3_heardBy_114 lkX3_184 M.o rfl (As := [.int (iI 0), .int (iI tone), .int (iI level), .int (iI (noise - (g 6 1)))]) (c_X3_isHeardBy M 0 tone level (noise - (g 6 1)) hO (by omega) (by omega) (by omega) (by omega) (by omega) (by omega)) rfl rfl ⟨Nat.le_of_ble_eq_true rfl, Nat.le_of_ble_eq_true rfl⟩ (Nat.le_of_ble_eq_true rfl) ?_
          rintro _ _ ⟨rfl, rfl⟩
          refine g_ifF C dX3_heardBy_117 (tgt := 126) (by decide) (fun c117 => ?_) (fun c117 => ?_)
          · refine g_iconst C dX3_heardBy_126 ?_
            refine g_istore C dX3_heardBy_127 (lv' := [(11, .int (iI 0)), (10, .int (iI (noise - (g 6 (6 + 6 * 1 + tone) - (g 6 (18 + 6 * 1 + tone)))))), (9, .int (iI (noise - (g 6 1)))), (8, .int (iI level)), (7, .int (iI level)), (6, .int (iI 1)), (0, .ref m), (1, .int (iI 1)), (2, .int (iI 0)), (3, .int (iI tone)), (4, .int (iI level)), (5, .int (iI noise))]) (Nat.le_of_ble_eq_true rfl) rfl ?_
            refine g_aload_n C dX3_heardBy_129 6 rfl ?_
            refine g_iload C dX3_heardBy_130 5 rfl ?_
            refine g_iload_n C dX3_heardBy_132 9 rfl ?_
            refine g_iload C dX3_heardBy_133 3 rfl ?_
            refine g_iload C dX3_heardBy_135 1 rfl ?_
            refine g_callV C dX3_heardBy_137 lkX3_184 M.o rfl (As := [.int (iI 1), .int (iI tone), .int (iI level), .int (iI (noise - (g 6 (6 + 6 * 1 + tone) - (g 6 (18 + 6 * 1 + tone)))))]) (c_X3_isHeardBy M 1 tone level (noise - (g 6 (6 + 6 * 1 + tone) - (g 6 (18 + 6 * 1 + tone)))) hO (by omega) (by omega) (by omega) (by omega) (by omega) (by omega)) rfl rfl ⟨Nat.le_of_ble_eq_true rfl, Nat.le_of_ble_eq_true rfl⟩ (Nat.le_of_ble_eq_true rfl) ?_
            rintro _ _ ⟨rfl, rfl⟩
            refine g_ifF C dX3_heardBy_140 (tgt := 153) (by decide) (fun c140 => ?_) (fun c140 => ?_)
            · refine g_iload C dX3_heardBy_153 0 rfl ?_
              refine g_iret C E dX3_heardBy_155 rfl ?_
              exact ⟨rI (by grind [mHB, mHear, gb]), rfl⟩
            · refine g_iload C dX3_heardBy_143 0 rfl ?_
              refine g_iconst C dX3_heardBy_145 ?_
              refine g_iload C dX3_heardBy_146 5 rfl ?_
              refine g_ishl C dX3_heardBy_148 (v := 2) (by decide) ?_
              refine g_ior C dX3_heardBy_149 (v := 2) (by decide) ?_
              refine g_goto C dX3_heardBy_150 (tgt := 155) (by decide) ?_
              refine g_iret C E dX3_heardBy_155 rfl ?_
              exact ⟨rI (by grind [mHB, mHear, gb]), rfl⟩
          · refine g_iconst C dX3_heardBy_120 ?_
            refine g_iload_n C dX3_heardBy_121 7 rfl ?_
            refine g_ishl C dX3_heardBy_122 (v := 1) (by decide) ?_
            refine g_goto C dX3_heardBy_123 (tgt := 127) (by decide) ?_
            refine g_istore C dX3_heardBy_127 (lv' := [(11, .int (iI 1)), (10, .int (iI (noise - (g 6 (6 + 6 * 1 + tone) - (g 6 (18 + 6 * 1 + tone)))))), (9, .int (iI (noise - (g 6 1)))), (8, .int (iI level)), (7, .int (iI level)), (6, .int (iI 1)), (0, .ref m), (1, .int (iI 1)), (2, .int (iI 0)), (3, .int (iI tone)), (4, .int (iI level)), (5, .int (iI noise))]) (Nat.le_of_ble_eq_true rfl) rfl ?_
            refine g_aload_n C dX3_heardBy_129 6 rfl ?_
            refine g_iload C dX3_heardBy_130 5 rfl ?_
            refine g_iload_n C dX3_heardBy_132 9 rfl ?_
            refine g_iload C dX3_heardBy_133 3 rfl ?_
            refine g_iload C dX3_heardBy_135 1 rfl ?_
            refine g_callV C dX3_heardBy_137 lkX3_184 M.o rfl (As := [.int (iI 1), .int (iI tone), .int (iI level), .int (iI (noise - (g 6 (6 + 6 * 1 + tone) - (g 6 (18 + 6 * 1 + tone)))))]) (c_X3_isHeardBy M 1 tone level (noise - (g 6 (6 + 6 * 1 + tone) - (g 6 (18 + 6 * 1 + tone)))) hO (by omega) (by omega) (by omega) (by omega) (by omega) (by omega)) rfl rfl ⟨Nat.le_of_ble_eq_true rfl, Nat.le_of_ble_eq_true rfl⟩ (Nat.le_of_ble_eq_true rfl) ?_
            rintro _ _ ⟨rfl, rfl⟩
            refine g_ifF C dX3_heardBy_140 (tgt := 153) (by decide) (fun c140 => ?_) (fun c140 => ?_)
            · refine g_iload C dX3_heardBy_153 0 rfl ?_
              refine g_iret C E dX3_heardBy_155 rfl ?_
              exact ⟨rI (by grind [mHB, mHear, gb]), rfl⟩
            · refine g_iload C dX3_heardBy_143 0 rfl ?_
              refine g_iconst C dX3_heardBy_145 ?_
              refine g_iload C dX3_heardBy_146 5 rfl ?_
              refine g_ishl C dX3_heardBy_148 (v := 2) (by decide) ?_
              refine g_ior C dX3_heardBy_149 (v := 3) (by decide) ?_
              refine g_goto C dX3_heardBy_150 (tgt := 155) (by decide) ?_
              refine g_iret C E dX3_heardBy_155 rfl ?_
              exact ⟨rI (by grind [mHB, mHear, gb]), rfl⟩
        · refine g_sipush C dX3_heardBy_81 (by decide) ?_
          refine g_goto C dX3_heardBy_84 (tgt := 105) (by decide) ?_
          refine g_istore C dX3_heardBy_105 (lv' := [(10, .int (iI (-1000))), (9, .int (iI (noise - (g 6 1)))), (8, .int (iI level)), (7, .int (iI level)), (6, .int (iI 1)), (0, .ref m), (1, .int (iI 1)), (2, .int (iI 0)), (3, .int (iI tone)), (4, .int (iI level)), (5, .int (iI noise))]) (Nat.le_of_ble_eq_true rfl) rfl ?_
          refine g_aload_n C dX3_heardBy_107 5 rfl ?_
          refine g_iload_n C dX3_heardBy_108 7 rfl ?_
          refine g_iload_n C dX3_heardBy_109 8 rfl ?_
          refine g_iload C dX3_heardBy_110 3 rfl ?_
          refine g_iload C dX3_heardBy_112 1 rfl ?_
          refine g_callV C dX3_heardBy_114 lkX3_184 M.o rfl (As := [.int (iI 0), .int (iI tone), .int (iI level), .int (iI (noise - (g 6 1)))]) (c_X3_isHeardBy M 0 tone level (noise - (g 6 1)) hO (by omega) (by omega) (by omega) (by omega) (by omega) (by omega)) rfl rfl ⟨Nat.le_of_ble_eq_true rfl, Nat.le_of_ble_eq_true rfl⟩ (Nat.le_of_ble_eq_true rfl) ?_
          rintro _ _ ⟨rfl, rfl⟩
          refine g_ifF C dX3_heardBy_117 (tgt := 126) (by decide) (fun c117 => ?_) (fun c117 => ?_)
          · refine g_iconst C dX3_heardBy_126 ?_
            refine g_istore C dX3_heardBy_127 (lv' := [(11, .int (iI 0)), (10, .int (iI (-1000))), (9, .int (iI (noise - (g 6 1)))), (8, .int (iI level)), (7, .int (iI level)), (6, .int (iI 1)), (0, .ref m), (1, .int (iI 1)), (2, .int (iI 0)), (3, .int (iI tone)), (4, .int (iI level)), (5, .int (iI noise))]) (Nat.le_of_ble_eq_true rfl) rfl ?_
            refine g_aload_n C dX3_heardBy_129 6 rfl ?_
            refine g_iload C dX3_heardBy_130 5 rfl ?_
            refine g_iload_n C dX3_heardBy_132 9 rfl ?_
            refine g_iload C dX3_heardBy_133 3 rfl ?_
            refine g_iload C dX3_heardBy_135 1 rfl ?_
            refine g_callV C dX3_heardBy_137 lkX3_184 M.o rfl (As := [.int (iI 1), .int (iI tone), .int (iI level), .int (iI (-1000))]) (c_X3_isHeardBy M 1 tone level (-1000) hO (by omega) (by omega) (by decide) (by decide) (by omega) (by omega)) rfl rfl ⟨Nat.le_of_ble_eq_true rfl, Nat.le_of_ble_eq_true rfl⟩ (Nat.le_of_ble_eq_true rfl) ?_
            rintro _ _ ⟨rfl, rfl⟩
            refine g_ifF C dX3_heardBy_140 (tgt := 153) (by decide) (fun c140 => ?_) (fun c140 => ?_)
            · refine g_iload C dX3_heardBy_153 0 rfl ?_
              refine g_iret C E dX3_heardBy_155 rfl ?_
              exact ⟨rI (by grind [mHB, mHear, gb]), rfl⟩
            · refine g_iload C dX3_heardBy_143 0 rfl ?_
              refine g_iconst C dX3_heardBy_145 ?_
              refine g_iload C dX3_heardBy_146 5 rfl ?_
              refine g_ishl C dX3_heardBy_148 (v := 2) (by decide) ?_
              refine g_ior C dX3_heardBy_149 (v := 2) (by decide) ?_
              refine g_goto C dX3_heardBy_150 (tgt := 155) (by decide) ?_
              refine g_iret C E dX3_heardBy_155 rfl ?_
              exact ⟨rI (by grind [mHB, mHear, gb]), rfl⟩
          · refine g_iconst C dX3_heardBy_120 ?_
            refine g_iload_n C dX3_heardBy_121 7 rfl ?_
            refine g_ishl C dX3_heardBy_122 (v := 1) (by decide) ?_
            refine g_goto C dX3_heardBy_123 (tgt := 127) (by decide) ?_
            refine g_istore C dX3_heardBy_127 (lv' := [(11, .int (iI 1)), (10, .int (iI (-1000))), (9, .int (iI (noise - (g 6 1)))), (8, .int (iI level)), (7, .int (iI level)), (6, .int (iI 1)), (0, .ref m), (1, .int (iI 1)), (2, .int (iI 0)), (3, .int (iI tone)), (4, .int (iI level)), (5, .int (iI noise))]) (Nat.le_of_ble_eq_true rfl) rfl ?_
            refine g_aload_n C dX3_heardBy_129 6 rfl ?_
            refine g_iload C dX3_heardBy_130 5 rfl ?_
            refine g_iload_n C dX3_heardBy_132 9 rfl ?_
            refine g_iload C dX3_heardBy_133 3 rfl ?_
            refine g_iload C dX3_heardBy_135 1 rfl ?_
            refine g_callV C dX3_heardBy_137 lkX3_184 M.o rfl (As := [.int (iI 1), .int (iI tone), .int (iI level), .int (iI (-1000))]) (c_X3_isHeardBy M 1 tone level (-1000) hO (by omega) (by omega) (by decide) (by decide) (by omega) (by omega)) rfl rfl ⟨Nat.le_of_ble_eq_true rfl, Nat.le_of_ble_eq_true rfl⟩ (Nat.le_of_ble_eq_true rfl) ?_
            rintro _ _ ⟨rfl, rfl⟩
            refine g_ifF C dX3_heardBy_140 (tgt := 153) (by decide) (fun c140 => ?_) (fun c140 => ?_)
            · refine g_iload C dX3_heardBy_153 0 rfl ?_
              refine g_iret C E dX3_heardBy_155 rfl ?_
              exact ⟨rI (by grind [mHB, mHear, gb]), rfl⟩
            · refine g_iload C dX3_heardBy_143 0 rfl ?_
              refine g_iconst C dX3_heardBy_145 ?_
              refine g_iload C dX3_heardBy_146 5 rfl ?_
              refine g_ishl C dX3_heardBy_148 (v := 2) (by decide) ?_
              refine g_ior C dX3_heardBy_149 (v := 3) (by decide) ?_
              refine g_goto C dX3_heardBy_150 (tgt := 155) (by decide) ?_
              refine g_iret C E dX3_heardBy_155 rfl ?_
              exact ⟨rI (by grind [mHB, mHear, gb]), rfl⟩
      · refine g_sipush C dX3_heardBy_58 (by decide) ?_
        refine g_goto C dX3_heardBy_61 (tgt := 73) (by decide) ?_
        refine g_istore C dX3_heardBy_73 (lv' := [(9, .int (iI (-1000))), (8, .int (iI level)), (7, .int (iI level)), (6, .int (iI 1)), (0, .ref m), (1, .int (iI 1)), (2, .int (iI 0)), (3, .int (iI tone)), (4, .int (iI level)), (5, .int (iI noise))]) (Nat.le_of_ble_eq_true rfl) rfl ?_
        refine g_iload C dX3_heardBy_75 9 rfl ?_
        refine g_iconst C dX3_heardBy_77 ?_
        refine g_icmp_ne C dX3_heardBy_78 (tgt := 87) (by decide) (gRo (by omega) (by omega)) (gRo (by decide) (by decide)) (fun c78 => ?_) (fun c78 => ?_)
        · refine g_iload C dX3_heardBy_87 9 rfl ?_
          refine g_aload_n C dX3_heardBy_89 4 rfl ?_
          refine g_iload C dX3_heardBy_90 3 rfl ?_
          refine g_iload_n C dX3_heardBy_92 7 rfl ?_
          refine g_callV C dX3_heardBy_93 lkX3_181 M.o rfl (As := [.int (iI 1), .int (iI tone)]) (c_X3_airOf M 1 tone (by omega) (by omega)) rfl rfl ⟨Nat.le_of_ble_eq_true rfl, Nat.le_of_ble_eq_true rfl⟩ (Nat.le_of_ble_eq_true rfl) ?_
          rintro _ _ ⟨rfl, rfl⟩
          have b15 := hiA (6 + 6 * 1 + tone) (by omega) (by omega)
          refine g_aload_n C dX3_heardBy_96 4 rfl ?_
          refine g_iload C dX3_heardBy_97 3 rfl ?_
          refine g_iload_n C dX3_heardBy_99 7 rfl ?_
          refine g_callV C dX3_heardBy_100 lkX3_177 M.o rfl (As := [.int (iI 1), .int (iI tone)]) (c_X3_boneOf M 1 tone (by omega) (by omega)) rfl rfl ⟨Nat.le_of_ble_eq_true rfl, Nat.le_of_ble_eq_true rfl⟩ (Nat.le_of_ble_eq_true rfl) ?_
          rintro _ _ ⟨rfl, rfl⟩
          have b16 := hiA (18 + 6 * 1 + tone) (by omega) (by omega)
          refine g_isub C dX3_heardBy_103 (v := g 6 (6 + 6 * 1 + tone) - (g 6 (18 + 6 * 1 + tone))) rfl ?_
          refine g_isub C dX3_heardBy_104 (v := noise - (g 6 (6 + 6 * 1 + tone) - (g 6 (18 + 6 * 1 + tone)))) rfl ?_
          refine g_istore C dX3_heardBy_105 (lv' := [(10, .int (iI (noise - (g 6 (6 + 6 * 1 + tone) - (g 6 (18 + 6 * 1 + tone)))))), (9, .int (iI (-1000))), (8, .int (iI level)), (7, .int (iI level)), (6, .int (iI 1)), (0, .ref m), (1, .int (iI 1)), (2, .int (iI 0)), (3, .int (iI tone)), (4, .int (iI level)), (5, .int (iI noise))]) (Nat.le_of_ble_eq_true rfl) rfl ?_
          refine g_aload_n C dX3_heardBy_107 5 rfl ?_
          refine g_iload_n C dX3_heardBy_108 7 rfl ?_
          refine g_iload_n C dX3_heardBy_109 8 rfl ?_
          refine g_iload C dX3_heardBy_110 3 rfl ?_
          refine g_iload C dX3_heardBy_112 1 rfl ?_
          refine g_callV C dX3_heardBy_114 lkX3_184 M.o rfl (As := [.int (iI 0), .int (iI tone), .int (iI level), .int (iI (-1000))]) (c_X3_isHeardBy M 0 tone level (-1000) hO (by omega) (by omega) (by decide) (by decide) (by omega) (by omega)) rfl rfl ⟨Nat.le_of_ble_eq_true rfl, Nat.le_of_ble_eq_true rfl⟩ (Nat.le_of_ble_eq_true rfl) ?_
          rintro _ _ ⟨rfl, rfl⟩
          refine g_ifF C dX3_heardBy_117 (tgt := 126) (by decide) (fun c117 => ?_) (fun c117 => ?_)
          · refine g_iconst C dX3_heardBy_126 ?_
            refine g_istore C dX3_heardBy_127 (lv' := [(11, .int (iI 0)), (10, .int (iI (noise - (g 6 (6 + 6 * 1 + tone) - (g 6 (18 + 6 * 1 + tone)))))), (9, .int (iI (-1000))), (8, .int (iI level)), (7, .int (iI level)), (6, .int (iI 1)), (0, .ref m), (1, .int (iI 1)), (2, .int (iI 0)), (3, .int (iI tone)), (4, .int (iI level)), (5, .int (iI noise))]) (Nat.le_of_ble_eq_true rfl) rfl ?_
            refine g_aload_n C dX3_heardBy_129 6 rfl ?_
            refine g_iload C dX3_heardBy_130 5 rfl ?_
            refine g_iload_n C dX3_heardBy_132 9 rfl ?_
            refine g_iload C dX3_heardBy_133 3 rfl ?_
            refine g_iload C dX3_heardBy_135 1 rfl ?_
            refine g_callV C dX3_heardBy_137 lkX3_184 M.o rfl (As := [.int (iI 1), .int (iI tone), .int (iI level), .int (iI (noise - (g 6 (6 + 6 * 1 + tone) - (g 6 (18 + 6 * 1 + tone)))))]) (c_X3_isHeardBy M 1 tone level (noise - (g 6 (6 + 6 * 1 + tone) - (g 6 (18 + 6 * 1 + tone)))) hO (by omega) (by omega) (by omega) (by omega) (by omega) (by omega)) rfl rfl ⟨Nat.le_of_ble_eq_true rfl, Nat.le_of_ble_eq_true rfl⟩ (Nat.le_of_ble_eq_true rfl) ?_
            rintro _ _ ⟨rfl, rfl⟩
            refine g_ifF C dX3_heardBy_140 (tgt := 153) (by decide) (fun c140 => ?_) (fun c140 => ?_)
            · refine g_iload C dX3_heardBy_153 0 rfl ?_
              refine g_iret C E dX3_heardBy_155 rfl ?_
              exact ⟨rI (by grind [mHB, mHear, gb]), rfl⟩
            · refine g_iload C dX3_heardBy_143 0 rfl ?_
              refine g_iconst C dX3_heardBy_145 ?_
              refine g_iload C dX3_heardBy_146 5 rfl ?_
              refine g_ishl C dX3_heardBy_148 (v := 2) (by decide) ?_
              refine g_ior C dX3_heardBy_149 (v := 2) (by decide) ?_
              refine g_goto C dX3_heardBy_150 (tgt := 155) (by decide) ?_
              refine g_iret C E dX3_heardBy_155 rfl ?_
              exact ⟨rI (by grind [mHB, mHear, gb]), rfl⟩
          · refine g_iconst C dX3_heardBy_120 ?_
            refine g_iload_n C dX3_heardBy_121 7 rfl ?_
            refine g_ishl C dX3_heardBy_122 (v := 1) (by decide) ?_
            refine g_goto C dX3_heardBy_123 (tgt := 127) (by decide) ?_
            refine g_istore C dX3_heardBy_127 (lv' := [(11, .int (iI 1)), (10, .int (iI (noise - (g 6 (6 + 6 * 1 + tone) - (g 6 (18 + 6 * 1 + tone)))))), (9, .int (iI (-1000))), (8, .int (iI level)), (7, .int (iI level)), (6, .int (iI 1)), (0, .ref m), (1, .int (iI 1)), (2, .int (iI 0)), (3, .int (iI tone)), (4, .int (iI level)), (5, .int (iI noise))]) (Nat.le_of_ble_eq_true rfl) rfl ?_
            refine g_aload_n C dX3_heardBy_129 6 rfl ?_
            refine g_iload C dX3_heardBy_130 5 rfl ?_
            refine g_iload_n C dX3_heardBy_132 9 rfl ?_
            refine g_iload C dX3_heardBy_133 3 rfl ?_
            refine g_iload C dX3_heardBy_135 1 rfl ?_
            refine g_callV C dX3_heardBy_137 lkX3_184 M.o rfl (As := [.int (iI 1), .int (iI tone), .int (iI level), .int (iI (noise - (g 6 (6 + 6 * 1 + tone) - (g 6 (18 + 6 * 1 + tone)))))]) (c_X3_isHeardBy M 1 tone level (noise - (g 6 (6 + 6 * 1 + tone) - (g 6 (18 + 6 * 1 + tone)))) hO (by omega) (by omega) (by omega) (by omega) (by omega) (by omega)) rfl rfl ⟨Nat.le_of_ble_eq_true rfl, Nat.le_of_ble_eq_true rfl⟩ (Nat.le_of_ble_eq_true rfl) ?_
            rintro _ _ ⟨rfl, rfl⟩
            refine g_ifF C dX3_heardBy_140 (tgt := 153) (by decide) (fun c140 => ?_) (fun c140 => ?_)
            · refine g_iload C dX3_heardBy_153 0 rfl ?_
              refine g_iret C E dX3_heardBy_155 rfl ?_
              exact ⟨rI (by grind [mHB, mHear, gb]), rfl⟩
            · refine g_iload C dX3_heardBy_143 0 rfl ?_
              refine g_iconst C dX3_heardBy_145 ?_
              refine g_iload C dX3_heardBy_146 5 rfl ?_
              refine g_ishl C dX3_heardBy_148 (v := 2) (by decide) ?_
              refine g_ior C dX3_heardBy_149 (v := 3) (by decide) ?_
              refine g_goto C dX3_heardBy_150 (tgt := 155) (by decide) ?_
              refine g_iret C E dX3_heardBy_155 rfl ?_
              exact ⟨rI (by grind [mHB, mHear, gb]), rfl⟩
        · refine g_sipush C dX3_heardBy_81 (by decide) ?_
          refine g_goto C dX3_heardBy_84 (tgt := 105) (by decide) ?_
          refine g_istore C dX3_heardBy_105 (lv' := [(10, .int (iI (-1000))), (9, .int (iI (-1000))), (8, .int (iI level)), (7, .int (iI level)), (6, .int (iI 1)), (0, .ref m), (1, .int (iI 1)), (2, .int (iI 0)), (3, .int (iI tone)), (4, .int (iI level)), (5, .int (iI noise))]) (Nat.le_of_ble_eq_true rfl) rfl ?_
          refine g_aload_n C dX3_heardBy_107 5 rfl ?_
          refine g_iload_n C dX3_heardBy_108 7 rfl ?_
          refine g_iload_n C dX3_heardBy_109 8 rfl ?_
          refine g_iload C dX3_heardBy_110 3 rfl ?_
          refine g_iload C dX3_heardBy_112 1 rfl ?_
          refine g_callV C dX3_heardBy_114 lkX3_184 M.o rfl (As := [.int (iI 0), .int (iI tone), .int (iI level), .int (iI (-1000))]) (c_X3_isHeardBy M 0 tone level (-1000) hO (by omega) (by omega) (by decide) (by decide) (by omega) (by omega)) rfl rfl ⟨Nat.le_of_ble_eq_true rfl, Nat.le_of_ble_eq_true rfl⟩ (Nat.le_of_ble_eq_true rfl) ?_
          rintro _ _ ⟨rfl, rfl⟩
          refine g_ifF C dX3_heardBy_117 (tgt := 126) (by decide) (fun c117 => ?_) (fun c117 => ?_)
          · refine g_iconst C dX3_heardBy_126 ?_
            refine g_istore C dX3_heardBy_127 (lv' := [(11, .int (iI 0)), (10, .int (iI (-1000))), (9, .int (iI (-1000))), (8, .int (iI level)), (7, .int (iI level)), (6, .int (iI 1)), (0, .ref m), (1, .int (iI 1)), (2, .int (iI 0)), (3, .int (iI tone)), (4, .int (iI level)), (5, .int (iI noise))]) (Nat.le_of_ble_eq_true rfl) rfl ?_
            refine g_aload_n C dX3_heardBy_129 6 rfl ?_
            refine g_iload C dX3_heardBy_130 5 rfl ?_
            refine g_iload_n C dX3_heardBy_132 9 rfl ?_
            refine g_iload C dX3_heardBy_133 3 rfl ?_
            refine g_iload C dX3_heardBy_135 1 rfl ?_
            refine g_callV C dX3_heardBy_137 lkX3_184 M.o rfl (As := [.int (iI 1), .int (iI tone), .int (iI level), .int (iI (-1000))]) (c_X3_isHeardBy M 1 tone level (-1000) hO (by omega) (by omega) (by decide) (by decide) (by omega) (by omega)) rfl rfl ⟨Nat.le_of_ble_eq_true rfl, Nat.le_of_ble_eq_true rfl⟩ (Nat.le_of_ble_eq_true rfl) ?_
            rintro _ _ ⟨rfl, rfl⟩
            refine g_ifF C dX3_heardBy_140 (tgt := 153) (by decide) (fun c140 => ?_) (fun c140 => ?_)
            · refine g_iload C dX3_heardBy_153 0 rfl ?_
              refine g_iret C E dX3_heardBy_155 rfl ?_
              exact ⟨rI (by grind [mHB, mHear, gb]), rfl⟩
            · refine g_iload C dX3_heardBy_143 0 rfl ?_
              refine g_iconst C dX3_heardBy_145 ?_
              refine g_iload C dX3_heardBy_146 5 rfl ?_
              refine g_ishl C dX3_heardBy_148 (v := 2) (by decide) ?_
              refine g_ior C dX3_heardBy_149 (v := 2) (by decide) ?_
              refine g_goto C dX3_heardBy_150 (tgt := 155) (by decide) ?_
              refine g_iret C E dX3_heardBy_155 rfl ?_
              exact ⟨rI (by grind [mHB, mHear, gb]), rfl⟩
          · refine g_iconst C dX3_heardBy_120 ?_
            refine g_iload_n C dX3_heardBy_121 7 rfl ?_
            refine g_ishl C dX3_heardBy_122 (v := 1) (by decide) ?_
            refine g_goto C dX3_heardBy_123 (tgt := 127) (by decide) ?_
            refine g_istore C dX3_heardBy_127 (lv' := [(11, .int (iI 1)), (10, .int (iI (-1000))), (9, .int (iI (-1000))), (8, .int (iI level)), (7, .int (iI level)), (6, .int (iI 1)), (0, .ref m), (1, .int (iI 1)), (2, .int (iI 0)), (3, .int (iI tone)), (4, .int (iI level)), (5, .int (iI noise))]) (Nat.le_of_ble_eq_true rfl) rfl ?_
            refine g_aload_n C dX3_heardBy_129 6 rfl ?_
            refine g_iload C dX3_heardBy_130 5 rfl ?_
            refine g_iload_n C dX3_heardBy_132 9 rfl ?_
            refine g_iload C dX3_heardBy_133 3 rfl ?_
            refine g_iload C dX3_heardBy_135 1 rfl ?_
            refine g_callV C dX3_heardBy_137 lkX3_184 M.o rfl (As := [.int (iI 1), .int (iI tone), .int (iI level), .int (iI (-1000))]) (c_X3_isHeardBy M 1 tone level (-1000) hO (by omega) (by omega) (by decide) (by decide) (by omega) (by omega)) rfl rfl ⟨Nat.le_of_ble_eq_true rfl, Nat.le_of_ble_eq_true rfl⟩ (Nat.le_of_ble_eq_true rfl) ?_
            rintro _ _ ⟨rfl, rfl⟩
            refine g_ifF C dX3_heardBy_140 (tgt := 153) (by decide) (fun c140 => ?_) (fun c140 => ?_)
            · refine g_iload C dX3_heardBy_153 0 rfl ?_
              refine g_iret C E dX3_heardBy_155 rfl ?_
              exact ⟨rI (by grind [mHB, mHear, gb]), rfl⟩
            · refine g_iload C dX3_heardBy_143 0 rfl ?_
              refine g_iconst C dX3_heardBy_145 ?_
              refine g_iload C dX3_heardBy_146 5 rfl ?_
              refine g_ishl C dX3_heardBy_148 (v := 2) (by decide) ?_
              refine g_ior C dX3_heardBy_149 (v := 3) (by decide) ?_
              refine g_goto C dX3_heardBy_150 (tgt := 155) (by decide) ?_
              refine g_iret C E dX3_heardBy_155 rfl ?_
              exact ⟨rI (by grind [mHB, mHear, gb]), rfl⟩
    · refine g_iconst C dX3_heardBy_0 ?_
      refine g_iload_n C dX3_heardBy_1 2 rfl ?_
      refine g_isub C dX3_heardBy_2 (v := 0) (by decide) ?_
      refine g_istore C dX3_heardBy_3 (lv' := [(6, .int (iI 0)), (0, .ref m), (1, .int (iI 1)), (2, .int (iI 1)), (3, .int (iI tone)), (4, .int (iI level)), (5, .int (iI noise))]) (Nat.le_of_ble_eq_true rfl) rfl ?_
      refine g_iload_n C dX3_heardBy_5 2 rfl ?_
      refine g_if_ne C dX3_heardBy_6 (tgt := 28) (by decide) (gRo (by decide) (by decide)) (fun _ => ?_) (fun q => absurd q (by decide))
      refine g_iload C dX3_heardBy_28 5 rfl ?_
      refine g_istore C dX3_heardBy_30 (lv' := [(7, .int (iI level)), (6, .int (iI 0)), (0, .ref m), (1, .int (iI 1)), (2, .int (iI 1)), (3, .int (iI tone)), (4, .int (iI level)), (5, .int (iI noise))]) (Nat.le_of_ble_eq_true rfl) rfl ?_
      refine g_iload_n C dX3_heardBy_32 3 rfl ?_
      refine g_if_ne C dX3_heardBy_33 (tgt := 48) (by decide) (gRo (by decide) (by decide)) (fun _ => ?_) (fun q => absurd q (by decide))
      refine g_iload C dX3_heardBy_48 6 rfl ?_
      refine g_istore C dX3_heardBy_50 (lv' := [(8, .int (iI level)), (7, .int (iI level)), (6, .int (iI 0)), (0, .ref m), (1, .int (iI 1)), (2, .int (iI 1)), (3, .int (iI tone)), (4, .int (iI level)), (5, .int (iI noise))]) (Nat.le_of_ble_eq_true rfl) rfl ?_
      refine g_iload C dX3_heardBy_52 8 rfl ?_
      refine g_iconst C dX3_heardBy_54 ?_
      refine g_icmp_ne C dX3_heardBy_55 (tgt := 64) (by decide) (gRo (by omega) (by omega)) (gRo (by decide) (by decide)) (fun c55 => ?_) (fun c55 => ?_)
      · refine g_iload C dX3_heardBy_64 8 rfl ?_
        refine g_aload_n C dX3_heardBy_66 3 rfl ?_
        refine g_get C dX3_heardBy_67 kcX3 6 q1469 (fun _ _ _ _ h9 => h9) M.o (Nat.le_of_ble_eq_true rfl) rfl ?_
        refine g_iconst C dX3_heardBy_70 ?_
        refine g_iald C dX3_heardBy_71 (v := g 6 1) M.a6 (by decide) (by decide) (by decide) rfl ?_
        refine g_isub C dX3_heardBy_72 (v := noise - (g 6 1)) rfl ?_
        refine g_istore C dX3_heardBy_73 (lv' := [(9, .int (iI (noise - (g 6 1)))), (8, .int (iI level)), (7, .int (iI level)), (6, .int (iI 0)), (0, .ref m), (1, .int (iI 1)), (2, .int (iI 1)), (3, .int (iI tone)), (4, .int (iI level)), (5, .int (iI noise))]) (Nat.le_of_ble_eq_true rfl) rfl ?_
        refine g_iload C dX3_heardBy_75 9 rfl ?_
        refine g_iconst C dX3_heardBy_77 ?_
        refine g_icmp_ne C dX3_heardBy_78 (tgt := 87) (by decide) (gRo (by omega) (by omega)) (gRo (by decide) (by decide)) (fun c78 => ?_) (fun c78 => ?_)
        · refine g_iload C dX3_heardBy_87 9 rfl ?_
          refine g_aload_n C dX3_heardBy_89 4 rfl ?_
          refine g_iload C dX3_heardBy_90 3 rfl ?_
          refine g_iload_n C dX3_heardBy_92 7 rfl ?_
          refine g_callV C dX3_heardBy_93 lkX3_181 M.o rfl (As := [.int (iI 0), .int (iI tone)]) (c_X3_airOf M 0 tone (by omega) (by omega)) rfl rfl ⟨Nat.le_of_ble_eq_true rfl, Nat.le_of_ble_eq_true rfl⟩ (Nat.le_of_ble_eq_true rfl) ?_
          rintro _ _ ⟨rfl, rfl⟩
          have b17 := hiA (6 + 6 * 0 + tone) (by omega) (by omega)
          refine g_aload_n C dX3_heardBy_96 4 rfl ?_
          refine g_iload C dX3_heardBy_97 3 rfl ?_
          refine g_iload_n C dX3_heardBy_99 7 rfl ?_
          refine g_callV C dX3_heardBy_100 lkX3_177 M.o rfl (As := [.int (iI 0), .int (iI tone)]) (c_X3_boneOf M 0 tone (by omega) (by omega)) rfl rfl ⟨Nat.le_of_ble_eq_true rfl, Nat.le_of_ble_eq_true rfl⟩ (Nat.le_of_ble_eq_true rfl) ?_
          rintro _ _ ⟨rfl, rfl⟩
          have b18 := hiA (18 + 6 * 0 + tone) (by omega) (by omega)
          refine g_isub C dX3_heardBy_103 (v := g 6 (6 + 6 * 0 + tone) - (g 6 (18 + 6 * 0 + tone))) rfl ?_
          refine g_isub C dX3_heardBy_104 (v := noise - (g 6 (6 + 6 * 0 + tone) - (g 6 (18 + 6 * 0 + tone)))) rfl ?_
          refine g_istore C dX3_heardBy_105 (lv' := [(10, .int (iI (noise - (g 6 (6 + 6 * 0 + tone) - (g 6 (18 + 6 * 0 + tone)))))), (9, .int (iI (noise - (g 6 1)))), (8, .int (iI level)), (7, .int (iI level)), (6, .int (iI 0)), (0, .ref m), (1, .int (iI 1)), (2, .int (iI 1)), (3, .int (iI tone)), (4, .int (iI level)), (5, .int (iI noise))]) (Nat.le_of_ble_eq_true rfl) rfl ?_
          refine g_aload_n C dX3_heardBy_107 5 rfl ?_
          refine g_iload_n C dX3_heardBy_108 7 rfl ?_
          refine g_iload_n C dX3_heardBy_109 8 rfl ?_
          refine g_iload C dX3_heardBy_110 3 rfl ?_
          refine g_iload C dX3_heardBy_112 1 rfl ?_
          refine g_callV C dX3_heardBy_114 lkX3_184 M.o rfl (As := [.int (iI 1), .int (iI tone), .int (iI level), .int (iI (noise - (g 6 1)))]) (c_X3_isHeardBy M 1 tone level (noise - (g 6 1)) hO (by omega) (by omega) (by omega) (by omega) (by omega) (by omega)) rfl rfl ⟨Nat.le_of_ble_eq_true rfl, Nat.le_of_ble_eq_true rfl⟩ (Nat.le_of_ble_eq_true rfl) ?_
          rintro _ _ ⟨rfl, rfl⟩
          refine g_ifF C dX3_heardBy_117 (tgt := 126) (by decide) (fun c117 => ?_) (fun c117 => ?_)
          · refine g_iconst C dX3_heardBy_126 ?_
            refine g_istore C dX3_heardBy_127 (lv' := [(11, .int (iI 0)), (10, .int (iI (noise - (g 6 (6 + 6 * 0 + tone) - (g 6 (18 + 6 * 0 + tone)))))), (9, .int (iI (noise - (g 6 1)))), (8, .int (iI level)), (7, .int (iI level)), (6, .int (iI 0)), (0, .ref m), (1, .int (iI 1)), (2, .int (iI 1)), (3, .int (iI tone)), (4, .int (iI level)), (5, .int (iI noise))]) (Nat.le_of_ble_eq_true rfl) rfl ?_
            refine g_aload_n C dX3_heardBy_129 6 rfl ?_
            refine g_iload C dX3_heardBy_130 5 rfl ?_
            refine g_iload_n C dX3_heardBy_132 9 rfl ?_
            refine g_iload C dX3_heardBy_133 3 rfl ?_
            refine g_iload C dX3_heardBy_135 1 rfl ?_
            refine g_callV C dX3_heardBy_137 lkX3_184 M.o rfl (As := [.int (iI 0), .int (iI tone), .int (iI level), .int (iI (noise - (g 6 (6 + 6 * 0 + tone) - (g 6 (18 + 6 * 0 + tone)))))]) (c_X3_isHeardBy M 0 tone level (noise - (g 6 (6 + 6 * 0 + tone) - (g 6 (18 + 6 * 0 + tone)))) hO (by omega) (by omega) (by omega) (by omega) (by omega) (by omega)) rfl rfl ⟨Nat.le_of_ble_eq_true rfl, Nat.le_of_ble_eq_true rfl⟩ (Nat.le_of_ble_eq_true rfl) ?_
            rintro _ _ ⟨rfl, rfl⟩
            refine g_ifF C dX3_heardBy_140 (tgt := 153) (by decide) (fun c140 => ?_) (fun c140 => ?_)
            · refine g_iload C dX3_heardBy_153 0 rfl ?_
              refine g_iret C E dX3_heardBy_155 rfl ?_
              exact ⟨rI (by grind [mHB, mHear, gb]), rfl⟩
            · refine g_iload C dX3_heardBy_143 0 rfl ?_
              refine g_iconst C dX3_heardBy_145 ?_
              refine g_iload C dX3_heardBy_146 5 rfl ?_
              refine g_ishl C dX3_heardBy_148 (v := 1) (by decide) ?_
              refine g_ior C dX3_heardBy_149 (v := 1) (by decide) ?_
              refine g_goto C dX3_heardBy_150 (tgt := 155) (by decide) ?_
              refine g_iret C E dX3_heardBy_155 rfl ?_
              exact ⟨rI (by grind [mHB, mHear, gb]), rfl⟩
          · refine g_iconst C dX3_heardBy_120 ?_
            refine g_iload_n C dX3_heardBy_121 7 rfl ?_
            refine g_ishl C dX3_heardBy_122 (v := 2) (by decide) ?_
            refine g_goto C dX3_heardBy_123 (tgt := 127) (by decide) ?_
            refine g_istore C dX3_heardBy_127 (lv' := [(11, .int (iI 2)), (10, .int (iI (noise - (g 6 (6 + 6 * 0 + tone) - (g 6 (18 + 6 * 0 + tone)))))), (9, .int (iI (noise - (g 6 1)))), (8, .int (iI level)), (7, .int (iI level)), (6, .int (iI 0)), (0, .ref m), (1, .int (iI 1)), (2, .int (iI 1)), (3, .int (iI tone)), (4, .int (iI level)), (5, .int (iI noise))]) (Nat.le_of_ble_eq_true rfl) rfl ?_
            refine g_aload_n C dX3_heardBy_129 6 rfl ?_
            refine g_iload C dX3_heardBy_130 5 rfl ?_
            refine g_iload_n C dX3_heardBy_132 9 rfl ?_
            refine g_iload C dX3_heardBy_133 3 rfl ?_
            refine g_iload C dX3_heardBy_135 1 rfl ?_
            refine g_callV C dX3_heardBy_137 lkX3_184 M.o rfl (As := [.int (iI 0), .int (iI tone), .int (iI level), .int (iI (noise - (g 6 (6 + 6 * 0 + tone) - (g 6 (18 + 6 * 0 + tone)))))]) (c_X3_isHeardBy M 0 tone level (noise - (g 6 (6 + 6 * 0 + tone) - (g 6 (18 + 6 * 0 + tone)))) hO (by omega) (by omega) (by omega) (by omega) (by omega) (by omega)) rfl rfl ⟨Nat.le_of_ble_eq_true rfl, Nat.le_of_ble_eq_true rfl⟩ (Nat.le_of_ble_eq_true rfl) ?_
            rintro _ _ ⟨rfl, rfl⟩
            refine g_ifF C dX3_heardBy_140 (tgt := 153) (by decide) (fun c140 => ?_) (fun c140 => ?_)
            · refine g_iload C dX3_heardBy_153 0 rfl ?_
              refine g_iret C E dX3_heardBy_155 rfl ?_
              exact ⟨rI (by grind [mHB, mHear, gb]), rfl⟩
            · refine g_iload C dX3_heardBy_143 0 rfl ?_
              refine g_iconst C dX3_heardBy_145 ?_
              refine g_iload C dX3_heardBy_146 5 rfl ?_
              refine g_ishl C dX3_heardBy_148 (v := 1) (by decide) ?_
              refine g_ior C dX3_heardBy_149 (v := 3) (by decide) ?_
              refine g_goto C dX3_heardBy_150 (tgt := 155) (by decide) ?_
              refine g_iret C E dX3_heardBy_155 rfl ?_
              exact ⟨rI (by grind [mHB, mHear, gb]), rfl⟩
        · refine g_sipush C dX3_heardBy_81 (by decide) ?_
          refine g_goto C dX3_heardBy_84 (tgt := 105) (by decide) ?_
          refine g_istore C dX3_heardBy_105 (lv' := [(10, .int (iI (-1000))), (9, .int (iI (noise - (g 6 1)))), (8, .int (iI level)), (7, .int (iI level)), (6, .int (iI 0)), (0, .ref m), (1, .int (iI 1)), (2, .int (iI 1)), (3, .int (iI tone)), (4, .int (iI level)), (5, .int (iI noise))]) (Nat.le_of_ble_eq_true rfl) rfl ?_
          refine g_aload_n C dX3_heardBy_107 5 rfl ?_
          refine g_iload_n C dX3_heardBy_108 7 rfl ?_
          refine g_iload_n C dX3_heardBy_109 8 rfl ?_
          refine g_iload C dX3_heardBy_110 3 rfl ?_
          refine g_iload C dX3_heardBy_112 1 rfl ?_
          refine g_callV C dX3_heardBy_114 lkX3_184 M.o rfl (As := [.int (iI 1), .int (iI tone), .int (iI level), .int (iI (noise - (g 6 1)))]) (c_X3_isHeardBy M 1 tone level (noise - (g 6 1)) hO (by omega) (by omega) (by omega) (by omega) (by omega) (by omega)) rfl rfl ⟨Nat.le_of_ble_eq_true rfl, Nat.le_of_ble_eq_true rfl⟩ (Nat.le_of_ble_eq_true rfl) ?_
          rintro _ _ ⟨rfl, rfl⟩
          refine g_ifF C dX3_heardBy_117 (tgt := 126) (by decide) (fun c117 => ?_) (fun c117 => ?_)
          · refine g_iconst C dX3_heardBy_126 ?_
            refine g_istore C dX3_heardBy_127 (lv' := [(11, .int (iI 0)), (10, .int (iI (-1000))), (9, .int (iI (noise - (g 6 1)))), (8, .int (iI level)), (7, .int (iI level)), (6, .int (iI 0)), (0, .ref m), (1, .int (iI 1)), (2, .int (iI 1)), (3, .int (iI tone)), (4, .int (iI level)), (5, .int (iI noise))]) (Nat.le_of_ble_eq_true rfl) rfl ?_
            refine g_aload_n C dX3_heardBy_129 6 rfl ?_
            refine g_iload C dX3_heardBy_130 5 rfl ?_
            refine g_iload_n C dX3_heardBy_132 9 rfl ?_
            refine g_iload C dX3_heardBy_133 3 rfl ?_
            refine g_iload C dX3_heardBy_135 1 rfl ?_
            refine g_callV C dX3_heardBy_137 lkX3_184 M.o rfl (As := [.int (iI 0), .int (iI tone), .int (iI level), .int (iI (-1000))]) (c_X3_isHeardBy M 0 tone level (-1000) hO (by omega) (by omega) (by decide) (by decide) (by omega) (by omega)) rfl rfl ⟨Nat.le_of_ble_eq_true rfl, Nat.le_of_ble_eq_true rfl⟩ (Nat.le_of_ble_eq_true rfl) ?_
            rintro _ _ ⟨rfl, rfl⟩
            refine g_ifF C dX3_heardBy_140 (tgt := 153) (by decide) (fun c140 => ?_) (fun c140 => ?_)
            · refine g_iload C dX3_heardBy_153 0 rfl ?_
              refine g_iret C E dX3_heardBy_155 rfl ?_
              exact ⟨rI (by grind [mHB, mHear, gb]), rfl⟩
            · refine g_iload C dX3_heardBy_143 0 rfl ?_
              refine g_iconst C dX3_heardBy_145 ?_
              refine g_iload C dX3_heardBy_146 5 rfl ?_
              refine g_ishl C dX3_heardBy_148 (v := 1) (by decide) ?_
              refine g_ior C dX3_heardBy_149 (v := 1) (by decide) ?_
              refine g_goto C dX3_heardBy_150 (tgt := 155) (by decide) ?_
              refine g_iret C E dX3_heardBy_155 rfl ?_
              exact ⟨rI (by grind [mHB, mHear, gb]), rfl⟩
          · refine g_iconst C dX3_heardBy_120 ?_
            refine g_iload_n C dX3_heardBy_121 7 rfl ?_
            refine g_ishl C dX3_heardBy_122 (v := 2) (by decide) ?_
            refine g_goto C dX3_heardBy_123 (tgt := 127) (by decide) ?_
            refine g_istore C dX3_heardBy_127 (lv' := [(11, .int (iI 2)), (10, .int (iI (-1000))), (9, .int (iI (noise - (g 6 1)))), (8, .int (iI level)), (7, .int (iI level)), (6, .int (iI 0)), (0, .ref m), (1, .int (iI 1)), (2, .int (iI 1)), (3, .int (iI tone)), (4, .int (iI level)), (5, .int (iI noise))]) (Nat.le_of_ble_eq_true rfl) rfl ?_
            refine g_aload_n C dX3_heardBy_129 6 rfl ?_
            refine g_iload C dX3_heardBy_130 5 rfl ?_
            refine g_iload_n C dX3_heardBy_132 9 rfl ?_
            refine g_iload C dX3_heardBy_133 3 rfl ?_
            refine g_iload C dX3_heardBy_135 1 rfl ?_
            refine g_callV C dX3_heardBy_137 lkX3_184 M.o rfl (As := [.int (iI 0), .int (iI tone), .int (iI level), .int (iI (-1000))]) (c_X3_isHeardBy M 0 tone level (-1000) hO (by omega) (by omega) (by decide) (by decide) (by omega) (by omega)) rfl rfl ⟨Nat.le_of_ble_eq_true rfl, Nat.le_of_ble_eq_true rfl⟩ (Nat.le_of_ble_eq_true rfl) ?_
            rintro _ _ ⟨rfl, rfl⟩
            refine g_ifF C dX3_heardBy_140 (tgt := 153) (by decide) (fun c140 => ?_) (fun c140 => ?_)
            · refine g_iload C dX3_heardBy_153 0 rfl ?_
              refine g_iret C E dX3_heardBy_155 rfl ?_
              exact ⟨rI (by grind [mHB, mHear, gb]), rfl⟩
            · refine g_iload C dX3_heardBy_143 0 rfl ?_
              refine g_iconst C dX3_heardBy_145 ?_
              refine g_iload C dX3_heardBy_146 5 rfl ?_
              refine g_ishl C dX3_heardBy_148 (v := 1) (by decide) ?_
              refine g_ior C dX3_heardBy_149 (v := 3) (by decide) ?_
              refine g_goto C dX3_heardBy_150 (tgt := 155) (by decide) ?_
              refine g_iret C E dX3_heardBy_155 rfl ?_
              exact ⟨rI (by grind [mHB, mHear, gb]), rfl⟩
      · refine g_sipush C dX3_heardBy_58 (by decide) ?_
        refine g_goto C dX3_heardBy_61 (tgt := 73) (by decide) ?_
        refine g_istore C dX3_heardBy_73 (lv' := [(9, .int (iI (-1000))), (8, .int (iI level)), (7, .int (iI level)), (6, .int (iI 0)), (0, .ref m), (1, .int (iI 1)), (2, .int (iI 1)), (3, .int (iI tone)), (4, .int (iI level)), (5, .int (iI noise))]) (Nat.le_of_ble_eq_true rfl) rfl ?_
        refine g_iload C dX3_heardBy_75 9 rfl ?_
        refine g_iconst C dX3_heardBy_77 ?_
        refine g_icmp_ne C dX3_heardBy_78 (tgt := 87) (by decide) (gRo (by omega) (by omega)) (gRo (by decide) (by decide)) (fun c78 => ?_) (fun c78 => ?_)
        · refine g_iload C dX3_heardBy_87 9 rfl ?_
          refine g_aload_n C dX3_heardBy_89 4 rfl ?_
          refine g_iload C dX3_heardBy_90 3 rfl ?_
          refine g_iload_n C dX3_heardBy_92 7 rfl ?_
          refine g_callV C dX3_heardBy_93 lkX3_181 M.o rfl (As := [.int (iI 0), .int (iI tone)]) (c_X3_airOf M 0 tone (by omega) (by omega)) rfl rfl ⟨Nat.le_of_ble_eq_true rfl, Nat.le_of_ble_eq_true rfl⟩ (Nat.le_of_ble_eq_true rfl) ?_
          rintro _ _ ⟨rfl, rfl⟩
          have b19 := hiA (6 + 6 * 0 + tone) (by omega) (by omega)
          refine g_aload_n C dX3_heardBy_96 4 rfl ?_
          refine g_iload C dX3_heardBy_97 3 rfl ?_
          refine g_iload_n C dX3_heardBy_99 7 rfl ?_
          refine g_callV C dX3_heardBy_100 lkX3_177 M.o rfl (As := [.int (iI 0), .int (iI tone)]) (c_X3_boneOf M 0 tone (by omega) (by omega)) rfl rfl ⟨Nat.le_of_ble_eq_true rfl, Nat.le_of_ble_eq_true rfl⟩ (Nat.le_of_ble_eq_true rfl) ?_
          rintro _ _ ⟨rfl, rfl⟩
          have b20 := hiA (18 + 6 * 0 + tone) (by omega) (by omega)
          refine g_isub C dX3_heardBy_103 (v := g 6 (6 + 6 * 0 + tone) - (g 6 (18 + 6 * 0 + tone))) rfl ?_
          refine g_isub C dX3_heardBy_104 (v := noise - (g 6 (6 + 6 * 0 + tone) - (g 6 (18 + 6 * 0 + tone)))) rfl ?_
          refine g_istore C dX3_heardBy_105 (lv' := [(10, .int (iI (noise - (g 6 (6 + 6 * 0 + tone) - (g 6 (18 + 6 * 0 + tone)))))), (9, .int (iI (-1000))), (8, .int (iI level)), (7, .int (iI level)), (6, .int (iI 0)), (0, .ref m), (1, .int (iI 1)), (2, .int (iI 1)), (3, .int (iI tone)), (4, .int (iI level)), (5, .int (iI noise))]) (Nat.le_of_ble_eq_true rfl) rfl ?_
          refine g_aload_n C dX3_heardBy_107 5 rfl ?_
          refine g_iload_n C dX3_heardBy_108 7 rfl ?_
          refine g_iload_n C dX3_heardBy_109 8 rfl ?_
          refine g_iload C dX3_heardBy_110 3 rfl ?_
          refine g_iload C dX3_heardBy_112 1 rfl ?_
          refine g_callV C dX3_heardBy_114 lkX3_184 M.o rfl (As := [.int (iI 1), .int (iI tone), .int (iI level), .int (iI (-1000))]) (c_X3_isHeardBy M 1 tone level (-1000) hO (by omega) (by omega) (by decide) (by decide) (by omega) (by omega)) rfl rfl ⟨Nat.le_of_ble_eq_true rfl, Nat.le_of_ble_eq_true rfl⟩ (Nat.le_of_ble_eq_true rfl) ?_
          rintro _ _ ⟨rfl, rfl⟩
          refine g_ifF C dX3_heardBy_117 (tgt := 126) (by decide) (fun c117 => ?_) (fun c117 => ?_)
          · refine g_iconst C dX3_heardBy_126 ?_
            refine g_istore C dX3_heardBy_127 (lv' := [(11, .int (iI 0)), (10, .int (iI (noise - (g 6 (6 + 6 * 0 + tone) - (g 6 (18 + 6 * 0 + tone)))))), (9, .int (iI (-1000))), (8, .int (iI level)), (7, .int (iI level)), (6, .int (iI 0)), (0, .ref m), (1, .int (iI 1)), (2, .int (iI 1)), (3, .int (iI tone)), (4, .int (iI level)), (5, .int (iI noise))]) (Nat.le_of_ble_eq_true rfl) rfl ?_
            refine g_aload_n C dX3_heardBy_129 6 rfl ?_
            refine g_iload C dX3_heardBy_130 5 rfl ?_
            refine g_iload_n C dX3_heardBy_132 9 rfl ?_
            refine g_iload C dX3_heardBy_133 3 rfl ?_
            refine g_iload C dX3_heardBy_135 1 rfl ?_
            refine g_callV C dX3_heardBy_137 lkX3_184 M.o rfl (As := [.int (iI 0), .int (iI tone), .int (iI level), .int (iI (noise - (g 6 (6 + 6 * 0 + tone) - (g 6 (18 + 6 * 0 + tone)))))]) (c_X3_isHeardBy M 0 tone level (noise - (g 6 (6 + 6 * 0 + tone) - (g 6 (18 + 6 * 0 + tone)))) hO (by omega) (by omega) (by omega) (by omega) (by omega) (by omega)) rfl rfl ⟨Nat.le_of_ble_eq_true rfl, Nat.le_of_ble_eq_true rfl⟩ (Nat.le_of_ble_eq_true rfl) ?_
            rintro _ _ ⟨rfl, rfl⟩
            refine g_ifF C dX3_heardBy_140 (tgt := 153) (by decide) (fun c140 => ?_) (fun c140 => ?_)
            · refine g_iload C dX3_heardBy_153 0 rfl ?_
              refine g_iret C E dX3_heardBy_155 rfl ?_
              exact ⟨rI (by grind [mHB, mHear, gb]), rfl⟩
            · refine g_iload C dX3_heardBy_143 0 rfl ?_
              refine g_iconst C dX3_heardBy_145 ?_
              refine g_iload C dX3_heardBy_146 5 rfl ?_
              refine g_ishl C dX3_heardBy_148 (v := 1) (by decide) ?_
              refine g_ior C dX3_heardBy_149 (v := 1) (by decide) ?_
              refine g_goto C dX3_heardBy_150 (tgt := 155) (by decide) ?_
              refine g_iret C E dX3_heardBy_155 rfl ?_
              exact ⟨rI (by grind [mHB, mHear, gb]), rfl⟩
          · refine g_iconst C dX3_heardBy_120 ?_
            refine g_iload_n C dX3_heardBy_121 7 rfl ?_
            refine g_ishl C dX3_heardBy_122 (v := 2) (by decide) ?_
            refine g_goto C dX3_heardBy_123 (tgt := 127) (by decide) ?_
            refine g_istore C dX3_heardBy_127 (lv' := [(11, .int (iI 2)), (10, .int (iI (noise - (g 6 (6 + 6 * 0 + tone) - (g 6 (18 + 6 * 0 + tone)))))), (9, .int (iI (-1000))), (8, .int (iI level)), (7, .int (iI level)), (6, .int (iI 0)), (0, .ref m), (1, .int (iI 1)), (2, .int (iI 1)), (3, .int (iI tone)), (4, .int (iI level)), (5, .int (iI noise))]) (Nat.le_of_ble_eq_true rfl) rfl ?_
            refine g_aload_n C dX3_heardBy_129 6 rfl ?_
            refine g_iload C dX3_heardBy_130 5 rfl ?_
            refine g_iload_n C dX3_heardBy_132 9 rfl ?_
            refine g_iload C dX3_heardBy_133 3 rfl ?_
            refine g_iload C dX3_heardBy_135 1 rfl ?_
            refine g_callV C dX3_heardBy_137 lkX3_184 M.o rfl (As := [.int (iI 0), .int (iI tone), .int (iI level), .int (iI (noise - (g 6 (6 + 6 * 0 + tone) - (g 6 (18 + 6 * 0 + tone)))))]) (c_X3_isHeardBy M 0 tone level (noise - (g 6 (6 + 6 * 0 + tone) - (g 6 (18 + 6 * 0 + tone)))) hO (by omega) (by omega) (by omega) (by omega) (by omega) (by omega)) rfl rfl ⟨Nat.le_of_ble_eq_true rfl, Nat.le_of_ble_eq_true rfl⟩ (Nat.le_of_ble_eq_true rfl) ?_
            rintro _ _ ⟨rfl, rfl⟩
            refine g_ifF C dX3_heardBy_140 (tgt := 153) (by decide) (fun c140 => ?_) (fun c140 => ?_)
            · refine g_iload C dX3_heardBy_153 0 rfl ?_
              refine g_iret C E dX3_heardBy_155 rfl ?_
              exact ⟨rI (by grind [mHB, mHear, gb]), rfl⟩
            · refine g_iload C dX3_heardBy_143 0 rfl ?_
              refine g_iconst C dX3_heardBy_145 ?_
              refine g_iload C dX3_heardBy_146 5 rfl ?_
              refine g_ishl C dX3_heardBy_148 (v := 1) (by decide) ?_
              refine g_ior C dX3_heardBy_149 (v := 3) (by decide) ?_
              refine g_goto C dX3_heardBy_150 (tgt := 155) (by decide) ?_
              refine g_iret C E dX3_heardBy_155 rfl ?_
              exact ⟨rI (by grind [mHB, mHear, gb]), rfl⟩
        · refine g_sipush C dX3_heardBy_81 (by decide) ?_
          refine g_goto C dX3_heardBy_84 (tgt := 105) (by decide) ?_
          refine g_istore C dX3_heardBy_105 (lv' := [(10, .int (iI (-1000))), (9, .int (iI (-1000))), (8, .int (iI level)), (7, .int (iI level)), (6, .int (iI 0)), (0, .ref m), (1, .int (iI 1)), (2, .int (iI 1)), (3, .int (iI tone)), (4, .int (iI level)), (5, .int (iI noise))]) (Nat.le_of_ble_eq_true rfl) rfl ?_
          refine g_aload_n C dX3_heardBy_107 5 rfl ?_
          refine g_iload_n C dX3_heardBy_108 7 rfl ?_
          refine g_iload_n C dX3_heardBy_109 8 rfl ?_
          refine g_iload C dX3_heardBy_110 3 rfl ?_
          refine g_iload C dX3_heardBy_112 1 rfl ?_
          refine g_callV C dX3_heardBy_114 lkX3_184 M.o rfl (As := [.int (iI 1), .int (iI tone), .int (iI level), .int (iI (-1000))]) (c_X3_isHeardBy M 1 tone level (-1000) hO (by omega) (by omega) (by decide) (by decide) (by omega) (by omega)) rfl rfl ⟨Nat.le_of_ble_eq_true rfl, Nat.le_of_ble_eq_true rfl⟩ (Nat.le_of_ble_eq_true rfl) ?_
          rintro _ _ ⟨rfl, rfl⟩
          refine g_ifF C dX3_heardBy_117 (tgt := 126) (by decide) (fun c117 => ?_) (fun c117 => ?_)
          · refine g_iconst C dX3_heardBy_126 ?_
            refine g_istore C dX3_heardBy_127 (lv' := [(11, .int (iI 0)), (10, .int (iI (-1000))), (9, .int (iI (-1000))), (8, .int (iI level)), (7, .int (iI level)), (6, .int (iI 0)), (0, .ref m), (1, .int (iI 1)), (2, .int (iI 1)), (3, .int (iI tone)), (4, .int (iI level)), (5, .int (iI noise))]) (Nat.le_of_ble_eq_true rfl) rfl ?_
            refine g_aload_n C dX3_heardBy_129 6 rfl ?_
            refine g_iload C dX3_heardBy_130 5 rfl ?_
            refine g_iload_n C dX3_heardBy_132 9 rfl ?_
            refine g_iload C dX3_heardBy_133 3 rfl ?_
            refine g_iload C dX3_heardBy_135 1 rfl ?_
            refine g_callV C dX3_heardBy_137 lkX3_184 M.o rfl (As := [.int (iI 0), .int (iI tone), .int (iI level), .int (iI (-1000))]) (c_X3_isHeardBy M 0 tone level (-1000) hO (by omega) (by omega) (by decide) (by decide) (by omega) (by omega)) rfl rfl ⟨Nat.le_of_ble_eq_true rfl, Nat.le_of_ble_eq_true rfl⟩ (Nat.le_of_ble_eq_true rfl) ?_
            rintro _ _ ⟨rfl, rfl⟩
            refine g_ifF C dX3_heardBy_140 (tgt := 153) (by decide) (fun c140 => ?_) (fun c140 => ?_)
            · refine g_iload C dX3_heardBy_153 0 rfl ?_
              refine g_iret C E dX3_heardBy_155 rfl ?_
              exact ⟨rI (by grind [mHB, mHear, gb]), rfl⟩
            · refine g_iload C dX3_heardBy_143 0 rfl ?_
              refine g_iconst C dX3_heardBy_145 ?_
              refine g_iload C dX3_heardBy_146 5 rfl ?_
              refine g_ishl C dX3_heardBy_148 (v := 1) (by decide) ?_
              refine g_ior C dX3_heardBy_149 (v := 1) (by decide) ?_
              refine g_goto C dX3_heardBy_150 (tgt := 155) (by decide) ?_
              refine g_iret C E dX3_heardBy_155 rfl ?_
              exact ⟨rI (by grind [mHB, mHear, gb]), rfl⟩
          · refine g_iconst C dX3_heardBy_120 ?_
            refine g_iload_n C dX3_heardBy_121 7 rfl ?_
            refine g_ishl C dX3_heardBy_122 (v := 2) (by decide) ?_
            refine g_goto C dX3_heardBy_123 (tgt := 127) (by decide) ?_
            refine g_istore C dX3_heardBy_127 (lv' := [(11, .int (iI 2)), (10, .int (iI (-1000))), (9, .int (iI (-1000))), (8, .int (iI level)), (7, .int (iI level)), (6, .int (iI 0)), (0, .ref m), (1, .int (iI 1)), (2, .int (iI 1)), (3, .int (iI tone)), (4, .int (iI level)), (5, .int (iI noise))]) (Nat.le_of_ble_eq_true rfl) rfl ?_
            refine g_aload_n C dX3_heardBy_129 6 rfl ?_
            refine g_iload C dX3_heardBy_130 5 rfl ?_
            refine g_iload_n C dX3_heardBy_132 9 rfl ?_
            refine g_iload C dX3_heardBy_133 3 rfl ?_
            refine g_iload C dX3_heardBy_135 1 rfl ?_
            refine g_callV C dX3_heardBy_137 lkX3_184 M.o rfl (As := [.int (iI 0), .int (iI tone), .int (iI level), .int (iI (-1000))]) (c_X3_isHeardBy M 0 tone level (-1000) hO (by omega) (by omega) (by decide) (by decide) (by omega) (by omega)) rfl rfl ⟨Nat.le_of_ble_eq_true rfl, Nat.le_of_ble_eq_true rfl⟩ (Nat.le_of_ble_eq_true rfl) ?_
            rintro _ _ ⟨rfl, rfl⟩
            refine g_ifF C dX3_heardBy_140 (tgt := 153) (by decide) (fun c140 => ?_) (fun c140 => ?_)
            · refine g_iload C dX3_heardBy_153 0 rfl ?_
              refine g_iret C E dX3_heardBy_155 rfl ?_
              exact ⟨rI (by grind [mHB, mHear, gb]), rfl⟩
            · refine g_iload C dX3_heardBy_143 0 rfl ?_
              refine g_iconst C dX3_heardBy_145 ?_
              refine g_iload C dX3_heardBy_146 5 rfl ?_
              refine g_ishl C dX3_heardBy_148 (v := 1) (by decide) ?_
              refine g_ior C dX3_heardBy_149 (v := 3) (by decide) ?_
              refine g_goto C dX3_heardBy_150 (tgt := 155) (by decide) ?_
              refine g_iret C E dX3_heardBy_155 rfl ?_
              exact ⟨rI (by grind [mHB, mHear, gb]), rfl⟩
