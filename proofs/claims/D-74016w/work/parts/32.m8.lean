/-! THE REFERENCE, walks 8 -/
set_option maxRecDepth 100000
theorem lkX3_282 : gLkV RX3 282 yX3_answers cX3_answers 5 (some .int) 2 := ⟨⟨q1780, q1782, qs83, q111, q1783⟩, ⟨by decide, by decide⟩, by decide +kernel⟩
theorem lkX3_285 : gLkV RX3 285 yX3_isSlip cX3_isSlip 3 (some .boolean) 1 := ⟨⟨q1816, q1818, qs91, q111, q1819⟩, ⟨by decide, by decide⟩, by decide +kernel⟩
theorem c_X3_isSlip {G : gG} {h : gH} {h0 : gH} {m : Nat} {ad : Nat → Nat} {f : Nat → Int} {g : Nat → Int → Int} (M : mSt G h0 h m ad f g) (number : Int) (hO : mOk (g 6) (g 18)) (hnumber1 : -2147483648 ≤ number) (hnumber2 : number ≤ 2147483647) : gC G yX3_isSlip (.code yX3_isSlip cX3_isSlip 3 (some .boolean)) 0 0 0 [.ref m, .int (iI number)] h (fun r h' => r = some (.int (iI (gb (mSlip (g 6) number)))) ∧ h = h') := by
  refine gC.of (by decide) (Nat.le_of_ble_eq_true rfl) rfl ?_
  intro X C E hI
  have C : gCtx G X cX3_isSlip 3 RX3 0 (some .boolean) := C
  obtain ⟨hI_, hr, hn, hT, hS_⟩ := id hO
  obtain ⟨hi0, hi1, hi2, hi3, hi4, hi5, hiA, hiR⟩ := id hI_
  obtain ⟨hs1, hs3, hs4, hs5, hs6, hs7, hs8, hs11, hs2⟩ := id hS_
  refine g_iconst C dX3_isSlip_0 ?_
  refine g_istore_n C dX3_isSlip_1 (lv' := [(2, .int (iI 0)), (0, .ref m), (1, .int (iI number))]) 2 rfl (Nat.le_of_ble_eq_true rfl) rfl ?_
  have L2 : ∀ (n : Nat) (k : Int) (hk : 0 ≤ k ∧ k ≤ g 6 5) (hn9 : g 6 5 - k < n) (hs : mFind (fun k => decide (g 6 (30 + k) = number)) (g 6 5 - k).toNat k = mFind (fun k => decide (g 6 (30 + k) = number)) (g 6 5 - 0).toNat 0), gW X h 0 0 2 [(2, .int (iI k)), (0, .ref m), (1, .int (iI number))] [] := by
    intro n
    induction n with
    | zero => intro k hk hn9 hs; exfalso; omega
    | succ n ih =>
      intro k hk hn9 hs
      refine g_iload_n C dX3_isSlip_2 0 rfl ?_
      refine g_aload_n C dX3_isSlip_3 1 rfl ?_
      refine g_get C dX3_isSlip_4 kcX3 6 q1469 (fun _ _ _ _ h9 => h9) M.o (Nat.le_of_ble_eq_true rfl) rfl ?_
      refine g_iconst C dX3_isSlip_7 ?_
      refine g_iald C dX3_isSlip_8 (v := g 6 5) M.a6 (by decide) (by decide) (by decide) rfl ?_
      refine g_icmp_ge C dX3_isSlip_9 (tgt := 33) (by decide) (gRo (by omega) (by omega)) (hiR _) (fun c9 => ?_) (fun c9 => ?_)
      · refine g_iconst C dX3_isSlip_33 ?_
        refine g_bret C E dX3_isSlip_34 rfl false rfl ?_
        have e9 : mSlip (g 6) number = false := by
          unfold mSlip
          rw [← hs]
          rw [mFind_end (by omega)]; rfl
        exact ⟨rB e9.symm, rfl⟩
      · refine g_aload_n C dX3_isSlip_12 1 rfl ?_
        refine g_get C dX3_isSlip_13 kcX3 6 q1469 (fun _ _ _ _ h9 => h9) M.o (Nat.le_of_ble_eq_true rfl) rfl ?_
        refine g_bipush C dX3_isSlip_16 (by decide) ?_
        refine g_iload_n C dX3_isSlip_18 0 rfl ?_
        refine g_iadd C dX3_isSlip_19 (v := 30 + k) rfl ?_
        refine g_iald C dX3_isSlip_20 (v := g 6 (30 + k)) M.a6 (by decide) (by omega) (by omega) rfl ?_
        refine g_iload_n C dX3_isSlip_21 2 rfl ?_
        refine g_icmp_ne C dX3_isSlip_22 (tgt := 27) (by decide) (hiR _) (gRo (by omega) (by omega)) (fun c22 => ?_) (fun c22 => ?_)
        · refine g_iinc C dX3_isSlip_27 (v := k + 1) (lv' := [(2, .int (iI (k + 1))), (0, .ref m), (1, .int (iI number))]) 0 rfl rfl (Nat.le_of_ble_eq_true rfl) rfl ?_
          refine g_goto C dX3_isSlip_30 (tgt := 2) (by decide) ?_
          exact ih (k + 1) (by omega) (by omega) ((mFind_step (p := fun k => decide (g 6 (30 + k) = number)) (by omega) (decide_eq_false (by omega))).trans hs)
        · refine g_iconst C dX3_isSlip_25 ?_
          refine g_bret C E dX3_isSlip_26 rfl true rfl ?_
          have e9 : mSlip (g 6) number = true := by
            unfold mSlip
            rw [← hs]
            rw [mFind_hit (by omega) (decide_eq_true (by omega))]; exact decide_eq_true (by omega)
          exact ⟨rB e9.symm, rfl⟩
  exact L2 ((g 6 5 - 0).toNat + 1) 0 (by omega) (by omega) rfl
theorem c_X3_listens {G : gG} {h : gH} {h0 : gH} {m : Nat} {ad : Nat → Nat} {f : Nat → Int} {g : Nat → Int → Int} (M : mSt G h0 h m ad f g) (slips : Bool) (logged : Bool) (hO : mOk (g 6) (g 18)) (hon : g 18 1 ≠ -2) (h6 : g 18 6 ≤ 29) (hC : mCnt (g 18)) : gC G yX3_listens (.code yX3_listens cX3_listens 5 (some .int)) 9 0 0 [.ref m, .int (iI (gb slips)), .int (iI (gb logged))] h (fun r h' => r = some (.int (iI (mAnsV (g 6) (g 18) (mLis (g 6) (g 18) slips) logged))) ∧ mSt G h0 h' m ad (f) (va_up g 18 (mAnsR (g 6) (g 18) (mLis (g 6) (g 18) slips) logged))) := by
  refine gC.of (by decide) (Nat.le_of_ble_eq_true rfl) rfl ?_
  intro X C E hI
  have C : gCtx G X cX3_listens 5 RX3 9 (some .int) := C
  obtain ⟨hI_, hr, hn, hT, hS_⟩ := id hO
  obtain ⟨hi0, hi1, hi2, hi3, hi4, hi5, hiA, hiR⟩ := id hI_
  obtain ⟨hs1, hs3, hs4, hs5, hs6, hs7, hs8, hs11, hs2⟩ := id hS_
  refine g_aload_n C dX3_listens_0 0 rfl ?_
  refine g_get C dX3_listens_1 kcX3 18 q1481 (fun _ _ _ _ h9 => h9) M.o (Nat.le_of_ble_eq_true rfl) rfl ?_
  refine g_iconst C dX3_listens_4 ?_
  refine g_iald C dX3_listens_5 (v := g 18 1) M.a18 (by decide) (by decide) (by decide) rfl ?_
  refine g_istore_n C dX3_listens_6 (lv' := [(3, .int (iI (g 18 1))), (0, .ref m), (1, .int (iI (gb slips))), (2, .int (iI (gb logged)))]) 3 rfl (Nat.le_of_ble_eq_true rfl) rfl ?_
  refine g_aload_n C dX3_listens_7 1 rfl ?_
  refine g_aload_n C dX3_listens_8 1 rfl ?_
  refine g_get C dX3_listens_9 kcX3 18 q1481 (fun _ _ _ _ h9 => h9) M.o (Nat.le_of_ble_eq_true rfl) rfl ?_
  refine g_iload_n C dX3_listens_12 0 rfl ?_
  refine g_iconst C dX3_listens_13 ?_
  refine g_callS C dX3_listens_14 lkX3_213 (As := [.int (iI (g 18 1)), .int (iI 0)]) (c_X3_at (g 18 1) 0) rfl rfl ⟨Nat.le_of_ble_eq_true rfl, Nat.le_of_ble_eq_true rfl⟩ (Nat.le_of_ble_eq_true rfl) ?_
  rintro _ _ ⟨rfl, rfl⟩
  refine g_iald C dX3_listens_17 (v := g 18 (112 + 11 * (g 18 1) + 0)) M.a18 (by decide) (by omega) (by omega) rfl ?_
  refine g_aload_n C dX3_listens_18 1 rfl ?_
  refine g_get C dX3_listens_19 kcX3 18 q1481 (fun _ _ _ _ h9 => h9) M.o (Nat.le_of_ble_eq_true rfl) rfl ?_
  refine g_iload_n C dX3_listens_22 0 rfl ?_
  refine g_iconst C dX3_listens_23 ?_
  refine g_callS C dX3_listens_24 lkX3_213 (As := [.int (iI (g 18 1)), .int (iI 1)]) (c_X3_at (g 18 1) 1) rfl rfl ⟨Nat.le_of_ble_eq_true rfl, Nat.le_of_ble_eq_true rfl⟩ (Nat.le_of_ble_eq_true rfl) ?_
  rintro _ _ ⟨rfl, rfl⟩
  refine g_iald C dX3_listens_27 (v := g 18 (112 + 11 * (g 18 1) + 1)) M.a18 (by decide) (by omega) (by omega) rfl ?_
  refine g_aload_n C dX3_listens_28 1 rfl ?_
  refine g_get C dX3_listens_29 kcX3 18 q1481 (fun _ _ _ _ h9 => h9) M.o (Nat.le_of_ble_eq_true rfl) rfl ?_
  refine g_iload_n C dX3_listens_32 0 rfl ?_
  refine g_iconst C dX3_listens_33 ?_
  refine g_callS C dX3_listens_34 lkX3_213 (As := [.int (iI (g 18 1)), .int (iI 2)]) (c_X3_at (g 18 1) 2) rfl rfl ⟨Nat.le_of_ble_eq_true rfl, Nat.le_of_ble_eq_true rfl⟩ (Nat.le_of_ble_eq_true rfl) ?_
  rintro _ _ ⟨rfl, rfl⟩
  refine g_iald C dX3_listens_37 (v := g 18 (112 + 11 * (g 18 1) + 2)) M.a18 (by decide) (by omega) (by omega) rfl ?_
  refine g_aload_n C dX3_listens_38 1 rfl ?_
  refine g_get C dX3_listens_39 kcX3 18 q1481 (fun _ _ _ _ h9 => h9) M.o (Nat.le_of_ble_eq_true rfl) rfl ?_
  refine g_iconst C dX3_listens_42 ?_
  refine g_iald C dX3_listens_43 (v := g 18 3) M.a18 (by decide) (by decide) (by decide) rfl ?_
  refine g_aload_n C dX3_listens_44 1 rfl ?_
  refine g_get C dX3_listens_45 kcX3 18 q1481 (fun _ _ _ _ h9 => h9) M.o (Nat.le_of_ble_eq_true rfl) rfl ?_
  refine g_iconst C dX3_listens_48 ?_
  refine g_iald C dX3_listens_49 (v := g 18 5) M.a18 (by decide) (by decide) (by decide) rfl ?_
  obtain ⟨ht0, ht1, ht2, -⟩ := mOk_t hO (k := g 18 1) (by omega) (by omega)
  refine g_callV C dX3_listens_50 lkX3_198 M.o rfl (As := [.int (iI (g 18 (112 + 11 * (g 18 1) + 0))), .int (iI (g 18 (112 + 11 * (g 18 1) + 1))), .int (iI (g 18 (112 + 11 * (g 18 1) + 2))), .int (iI (g 18 3)), .int (iI (g 18 5))]) (c_X3_heardBy M (g 18 (112 + 11 * (g 18 1) + 0)) (g 18 (112 + 11 * (g 18 1) + 1)) (g 18 (112 + 11 * (g 18 1) + 2)) (g 18 3) (g 18 5) hO (by omega) (by omega) (by omega) (by omega) (by omega)) rfl rfl ⟨Nat.le_of_ble_eq_true rfl, Nat.le_of_ble_eq_true rfl⟩ (Nat.le_of_ble_eq_true rfl) ?_
  rintro _ _ ⟨rfl, rfl⟩
  have b1 := mHB_b (g 6) (g 18 (112 + 11 * (g 18 1) + 0)) (g 18 (112 + 11 * (g 18 1) + 1)) (g 18 (112 + 11 * (g 18 1) + 2)) (g 18 3) (g 18 5)
  refine g_if_eq C dX3_listens_53 (tgt := 60) (by decide) (gRo (by omega) (by omega)) (fun c53 => ?_) (fun c53 => ?_)
  · refine g_iconst C dX3_listens_60 ?_
    refine g_istore C dX3_listens_61 (lv' := [(4, .int (iI 0)), (3, .int (iI (g 18 1))), (0, .ref m), (1, .int (iI (gb slips))), (2, .int (iI (gb logged)))]) (Nat.le_of_ble_eq_true rfl) rfl ?_
    refine g_aload_n C dX3_listens_63 2 rfl ?_
    refine g_iload_n C dX3_listens_64 3 rfl ?_
    refine g_ifF C dX3_listens_65 (tgt := 97) (by decide) (fun c65 => ?_) (fun c65 => ?_)
    · refine g_iload C dX3_listens_97 0 rfl ?_
      refine g_iload_n C dX3_listens_99 4 rfl ?_
      refine g_callV C dX3_listens_100 lkX3_282 M.o rfl (As := [.int (iI 0), .int (iI (gb logged))]) (c_X3_answers M false logged hO (by omega) (by omega) (by omega)) rfl rfl ⟨Nat.le_of_ble_eq_true rfl, Nat.le_of_ble_eq_true rfl⟩ (Nat.le_of_ble_eq_true rfl) ?_
      rintro _ h2 ⟨rfl, M3⟩
      obtain ⟨r4, er5⟩ : ∃ z, z = mAnsR ((g 6)) ((g 18)) false logged := ⟨_, rfl⟩
      have M6 : mSt G h0 h2 m ad f (va_up g 18 r4) := mSt.u1 M3 er5.symm
      have hO7 : mOk (g 6) r4 := by rw [er5]; exact mAnsR_ok hO (by omega) (by omega) (by assumption) false logged
      have hn8 := hO7.2.2.1
      have hs9 := hO7.2.2.2.2.1
      show gW X h2 0 0 103 [(4, .int (iI 0)), (3, .int (iI (g 18 1))), (0, .ref m), (1, .int (iI (gb slips))), (2, .int (iI (gb logged)))] [.int (iI (mAnsV (g 6) (g 18) false logged))]
      refine g_iret C E dX3_listens_103 rfl ?_
      have e9 : mLis (g 6) (g 18) slips = false := by first | (simp [mLis, mHd, *]; done) | grind [mLis, mHd]
      rw [e9]
      subst er5
      exact ⟨rfl, M6⟩
    · refine g_aload_n C dX3_listens_68 2 rfl ?_
      refine g_aload_n C dX3_listens_69 2 rfl ?_
      refine g_get C dX3_listens_70 kcX3 18 q1481 (fun _ _ _ _ h9 => h9) M.o (Nat.le_of_ble_eq_true rfl) rfl ?_
      refine g_bipush C dX3_listens_73 (by decide) ?_
      refine g_iald C dX3_listens_75 (v := g 18 10) M.a18 (by decide) (by decide) (by decide) rfl ?_
      refine g_iconst C dX3_listens_76 ?_
      refine g_iadd C dX3_listens_77 (v := g 18 10 + 1) rfl ?_
      rw [show iI (g 18 10 + 1) = iI (iW (g 18 10 + 1)) from (iI_W _).symm]
      refine g_callV C dX3_listens_78 lkX3_285 M.o rfl (As := [.int (iI (iW (g 18 10 + 1)))]) (c_X3_isSlip M (iW (g 18 10 + 1)) hO (gR_W _).1 (gR_W _).2) rfl rfl ⟨Nat.le_of_ble_eq_true rfl, Nat.le_of_ble_eq_true rfl⟩ (Nat.le_of_ble_eq_true rfl) ?_
      rintro _ _ ⟨rfl, rfl⟩
      refine g_ifF C dX3_listens_81 (tgt := 97) (by decide) (fun c81 => ?_) (fun c81 => ?_)
      · refine g_iload C dX3_listens_97 0 rfl ?_
        refine g_iload_n C dX3_listens_99 4 rfl ?_
        refine g_callV C dX3_listens_100 lkX3_282 M.o rfl (As := [.int (iI 0), .int (iI (gb logged))]) (c_X3_answers M false logged hO (by omega) (by omega) (by omega)) rfl rfl ⟨Nat.le_of_ble_eq_true rfl, Nat.le_of_ble_eq_true rfl⟩ (Nat.le_of_ble_eq_true rfl) ?_
        rintro _ h10 ⟨rfl, M11⟩
        obtain ⟨r12, er13⟩ : ∃ z, z = mAnsR ((g 6)) ((g 18)) false logged := ⟨_, rfl⟩
        have M14 : mSt G h0 h10 m ad f (va_up g 18 r12) := mSt.u1 M11 er13.symm
        have hO15 : mOk (g 6) r12 := by rw [er13]; exact mAnsR_ok hO (by omega) (by omega) (by assumption) false logged
        have hn16 := hO15.2.2.1
        have hs17 := hO15.2.2.2.2.1
        show gW X h10 0 0 103 [(4, .int (iI 0)), (3, .int (iI (g 18 1))), (0, .ref m), (1, .int (iI (gb slips))), (2, .int (iI (gb logged)))] [.int (iI (mAnsV (g 6) (g 18) false logged))]
        refine g_iret C E dX3_listens_103 rfl ?_
        have e9 : mLis (g 6) (g 18) slips = false := by first | (simp [mLis, mHd, *]; done) | grind [mLis, mHd]
        rw [e9]
        subst er13
        exact ⟨rfl, M14⟩
      · refine g_iload C dX3_listens_84 0 rfl ?_
        refine g_if_ne C dX3_listens_86 (tgt := 93) (by decide) (gRo (by decide) (by decide)) (fun q => absurd (by decide) q) (fun _ => ?_)
        refine g_iconst C dX3_listens_89 ?_
        refine g_goto C dX3_listens_90 (tgt := 99) (by decide) ?_
        refine g_iload_n C dX3_listens_99 4 rfl ?_
        refine g_callV C dX3_listens_100 lkX3_282 M.o rfl (As := [.int (iI 1), .int (iI (gb logged))]) (c_X3_answers M true logged hO (by omega) (by omega) (by omega)) rfl rfl ⟨Nat.le_of_ble_eq_true rfl, Nat.le_of_ble_eq_true rfl⟩ (Nat.le_of_ble_eq_true rfl) ?_
        rintro _ h18 ⟨rfl, M19⟩
        obtain ⟨r20, er21⟩ : ∃ z, z = mAnsR ((g 6)) ((g 18)) true logged := ⟨_, rfl⟩
        have M22 : mSt G h0 h18 m ad f (va_up g 18 r20) := mSt.u1 M19 er21.symm
        have hO23 : mOk (g 6) r20 := by rw [er21]; exact mAnsR_ok hO (by omega) (by omega) (by assumption) true logged
        have hn24 := hO23.2.2.1
        have hs25 := hO23.2.2.2.2.1
        show gW X h18 0 0 103 [(4, .int (iI 0)), (3, .int (iI (g 18 1))), (0, .ref m), (1, .int (iI (gb slips))), (2, .int (iI (gb logged)))] [.int (iI (mAnsV (g 6) (g 18) true logged))]
        refine g_iret C E dX3_listens_103 rfl ?_
        have e9 : mLis (g 6) (g 18) slips = true := by first | (simp [mLis, mHd, *]; done) | grind [mLis, mHd]
        rw [e9]
        subst er21
        exact ⟨rfl, M22⟩
  · refine g_iconst C dX3_listens_56 ?_
    refine g_goto C dX3_listens_57 (tgt := 61) (by decide) ?_
    refine g_istore C dX3_listens_61 (lv' := [(4, .int (iI 1)), (3, .int (iI (g 18 1))), (0, .ref m), (1, .int (iI (gb slips))), (2, .int (iI (gb logged)))]) (Nat.le_of_ble_eq_true rfl) rfl ?_
    refine g_aload_n C dX3_listens_63 2 rfl ?_
    refine g_iload_n C dX3_listens_64 3 rfl ?_
    refine g_ifF C dX3_listens_65 (tgt := 97) (by decide) (fun c65 => ?_) (fun c65 => ?_)
    · refine g_iload C dX3_listens_97 0 rfl ?_
      refine g_iload_n C dX3_listens_99 4 rfl ?_
      refine g_callV C dX3_listens_100 lkX3_282 M.o rfl (As := [.int (iI 1), .int (iI (gb logged))]) (c_X3_answers M true logged hO (by omega) (by omega) (by omega)) rfl rfl ⟨Nat.le_of_ble_eq_true rfl, Nat.le_of_ble_eq_true rfl⟩ (Nat.le_of_ble_eq_true rfl) ?_
      rintro _ h26 ⟨rfl, M27⟩
      obtain ⟨r28, er29⟩ : ∃ z, z = mAnsR ((g 6)) ((g 18)) true logged := ⟨_, rfl⟩
      have M30 : mSt G h0 h26 m ad f (va_up g 18 r28) := mSt.u1 M27 er29.symm
      have hO31 : mOk (g 6) r28 := by rw [er29]; exact mAnsR_ok hO (by omega) (by omega) (by assumption) true logged
      have hn32 := hO31.2.2.1
      have hs33 := hO31.2.2.2.2.1
      show gW X h26 0 0 103 [(4, .int (iI 1)), (3, .int (iI (g 18 1))), (0, .ref m), (1, .int (iI (gb slips))), (2, .int (iI (gb logged)))] [.int (iI (mAnsV (g 6) (g 18) true logged))]
      refine g_iret C E dX3_listens_103 rfl ?_
      have e9 : mLis (g 6) (g 18) slips = true := by first | (simp [mLis, mHd, *]; done) | grind [mLis, mHd]
      rw [e9]
      subst er29
      exact ⟨rfl, M30⟩
    · refine g_aload_n C dX3_listens_68 2 rfl ?_
      refine g_aload_n C dX3_listens_69 2 rfl ?_
      refine g_get C dX3_listens_70 kcX3 18 q1481 (fun _ _ _ _ h9 => h9) M.o (Nat.le_of_ble_eq_true rfl) rfl ?_
      refine g_bipush C dX3_listens_73 (by decide) ?_
      refine g_iald C dX3_listens_75 (v := g 18 10) M.a18 (by decide) (by decide) (by decide) rfl ?_
      refine g_iconst C dX3_listens_76 ?_
      refine g_iadd C dX3_listens_77 (v := g 18 10 + 1) rfl ?_
      rw [show iI (g 18 10 + 1) = iI (iW (g 18 10 + 1)) from (iI_W _).symm]
      refine g_callV C dX3_listens_78 lkX3_285 M.o rfl (As := [.int (iI (iW (g 18 10 + 1)))]) (c_X3_isSlip M (iW (g 18 10 + 1)) hO (gR_W _).1 (gR_W _).2) rfl rfl ⟨Nat.le_of_ble_eq_true rfl, Nat.le_of_ble_eq_true rfl⟩ (Nat.le_of_ble_eq_true rfl) ?_
      rintro _ _ ⟨rfl, rfl⟩
      refine g_ifF C dX3_listens_81 (tgt := 97) (by decide) (fun c81 => ?_) (fun c81 => ?_)
      · refine g_iload C dX3_listens_97 0 rfl ?_
        refine g_iload_n C dX3_listens_99 4 rfl ?_
        refine g_callV C dX3_listens_100 lkX3_282 M.o rfl (As := [.int (iI 1), .int (iI (gb logged))]) (c_X3_answers M true logged hO (by omega) (by omega) (by omega)) rfl rfl ⟨Nat.le_of_ble_eq_true rfl, Nat.le_of_ble_eq_true rfl⟩ (Nat.le_of_ble_eq_true rfl) ?_
        rintro _ h34 ⟨rfl, M35⟩
        obtain ⟨r36, er37⟩ : ∃ z, z = mAnsR ((g 6)) ((g 18)) true logged := ⟨_, rfl⟩
        have M38 : mSt G h0 h34 m ad f (va_up g 18 r36) := mSt.u1 M35 er37.symm
        have hO39 : mOk (g 6) r36 := by rw [er37]; exact mAnsR_ok hO (by omega) (by omega) (by assumption) true logged
        have hn40 := hO39.2.2.1
        have hs41 := hO39.2.2.2.2.1
        show gW X h34 0 0 103 [(4, .int (iI 1)), (3, .int (iI (g 18 1))), (0, .ref m), (1, .int (iI (gb slips))), (2, .int (iI (gb logged)))] [.int (iI (mAnsV (g 6) (g 18) true logged))]
        refine g_iret C E dX3_listens_103 rfl ?_
        have e9 : mLis (g 6) (g 18) slips = true := by first | (simp [mLis, mHd, *]; done) | grind [mLis, mHd]
        rw [e9]
        subst er37
        exact ⟨rfl, M38⟩
      · refine g_iload C dX3_listens_84 0 rfl ?_
        refine g_if_ne C dX3_listens_86 (tgt := 93) (by decide) (gRo (by decide) (by decide)) (fun _ => ?_) (fun q => absurd q (by decide))
        refine g_iconst C dX3_listens_93 ?_
        refine g_goto C dX3_listens_94 (tgt := 99) (by decide) ?_
        refine g_iload_n C dX3_listens_99 4 rfl ?_
        refine g_callV C dX3_listens_100 lkX3_282 M.o rfl (As := [.int (iI 0), .int (iI (gb logged))]) (c_X3_answers M false logged hO (by omega) (by omega) (by omega)) rfl rfl ⟨Nat.le_of_ble_eq_true rfl, Nat.le_of_ble_eq_true rfl⟩ (Nat.le_of_ble_eq_true rfl) ?_
        rintro _ h42 ⟨rfl, M43⟩
        obtain ⟨r44, er45⟩ : ∃ z, z = mAnsR ((g 6)) ((g 18)) false logged := ⟨_, rfl⟩
        have M46 : mSt G h0 h42 m ad f (va_up g 18 r44) := mSt.u1 M43 er45.symm
        have hO47 : mOk (g 6) r44 := by rw [er45]; exact mAnsR_ok hO (by omega) (by omega) (by assumption) false logged
        have hn48 := hO47.2.2.1
        have hs49 := hO47.2.2.2.2.1
        show gW X h42 0 0 103 [(4, .int (iI 1)), (3, .int (iI (g 18 1))), (0, .ref m), (1, .int (iI (gb slips))), (2, .int (iI (gb logged)))] [.int (iI (mAnsV (g 6) (g 18) false logged))]
        refine g_iret C E dX3_listens_103 rfl ?_
        have e9 : mLis (g 6) (g 18) slips = false := by first | (simp [mLis, mHd, *]; done) | grind [mLis, mHd]
        rw [e9]
        subst er45
        exact ⟨rfl, M46⟩
theorem c_X3_isOn_t {G : gG} {h : gH} {h0 : gH} {m : Nat} {ad : Nat → Nat} {f : Nat → Int} {g : Nat → Int → Int} (M : mSt G h0 h m ad f g) (hO : mOk (g 6) (g 18)) (e8 : f 8 = 1) : gC G yX3_isOn (.code yX3_isOn cX3_isOn 1 (some .boolean)) 0 0 0 [.ref m] h (fun r h' => r = some (.int (iI (gb (decide (g 18 1 ≠ -2))))) ∧ h = h') := by
  refine gC.of (by decide) (Nat.le_of_ble_eq_true rfl) rfl ?_
  intro X C E hI
  have C : gCtx G X cX3_isOn 1 RX3 0 (some .boolean) := C
  obtain ⟨hI_, hr, hn, hT, hS_⟩ := id hO
  obtain ⟨hi0, hi1, hi2, hi3, hi4, hi5, hiA, hiR⟩ := id hI_
  obtain ⟨hs1, hs3, hs4, hs5, hs6, hs7, hs8, hs11, hs2⟩ := id hS_
  refine g_aload_n C dX3_isOn_0 0 rfl ?_
  refine g_get C dX3_isOn_1 kcX3 8 q1471 (fun _ _ _ _ h9 => h9) M.o (Nat.le_of_ble_eq_true rfl) rfl ?_
  rw [show f 8 = 1 from e8]
  refine g_if_eq C dX3_isOn_4 (tgt := 22) (by decide) (gRo (by decide) (by decide)) (fun q => absurd q (by decide)) (fun _ => ?_)
  refine g_aload_n C dX3_isOn_7 0 rfl ?_
  refine g_get C dX3_isOn_8 kcX3 18 q1481 (fun _ _ _ _ h9 => h9) M.o (Nat.le_of_ble_eq_true rfl) rfl ?_
  refine g_iconst C dX3_isOn_11 ?_
  refine g_iald C dX3_isOn_12 (v := g 18 1) M.a18 (by decide) (by decide) (by decide) rfl ?_
  refine g_bipush C dX3_isOn_13 (by decide) ?_
  refine g_icmp_eq C dX3_isOn_15 (tgt := 22) (by decide) (hr _) (gRo (by decide) (by decide)) (fun c15 => ?_) (fun c15 => ?_)
  · refine g_iconst C dX3_isOn_22 ?_
    refine g_bret C E dX3_isOn_23 rfl false rfl ?_
    exact ⟨rB (by simp [*]), rfl⟩
  · refine g_iconst C dX3_isOn_18 ?_
    refine g_goto C dX3_isOn_19 (tgt := 23) (by decide) ?_
    refine g_bret C E dX3_isOn_23 rfl true rfl ?_
    exact ⟨rB (by simp [*]), rfl⟩
