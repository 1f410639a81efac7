/-! THE REFERENCE, walks 9 -/
set_option maxRecDepth 100000
theorem lkX3_279 : gLkV RX3 279 yX3_onWhy cX3_onWhy 1 (some .int) 0 := ⟨⟨q1776, q1778, qs82, q111, q1779⟩, ⟨by decide, by decide⟩, by decide +kernel⟩
theorem lkX3_288 : gLkV RX3 288 yX3_listens cX3_listens 5 (some .int) 2 := ⟨⟨q1812, q1814, qs90, q111, q1815⟩, ⟨by decide, by decide⟩, by decide +kernel⟩
theorem lkX3_165 : gLkV RX3 165 yX3_no cX3_no 2 (some .int) 1 := ⟨⟨q1626, q1628, qs61, q111, q1629⟩, ⟨by decide, by decide⟩, by decide +kernel⟩
theorem c_X3_answer {G : gG} {h : gH} {h0 : gH} {m : Nat} {ad : Nat → Nat} {f : Nat → Int} {g : Nat → Int → Int} (M : mSt G h0 h m ad f g) (heard : Bool) (hf8 : f 8 = 0 ∨ f 8 = 1) (hI8 : f 8 = 1 → mInv (g 6) (g 18)) : gC G yX3_answer (.code yX3_answer cX3_answer 2 (some .int)) 9 0 0 [.ref m, .int (iI (gb heard))] h (fun r h' => (mOnW (f 8) (g 18) = 0 → r = some (.int (iI (mAnsV (g 6) (g 18) heard true))) ∧ mSt G h0 h' m ad (mRef f 0) (va_up g 18 (mAnsR (g 6) (g 18) heard true))) ∧ (mOnW (f 8) (g 18) ≠ 0 → r = some (.int (iI (-1))) ∧ mSt G h0 h' m ad (mRef f (mOnW (f 8) (g 18))) g)) := by
  refine gC.of (by decide) (Nat.le_of_ble_eq_true rfl) rfl ?_
  intro X C E hI
  have C : gCtx G X cX3_answer 2 RX3 9 (some .int) := C
  have hb8 := mOnW_b (f 8) (g 18)
  have hO8 : f 8 = 1 → mOk (g 6) (g 18) := fun e => (hI8 e).1
  refine g_aload_n C dX3_answer_0 0 rfl ?_
  refine g_aload_n C dX3_answer_1 0 rfl ?_
  refine g_callV C dX3_answer_2 lkX3_279 M.o rfl (As := []) (c_X3_onWhy M hf8 hO8) rfl rfl ⟨Nat.le_of_ble_eq_true rfl, Nat.le_of_ble_eq_true rfl⟩ (Nat.le_of_ble_eq_true rfl) ?_
  rintro _ _ ⟨rfl, rfl⟩
  show gW X h 0 0 5 [(0, .ref m), (1, .int (iI (gb heard)))] [.int (iI (mOnW (f 8) (g 18))), .ref m]
  refine g_callV C dX3_answer_5 lkX3_156 M.o rfl (As := [.int (iI (mOnW (f 8) (g 18)))]) (c_X3_isRefused M (mOnW (f 8) (g 18)) (by omega) (by omega)) rfl rfl ⟨Nat.le_of_ble_eq_true rfl, Nat.le_of_ble_eq_true rfl⟩ (Nat.le_of_ble_eq_true rfl) ?_
  rintro _ h1 ⟨rfl, M2⟩
  show gW X h1 0 0 8 [(0, .ref m), (1, .int (iI (gb heard)))] [.int (iI (gb (decide (mOnW (f 8) (g 18) ≠ 0))))]
  refine g_ifF C dX3_answer_8 (tgt := 15) (by decide) (fun c8 => ?_) (fun c8 => ?_)
  · have hw : mOnW (f 8) (g 18) = 0 := by simpa using c8
    obtain ⟨e8, hon⟩ := mOnW_0 hw
    have h6 := (hI8 e8).2.2 hon
    obtain ⟨hO, hC, hLv⟩ := hI8 e8
    obtain ⟨hI_, hr, hn, hT, hS_⟩ := id hO
    obtain ⟨hi0, hi1, hi2, hi3, hi4, hi5, hiA, hiR⟩ := id hI_
    obtain ⟨hs1, hs3, hs4, hs5, hs6, hs7, hs8, hs11, hs2⟩ := id hS_
    refine g_aload_n C dX3_answer_15 0 rfl ?_
    refine g_iload_n C dX3_answer_16 1 rfl ?_
    refine g_iconst C dX3_answer_17 ?_
    refine g_callV C dX3_answer_18 lkX3_282 M2.o rfl (As := [.int (iI (gb heard)), .int (iI 1)]) (c_X3_answers M2 heard true hO (show g 18 1 ≠ -2 from by omega) (show g 18 6 ≤ 29 from by omega) (show mCnt (g 18) from by omega)) rfl rfl ⟨Nat.le_of_ble_eq_true rfl, Nat.le_of_ble_eq_true rfl⟩ (Nat.le_of_ble_eq_true rfl) ?_
    rintro _ h3 ⟨rfl, M4⟩
    obtain ⟨r5, er6⟩ : ∃ z, z = mAnsR ((g 6)) ((g 18)) heard true := ⟨_, rfl⟩
    have M7 : mSt G h0 h3 m ad (mRef f (mOnW (f 8) (g 18))) (va_up g 18 r5) := mSt.u1 M4 er6.symm
    have hO8 : mOk (g 6) r5 := by rw [er6]; exact mAnsR_ok hO (by omega) (by omega) (by assumption) heard true
    have hn9 := hO8.2.2.1
    have hs10 := hO8.2.2.2.2.1
    show gW X h3 0 0 21 [(0, .ref m), (1, .int (iI (gb heard)))] [.int (iI (mAnsV (g 6) (g 18) heard true))]
    refine g_iret C E dX3_answer_21 rfl ?_
    subst er6
    exact ⟨fun _ => ⟨rfl, (by rw [hw] at M7; exact M7)⟩, fun z => absurd hw z⟩
  · refine g_iconst C dX3_answer_11 ?_
    refine g_goto C dX3_answer_12 (tgt := 21) (by decide) ?_
    refine g_iret C E dX3_answer_21 rfl ?_
    exact ⟨fun z => absurd z (by simpa using c8), fun _ => ⟨rfl, M2⟩⟩
theorem c_X3_listen {G : gG} {h : gH} {h0 : gH} {m : Nat} {ad : Nat → Nat} {f : Nat → Int} {g : Nat → Int → Int} (M : mSt G h0 h m ad f g) (hf8 : f 8 = 0 ∨ f 8 = 1) (hI8 : f 8 = 1 → mInv (g 6) (g 18)) : gC G yX3_listen (.code yX3_listen cX3_listen 1 (some .int)) 10 0 0 [.ref m] h (fun r h' => (mOnW (f 8) (g 18) = 0 → r = some (.int (iI (mAnsV (g 6) (g 18) (mLis (g 6) (g 18) true) true))) ∧ mSt G h0 h' m ad (mRef f 0) (va_up g 18 (mAnsR (g 6) (g 18) (mLis (g 6) (g 18) true) true))) ∧ (mOnW (f 8) (g 18) ≠ 0 → r = some (.int (iI (-1))) ∧ mSt G h0 h' m ad (mRef f (mOnW (f 8) (g 18))) g)) := by
  refine gC.of (by decide) (Nat.le_of_ble_eq_true rfl) rfl ?_
  intro X C E hI
  have C : gCtx G X cX3_listen 1 RX3 10 (some .int) := C
  have hb8 := mOnW_b (f 8) (g 18)
  have hO8 : f 8 = 1 → mOk (g 6) (g 18) := fun e => (hI8 e).1
  refine g_aload_n C dX3_listen_0 0 rfl ?_
  refine g_aload_n C dX3_listen_1 0 rfl ?_
  refine g_callV C dX3_listen_2 lkX3_279 M.o rfl (As := []) (c_X3_onWhy M hf8 hO8) rfl rfl ⟨Nat.le_of_ble_eq_true rfl, Nat.le_of_ble_eq_true rfl⟩ (Nat.le_of_ble_eq_true rfl) ?_
  rintro _ _ ⟨rfl, rfl⟩
  show gW X h 0 0 5 [(0, .ref m)] [.int (iI (mOnW (f 8) (g 18))), .ref m]
  refine g_callV C dX3_listen_5 lkX3_156 M.o rfl (As := [.int (iI (mOnW (f 8) (g 18)))]) (c_X3_isRefused M (mOnW (f 8) (g 18)) (by omega) (by omega)) rfl rfl ⟨Nat.le_of_ble_eq_true rfl, Nat.le_of_ble_eq_true rfl⟩ (Nat.le_of_ble_eq_true rfl) ?_
  rintro _ h1 ⟨rfl, M2⟩
  show gW X h1 0 0 8 [(0, .ref m)] [.int (iI (gb (decide (mOnW (f 8) (g 18) ≠ 0))))]
  refine g_ifF C dX3_listen_8 (tgt := 15) (by decide) (fun c8 => ?_) (fun c8 => ?_)
  · have hw : mOnW (f 8) (g 18) = 0 := by simpa using c8
    obtain ⟨e8, hon⟩ := mOnW_0 hw
    have h6 := (hI8 e8).2.2 hon
    obtain ⟨hO, hC, hLv⟩ := hI8 e8
    obtain ⟨hI_, hr, hn, hT, hS_⟩ := id hO
    obtain ⟨hi0, hi1, hi2, hi3, hi4, hi5, hiA, hiR⟩ := id hI_
    obtain ⟨hs1, hs3, hs4, hs5, hs6, hs7, hs8, hs11, hs2⟩ := id hS_
    refine g_aload_n C dX3_listen_15 0 rfl ?_
    refine g_iconst C dX3_listen_16 ?_
    refine g_iconst C dX3_listen_17 ?_
    refine g_callV C dX3_listen_18 lkX3_288 M2.o rfl (As := [.int (iI 1), .int (iI 1)]) (c_X3_listens M2 true true hO (show g 18 1 ≠ -2 from by omega) h6 hC) rfl rfl ⟨Nat.le_of_ble_eq_true rfl, Nat.le_of_ble_eq_true rfl⟩ (Nat.le_of_ble_eq_true rfl) ?_
    rintro _ h3 ⟨rfl, M4⟩
    obtain ⟨r5, er6⟩ : ∃ z, z = mAnsR ((g 6)) ((g 18)) (mLis ((g 6)) ((g 18)) true) true := ⟨_, rfl⟩
    have M7 : mSt G h0 h3 m ad (mRef f (mOnW (f 8) (g 18))) (va_up g 18 r5) := mSt.u1 M4 er6.symm
    show gW X h3 0 0 21 [(0, .ref m)] [.int (iI (mAnsV (g 6) (g 18) (mLis (g 6) (g 18) true) true))]
    refine g_iret C E dX3_listen_21 rfl ?_
    subst er6
    exact ⟨fun _ => ⟨rfl, (by rw [hw] at M7; exact M7)⟩, fun z => absurd hw z⟩
  · refine g_iconst C dX3_listen_11 ?_
    refine g_goto C dX3_listen_12 (tgt := 21) (by decide) ?_
    refine g_iret C E dX3_listen_21 rfl ?_
    exact ⟨fun z => absurd z (by simpa using c8), fun _ => ⟨rfl, M2⟩⟩
theorem c_X3_give {G : gG} {h : gH} {h0 : gH} {m : Nat} {ad : Nat → Nat} {f : Nat → Int} {g : Nat → Int → Int} (M : mSt G h0 h m ad f g) (hf8 : f 8 = 0 ∨ f 8 = 1) (hI8 : f 8 = 1 → mInv (g 6) (g 18)) : gC G yX3_give (.code yX3_give cX3_give 1 (some .int)) 7 0 0 [.ref m] h (fun r h' => (mOnW (f 8) (g 18) = 0 → r = some (.int (iI (mEndV (g 6) (g 18) 4 (-2)))) ∧ mSt G h0 h' m ad (mRef f 0) (va_up g 18 (mEndR (g 6) (g 18) 4 (-2)))) ∧ (mOnW (f 8) (g 18) ≠ 0 → r = some (.int (iI (-1))) ∧ mSt G h0 h' m ad (mRef f (mOnW (f 8) (g 18))) g)) := by
  refine gC.of (by decide) (Nat.le_of_ble_eq_true rfl) rfl ?_
  intro X C E hI
  have C : gCtx G X cX3_give 1 RX3 7 (some .int) := C
  have hb8 := mOnW_b (f 8) (g 18)
  have hO8 : f 8 = 1 → mOk (g 6) (g 18) := fun e => (hI8 e).1
  refine g_aload_n C dX3_give_0 0 rfl ?_
  refine g_aload_n C dX3_give_1 0 rfl ?_
  refine g_callV C dX3_give_2 lkX3_279 M.o rfl (As := []) (c_X3_onWhy M hf8 hO8) rfl rfl ⟨Nat.le_of_ble_eq_true rfl, Nat.le_of_ble_eq_true rfl⟩ (Nat.le_of_ble_eq_true rfl) ?_
  rintro _ _ ⟨rfl, rfl⟩
  show gW X h 0 0 5 [(0, .ref m)] [.int (iI (mOnW (f 8) (g 18))), .ref m]
  refine g_callV C dX3_give_5 lkX3_156 M.o rfl (As := [.int (iI (mOnW (f 8) (g 18)))]) (c_X3_isRefused M (mOnW (f 8) (g 18)) (by omega) (by omega)) rfl rfl ⟨Nat.le_of_ble_eq_true rfl, Nat.le_of_ble_eq_true rfl⟩ (Nat.le_of_ble_eq_true rfl) ?_
  rintro _ h1 ⟨rfl, M2⟩
  show gW X h1 0 0 8 [(0, .ref m)] [.int (iI (gb (decide (mOnW (f 8) (g 18) ≠ 0))))]
  refine g_ifF C dX3_give_8 (tgt := 15) (by decide) (fun c8 => ?_) (fun c8 => ?_)
  · have hw : mOnW (f 8) (g 18) = 0 := by simpa using c8
    obtain ⟨e8, hon⟩ := mOnW_0 hw
    have h6 := (hI8 e8).2.2 hon
    obtain ⟨hO, hC, hLv⟩ := hI8 e8
    obtain ⟨hI_, hr, hn, hT, hS_⟩ := id hO
    obtain ⟨hi0, hi1, hi2, hi3, hi4, hi5, hiA, hiR⟩ := id hI_
    obtain ⟨hs1, hs3, hs4, hs5, hs6, hs7, hs8, hs11, hs2⟩ := id hS_
    refine g_aload_n C dX3_give_15 0 rfl ?_
    refine g_iconst C dX3_give_16 ?_
    refine g_bipush C dX3_give_17 (by decide) ?_
    refine g_callV C dX3_give_19 lkX3_263 M2.o rfl (As := [.int (iI 4), .int (iI (-2))]) (c_X3_ends M2 4 (-2) hO (show g 18 1 ≠ -2 from by omega) (by omega) (by omega) (by omega)) rfl rfl ⟨Nat.le_of_ble_eq_true rfl, Nat.le_of_ble_eq_true rfl⟩ (Nat.le_of_ble_eq_true rfl) ?_
    rintro _ h3 ⟨rfl, M4⟩
    obtain ⟨r5, er6⟩ : ∃ z, z = mEndR ((g 6)) ((g 18)) 4 (-2) := ⟨_, rfl⟩
    have M7 : mSt G h0 h3 m ad (mRef f (mOnW (f 8) (g 18))) (va_up g 18 r5) := mSt.u1 M4 er6.symm
    have hO8 : mOk (g 6) r5 := by rw [er6]; exact mEndR_ok hO (by omega) (by omega) (by omega) (by omega)
    have hn9 := hO8.2.2.1
    have hs10 := hO8.2.2.2.2.1
    show gW X h3 0 0 22 [(0, .ref m)] [.int (iI (mEndV (g 6) (g 18) 4 (-2)))]
    refine g_iret C E dX3_give_22 rfl ?_
    subst er6
    exact ⟨fun _ => ⟨rfl, (by rw [hw] at M7; exact M7)⟩, fun z => absurd hw z⟩
  · refine g_iconst C dX3_give_11 ?_
    refine g_goto C dX3_give_12 (tgt := 22) (by decide) ?_
    refine g_iret C E dX3_give_22 rfl ?_
    exact ⟨fun z => absurd z (by simpa using c8), fun _ => ⟨rfl, M2⟩⟩
theorem c_X3_run {G : gG} {h : gH} {h0 : gH} {m : Nat} {ad : Nat → Nat} {f : Nat → Int} {g : Nat → Int → Int} (M : mSt G h0 h m ad f g) (no : Int) (hno1 : -2147483648 ≤ no) (hno2 : no ≤ 2147483647) (hf8 : f 8 = 0 ∨ f 8 = 1) (hI8 : f 8 = 1 → mInv (g 6) (g 18)) : gC G yX3_run (.code yX3_run cX3_run 4 (some .int)) 10 0 0 [.ref m, .int (iI no)] h (fun r h' => (mRunW (f 8) (g 18) no = 0 → r = some (.int (iI (mRunV (g 6) true true (no - 0).toNat (g 18)))) ∧ mSt G h0 h' m ad (mRef f 0) (va_up g 18 (mRunR (g 6) true true (no - 0).toNat (g 18)))) ∧ (mRunW (f 8) (g 18) no ≠ 0 → r = some (.int (iI (-1))) ∧ mSt G h0 h' m ad (mRef f (mRunW (f 8) (g 18) no)) g)) := by
  refine gC.of (by decide) (Nat.le_of_ble_eq_true rfl) rfl ?_
  intro X C E hI
  have C : gCtx G X cX3_run 4 RX3 10 (some .int) := C
  rcases id hf8 with e8 | e8
  · refine g_aload_n C dX3_run_0 0 rfl ?_
    refine g_aload_n C dX3_run_1 0 rfl ?_
    refine g_get C dX3_run_2 kcX3 8 q1471 (fun _ _ _ _ h9 => h9) M.o (Nat.le_of_ble_eq_true rfl) rfl ?_
    rw [show f 8 = 0 from e8]
    refine g_if_ne C dX3_run_5 (tgt := 12) (by decide) (gRo (by decide) (by decide)) (fun q => absurd (by decide) q) (fun _ => ?_)
    refine g_iconst C dX3_run_8 ?_
    refine g_goto C dX3_run_9 (tgt := 39) (by decide) ?_
    refine g_callV C dX3_run_39 lkX3_156 M.o rfl (As := [.int (iI 1)]) (c_X3_isRefused M 1 (by decide) (by decide)) rfl rfl ⟨Nat.le_of_ble_eq_true rfl, Nat.le_of_ble_eq_true rfl⟩ (Nat.le_of_ble_eq_true rfl) ?_
    rintro _ h1 ⟨rfl, M2⟩
    show gW X h1 0 0 42 [(0, .ref m), (1, .int (iI no))] [.int (iI (gb true))]
    refine g_ifF C dX3_run_42 (tgt := 47) (by decide) (fun q => absurd q (by decide)) (fun q => ?_)
    refine g_iconst C dX3_run_45 ?_
    refine g_iret C E dX3_run_46 rfl ?_
    have hw : mRunW (f 8) (g 18) no = 1 := by simp [mRunW, *]; try omega
    rw [hw]
    exact ⟨fun z => absurd z (by decide), fun _ => ⟨rfl, M2⟩⟩
  · obtain ⟨hO, hC, hLv⟩ := hI8 e8
    obtain ⟨hI_, hr, hn, hT, hS_⟩ := id hO
    obtain ⟨hi0, hi1, hi2, hi3, hi4, hi5, hiA, hiR⟩ := id hI_
    obtain ⟨hs1, hs3, hs4, hs5, hs6, hs7, hs8, hs11, hs2⟩ := id hS_
    refine g_aload_n C dX3_run_0 0 rfl ?_
    refine g_aload_n C dX3_run_1 0 rfl ?_
    refine g_get C dX3_run_2 kcX3 8 q1471 (fun _ _ _ _ h9 => h9) M.o (Nat.le_of_ble_eq_true rfl) rfl ?_
    rw [show f 8 = 1 from e8]
    refine g_if_ne C dX3_run_5 (tgt := 12) (by decide) (gRo (by decide) (by decide)) (fun _ => ?_) (fun q => absurd q (by decide))
    refine g_iload_n C dX3_run_12 1 rfl ?_
    refine g_iconst C dX3_run_13 ?_
    refine g_sipush C dX3_run_14 (by decide) ?_
    refine g_callS C dX3_run_17 lkX3_70 (As := [.int (iI no), .int (iI 1), .int (iI 9999)]) (c_X3_in no 1 9999 (by omega) (by omega) (by decide) (by decide) (by decide) (by decide)) rfl rfl ⟨Nat.le_of_ble_eq_true rfl, Nat.le_of_ble_eq_true rfl⟩ (Nat.le_of_ble_eq_true rfl) ?_
    rintro _ _ ⟨rfl, rfl⟩
    refine g_ifT C dX3_run_20 (tgt := 27) (by decide) (fun c20 => ?_) (fun c20 => ?_)
    · have fb3 := mIn_t.mp c20
      refine g_aload_n C dX3_run_27 0 rfl ?_
      refine g_callV C dX3_run_28 lkX3_276 M.o rfl (As := []) (c_X3_isOn_t M hO (by omega)) rfl rfl ⟨Nat.le_of_ble_eq_true rfl, Nat.le_of_ble_eq_true rfl⟩ (Nat.le_of_ble_eq_true rfl) ?_
      rintro _ _ ⟨rfl, rfl⟩
      refine g_ifF C dX3_run_31 (tgt := 38) (by decide) (fun c31 => ?_) (fun c31 => ?_)
      · have hoff0 : g 18 1 = -2 := by simpa using c31
        refine g_iconst C dX3_run_38 ?_
        refine g_callV C dX3_run_39 lkX3_156 M.o rfl (As := [.int (iI 5)]) (c_X3_isRefused M 5 (by decide) (by decide)) rfl rfl ⟨Nat.le_of_ble_eq_true rfl, Nat.le_of_ble_eq_true rfl⟩ (Nat.le_of_ble_eq_true rfl) ?_
        rintro _ h4 ⟨rfl, M5⟩
        show gW X h4 0 0 42 [(0, .ref m), (1, .int (iI no))] [.int (iI (gb true))]
        refine g_ifF C dX3_run_42 (tgt := 47) (by decide) (fun q => absurd q (by decide)) (fun q => ?_)
        refine g_iconst C dX3_run_45 ?_
        refine g_iret C E dX3_run_46 rfl ?_
        have hw : mRunW (f 8) (g 18) no = 5 := by simp [mRunW, *]; try omega
        rw [hw]
        exact ⟨fun z => absurd z (by decide), fun _ => ⟨rfl, M5⟩⟩
      · have hon0 : g 18 1 ≠ -2 := by simpa using c31
        refine g_iconst C dX3_run_34 ?_
        refine g_goto C dX3_run_35 (tgt := 39) (by decide) ?_
        refine g_callV C dX3_run_39 lkX3_156 M.o rfl (As := [.int (iI 0)]) (c_X3_isRefused M 0 (by decide) (by decide)) rfl rfl ⟨Nat.le_of_ble_eq_true rfl, Nat.le_of_ble_eq_true rfl⟩ (Nat.le_of_ble_eq_true rfl) ?_
        rintro _ h6 ⟨rfl, M7⟩
        show gW X h6 0 0 42 [(0, .ref m), (1, .int (iI no))] [.int (iI (gb false))]
        refine g_ifF C dX3_run_42 (tgt := 47) (by decide) (fun q => ?_) (fun q => absurd q (by decide))
        refine g_iconst C dX3_run_47 ?_
        refine g_istore_n C dX3_run_48 (lv' := [(2, .int (iI 0)), (0, .ref m), (1, .int (iI no))]) 2 rfl (Nat.le_of_ble_eq_true rfl) rfl ?_
        have L49 : ∀ (n : Nat) (k : Int) (ρ : Int → Int) (h1 : gH) (M1 : mSt G h0 h1 m ad (mRef f 0) (va_up g 18 ρ)) (hk9 : 0 ≤ k ∧ k ≤ no) (hn9 : no - k < n) (hv9 : mInv (g 6) ρ) (hr9 : mRunR (g 6) true true (no - k).toNat ρ = mRunR (g 6) true true (no - 0).toNat (g 18)) (hq9 : k + mRunV (g 6) true true (no - k).toNat ρ = mRunV (g 6) true true (no - 0).toNat (g 18)), gW X h1 0 0 49 [(2, .int (iI k)), (0, .ref m), (1, .int (iI no))] [] := by
          intro n
          induction n with
          | zero => intro k ρ h1 M1 hk9 hn9 hv9 hr9 hq9; exfalso; omega
          | succ n ih =>
            intro k ρ h1 M1 hk9 hn9 hv9 hr9 hq9
            refine g_iload_n C dX3_run_49 0 rfl ?_
            refine g_iload_n C dX3_run_50 2 rfl ?_
            refine g_icmp_ge C dX3_run_51 (tgt := 74) (by decide) (gRo (by omega) (by omega)) (gRo (by omega) (by omega)) (fun c51 => ?_) (fun c51 => ?_)
            · refine g_iload_n C dX3_run_74 0 rfl ?_
              refine g_iret C E dX3_run_75 rfl ?_
              have hw : mRunW (f 8) (g 18) no = 0 := by simp [mRunW, *]; try omega
              have e1 : mRunR (g 6) true true (no - k).toNat ρ = ρ ∧ mRunV (g 6) true true (no - k).toNat ρ = 0 := by first | exact mRun_end (by omega) | exact mRun_off _ (by simpa using c58)
              rw [← hr9, ← hq9, e1.1, e1.2, Int.add_zero]
              exact ⟨fun _ => ⟨rfl, M1⟩, fun z => absurd hw z⟩
            · refine g_aload_n C dX3_run_54 1 rfl ?_
              refine g_callV C dX3_run_55 lkX3_276 M1.o rfl (As := []) (c_X3_isOn_t M1 hv9.1 (show f 8 = 1 from by omega)) rfl rfl ⟨Nat.le_of_ble_eq_true rfl, Nat.le_of_ble_eq_true rfl⟩ (Nat.le_of_ble_eq_true rfl) ?_
              rintro _ _ ⟨rfl, rfl⟩
              show gW X h1 0 0 58 [(2, .int (iI k)), (0, .ref m), (1, .int (iI no))] [.int (iI (gb (decide (ρ 1 ≠ -2))))]
              refine g_ifF C dX3_run_58 (tgt := 74) (by decide) (fun c58 => ?_) (fun c58 => ?_)
              · refine g_iload_n C dX3_run_74 0 rfl ?_
                refine g_iret C E dX3_run_75 rfl ?_
                have hw : mRunW (f 8) (g 18) no = 0 := by simp [mRunW, *]; try omega
                have e1 : mRunR (g 6) true true (no - k).toNat ρ = ρ ∧ mRunV (g 6) true true (no - k).toNat ρ = 0 := by first | exact mRun_end (by omega) | exact mRun_off _ (by simpa using c58)
                rw [← hr9, ← hq9, e1.1, e1.2, Int.add_zero]
                exact ⟨fun _ => ⟨rfl, M1⟩, fun z => absurd hw z⟩
              · have hon9 : ρ 1 ≠ -2 := by simpa using c58
                refine g_aload_n C dX3_run_61 1 rfl ?_
                refine g_iconst C dX3_run_62 ?_
                refine g_iconst C dX3_run_63 ?_
                refine g_callV C dX3_run_64 lkX3_288 M1.o rfl (As := [.int (iI 1), .int (iI 1)]) (c_X3_listens M1 true true hv9.1 (show ρ 1 ≠ -2 from by omega) (hv9.2.2 hon9) hv9.2.1) rfl rfl ⟨Nat.le_of_ble_eq_true rfl, Nat.le_of_ble_eq_true rfl⟩ (Nat.le_of_ble_eq_true rfl) ?_
                rintro _ h8 ⟨rfl, M9⟩
                obtain ⟨r10, er11⟩ : ∃ z, z = mAnsR ((g 6)) ((ρ)) (mLis ((g 6)) ((ρ)) true) true := ⟨_, rfl⟩
                have M12 : mSt G h0 h8 m ad (mRef f 0) (va_up g 18 r10) := mSt.uu M9 er11.symm
                show gW X h8 0 0 67 [(2, .int (iI k)), (0, .ref m), (1, .int (iI no))] [.int (iI (mAnsV (g 6) (ρ) (mLis (g 6) (ρ) true) true))]
                refine g_istore_n C dX3_run_67 (lv' := [(3, .int (iI (mAnsV (g 6) (ρ) (mLis (g 6) (ρ) true) true))), (2, .int (iI k)), (0, .ref m), (1, .int (iI no))]) 3 rfl (Nat.le_of_ble_eq_true rfl) rfl ?_
                refine g_iinc C dX3_run_68 (v := k + 1) (lv' := [(2, .int (iI (k + 1))), (3, .int (iI (mAnsV (g 6) (ρ) (mLis (g 6) (ρ) true) true))), (0, .ref m), (1, .int (iI no))]) 1 rfl rfl (Nat.le_of_ble_eq_true rfl) rfl ?_
                refine g_goto C dX3_run_71 (tgt := 49) (by decide) ?_
                refine gW.loc [0, 2, 3] (lv' := [(2, .int (iI (k + 1))), (0, .ref m), (1, .int (iI no))]) rfl ?_
                have hs9 := mRun_step (i := g 6) (s := true) (l := true) (b := no) (k := k) (by omega) hon9
                rw [← er11] at hs9
                have hv8 : mInv (g 6) r10 := by rw [er11]; exact (mAnsR_l hv9.1 hon9 (hv9.2.2 hon9) hv9.2.1 _ _).1
                exact ih (k + 1) r10 h8 (M12) (by omega) (by omega) hv8 (by rw [← hs9.1]; exact hr9) (by omega)
        exact L49 (no - 0 + 1 : Int).toNat 0 (g 18) h6 (M7.u0) (by omega) (by omega) ⟨hO, hC, hLv⟩ rfl (by omega)
    · have fb13 := mIn_f.mp c20
      refine g_iconst C dX3_run_23 ?_
      refine g_goto C dX3_run_24 (tgt := 39) (by decide) ?_
      refine g_callV C dX3_run_39 lkX3_156 M.o rfl (As := [.int (iI 2)]) (c_X3_isRefused M 2 (by decide) (by decide)) rfl rfl ⟨Nat.le_of_ble_eq_true rfl, Nat.le_of_ble_eq_true rfl⟩ (Nat.le_of_ble_eq_true rfl) ?_
      rintro _ h14 ⟨rfl, M15⟩
      show gW X h14 0 0 42 [(0, .ref m), (1, .int (iI no))] [.int (iI (gb true))]
      refine g_ifF C dX3_run_42 (tgt := 47) (by decide) (fun q => absurd q (by decide)) (fun q => ?_)
      refine g_iconst C dX3_run_45 ?_
      refine g_iret C E dX3_run_46 rfl ?_
      have hw : mRunW (f 8) (g 18) no = 2 := by simp [mRunW, *]; try omega
      rw [hw]
      exact ⟨fun z => absurd z (by decide), fun _ => ⟨rfl, M15⟩⟩
theorem c_X3_no {G : gG} {h : gH} {h0 : gH} {m : Nat} {ad : Nat → Nat} {f : Nat → Int} {g : Nat → Int → Int} (M : mSt G h0 h m ad f g) (why : Int)  : gC G yX3_no (.code yX3_no cX3_no 2 (some .int)) 0 0 0 [.ref m, .int (iI why)] h (fun r h' => r = some (.int (iI (-1))) ∧ mSt G h0 h' m ad (va_up f 1 why) g) := by
  refine gC.of (by decide) (Nat.le_of_ble_eq_true rfl) rfl ?_
  intro X C E hI
  have C : gCtx G X cX3_no 2 RX3 0 (some .int) := C
  refine g_aload_n C dX3_no_0 0 rfl ?_
  refine g_iload_n C dX3_no_1 1 rfl ?_
  refine g_put C dX3_no_2 kcX3 1 q1464 (fun _ _ _ _ h9 => h9) M.o rfl (Nat.le_of_ble_eq_true rfl) rfl rfl (Nat.le_of_ble_eq_true rfl) (fs2 := mFs ad (va_up f 1 why)) rfl (fun h1 hh2 => ?_)
  have M3 : mSt G h0 h1 m ad (va_up f 1 why) g := M.put hh2 rfl
  refine g_iconst C dX3_no_5 ?_
  refine g_iret C E dX3_no_6 rfl ?_
  exact ⟨rfl, M3⟩
theorem c_X3_again {G : gG} {h : gH} {h0 : gH} {m : Nat} {ad : Nat → Nat} {f : Nat → Int} {g : Nat → Int → Int} (M : mSt G h0 h m ad f g) (k : Int) (hk1 : -2147483648 ≤ k) (hk2 : k ≤ 2147483647) (hf8 : f 8 = 0 ∨ f 8 = 1) (hI8 : f 8 = 1 → mInv (g 6) (g 18)) : gC G yX3_again (.code yX3_again cX3_again 3 (some .int)) 4 0 0 [.ref m, .int (iI k)] h (fun r h' => (mAgW (f 8) (g 18) k = 0 → r = some (.int (iI (g 18 (112 + 11 * k + 0)))) ∧ mSt G h0 h' m ad (mRef f 0) (va_up g 18 (mAgR (g 6) (g 18) k))) ∧ (mAgW (f 8) (g 18) k ≠ 0 → r = some (.int (iI (-1))) ∧ mSt G h0 h' m ad (mRef f (mAgW (f 8) (g 18) k)) g)) := by
  refine gC.of (by decide) (Nat.le_of_ble_eq_true rfl) rfl ?_
  intro X C E hI
  have C : gCtx G X cX3_again 3 RX3 4 (some .int) := C
  rcases id hf8 with e8 | e8
  · refine g_aload_n C dX3_again_0 0 rfl ?_
    refine g_aload_n C dX3_again_1 0 rfl ?_
    refine g_get C dX3_again_2 kcX3 8 q1471 (fun _ _ _ _ h9 => h9) M.o (Nat.le_of_ble_eq_true rfl) rfl ?_
    rw [show f 8 = 0 from e8]
    refine g_if_eq C dX3_again_5 (tgt := 28) (by decide) (gRo (by decide) (by decide)) (fun _ => ?_) (fun q => absurd (by decide) q)
    refine g_iconst C dX3_again_28 ?_
    refine g_callS C dX3_again_29 lkX3_191 (As := [.int (iI 0)]) (c_X3_unless false) rfl rfl ⟨Nat.le_of_ble_eq_true rfl, Nat.le_of_ble_eq_true rfl⟩ (Nat.le_of_ble_eq_true rfl) ?_
    rintro _ _ ⟨rfl, rfl⟩
    show gW X h 0 0 32 [(0, .ref m), (1, .int (iI k))] [.int (iI 1), .ref m]
    refine g_callV C dX3_again_32 lkX3_156 M.o rfl (As := [.int (iI 1)]) (c_X3_isRefused M 1 (by decide) (by decide)) rfl rfl ⟨Nat.le_of_ble_eq_true rfl, Nat.le_of_ble_eq_true rfl⟩ (Nat.le_of_ble_eq_true rfl) ?_
    rintro _ h1 ⟨rfl, M2⟩
    show gW X h1 0 0 35 [(0, .ref m), (1, .int (iI k))] [.int (iI (gb true))]
    refine g_ifF C dX3_again_35 (tgt := 40) (by decide) (fun q => absurd q (by decide)) (fun q => ?_)
    refine g_iconst C dX3_again_38 ?_
    refine g_iret C E dX3_again_39 rfl ?_
    have hw : mAgW (f 8) (g 18) k = 1 := by simp [mAgW, *]; try omega
    rw [hw]
    exact ⟨fun z => absurd z (by decide), fun _ => ⟨rfl, M2⟩⟩
  · obtain ⟨hO, hC, hLv⟩ := hI8 e8
    obtain ⟨hI_, hr, hn, hT, hS_⟩ := id hO
    obtain ⟨hi0, hi1, hi2, hi3, hi4, hi5, hiA, hiR⟩ := id hI_
    obtain ⟨hs1, hs3, hs4, hs5, hs6, hs7, hs8, hs11, hs2⟩ := id hS_
    refine g_aload_n C dX3_again_0 0 rfl ?_
    refine g_aload_n C dX3_again_1 0 rfl ?_
    refine g_get C dX3_again_2 kcX3 8 q1471 (fun _ _ _ _ h9 => h9) M.o (Nat.le_of_ble_eq_true rfl) rfl ?_
    rw [show f 8 = 1 from e8]
    refine g_if_eq C dX3_again_5 (tgt := 28) (by decide) (gRo (by decide) (by decide)) (fun q => absurd q (by decide)) (fun _ => ?_)
    refine g_iload_n C dX3_again_8 1 rfl ?_
    refine g_iconst C dX3_again_9 ?_
    refine g_aload_n C dX3_again_10 0 rfl ?_
    refine g_get C dX3_again_11 kcX3 18 q1481 (fun _ _ _ _ h9 => h9) M.o (Nat.le_of_ble_eq_true rfl) rfl ?_
    refine g_iconst C dX3_again_14 ?_
    refine g_iald C dX3_again_15 (v := g 18 0) M.a18 (by decide) (by decide) (by decide) rfl ?_
    refine g_iconst C dX3_again_16 ?_
    refine g_isub C dX3_again_17 (v := g 18 0 - 1) rfl ?_
    refine g_callS C dX3_again_18 lkX3_70 (As := [.int (iI k), .int (iI 0), .int (iI (g 18 0 - 1))]) (c_X3_in k 0 (g 18 0 - 1) (by omega) (by omega) (by decide) (by decide) (by omega) (by omega)) rfl rfl ⟨Nat.le_of_ble_eq_true rfl, Nat.le_of_ble_eq_true rfl⟩ (Nat.le_of_ble_eq_true rfl) ?_
    rintro _ _ ⟨rfl, rfl⟩
    refine g_ifF C dX3_again_21 (tgt := 28) (by decide) (fun c21 => ?_) (fun c21 => ?_)
    · have fb3 := mIn_f.mp c21
      refine g_iconst C dX3_again_28 ?_
      refine g_callS C dX3_again_29 lkX3_191 (As := [.int (iI 0)]) (c_X3_unless false) rfl rfl ⟨Nat.le_of_ble_eq_true rfl, Nat.le_of_ble_eq_true rfl⟩ (Nat.le_of_ble_eq_true rfl) ?_
      rintro _ _ ⟨rfl, rfl⟩
      show gW X h 0 0 32 [(0, .ref m), (1, .int (iI k))] [.int (iI 1), .ref m]
      refine g_callV C dX3_again_32 lkX3_156 M.o rfl (As := [.int (iI 1)]) (c_X3_isRefused M 1 (by decide) (by decide)) rfl rfl ⟨Nat.le_of_ble_eq_true rfl, Nat.le_of_ble_eq_true rfl⟩ (Nat.le_of_ble_eq_true rfl) ?_
      rintro _ h4 ⟨rfl, M5⟩
      show gW X h4 0 0 35 [(0, .ref m), (1, .int (iI k))] [.int (iI (gb true))]
      refine g_ifF C dX3_again_35 (tgt := 40) (by decide) (fun q => absurd q (by decide)) (fun q => ?_)
      refine g_iconst C dX3_again_38 ?_
      refine g_iret C E dX3_again_39 rfl ?_
      have hw : mAgW (f 8) (g 18) k = 1 := by simp [mAgW, *]; try omega
      rw [hw]
      exact ⟨fun z => absurd z (by decide), fun _ => ⟨rfl, M5⟩⟩
    · have fb6 := mIn_t.mp c21
      refine g_iconst C dX3_again_24 ?_
      refine g_goto C dX3_again_25 (tgt := 29) (by decide) ?_
      refine g_callS C dX3_again_29 lkX3_191 (As := [.int (iI 1)]) (c_X3_unless true) rfl rfl ⟨Nat.le_of_ble_eq_true rfl, Nat.le_of_ble_eq_true rfl⟩ (Nat.le_of_ble_eq_true rfl) ?_
      rintro _ _ ⟨rfl, rfl⟩
      show gW X h 0 0 32 [(0, .ref m), (1, .int (iI k))] [.int (iI 0), .ref m]
      refine g_callV C dX3_again_32 lkX3_156 M.o rfl (As := [.int (iI 0)]) (c_X3_isRefused M 0 (by decide) (by decide)) rfl rfl ⟨Nat.le_of_ble_eq_true rfl, Nat.le_of_ble_eq_true rfl⟩ (Nat.le_of_ble_eq_true rfl) ?_
      rintro _ h7 ⟨rfl, M8⟩
      show gW X h7 0 0 35 [(0, .ref m), (1, .int (iI k))] [.int (iI (gb false))]
      refine g_ifF C dX3_again_35 (tgt := 40) (by decide) (fun q => ?_) (fun q => absurd q (by decide))
      refine g_aload_n C dX3_again_40 0 rfl ?_
      refine g_callV C dX3_again_41 lkX3_276 M8.o rfl (As := []) (c_X3_isOn_t M8 hO (show f 8 = 1 from by omega)) rfl rfl ⟨Nat.le_of_ble_eq_true rfl, Nat.le_of_ble_eq_true rfl⟩ (Nat.le_of_ble_eq_true rfl) ?_
      rintro _ _ ⟨rfl, rfl⟩
      show gW X h7 0 0 44 [(0, .ref m), (1, .int (iI k))] [.int (iI (gb (decide (g 18 1 ≠ -2))))]
      refine g_ifF C dX3_again_44 (tgt := 53) (by decide) (fun c44 => ?_) (fun c44 => ?_)
      · have hoff0 : g 18 1 = -2 := by simpa using c44
        refine g_aload_n C dX3_again_53 0 rfl ?_
        refine g_iload_n C dX3_again_54 1 rfl ?_
        refine g_callV C dX3_again_55 lkX3_216 M8.o rfl (As := [.int (iI k)]) (c_X3_forgets M8 k (by omega)) rfl rfl ⟨Nat.le_of_ble_eq_true rfl, Nat.le_of_ble_eq_true rfl⟩ (Nat.le_of_ble_eq_true rfl) ?_
        rintro _ h9 ⟨rfl, M10⟩
        obtain ⟨r11, er12⟩ : ∃ z, z = mForget ((g 18)) k := ⟨_, rfl⟩
        have M13 : mSt G h0 h9 m ad (mRef f 0) (va_up g 18 r11) := mSt.u1 M10 er12.symm
        have hr14 : mR0 r11 := by rw [er12]; exact mForget_R (hr) k
        have hO1 : mOk (g 6) r11 := by rw [er12]; exact mForget_tok hO (by omega) (by omega)
        have h10 : r11 0 = g 18 0 := by rw [er12]; exact mForget_n (by omega)
        refine g_aload_n C dX3_again_58 0 rfl ?_
        refine g_iload_n C dX3_again_59 1 rfl ?_
        refine g_callV C dX3_again_60 lkX3_223 M13.o rfl (As := [.int (iI k)]) (c_X3_begins M13 k hO1 (show 0 ≤ k ∧ k < r11 0 from by omega)) rfl rfl ⟨Nat.le_of_ble_eq_true rfl, Nat.le_of_ble_eq_true rfl⟩ (Nat.le_of_ble_eq_true rfl) ?_
        rintro _ h15 ⟨rfl, M16⟩
        obtain ⟨r17, er18⟩ : ∃ z, z = mBegR ((g 6)) (r11) k := ⟨_, rfl⟩
        have M19 : mSt G h0 h15 m ad (mRef f 0) (va_up g 18 r17) := mSt.uu M16 er18.symm
        have hO20 : mOk (g 6) r17 := by rw [er18]; exact mBegR_ok hO1 (by omega) (by omega)
        have hn21 := hO20.2.2.1
        have hs22 := hO20.2.2.2.2.1
        show gW X h15 0 0 63 [(0, .ref m), (1, .int (iI k))] [.int (iI (gb (mBegB (g 6) (r11) k)))]
        refine g_istore_n C dX3_again_63 (lv' := [(2, .int (iI (gb (mBegB (g 6) (r11) k)))), (0, .ref m), (1, .int (iI k))]) 2 rfl (Nat.le_of_ble_eq_true rfl) rfl ?_
        refine g_aload_n C dX3_again_64 1 rfl ?_
        refine g_get C dX3_again_65 kcX3 18 q1481 (fun _ _ _ _ h9 => h9) M19.o (Nat.le_of_ble_eq_true rfl) (w := .ref (ad 18)) rfl ?_
        refine g_iload_n C dX3_again_68 2 rfl ?_
        refine g_iconst C dX3_again_69 ?_
        refine g_callS C dX3_again_70 lkX3_213 (As := [.int (iI k), .int (iI 0)]) (c_X3_at k 0) rfl rfl ⟨Nat.le_of_ble_eq_true rfl, Nat.le_of_ble_eq_true rfl⟩ (Nat.le_of_ble_eq_true rfl) ?_
        rintro _ _ ⟨rfl, rfl⟩
        refine g_iald C dX3_again_73 (v := g 18 (112 + 11 * k + 0)) M19.a18 (by decide) (by omega) (by omega) (by show r17 (112 + 11 * k + 0) = _; rw [er18, mBegR_n (by omega) (by omega) (by omega) (by omega), er12, mForget_n (by omega)]) ?_
        refine g_iret C E dX3_again_74 rfl ?_
        subst er18
        subst er12
        have hw : mAgW (f 8) (g 18) k = 0 := by simp [mAgW, *]; try omega
        exact ⟨fun _ => ⟨rfl, M19⟩, fun z => absurd hw z⟩
      · have hon0 : g 18 1 ≠ -2 := by simpa using c44
        refine g_aload_n C dX3_again_47 0 rfl ?_
        refine g_iconst C dX3_again_48 ?_
        refine g_callV C dX3_again_49 lkX3_165 M8.o rfl (As := [.int (iI 5)]) (c_X3_no M8 5) rfl rfl ⟨Nat.le_of_ble_eq_true rfl, Nat.le_of_ble_eq_true rfl⟩ (Nat.le_of_ble_eq_true rfl) ?_
        rintro _ h23 ⟨rfl, M24⟩
        show gW X h23 0 0 52 [(0, .ref m), (1, .int (iI k))] [.int (iI (-1))]
        refine g_iret C E dX3_again_52 rfl ?_
        have hw : mAgW (f 8) (g 18) k = 5 := by simp [mAgW, *]; try omega
        rw [hw]
        exact ⟨fun z => absurd z (by decide), fun _ => ⟨rfl, (by have M9 := M24; unfold mRef at M9 ⊢; rw [bx_uu] at M9; exact M9)⟩⟩
theorem c_X3_mark {G : gG} {h : gH} {h0 : gH} {m : Nat} {ad : Nat → Nat} {f : Nat → Int} {g : Nat → Int → Int} (M : mSt G h0 h m ad f g) (hf8 : f 8 = 0 ∨ f 8 = 1) (hI8 : f 8 = 1 → mInv (g 6) (g 18)) : gC G yX3_mark (.code yX3_mark cX3_mark 3 (some .int)) 3 0 0 [.ref m] h (fun r h' => (mW1 (decide (f 8 = 1)) = 0 → r = some (.int (iI (mMarkV (g 6) (g 18)))) ∧ mSt G h0 h' m ad (va_up (mRef f 0) 25 1) (va_up g 24 (mMarkE (g 6) (g 18) (g 24)))) ∧ (mW1 (decide (f 8 = 1)) ≠ 0 → r = some (.int (iI (-1))) ∧ mSt G h0 h' m ad (mRef f (mW1 (decide (f 8 = 1)))) g)) := by
  refine gC.of (by decide) (Nat.le_of_ble_eq_true rfl) rfl ?_
  intro X C E hI
  have C : gCtx G X cX3_mark 3 RX3 3 (some .int) := C
  rcases id hf8 with e8 | e8
  · refine g_aload_n C dX3_mark_0 0 rfl ?_
    refine g_aload_n C dX3_mark_1 0 rfl ?_
    refine g_get C dX3_mark_2 kcX3 8 q1471 (fun _ _ _ _ h9 => h9) M.o (Nat.le_of_ble_eq_true rfl) rfl ?_
    rw [show f 8 = 0 from e8]
    refine g_callS C dX3_mark_5 lkX3_191 (As := [.int (iI 0)]) (c_X3_unless false) rfl rfl ⟨Nat.le_of_ble_eq_true rfl, Nat.le_of_ble_eq_true rfl⟩ (Nat.le_of_ble_eq_true rfl) ?_
    rintro _ _ ⟨rfl, rfl⟩
    show gW X h 0 0 8 [(0, .ref m)] [.int (iI 1), .ref m]
    refine g_callV C dX3_mark_8 lkX3_156 M.o rfl (As := [.int (iI 1)]) (c_X3_isRefused M 1 (by decide) (by decide)) rfl rfl ⟨Nat.le_of_ble_eq_true rfl, Nat.le_of_ble_eq_true rfl⟩ (Nat.le_of_ble_eq_true rfl) ?_
    rintro _ h1 ⟨rfl, M2⟩
    show gW X h1 0 0 11 [(0, .ref m)] [.int (iI (gb true))]
    refine g_ifF C dX3_mark_11 (tgt := 16) (by decide) (fun q => absurd q (by decide)) (fun q => ?_)
    refine g_iconst C dX3_mark_14 ?_
    refine g_iret C E dX3_mark_15 rfl ?_
    have hw : mW1 (decide (f 8 = 1)) = 1 := by simp [mW1, *]
    rw [hw]
    exact ⟨fun z => absurd z (by decide), fun _ => ⟨rfl, M2⟩⟩
  · obtain ⟨hO, hC, hLv⟩ := hI8 e8
    obtain ⟨hI_, hr, hn, hT, hS_⟩ := id hO
    obtain ⟨hi0, hi1, hi2, hi3, hi4, hi5, hiA, hiR⟩ := id hI_
    obtain ⟨hs1, hs3, hs4, hs5, hs6, hs7, hs8, hs11, hs2⟩ := id hS_
    refine g_aload_n C dX3_mark_0 0 rfl ?_
    refine g_aload_n C dX3_mark_1 0 rfl ?_
    refine g_get C dX3_mark_2 kcX3 8 q1471 (fun _ _ _ _ h9 => h9) M.o (Nat.le_of_ble_eq_true rfl) rfl ?_
    rw [show f 8 = 1 from e8]
    refine g_callS C dX3_mark_5 lkX3_191 (As := [.int (iI 1)]) (c_X3_unless true) rfl rfl ⟨Nat.le_of_ble_eq_true rfl, Nat.le_of_ble_eq_true rfl⟩ (Nat.le_of_ble_eq_true rfl) ?_
    rintro _ _ ⟨rfl, rfl⟩
    show gW X h 0 0 8 [(0, .ref m)] [.int (iI 0), .ref m]
    refine g_callV C dX3_mark_8 lkX3_156 M.o rfl (As := [.int (iI 0)]) (c_X3_isRefused M 0 (by decide) (by decide)) rfl rfl ⟨Nat.le_of_ble_eq_true rfl, Nat.le_of_ble_eq_true rfl⟩ (Nat.le_of_ble_eq_true rfl) ?_
    rintro _ h3 ⟨rfl, M4⟩
    show gW X h3 0 0 11 [(0, .ref m)] [.int (iI (gb false))]
    refine g_ifF C dX3_mark_11 (tgt := 16) (by decide) (fun q => ?_) (fun q => absurd q (by decide))
    refine g_aload_n C dX3_mark_16 0 rfl ?_
    refine g_iconst C dX3_mark_17 ?_
    refine g_put C dX3_mark_18 kcX3 25 q1488 (fun _ _ _ _ h9 => h9) M4.o rfl (Nat.le_of_ble_eq_true rfl) rfl rfl (Nat.le_of_ble_eq_true rfl) (fs2 := mFs ad (va_up (mRef f 0) 25 1)) rfl (fun h5 hh6 => ?_)
    have M7 : mSt G h0 h5 m ad (va_up (mRef f 0) 25 1) g := M4.put hh6 rfl
    refine g_iconst C dX3_mark_21 ?_
    refine g_istore_n C dX3_mark_22 (lv' := [(1, .int (iI 0)), (0, .ref m)]) 1 rfl (Nat.le_of_ble_eq_true rfl) rfl ?_
    refine g_iconst C dX3_mark_23 ?_
    refine g_istore_n C dX3_mark_24 (lv' := [(2, .int (iI 0)), (1, .int (iI 0)), (0, .ref m)]) 2 rfl (Nat.le_of_ble_eq_true rfl) rfl ?_
    have L25 : ∀ (n : Nat) (k : Int) (a : Int) (ρ : Int → Int) (h1 : gH) (M1 : mSt G h0 h1 m ad (va_up (mRef f 0) 25 1) (va_up g 24 ρ)) (hk : 0 ≤ k ∧ k ≤ 4 * g 6 0) (hn9 : 4 * g 6 0 - k < n) (ha : 0 ≤ a ∧ a ≤ k) (hs : a + mCount (mMarkP (g 6) (g 18)) (4 * g 6 0 - k).toNat k = mMarkV (g 6) (g 18)) (hz : ∀ j, ρ j = if 0 ≤ j ∧ j < k then mTold (g 6) (g 18) (mT (g 18) j 0) (mT (g 18) j 1) (mT (g 18) j 2) else g 24 j), gW X h1 0 0 25 [(2, .int (iI k)), (1, .int (iI a)), (0, .ref m)] [] := by
      intro n
      induction n with
      | zero => intro k a ρ h1 M1 hk hn9 ha hs hz; exfalso; omega
      | succ n ih =>
        intro k a ρ h1 M1 hk hn9 ha hs hz
        refine g_iload_n C dX3_mark_25 0 rfl ?_
        refine g_iconst C dX3_mark_26 ?_
        refine g_aload_n C dX3_mark_27 2 rfl ?_
        refine g_get C dX3_mark_28 kcX3 6 q1469 (fun _ _ _ _ h9 => h9) M1.o (Nat.le_of_ble_eq_true rfl) (w := .ref (ad 6)) rfl ?_
        refine g_iconst C dX3_mark_31 ?_
        refine g_iald C dX3_mark_32 (v := g 6 0) M1.a6 (by decide) (by decide) (by decide) rfl ?_
        refine g_imul C dX3_mark_33 (v := 4 * (g 6 0)) rfl ?_
        refine g_icmp_ge C dX3_mark_34 (tgt := 100) (by decide) (gRo (by omega) (by omega)) (gRo (by omega) (by omega)) (fun c34 => ?_) (fun c34 => ?_)
        · refine g_iload_n C dX3_mark_100 1 rfl ?_
          refine g_iret C E dX3_mark_101 rfl ?_
          have hw : mW1 (decide (f 8 = 1)) = 0 := by simp [mW1, *]
          have e1 := mMark_end hz (by omega)
          rw [← hs, mCount_end (by omega), Int.add_zero, ← e1]
          exact ⟨fun _ => ⟨rfl, M1⟩, fun z => absurd hw z⟩
        · obtain ⟨ht0, ht1, ht2, -⟩ := mOk_t hO (k := k) (by omega) (by omega)
          refine g_aload_n C dX3_mark_37 2 rfl ?_
          refine g_get C dX3_mark_38 kcX3 24 q1487 (fun _ _ _ _ h9 => h9) M1.o (Nat.le_of_ble_eq_true rfl) (w := .ref (ad 24)) rfl ?_
          refine g_iload_n C dX3_mark_41 0 rfl ?_
          refine g_aload_n C dX3_mark_42 2 rfl ?_
          refine g_aload_n C dX3_mark_43 2 rfl ?_
          refine g_get C dX3_mark_44 kcX3 18 q1481 (fun _ _ _ _ h9 => h9) M1.o (Nat.le_of_ble_eq_true rfl) (w := .ref (ad 18)) rfl ?_
          refine g_iload_n C dX3_mark_47 0 rfl ?_
          refine g_iconst C dX3_mark_48 ?_
          refine g_callS C dX3_mark_49 lkX3_213 (As := [.int (iI k), .int (iI 0)]) (c_X3_at k 0) rfl rfl ⟨Nat.le_of_ble_eq_true rfl, Nat.le_of_ble_eq_true rfl⟩ (Nat.le_of_ble_eq_true rfl) ?_
          rintro _ _ ⟨rfl, rfl⟩
          refine g_iald C dX3_mark_52 (v := g 18 (112 + 11 * k + 0)) M1.a18 (by decide) (by omega) (by omega) rfl ?_
          refine g_aload_n C dX3_mark_53 2 rfl ?_
          refine g_get C dX3_mark_54 kcX3 18 q1481 (fun _ _ _ _ h9 => h9) M1.o (Nat.le_of_ble_eq_true rfl) (w := .ref (ad 18)) rfl ?_
          refine g_iload_n C dX3_mark_57 0 rfl ?_
          refine g_iconst C dX3_mark_58 ?_
          refine g_callS C dX3_mark_59 lkX3_213 (As := [.int (iI k), .int (iI 1)]) (c_X3_at k 1) rfl rfl ⟨Nat.le_of_ble_eq_true rfl, Nat.le_of_ble_eq_true rfl⟩ (Nat.le_of_ble_eq_true rfl) ?_
          rintro _ _ ⟨rfl, rfl⟩
          refine g_iald C dX3_mark_62 (v := g 18 (112 + 11 * k + 1)) M1.a18 (by decide) (by omega) (by omega) rfl ?_
          refine g_aload_n C dX3_mark_63 2 rfl ?_
          refine g_get C dX3_mark_64 kcX3 18 q1481 (fun _ _ _ _ h9 => h9) M1.o (Nat.le_of_ble_eq_true rfl) (w := .ref (ad 18)) rfl ?_
          refine g_iload_n C dX3_mark_67 0 rfl ?_
          refine g_iconst C dX3_mark_68 ?_
          refine g_callS C dX3_mark_69 lkX3_213 (As := [.int (iI k), .int (iI 2)]) (c_X3_at k 2) rfl rfl ⟨Nat.le_of_ble_eq_true rfl, Nat.le_of_ble_eq_true rfl⟩ (Nat.le_of_ble_eq_true rfl) ?_
          rintro _ _ ⟨rfl, rfl⟩
          refine g_iald C dX3_mark_72 (v := g 18 (112 + 11 * k + 2)) M1.a18 (by decide) (by omega) (by omega) rfl ?_
          refine g_callV C dX3_mark_73 lkX3_303 M1.o rfl (As := [.int (iI (g 18 (112 + 11 * k + 0))), .int (iI (g 18 (112 + 11 * k + 1))), .int (iI (g 18 (112 + 11 * k + 2)))]) (c_X3_toldOf M1 (g 18 (112 + 11 * k + 0)) (g 18 (112 + 11 * k + 1)) (g 18 (112 + 11 * k + 2)) hO (by omega) (by omega) (show 0 ≤ (g 18 (112 + 11 * k + 2)) ∧ (g 18 (112 + 11 * k + 2)) < g 6 0 from by omega)) rfl rfl ⟨Nat.le_of_ble_eq_true rfl, Nat.le_of_ble_eq_true rfl⟩ (Nat.le_of_ble_eq_true rfl) ?_
          rintro _ _ ⟨rfl, rfl⟩
          show gW X h1 0 0 76 [(2, .int (iI k)), (1, .int (iI a)), (0, .ref m)] [.int (iI (mTold (g 6) (g 18) (g 18 (112 + 11 * k + 0)) (g 18 (112 + 11 * k + 1)) (g 18 (112 + 11 * k + 2)))), .int (iI k), .ref (ad 24)]
          have b8 := mTold_b hO (route := (g 18 (112 + 11 * k + 0))) (ear := (g 18 (112 + 11 * k + 1))) (tone := (g 18 (112 + 11 * k + 2))) (by omega) (by omega) (by omega)
          obtain ⟨r9, er10⟩ : ∃ z, z = iUp (ρ) k (mTold (g 6) (g 18) (g 18 (112 + 11 * k + 0)) (g 18 (112 + 11 * k + 1)) (g 18 (112 + 11 * k + 2))) := ⟨_, rfl⟩
          refine g_iast C dX3_mark_76 M1.a24 (by decide) (by omega) (by omega) er10.symm (fun h11 hh12 => ?_)
          have M13 : mSt G h0 h11 m ad (va_up (mRef f 0) 25 1) (va_up g 24 r9) := mSt.uu (M1.st24 hh12) rfl
          have hb9 := mTold_b hO (route := g 18 (112 + 11 * k + 0)) (ear := g 18 (112 + 11 * k + 1)) (tone := g 18 (112 + 11 * k + 2)) (by omega) (by omega) (by omega)
          refine g_iload_n C dX3_mark_77 1 rfl ?_
          refine g_aload_n C dX3_mark_78 2 rfl ?_
          refine g_get C dX3_mark_79 kcX3 24 q1487 (fun _ _ _ _ h9 => h9) M13.o (Nat.le_of_ble_eq_true rfl) (w := .ref (ad 24)) rfl ?_
          refine g_iload_n C dX3_mark_82 0 rfl ?_
          refine g_iald C dX3_mark_83 (v := mTold (g 6) (g 18) (g 18 (112 + 11 * k + 0)) (g 18 (112 + 11 * k + 1)) (g 18 (112 + 11 * k + 2))) M13.a24 (by decide) (by omega) (by omega) (by show r9 k = _; rw [er10, iUp_s]) ?_
          refine g_if_lt C dX3_mark_84 (tgt := 91) (by decide) (gRo (by omega) (by omega)) (fun c84 => ?_) (fun c84 => ?_)
          · refine g_iconst C dX3_mark_91 ?_
            refine g_iadd C dX3_mark_92 (v := a + 0) rfl ?_
            refine g_istore_n C dX3_mark_93 (lv' := [(1, .int (iI (a + 0))), (2, .int (iI k)), (0, .ref m)]) 1 rfl (Nat.le_of_ble_eq_true rfl) rfl ?_
            refine g_iinc C dX3_mark_94 (v := k + 1) (lv' := [(2, .int (iI (k + 1))), (1, .int (iI (a + 0))), (0, .ref m)]) 1 rfl rfl (Nat.le_of_ble_eq_true rfl) rfl ?_
            refine g_goto C dX3_mark_97 (tgt := 25) (by decide) ?_
            exact ih (k + 1) (a + 0) r9 h11 M13 (by omega) (by omega) (by omega) (by first | (have := mCount_t (p := mMarkP (g 6) (g 18)) (b := 4 * g 6 0) (k := k) (by omega) (decide_eq_true (by show 0 ≤ mTold (g 6) (g 18) (g 18 (112 + 11 * k + 0)) (g 18 (112 + 11 * k + 1)) (g 18 (112 + 11 * k + 2)); omega)); omega) | (have := mCount_f (p := mMarkP (g 6) (g 18)) (b := 4 * g 6 0) (k := k) (by omega) (decide_eq_false (by show ¬ 0 ≤ mTold (g 6) (g 18) (g 18 (112 + 11 * k + 0)) (g 18 (112 + 11 * k + 1)) (g 18 (112 + 11 * k + 2)); omega)); omega)) (fun j => by rw [er10]; exact mMark_step hz (by omega) rfl j)
          · refine g_iconst C dX3_mark_87 ?_
            refine g_goto C dX3_mark_88 (tgt := 92) (by decide) ?_
            refine g_iadd C dX3_mark_92 (v := a + 1) rfl ?_
            refine g_istore_n C dX3_mark_93 (lv' := [(1, .int (iI (a + 1))), (2, .int (iI k)), (0, .ref m)]) 1 rfl (Nat.le_of_ble_eq_true rfl) rfl ?_
            refine g_iinc C dX3_mark_94 (v := k + 1) (lv' := [(2, .int (iI (k + 1))), (1, .int (iI (a + 1))), (0, .ref m)]) 1 rfl rfl (Nat.le_of_ble_eq_true rfl) rfl ?_
            refine g_goto C dX3_mark_97 (tgt := 25) (by decide) ?_
            exact ih (k + 1) (a + 1) r9 h11 M13 (by omega) (by omega) (by omega) (by first | (have := mCount_t (p := mMarkP (g 6) (g 18)) (b := 4 * g 6 0) (k := k) (by omega) (decide_eq_true (by show 0 ≤ mTold (g 6) (g 18) (g 18 (112 + 11 * k + 0)) (g 18 (112 + 11 * k + 1)) (g 18 (112 + 11 * k + 2)); omega)); omega) | (have := mCount_f (p := mMarkP (g 6) (g 18)) (b := 4 * g 6 0) (k := k) (by omega) (decide_eq_false (by show ¬ 0 ≤ mTold (g 6) (g 18) (g 18 (112 + 11 * k + 0)) (g 18 (112 + 11 * k + 1)) (g 18 (112 + 11 * k + 2)); omega)); omega)) (fun j => by rw [er10]; exact mMark_step hz (by omega) rfl j)
    exact L25 (4 * g 6 0 - 0 + 1 : Int).toNat 0 0 (g 24) h5 (M7.u0) (by omega) (by omega) (by omega) (by show 0 + mMarkV (g 6) (g 18) = _; omega) (fun j => by rw [if_neg (by omega)])
