/-! THE REFERENCE, walks 11 -/
set_option maxRecDepth 100000
theorem c_X3_left {G : gG} {h : gH} {h0 : gH} {m : Nat} {ad : Nat → Nat} {f : Nat → Int} {g : Nat → Int → Int} (M : mSt G h0 h m ad f g) (hf8 : f 8 = 0 ∨ f 8 = 1) (hI8 : f 8 = 1 → mInv (g 6) (g 18)) : gC G yX3_left (.code yX3_left cX3_left 3 (some .int)) 10 0 0 [.ref m] h (fun r h' => (mW1 (decide (f 8 = 1)) = 0 → r = some (.int (iI (mLeft (g 6) (g 18)))) ∧ mSt G h0 h' m ad (mRef f 0) (va_up g 19 (g 18))) ∧ (mW1 (decide (f 8 = 1)) ≠ 0 → r = some (.int (iI (-1))) ∧ mSt G h0 h' m ad (mRef f (mW1 (decide (f 8 = 1)))) g)) := by
  refine gC.of (by decide) (Nat.le_of_ble_eq_true rfl) rfl ?_
  intro X C E hI
  have C : gCtx G X cX3_left 3 RX3 10 (some .int) := C
  rcases id hf8 with e8 | e8
  · refine g_aload_n C dX3_left_0 0 rfl ?_
    refine g_aload_n C dX3_left_1 0 rfl ?_
    refine g_get C dX3_left_2 kcX3 8 q1471 (fun _ _ _ _ h9 => h9) M.o (Nat.le_of_ble_eq_true rfl) rfl ?_
    rw [show f 8 = 0 from e8]
    refine g_callS C dX3_left_5 lkX3_191 (As := [.int (iI 0)]) (c_X3_unless false) rfl rfl ⟨Nat.le_of_ble_eq_true rfl, Nat.le_of_ble_eq_true rfl⟩ (Nat.le_of_ble_eq_true rfl) ?_
    rintro _ _ ⟨rfl, rfl⟩
    show gW X h 0 0 8 [(0, .ref m)] [.int (iI 1), .ref m]
    refine g_callV C dX3_left_8 lkX3_156 M.o rfl (As := [.int (iI 1)]) (c_X3_isRefused M 1 (by decide) (by decide)) rfl rfl ⟨Nat.le_of_ble_eq_true rfl, Nat.le_of_ble_eq_true rfl⟩ (Nat.le_of_ble_eq_true rfl) ?_
    rintro _ h1 ⟨rfl, M2⟩
    show gW X h1 0 0 11 [(0, .ref m)] [.int (iI (gb true))]
    refine g_ifF C dX3_left_11 (tgt := 16) (by decide) (fun q => absurd q (by decide)) (fun q => ?_)
    refine g_iconst C dX3_left_14 ?_
    refine g_iret C E dX3_left_15 rfl ?_
    have hw : mW1 (decide (f 8 = 1)) = 1 := by simp [mW1, *]
    rw [hw]
    exact ⟨fun z => absurd z (by decide), fun _ => ⟨rfl, M2⟩⟩
  · obtain ⟨hO, hC, hLv⟩ := hI8 e8
    obtain ⟨hI_, hr, hn, hT, hS_⟩ := id hO
    obtain ⟨hi0, hi1, hi2, hi3, hi4, hi5, hiA, hiR⟩ := id hI_
    obtain ⟨hs1, hs3, hs4, hs5, hs6, hs7, hs8, hs11, hs2⟩ := id hS_
    refine g_aload_n C dX3_left_0 0 rfl ?_
    refine g_aload_n C dX3_left_1 0 rfl ?_
    refine g_get C dX3_left_2 kcX3 8 q1471 (fun _ _ _ _ h9 => h9) M.o (Nat.le_of_ble_eq_true rfl) rfl ?_
    rw [show f 8 = 1 from e8]
    refine g_callS C dX3_left_5 lkX3_191 (As := [.int (iI 1)]) (c_X3_unless true) rfl rfl ⟨Nat.le_of_ble_eq_true rfl, Nat.le_of_ble_eq_true rfl⟩ (Nat.le_of_ble_eq_true rfl) ?_
    rintro _ _ ⟨rfl, rfl⟩
    show gW X h 0 0 8 [(0, .ref m)] [.int (iI 0), .ref m]
    refine g_callV C dX3_left_8 lkX3_156 M.o rfl (As := [.int (iI 0)]) (c_X3_isRefused M 0 (by decide) (by decide)) rfl rfl ⟨Nat.le_of_ble_eq_true rfl, Nat.le_of_ble_eq_true rfl⟩ (Nat.le_of_ble_eq_true rfl) ?_
    rintro _ h3 ⟨rfl, M4⟩
    show gW X h3 0 0 11 [(0, .ref m)] [.int (iI (gb false))]
    refine g_ifF C dX3_left_11 (tgt := 16) (by decide) (fun q => ?_) (fun q => absurd q (by decide))
    refine g_iconst C dX3_left_16 ?_
    refine g_istore_n C dX3_left_17 (lv' := [(1, .int (iI 0)), (0, .ref m)]) 1 rfl (Nat.le_of_ble_eq_true rfl) rfl ?_
    have L18 : ∀ (n : Nat) (k : Int) (ρ : Int → Int) (h1 : gH) (M1 : mSt G h0 h1 m ad (mRef f 0) (va_up g 19 ρ)) (hk : 0 ≤ k ∧ k ≤ 1840) (hn9 : 1840 - k < n) (hz : ∀ j, ρ j = if 0 ≤ j ∧ j < k then g 18 j else g 19 j), gW X h1 0 0 18 [(1, .int (iI k)), (0, .ref m)] [] := by
      intro n
      induction n with
      | zero => intro k ρ h1 M1 hk hn9 hz; exfalso; omega
      | succ n ih =>
        intro k ρ h1 M1 hk hn9 hz
        refine g_iload_n C dX3_left_18 0 rfl ?_
        refine g_sipush C dX3_left_19 (by decide) ?_
        refine g_icmp_ge C dX3_left_22 (tgt := 43) (by decide) (gRo (by omega) (by omega)) (gRo (by decide) (by decide)) (fun c22 => ?_) (fun c22 => ?_)
        · refine gW.arr C (g 18) M1.a19 (fun j a b => by show ρ j = g 18 j; rw [hz j, if_pos (by omega)]) (fun h5 hh6 => ?_)
          have M7 : mSt G h0 h5 m ad (mRef f 0) (va_up g 19 (g 18)) := mSt.uu (M1.st19 hh6) rfl
          refine g_iconst C dX3_left_43 ?_
          refine g_istore_n C dX3_left_44 (lv' := [(1, .int (iI 0)), (0, .ref m)]) 1 rfl (Nat.le_of_ble_eq_true rfl) rfl ?_
          have L45 : ∀ (n : Nat) (k : Int) (ρ : Int → Int) (h1 : gH) (M1 : mSt G h0 h1 m ad (mRef f 0) (va_up (va_up g 19 (g 18)) 18 ρ)) (hk9 : 0 ≤ k) (hn9 : mMu (g 18) - k < n) (hm9 : mMu ρ ≤ mMu (g 18) - k) (hv9 : mInv (g 6) ρ) (hq9 : k + mRunV (g 6) false false (mMu (g 18) - k).toNat ρ = mLeft (g 6) (g 18)), gW X h1 0 0 45 [(1, .int (iI k)), (0, .ref m)] [] := by
            intro n
            induction n with
            | zero => intro k ρ h1 M1 hk9 hn9 hm9 hv9 hq9; exfalso; have := (mMu_b hv9.1).1; omega
            | succ n ih =>
              intro k ρ h1 M1 hk9 hn9 hm9 hv9 hq9
              refine g_aload_n C dX3_left_45 1 rfl ?_
              refine g_callV C dX3_left_46 lkX3_276 M1.o rfl (As := []) (c_X3_isOn_t M1 hv9.1 (show f 8 = 1 from by omega)) rfl rfl ⟨Nat.le_of_ble_eq_true rfl, Nat.le_of_ble_eq_true rfl⟩ (Nat.le_of_ble_eq_true rfl) ?_
              rintro _ _ ⟨rfl, rfl⟩
              show gW X h1 0 0 49 [(1, .int (iI k)), (0, .ref m)] [.int (iI (gb (decide (ρ 1 ≠ -2))))]
              refine g_ifF C dX3_left_49 (tgt := 65) (by decide) (fun c49 => ?_) (fun c49 => ?_)
              · refine g_iconst C dX3_left_65 ?_
                refine g_istore_n C dX3_left_66 (lv' := [(2, .int (iI 0)), (1, .int (iI k)), (0, .ref m)]) 2 rfl (Nat.le_of_ble_eq_true rfl) rfl ?_
                have L67 : ∀ (n2 : Nat) (q : Int) (ρ2 : Int → Int) (h2 : gH) (M2 : mSt G h0 h2 m ad (mRef f 0) (va_up (va_up g 19 (g 18)) 18 ρ2)) (hq8 : 0 ≤ q ∧ q ≤ 1840) (hn8 : 1840 - q < n2) (hz2 : ∀ j, ρ2 j = if 0 ≤ j ∧ j < q then g 18 j else ρ j), gW X h2 0 0 67 [(2, .int (iI q)), (1, .int (iI k)), (0, .ref m)] [] := by
                  intro n2
                  induction n2 with
                  | zero => intro q ρ2 h2 M2 hq8 hn8 hz2; exfalso; omega
                  | succ n2 ih2 =>
                    intro q ρ2 h2 M2 hq8 hn8 hz2
                    refine g_iload_n C dX3_left_67 0 rfl ?_
                    refine g_sipush C dX3_left_68 (by decide) ?_
                    refine g_icmp_ge C dX3_left_71 (tgt := 92) (by decide) (gRo (by omega) (by omega)) (gRo (by decide) (by decide)) (fun c71 => ?_) (fun c71 => ?_)
                    · refine gW.arr C (g 18) M2.a18 (fun j a b => by show ρ2 j = g 18 j; rw [hz2 j, if_pos (by omega)]) (fun h8 hh9 => ?_)
                      have M10 : mSt G h0 h8 m ad (mRef f 0) (va_up (va_up g 19 (g 18)) 18 (g 18)) := mSt.uu (M2.st18 hh9) rfl
                      refine g_iload_n C dX3_left_92 1 rfl ?_
                      refine g_iret C E dX3_left_93 rfl ?_
                      have hw : mW1 (decide (f 8 = 1)) = 0 := by simp [mW1, *]
                      have e1 : mRunV (g 6) false false (mMu (g 18) - k).toNat ρ = 0 := (mRun_off _ (by simpa using c49)).2
                      rw [← hq9, e1, Int.add_zero]
                      exact ⟨fun _ => ⟨rfl, M10.bk (by decide)⟩, fun z => absurd hw z⟩
                    · refine g_aload_n C dX3_left_74 2 rfl ?_
                      refine g_get C dX3_left_75 kcX3 18 q1481 (fun _ _ _ _ h9 => h9) M2.o (Nat.le_of_ble_eq_true rfl) (w := .ref (ad 18)) rfl ?_
                      refine g_iload_n C dX3_left_78 0 rfl ?_
                      refine g_aload_n C dX3_left_79 2 rfl ?_
                      refine g_get C dX3_left_80 kcX3 19 q1482 (fun _ _ _ _ h9 => h9) M2.o (Nat.le_of_ble_eq_true rfl) (w := .ref (ad 19)) rfl ?_
                      refine g_iload_n C dX3_left_83 0 rfl ?_
                      refine g_iald C dX3_left_84 (v := g 18 q) M2.a19 (by decide) (by omega) (by omega) rfl ?_
                      obtain ⟨r11, er12⟩ : ∃ z, z = iUp (ρ2) q (g 18 q) := ⟨_, rfl⟩
                      refine g_iast C dX3_left_85 M2.a18 (by decide) (by omega) (by omega) er12.symm (fun h13 hh14 => ?_)
                      have M15 : mSt G h0 h13 m ad (mRef f 0) (va_up (va_up g 19 (g 18)) 18 r11) := mSt.uu (M2.st18 hh14) rfl
                      refine g_iinc C dX3_left_86 (v := q + 1) (lv' := [(2, .int (iI (q + 1))), (1, .int (iI k)), (0, .ref m)]) 0 rfl rfl (Nat.le_of_ble_eq_true rfl) rfl ?_
                      refine g_goto C dX3_left_89 (tgt := 67) (by decide) ?_
                      exact ih2 (q + 1) r11 h13 M15 (by omega) (by omega) (fun j => by rw [er12]; exact mCp_step hz2 (by omega) j)
                exact L67 1841 0 (ρ) h1 (M1) (by omega) (by omega) (fun j => by rw [if_neg (by omega)])
              · have hon9 : ρ 1 ≠ -2 := by simpa using c49
                refine g_aload_n C dX3_left_52 1 rfl ?_
                refine g_iconst C dX3_left_53 ?_
                refine g_iconst C dX3_left_54 ?_
                refine g_callV C dX3_left_55 lkX3_288 M1.o rfl (As := [.int (iI 0), .int (iI 0)]) (c_X3_listens M1 false false hv9.1 (show ρ 1 ≠ -2 from by omega) (hv9.2.2 hon9) hv9.2.1) rfl rfl ⟨Nat.le_of_ble_eq_true rfl, Nat.le_of_ble_eq_true rfl⟩ (Nat.le_of_ble_eq_true rfl) ?_
                rintro _ h16 ⟨rfl, M17⟩
                obtain ⟨r18, er19⟩ : ∃ z, z = mAnsR ((g 6)) ((ρ)) (mLis ((g 6)) ((ρ)) false) false := ⟨_, rfl⟩
                have M20 : mSt G h0 h16 m ad (mRef f 0) (va_up (va_up g 19 (g 18)) 18 r18) := mSt.uu M17 er19.symm
                show gW X h16 0 0 58 [(1, .int (iI k)), (0, .ref m)] [.int (iI (mAnsV (g 6) (ρ) (mLis (g 6) (ρ) false) false))]
                refine g_istore_n C dX3_left_58 (lv' := [(2, .int (iI (mAnsV (g 6) (ρ) (mLis (g 6) (ρ) false) false))), (1, .int (iI k)), (0, .ref m)]) 2 rfl (Nat.le_of_ble_eq_true rfl) rfl ?_
                refine g_iinc C dX3_left_59 (v := k + 1) (lv' := [(1, .int (iI (k + 1))), (2, .int (iI (mAnsV (g 6) (ρ) (mLis (g 6) (ρ) false) false))), (0, .ref m)]) 1 rfl rfl (Nat.le_of_ble_eq_true rfl) rfl ?_
                refine g_goto C dX3_left_62 (tgt := 45) (by decide) ?_
                refine gW.loc [0, 2] (lv' := [(1, .int (iI (k + 1))), (0, .ref m)]) rfl ?_
                have hl9 := mAnsR_l hv9.1 hon9 (hv9.2.2 hon9) hv9.2.1 (mLis (g 6) ρ false) false
                have hm8 := (mMu_b hl9.1.1).1
                have hs9 := mRun_step (i := g 6) (s := false) (l := false) (b := mMu (g 18)) (k := k) (by omega) hon9
                rw [← er19] at hs9 hl9
                exact ih (k + 1) r18 h16 (M20) (by omega) (by omega) (by omega) hl9.1 (by omega)
          exact L45 (mMu (g 18) - 0 + 1).toNat 0 (g 18) h5 (M7.u0) (by omega) (by omega) (by omega) ⟨hO, hC, hLv⟩ (by show 0 + mLeft (g 6) (g 18) = _; omega)
        · refine g_aload_n C dX3_left_25 1 rfl ?_
          refine g_get C dX3_left_26 kcX3 19 q1482 (fun _ _ _ _ h9 => h9) M1.o (Nat.le_of_ble_eq_true rfl) (w := .ref (ad 19)) rfl ?_
          refine g_iload_n C dX3_left_29 0 rfl ?_
          refine g_aload_n C dX3_left_30 1 rfl ?_
          refine g_get C dX3_left_31 kcX3 18 q1481 (fun _ _ _ _ h9 => h9) M1.o (Nat.le_of_ble_eq_true rfl) (w := .ref (ad 18)) rfl ?_
          refine g_iload_n C dX3_left_34 0 rfl ?_
          refine g_iald C dX3_left_35 (v := g 18 k) M1.a18 (by decide) (by omega) (by omega) rfl ?_
          obtain ⟨r21, er22⟩ : ∃ z, z = iUp (ρ) k (g 18 k) := ⟨_, rfl⟩
          refine g_iast C dX3_left_36 M1.a19 (by decide) (by omega) (by omega) er22.symm (fun h23 hh24 => ?_)
          have M25 : mSt G h0 h23 m ad (mRef f 0) (va_up g 19 r21) := mSt.uu (M1.st19 hh24) rfl
          refine g_iinc C dX3_left_37 (v := k + 1) (lv' := [(1, .int (iI (k + 1))), (0, .ref m)]) 0 rfl rfl (Nat.le_of_ble_eq_true rfl) rfl ?_
          refine g_goto C dX3_left_40 (tgt := 18) (by decide) ?_
          exact ih (k + 1) r21 h23 M25 (by omega) (by omega) (fun j => by rw [er22]; exact mCp_step hz (by omega) j)
    exact L18 1841 0 (g 19) h3 (M4.u0) (by omega) (by omega) (fun j => by rw [if_neg (by omega)])
