/-! THE REFERENCE, walks 13 -/
set_option maxRecDepth 100000
theorem c_X3_redo {G : gG} {h : gH} {h0 : gH} {m : Nat} {ad : Nat → Nat} {f : Nat → Int} {g : Nat → Int → Int} (M : mSt G h0 h m ad f g) (hf8 : f 8 = 0 ∨ f 8 = 1) (hI8 : f 8 = 1 → mInv (g 6) (g 18)) (hP : f 8 = 1 → mPln (g 6) (g 18)) : gC G yX3_redo (.code yX3_redo cX3_redo 5 (some .int)) 7 1 6 [.ref m] h (fun r h' => (mRedoW (f 8) (g 6) (g 18) = 0 → r = some (.int (iI (mRedoV (g 6) (g 18)))) ∧ mSt G h0 h' m ad (mRef f 0) (va_up g 18 (mRedoR (g 6) (g 18)))) ∧ (mRedoW (f 8) (g 6) (g 18) ≠ 0 → r = some (.int (iI (-1))) ∧ mSt G h0 h' m ad (mRef f (mRedoW (f 8) (g 6) (g 18))) g)) := by
  refine gC.of (by decide) (Nat.le_of_ble_eq_true rfl) rfl ?_
  intro X C E hI
  have C : gCtx G X cX3_redo 5 RX3 7 (some .int) := C
  have hdb : 0 ≤ mDbMany (g 6) (g 18) ∧ mDbMany (g 6) (g 18) ≤ ((g 6 0 - 0).toNat : Int) := mCount_b _ _ _
  rcases id hf8 with e8 | e8
  · refine g_aload_n C dX3_redo_0 0 rfl ?_
    refine g_aload_n C dX3_redo_1 0 rfl ?_
    refine g_get C dX3_redo_2 kcX3 8 q1471 (fun _ _ _ _ h9 => h9) M.o (Nat.le_of_ble_eq_true rfl) rfl ?_
    rw [show f 8 = 0 from e8]
    refine g_if_ne C dX3_redo_5 (tgt := 12) (by decide) (gRo (by decide) (by decide)) (fun q => absurd (by decide) q) (fun _ => ?_)
    refine g_iconst C dX3_redo_8 ?_
    refine g_goto C dX3_redo_9 (tgt := 31) (by decide) ?_
    refine g_callV C dX3_redo_31 lkX3_156 M.o rfl (As := [.int (iI 1)]) (c_X3_isRefused M 1 (by decide) (by decide)) rfl rfl ⟨Nat.le_of_ble_eq_true rfl, Nat.le_of_ble_eq_true rfl⟩ (Nat.le_of_ble_eq_true rfl) ?_
    rintro _ h1 ⟨rfl, M2⟩
    show gW X h1 1 6 34 [(0, .ref m)] [.int (iI (gb true))]
    refine g_ifF C dX3_redo_34 (tgt := 39) (by decide) (fun q => absurd q (by decide)) (fun q => ?_)
    refine g_iconst C dX3_redo_37 ?_
    refine g_iret C E dX3_redo_38 rfl ?_
    have hw : mRedoW (f 8) (g 6) (g 18) = 1 := by simp [mRedoW, *]; try omega
    rw [hw]
    exact ⟨fun z => absurd z (by decide), fun _ => ⟨rfl, M2⟩⟩
  · obtain ⟨hO, hC, hLv⟩ := hI8 e8
    obtain ⟨hI_, hr, hn, hT, hS_⟩ := id hO
    obtain ⟨hi0, hi1, hi2, hi3, hi4, hi5, hiA, hiR⟩ := id hI_
    obtain ⟨hs1, hs3, hs4, hs5, hs6, hs7, hs8, hs11, hs2⟩ := id hS_
    refine g_aload_n C dX3_redo_0 0 rfl ?_
    refine g_aload_n C dX3_redo_1 0 rfl ?_
    refine g_get C dX3_redo_2 kcX3 8 q1471 (fun _ _ _ _ h9 => h9) M.o (Nat.le_of_ble_eq_true rfl) rfl ?_
    rw [show f 8 = 1 from e8]
    refine g_if_ne C dX3_redo_5 (tgt := 12) (by decide) (gRo (by decide) (by decide)) (fun _ => ?_) (fun q => absurd q (by decide))
    refine g_aload_n C dX3_redo_12 0 rfl ?_
    refine g_callV C dX3_redo_13 lkX3_276 M.o rfl (As := []) (c_X3_isOn_t M hO (by omega)) rfl rfl ⟨Nat.le_of_ble_eq_true rfl, Nat.le_of_ble_eq_true rfl⟩ (Nat.le_of_ble_eq_true rfl) ?_
    rintro _ _ ⟨rfl, rfl⟩
    refine g_ifT C dX3_redo_16 (tgt := 26) (by decide) (fun c16 => ?_) (fun c16 => ?_)
    · have hon0 : g 18 1 ≠ -2 := by simpa using c16
      refine g_iconst C dX3_redo_26 ?_
      refine g_goto C dX3_redo_27 (tgt := 31) (by decide) ?_
      refine g_callV C dX3_redo_31 lkX3_156 M.o rfl (As := [.int (iI 5)]) (c_X3_isRefused M 5 (by decide) (by decide)) rfl rfl ⟨Nat.le_of_ble_eq_true rfl, Nat.le_of_ble_eq_true rfl⟩ (Nat.le_of_ble_eq_true rfl) ?_
      rintro _ h3 ⟨rfl, M4⟩
      show gW X h3 1 6 34 [(0, .ref m)] [.int (iI (gb true))]
      refine g_ifF C dX3_redo_34 (tgt := 39) (by decide) (fun q => absurd q (by decide)) (fun q => ?_)
      refine g_iconst C dX3_redo_37 ?_
      refine g_iret C E dX3_redo_38 rfl ?_
      have hw : mRedoW (f 8) (g 6) (g 18) = 5 := by simp [mRedoW, *]; try omega
      rw [hw]
      exact ⟨fun z => absurd z (by decide), fun _ => ⟨rfl, M4⟩⟩
    · have hoff0 : g 18 1 = -2 := by simpa using c16
      refine g_aload_n C dX3_redo_19 0 rfl ?_
      refine g_callV C dX3_redo_20 lkX3_324 M.o rfl (As := []) (c_X3_doubtfulMany M hO) rfl rfl ⟨Nat.le_of_ble_eq_true rfl, Nat.le_of_ble_eq_true rfl⟩ (Nat.le_of_ble_eq_true rfl) ?_
      rintro _ _ ⟨rfl, rfl⟩
      refine g_if_ne C dX3_redo_23 (tgt := 30) (by decide) (gRo (by omega) (by omega)) (fun c23 => ?_) (fun c23 => ?_)
      · have hdm : mDbMany (g 6) (g 18) ≠ 0 := by omega
        refine g_iconst C dX3_redo_30 ?_
        refine g_callV C dX3_redo_31 lkX3_156 M.o rfl (As := [.int (iI 0)]) (c_X3_isRefused M 0 (by decide) (by decide)) rfl rfl ⟨Nat.le_of_ble_eq_true rfl, Nat.le_of_ble_eq_true rfl⟩ (Nat.le_of_ble_eq_true rfl) ?_
        rintro _ h5 ⟨rfl, M6⟩
        show gW X h5 1 6 34 [(0, .ref m)] [.int (iI (gb false))]
        refine g_ifF C dX3_redo_34 (tgt := 39) (by decide) (fun q => ?_) (fun q => absurd q (by decide))
        refine g_bipush C dX3_redo_39 (by decide) ?_
        refine g_newaz C dX3_redo_41 q321 (42, 0) (n := 6) rfl (by decide) (fun o7 h8 hn9 hh10 => ?_)
        have hf11 := M6.2.fresh hn9
        have M12 : mSt G h0 h8 m ad (mRef f 0) g := M6.nw hn9 hh10
        have hc13 : h8 o7 = some ((42, 0), gAZ G 6 (fun _ => 0)) := gUp_s1 hh10
        refine g_astore_n C dX3_redo_43 (lv' := [(1, .ref o7), (0, .ref m)]) 1 rfl (Nat.le_of_ble_eq_true rfl) rfl ?_
        refine g_iconst C dX3_redo_44 ?_
        refine g_istore_n C dX3_redo_45 (lv' := [(2, .int (iI 0)), (1, .ref o7), (0, .ref m)]) 2 rfl (Nat.le_of_ble_eq_true rfl) rfl ?_
        have L46 : ∀ (n : Nat) (k : Int) (β : Int → Int) (h1 : gH) (M1 : mSt G h0 h1 m ad (mRef f 0) g) (hβ : h1 o7 = some ((42, 0), gAZ G 6 β)) (hk : 0 ≤ k ∧ k ≤ g 6 0) (hn9 : g 6 0 - k < n) (hz : ∀ j, 0 ≤ j → j < k → β j = gb (mDbt (g 6) (g 18) j)), gW X h1 0 0 46 [(2, .int (iI k)), (1, .ref o7), (0, .ref m)] [] := by
          intro n
          induction n with
          | zero => intro k β h1 M1 hβ hk hn9 hz; exfalso; omega
          | succ n ih =>
            intro k β h1 M1 hβ hk hn9 hz
            refine g_iload_n C dX3_redo_46 0 rfl ?_
            refine g_aload_n C dX3_redo_47 2 rfl ?_
            refine g_get C dX3_redo_48 kcX3 6 q1469 (fun _ _ _ _ h9 => h9) M1.o (Nat.le_of_ble_eq_true rfl) (w := .ref (ad 6)) rfl ?_
            refine g_iconst C dX3_redo_51 ?_
            refine g_iald C dX3_redo_52 (v := g 6 0) M1.a6 (by decide) (by decide) (by decide) rfl ?_
            refine g_icmp_ge C dX3_redo_53 (tgt := 70) (by decide) (gRo (by omega) (by omega)) (hiR _) (fun c53 => ?_) (fun c53 => ?_)
            · refine g_iconst C dX3_redo_70 ?_
              refine g_istore_n C dX3_redo_71 (lv' := [(2, .int (iI 0)), (1, .ref o7), (0, .ref m)]) 2 rfl (Nat.le_of_ble_eq_true rfl) rfl ?_
              refine g_iconst C dX3_redo_72 ?_
              refine g_istore_n C dX3_redo_73 (lv' := [(3, .int (iI (-1))), (2, .int (iI 0)), (1, .ref o7), (0, .ref m)]) 3 rfl (Nat.le_of_ble_eq_true rfl) rfl ?_
              refine g_aload_n C dX3_redo_74 3 rfl ?_
              refine g_get C dX3_redo_75 kcX3 18 q1481 (fun _ _ _ _ h9 => h9) M1.o (Nat.le_of_ble_eq_true rfl) (w := .ref (ad 18)) rfl ?_
              refine g_iconst C dX3_redo_78 ?_
              refine g_iald C dX3_redo_79 (v := g 18 0) M1.a18 (by decide) (by decide) (by decide) rfl ?_
              refine g_iconst C dX3_redo_80 ?_
              refine g_isub C dX3_redo_81 (v := g 18 0 - 1) rfl ?_
              refine g_istore C dX3_redo_82 (lv' := [(4, .int (iI (g 18 0 - 1))), (3, .int (iI (-1))), (2, .int (iI 0)), (1, .ref o7), (0, .ref m)]) (Nat.le_of_ble_eq_true rfl) rfl ?_
              have L84 : ∀ (n : Nat) (k : Int) (a : Int) (b : Int) (ρ : Int → Int) (h2 : gH) (M2 : mSt G h0 h2 m ad (mRef f 0) (va_up g 18 ρ)) (hβ2 : h2 o7 = some ((42, 0), gAZ G 6 β)) (hk : -1 ≤ k ∧ k < g 18 0) (hn9 : k + 1 < n) (ha : 0 ≤ a ∧ a + k ≤ 48) (hw9 : mOk (g 6) ρ ∧ mExt (g 18) ρ) (hw0 : ρ 0 = g 18 0) (hs : mRd (mDbt (g 6) (g 18)) (k + 1).toNat ρ a b = mRdA (g 6) (g 18)), gW X h2 0 0 84 [(4, .int (iI k)), (3, .int (iI b)), (2, .int (iI a)), (1, .ref o7), (0, .ref m)] [] := by
                intro n
                induction n with
                | zero => intro k a b ρ h2 M2 hβ2 hk hn9 ha hw9 hw0 hs; exfalso; omega
                | succ n ih =>
                  intro k a b ρ h2 M2 hβ2 hk hn9 ha hw9 hw0 hs
                  refine g_iload C dX3_redo_84 0 rfl ?_
                  refine g_if_lt C dX3_redo_86 (tgt := 123) (by decide) (gRo (by omega) (by omega)) (fun c86 => ?_) (fun c86 => ?_)
                  · have e1 : mRdA (g 6) (g 18) = (ρ, a, b) := by rw [← hs, show (k + 1).toNat = 0 by omega]; rfl
                    have hd9 := mRdA_i hO hC (hP e8) hoff0 hdm
                    rw [e1] at hd9
                    obtain ⟨q1, q2, q3, q4, q5, q6, q7⟩ := hd9
                    have q8 : 0 ≤ b ∧ b < g 18 0 := q6
                    have q9 : ρ 0 = g 18 0 := q4
                    refine g_aload_n C dX3_redo_123 4 rfl ?_
                    refine g_iload_n C dX3_redo_124 1 rfl ?_
                    have M14 := (M2).here
                    refine g_callV C dX3_redo_125 lkX3_223 M14.o rfl (As := [.int (iI b)]) (c_X3_begins M14 b q1 (show 0 ≤ b ∧ b < ρ 0 from by omega)) rfl rfl ⟨Nat.le_of_ble_eq_true rfl, Nat.le_of_ble_eq_true rfl⟩ (Nat.le_of_ble_eq_true rfl) ?_
                    rintro _ h15 ⟨rfl, M16⟩
                    obtain ⟨r17, er18⟩ : ∃ z, z = mBegR ((g 6)) ((ρ)) b := ⟨_, rfl⟩
                    have M19 : mSt G h2 h15 m ad (mRef f 0) (va_up g 18 r17) := mSt.uu M16 er18.symm
                    have hO20 : mOk (g 6) r17 := by rw [er18]; exact mBegR_ok q1 (by omega) (by omega)
                    have hn21 := hO20.2.2.1
                    have hs22 := hO20.2.2.2.2.1
                    have hc23 := (M19).cell42 hβ2
                    have M24 := (M2).since M19
                    show gW X h15 0 0 128 [(4, .int (iI k)), (3, .int (iI b)), (2, .int (iI a)), (1, .ref o7), (0, .ref m)] [.int (iI (gb (mBegB (g 6) (ρ) b)))]
                    refine g_istore C dX3_redo_128 (lv' := [(4, .int (iI (gb (mBegB (g 6) (ρ) b)))), (3, .int (iI b)), (2, .int (iI a)), (1, .ref o7), (0, .ref m)]) (Nat.le_of_ble_eq_true rfl) rfl ?_
                    refine g_iload_n C dX3_redo_130 2 rfl ?_
                    refine g_iret C E dX3_redo_131 rfl ?_
                    have hw : mRedoW (f 8) (g 6) (g 18) = 0 := by simp [mRedoW, *]; try omega
                    subst er18
                    exact ⟨fun _ => ⟨rI (by unfold mRedoV; rw [e1]), (by unfold mRedoR; rw [e1]; exact M24)⟩, fun z => absurd hw z⟩
                  · have hk0 : 0 ≤ k := by omega
                    obtain ⟨ht0, ht1, ht2, -⟩ := mOk_t hw9.1 (k := k) hk0 (by omega)
                    obtain ⟨hgR1, hgR2⟩ := gb_R (mDbt (g 6) (g 18) (ρ (112 + 11 * k + 2)))
                    have hβk := hz (ρ (112 + 11 * k + 2)) (by omega) (by omega)
                    refine g_aload_n C dX3_redo_89 3 rfl ?_
                    refine g_aload_n C dX3_redo_90 4 rfl ?_
                    refine g_get C dX3_redo_91 kcX3 18 q1481 (fun _ _ _ _ h9 => h9) M2.o (Nat.le_of_ble_eq_true rfl) (w := .ref (ad 18)) rfl ?_
                    refine g_iload C dX3_redo_94 0 rfl ?_
                    refine g_iconst C dX3_redo_96 ?_
                    refine g_callS C dX3_redo_97 lkX3_213 (As := [.int (iI k), .int (iI 2)]) (c_X3_at k 2) rfl rfl ⟨Nat.le_of_ble_eq_true rfl, Nat.le_of_ble_eq_true rfl⟩ (Nat.le_of_ble_eq_true rfl) ?_
                    rintro _ _ ⟨rfl, rfl⟩
                    refine g_iald C dX3_redo_100 (v := (ρ) (112 + 11 * k + 2)) M2.a18 (by decide) (by omega) (by omega) rfl ?_
                    refine g_zald C dX3_redo_101 (v := (β) ((ρ) (112 + 11 * k + 2))) hβ2 (by decide) (by omega) (by omega) rfl ?_
                    refine g_if_eq C dX3_redo_102 (tgt := 117) (by decide) (gRo (by omega) (by omega)) (fun c102 => ?_) (fun c102 => ?_)
                    · have hp8 : gb (mDbt (g 6) (g 18) (mT ρ k 2)) = β (ρ (112 + 11 * k + 2)) := hβk.symm
                      have hp9 : ¬ mDbt (g 6) (g 18) (mT ρ k 2) = true := by intro z; rw [z] at hp8; have : gb true = 1 := rfl; omega
                      refine g_iinc C dX3_redo_117 (v := k - 1) (lv' := [(4, .int (iI (k - 1))), (3, .int (iI b)), (2, .int (iI a)), (1, .ref o7), (0, .ref m)]) 0 rfl (by omega) (Nat.le_of_ble_eq_true rfl) rfl ?_
                      refine g_goto C dX3_redo_120 (tgt := 84) (by decide) ?_
                      exact ih (k - 1) a b ρ h2 M2 hβ2 (by omega) (by omega) (by omega) hw9 hw0 (by rw [mRd_step hk0, if_neg hp9] at hs; rw [show k - 1 + 1 = k by omega]; exact hs)
                    · have hp8 : gb (mDbt (g 6) (g 18) (mT ρ k 2)) = β (ρ (112 + 11 * k + 2)) := hβk.symm
                      have hp9 : mDbt (g 6) (g 18) (mT ρ k 2) = true := by
                        cases z : mDbt (g 6) (g 18) (mT ρ k 2)
                        · rw [z] at hp8; have : gb false = 0 := rfl; omega
                        · rfl
                      refine g_aload_n C dX3_redo_105 4 rfl ?_
                      refine g_iload C dX3_redo_106 0 rfl ?_
                      have M25 := (M2).here
                      refine g_callV C dX3_redo_108 lkX3_216 M25.o rfl (As := [.int (iI k)]) (c_X3_forgets M25 k (by omega)) rfl rfl ⟨Nat.le_of_ble_eq_true rfl, Nat.le_of_ble_eq_true rfl⟩ (Nat.le_of_ble_eq_true rfl) ?_
                      rintro _ h26 ⟨rfl, M27⟩
                      obtain ⟨r28, er29⟩ : ∃ z, z = mForget ((ρ)) k := ⟨_, rfl⟩
                      have M30 : mSt G h2 h26 m ad (mRef f 0) (va_up g 18 r28) := mSt.uu M27 er29.symm
                      have hr31 : mR0 r28 := by rw [er29]; exact mForget_R (hw9.1.2.1) k
                      have hc32 := (M30).cell42 hβ2
                      have M33 := (M2).since M30
                      refine g_iinc C dX3_redo_111 (v := a + 1) (lv' := [(2, .int (iI (a + 1))), (4, .int (iI k)), (3, .int (iI b)), (1, .ref o7), (0, .ref m)]) 2 rfl rfl (Nat.le_of_ble_eq_true rfl) rfl ?_
                      refine g_iload C dX3_redo_114 1 rfl ?_
                      refine g_istore_n C dX3_redo_116 (lv' := [(3, .int (iI k)), (2, .int (iI (a + 1))), (4, .int (iI k)), (1, .ref o7), (0, .ref m)]) 3 rfl (Nat.le_of_ble_eq_true rfl) rfl ?_
                      refine g_iinc C dX3_redo_117 (v := k - 1) (lv' := [(4, .int (iI (k - 1))), (3, .int (iI k)), (2, .int (iI (a + 1))), (1, .ref o7), (0, .ref m)]) 2 rfl (by omega) (Nat.le_of_ble_eq_true rfl) rfl ?_
                      refine g_goto C dX3_redo_120 (tgt := 84) (by decide) ?_
                      exact ih (k - 1) (a + 1) k r28 h26 M33 hc32 (by omega) (by omega) (by omega) ⟨by rw [er29]; exact mForget_tok hw9.1 (by omega) (by omega), by rw [er29]; exact hw9.2.tr (mForget_x (by omega)) (by omega)⟩ (by rw [er29, mForget_n (by omega)]; exact hw0) (by rw [mRd_step hk0, if_pos hp9] at hs; rw [er29, show k - 1 + 1 = k by omega]; exact hs)
              exact L84 (g 18 0 + 1).toNat (g 18 0 - 1) 0 (-1) (g 18) h1 (M1.u0) hβ (by omega) (by omega) (by omega) ⟨hO, mExt.rf⟩ (by omega) (by rw [show g 18 0 - 1 + 1 = g 18 0 by omega]; rfl)
            · refine g_aload_n C dX3_redo_56 1 rfl ?_
              refine g_iload_n C dX3_redo_57 0 rfl ?_
              refine g_aload_n C dX3_redo_58 2 rfl ?_
              refine g_iload_n C dX3_redo_59 0 rfl ?_
              refine g_callV C dX3_redo_60 lkX3_321 M1.o rfl (As := [.int (iI k)]) (c_X3_isDoubtful M1 k hO (show 0 ≤ k ∧ k < g 6 0 from by omega)) rfl rfl ⟨Nat.le_of_ble_eq_true rfl, Nat.le_of_ble_eq_true rfl⟩ (Nat.le_of_ble_eq_true rfl) ?_
              rintro _ _ ⟨rfl, rfl⟩
              show gW X h1 0 0 63 [(2, .int (iI k)), (1, .ref o7), (0, .ref m)] [.int (iI (gb (mDbt (g 6) (g 18) k))), .int (iI k), .ref o7]
              obtain ⟨r34, er35⟩ : ∃ z, z = iUp (β) k (gb (mDbt (g 6) (g 18) k)) := ⟨_, rfl⟩
              refine g_zast C dX3_redo_63 hβ (by decide) (by cases (mDbt (g 6) (g 18) k) <;> rfl) (by omega) (by omega) er35.symm (fun h36 hh37 => ?_)
              have hc38 : h36 o7 = some ((42, 0), gAZ G 6 r34) := gUp_s1 hh37
              have M39 : mSt G h0 h36 m ad (mRef f 0) g := M1.kp hf11 hβ hh37
              refine g_iinc C dX3_redo_64 (v := k + 1) (lv' := [(2, .int (iI (k + 1))), (1, .ref o7), (0, .ref m)]) 0 rfl rfl (Nat.le_of_ble_eq_true rfl) rfl ?_
              refine g_goto C dX3_redo_67 (tgt := 46) (by decide) ?_
              exact ih (k + 1) r34 h36 M39 hc38 (by omega) (by omega) (fun j a b => by rw [er35]; unfold iUp; by_cases c : j = k <;> first | (rw [if_pos c, c]; done) | (rw [if_neg c]; exact hz j a (by omega)))
        exact L46 (g 6 0 - 0 + 1).toNat 0 (fun _ => 0) h8 M12 hc13 (by omega) (by omega) (fun j a b => by omega)
      · refine g_iconst C dX3_redo_26 ?_
        refine g_goto C dX3_redo_27 (tgt := 31) (by decide) ?_
        refine g_callV C dX3_redo_31 lkX3_156 M.o rfl (As := [.int (iI 5)]) (c_X3_isRefused M 5 (by decide) (by decide)) rfl rfl ⟨Nat.le_of_ble_eq_true rfl, Nat.le_of_ble_eq_true rfl⟩ (Nat.le_of_ble_eq_true rfl) ?_
        rintro _ h40 ⟨rfl, M41⟩
        show gW X h40 1 6 34 [(0, .ref m)] [.int (iI (gb true))]
        refine g_ifF C dX3_redo_34 (tgt := 39) (by decide) (fun q => absurd q (by decide)) (fun q => ?_)
        refine g_iconst C dX3_redo_37 ?_
        refine g_iret C E dX3_redo_38 rfl ?_
        have hw : mRedoW (f 8) (g 6) (g 18) = 5 := by simp [mRedoW, *]; try omega
        rw [hw]
        exact ⟨fun z => absurd z (by decide), fun _ => ⟨rfl, M41⟩⟩
