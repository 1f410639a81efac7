/-! THE REFERENCE, walks 7 -/
set_option maxRecDepth 100000
theorem lkX3_263 : gLkV RX3 263 yX3_ends cX3_ends 4 (some .int) 2 := ⟨⟨q1792, q1794, qs86, q111, q1795⟩, ⟨by decide, by decide⟩, by decide +kernel⟩
theorem lkX3_273 : gLkV RX3 273 yX3_comesTo cX3_comesTo 5 (some .int) 1 := ⟨⟨q1788, q1790, qs85, q111, q1791⟩, ⟨by decide, by decide⟩, by decide +kernel⟩
theorem lkX3_266 : gLkV RX3 266 yX3_logs cX3_logs 5 none 3 := ⟨⟨q1784, q1786, qs84, q111, q1787⟩, ⟨by decide, by decide⟩, by decide +kernel⟩
theorem c_X3_comesTo {G : gG} {h : gH} {h0 : gH} {m : Nat} {ad : Nat → Nat} {f : Nat → Int} {g : Nat → Int → Int} (M : mSt G h0 h m ad f g) (thr : Int) (hO : mOk (g 6) (g 18)) (hon : g 18 1 ≠ -2) (hth : 0 ≤ thr ∧ thr ≤ 25) : gC G yX3_comesTo (.code yX3_comesTo cX3_comesTo 5 (some .int)) 7 0 0 [.ref m, .int (iI thr)] h (fun r h' => r = some (.int (iI (mCmV (g 6) (g 18) thr))) ∧ mSt G h0 h' m ad (f) (va_up g 18 (mCmR (g 6) (g 18) thr))) := by
  refine gC.of (by decide) (Nat.le_of_ble_eq_true rfl) rfl ?_
  intro X C E hI
  have C : gCtx G X cX3_comesTo 5 RX3 7 (some .int) := C
  obtain ⟨hI_, hr, hn, hT, hS_⟩ := id hO
  obtain ⟨hi0, hi1, hi2, hi3, hi4, hi5, hiA, hiR⟩ := id hI_
  obtain ⟨hs1, hs3, hs4, hs5, hs6, hs7, hs8, hs11, hs2⟩ := id hS_
  refine g_aload_n C dX3_comesTo_0 0 rfl ?_
  refine g_get C dX3_comesTo_1 kcX3 18 q1481 (fun _ _ _ _ h9 => h9) M.o (Nat.le_of_ble_eq_true rfl) rfl ?_
  refine g_iconst C dX3_comesTo_4 ?_
  refine g_iald C dX3_comesTo_5 (v := g 18 1) M.a18 (by decide) (by decide) (by decide) rfl ?_
  refine g_istore_n C dX3_comesTo_6 (lv' := [(2, .int (iI (g 18 1))), (0, .ref m), (1, .int (iI thr))]) 2 rfl (Nat.le_of_ble_eq_true rfl) rfl ?_
  refine g_aload_n C dX3_comesTo_7 1 rfl ?_
  refine g_get C dX3_comesTo_8 kcX3 18 q1481 (fun _ _ _ _ h9 => h9) M.o (Nat.le_of_ble_eq_true rfl) rfl ?_
  refine g_iload_n C dX3_comesTo_11 0 rfl ?_
  refine g_bipush C dX3_comesTo_12 (by decide) ?_
  refine g_callS C dX3_comesTo_14 lkX3_213 (As := [.int (iI (g 18 1)), .int (iI 7)]) (c_X3_at (g 18 1) 7) rfl rfl ⟨Nat.le_of_ble_eq_true rfl, Nat.le_of_ble_eq_true rfl⟩ (Nat.le_of_ble_eq_true rfl) ?_
  rintro _ _ ⟨rfl, rfl⟩
  refine g_dup2 C dX3_comesTo_17 rfl rfl ?_
  refine g_iald C dX3_comesTo_18 (v := g 18 (112 + 11 * (g 18 1) + 7)) M.a18 (by decide) (by omega) (by omega) rfl ?_
  refine g_iconst C dX3_comesTo_19 ?_
  refine g_iadd C dX3_comesTo_20 (v := g 18 (112 + 11 * (g 18 1) + 7) + 1) rfl ?_
  rw [show iI (g 18 (112 + 11 * (g 18 1) + 7) + 1) = iI (iW (g 18 (112 + 11 * (g 18 1) + 7) + 1)) from (iI_W _).symm]
  obtain ⟨r1, er2⟩ : ∃ z, z = iUp (g 18) (112 + 11 * (g 18 1) + 7) (iW (g 18 (112 + 11 * (g 18 1) + 7) + 1)) := ⟨_, rfl⟩
  refine g_iast C dX3_comesTo_21 M.a18 (by decide) (by omega) (by omega) er2.symm (fun h3 hh4 => ?_)
  have hr5 : mR0 r1 := by rw [er2]; exact mR0.up (hr) (gR_W _)
  have M6 : mSt G h0 h3 m ad f (va_up g 18 r1) := mSt.u1 (M.st18 hh4) rfl
  refine g_iconst C dX3_comesTo_22 ?_
  refine g_istore_n C dX3_comesTo_23 (lv' := [(3, .int (iI 0)), (2, .int (iI (g 18 1))), (0, .ref m), (1, .int (iI thr))]) 3 rfl (Nat.le_of_ble_eq_true rfl) rfl ?_
  have ho8 : mOk (g 6) r1 := by rw [er2]; exact hO.t6 (by omega) (by omega) (by omega) (gR_W _)
  have L24 : ∀ (n : Nat) (lv : Int) (ρ : Int → Int) (h1 : gH) (M1 : mSt G h0 h1 m ad f (va_up g 18 ρ)) (hk9 : 0 ≤ lv ∧ lv ≤ 25) (hn9 : 25 - lv < n) (ho9 : mOk (g 6) ρ) (hf9 : mFor (mOdd (g 18 1) thr) (25 - lv).toNat lv ρ = mC0 (g 18) thr), gW X h1 0 0 24 [(3, .int (iI lv)), (2, .int (iI (g 18 1))), (0, .ref m), (1, .int (iI thr))] [] := by
    intro n
    induction n with
    | zero => intro lv ρ h1 M1 hk9 hn9 ho9 hf9; exfalso; omega
    | succ n ih =>
      intro lv ρ h1 M1 hk9 hn9 ho9 hf9
      refine g_iload_n C dX3_comesTo_24 0 rfl ?_
      refine g_bipush C dX3_comesTo_25 (by decide) ?_
      refine g_icmp_ge C dX3_comesTo_27 (tgt := 85) (by decide) (gRo (by omega) (by omega)) (gRo (by decide) (by decide)) (fun c27 => ?_) (fun c27 => ?_)
      · have eρ : ρ = mC0 (g 18) thr := by rw [← hf9, mFor_end (by omega)]
        refine g_aload_n C dX3_comesTo_85 2 rfl ?_
        refine g_get C dX3_comesTo_86 kcX3 18 q1481 (fun _ _ _ _ h9 => h9) M1.o (Nat.le_of_ble_eq_true rfl) rfl ?_
        refine g_iload_n C dX3_comesTo_89 1 rfl ?_
        refine g_iconst C dX3_comesTo_90 ?_
        refine g_callS C dX3_comesTo_91 lkX3_213 (As := [.int (iI (g 18 1)), .int (iI 3)]) (c_X3_at (g 18 1) 3) rfl rfl ⟨Nat.le_of_ble_eq_true rfl, Nat.le_of_ble_eq_true rfl⟩ (Nat.le_of_ble_eq_true rfl) ?_
        rintro _ _ ⟨rfl, rfl⟩
        refine g_iald C dX3_comesTo_94 (v := g 18 (112 + 11 * (g 18 1) + 3)) M1.a18 (by decide) (by omega) (by omega) (by show (ρ) (112 + 11 * (g 18 1) + 3) = _; rw [eρ, mC0_n hO hon (by omega) (by omega)]) ?_
        refine g_if_ne C dX3_comesTo_95 (tgt := 105) (by decide) (hr _) (fun c95 => ?_) (fun c95 => ?_)
        · refine g_aload_n C dX3_comesTo_105 2 rfl ?_
          refine g_get C dX3_comesTo_106 kcX3 18 q1481 (fun _ _ _ _ h9 => h9) M1.o (Nat.le_of_ble_eq_true rfl) rfl ?_
          refine g_bipush C dX3_comesTo_109 (by decide) ?_
          refine g_iald C dX3_comesTo_111 (v := g 18 7) M1.a18 (by decide) (by decide) (by decide) (by show (ρ) 7 = _; rw [eρ, mC0_n hO hon (by omega) (by omega)]) ?_
          refine g_if_eq C dX3_comesTo_112 (tgt := 126) (by decide) (hr _) (fun c112 => ?_) (fun c112 => ?_)
          · refine g_aload_n C dX3_comesTo_126 2 rfl ?_
            refine g_get C dX3_comesTo_127 kcX3 18 q1481 (fun _ _ _ _ h9 => h9) M1.o (Nat.le_of_ble_eq_true rfl) rfl ?_
            refine g_bipush C dX3_comesTo_130 (by decide) ?_
            refine g_iconst C dX3_comesTo_132 ?_
            obtain ⟨r7, er8⟩ : ∃ z, z = iUp (ρ) 7 0 := ⟨_, rfl⟩
            refine g_iast C dX3_comesTo_133 M1.a18 (by decide) (by decide) (by decide) er8.symm (fun h9 hh10 => ?_)
            have hr11 : mR0 r7 := by rw [er8]; exact mR0.up (ho9.2.1) (gRo (by decide) (by decide))
            have M12 : mSt G h0 h9 m ad f (va_up g 18 r7) := mSt.uu (M1.st18 hh10) rfl
            refine g_aload_n C dX3_comesTo_134 2 rfl ?_
            refine g_get C dX3_comesTo_135 kcX3 18 q1481 (fun _ _ _ _ h9 => h9) M12.o (Nat.le_of_ble_eq_true rfl) rfl ?_
            refine g_bipush C dX3_comesTo_138 (by decide) ?_
            refine g_aload_n C dX3_comesTo_140 2 rfl ?_
            refine g_get C dX3_comesTo_141 kcX3 18 q1481 (fun _ _ _ _ h9 => h9) M12.o (Nat.le_of_ble_eq_true rfl) rfl ?_
            refine g_iconst C dX3_comesTo_144 ?_
            refine g_iald C dX3_comesTo_145 (v := g 18 5) M12.a18 (by decide) (by decide) (by decide) (by show r7 5 = _; rw [er8, iUp_n (by decide), eρ, mC0_n hO hon (by omega) (by omega)]) ?_
            obtain ⟨r13, er14⟩ : ∃ z, z = iUp r7 9 (g 18 5) := ⟨_, rfl⟩
            refine g_iast C dX3_comesTo_146 M12.a18 (by decide) (by decide) (by decide) er14.symm (fun h15 hh16 => ?_)
            have hr17 : mR0 r13 := by rw [er14]; exact mR0.up (hr11) (hr _)
            have M18 : mSt G h0 h15 m ad f (va_up g 18 r13) := mSt.uu (M12.st18 hh16) rfl
            refine g_aload_n C dX3_comesTo_147 2 rfl ?_
            refine g_get C dX3_comesTo_148 kcX3 18 q1481 (fun _ _ _ _ h9 => h9) M18.o (Nat.le_of_ble_eq_true rfl) rfl ?_
            refine g_bipush C dX3_comesTo_151 (by decide) ?_
            refine g_iload_n C dX3_comesTo_153 3 rfl ?_
            obtain ⟨r19, er20⟩ : ∃ z, z = iUp r13 8 thr := ⟨_, rfl⟩
            refine g_iast C dX3_comesTo_154 M18.a18 (by decide) (by decide) (by decide) er20.symm (fun h21 hh22 => ?_)
            have hr23 : mR0 r19 := by rw [er20]; exact mR0.up (hr17) (gRo (by omega) (by omega))
            have M24 : mSt G h0 h21 m ad f (va_up g 18 r19) := mSt.uu (M18.st18 hh22) rfl
            refine g_aload_n C dX3_comesTo_155 2 rfl ?_
            refine g_get C dX3_comesTo_156 kcX3 18 q1481 (fun _ _ _ _ h9 => h9) M24.o (Nat.le_of_ble_eq_true rfl) rfl ?_
            refine g_bipush C dX3_comesTo_159 (by decide) ?_
            refine g_dup2 C dX3_comesTo_161 rfl rfl ?_
            refine g_iald C dX3_comesTo_162 (v := 0) M24.a18 (by decide) (by decide) (by decide) (by show r19 7 = _; rw [er20, iUp_n (by decide), er14, iUp_n (by decide), er8, iUp_s]) ?_
            refine g_iconst C dX3_comesTo_163 ?_
            refine g_iadd C dX3_comesTo_164 (v := 1) (by decide) ?_
            obtain ⟨r25, er26⟩ : ∃ z, z = iUp r19 7 1 := ⟨_, rfl⟩
            refine g_iast C dX3_comesTo_165 M24.a18 (by decide) (by decide) (by decide) er26.symm (fun h27 hh28 => ?_)
            have hr29 : mR0 r25 := by rw [er26]; exact mR0.up (hr23) (gRo (by decide) (by decide))
            have M30 : mSt G h0 h27 m ad f (va_up g 18 r25) := mSt.uu (M24.st18 hh28) rfl
            have eD : r25 = mC1 (g 18) thr := by unfold mC1; first | (rw [if_pos (by omega)]; rw [er26, er20, er14, er8, eρ]) | (rw [if_neg (by omega)]; rw [er26, er20, er14, er8, eρ])
            have hO1 : mOk (g 6) r25 := by rw [eD]; exact mC1_ok hO hon hth
            have hD0 : r25 0 = g 18 0 := by rw [eD]; exact mC1_n hO hon (by omega) (by omega) (by omega)
            have hD1 : r25 1 = g 18 1 := by rw [eD]; exact mC1_n hO hon (by omega) (by omega) (by omega)
            have hD5 : r25 5 = g 18 5 := by rw [eD]; exact mC1_n hO hon (by omega) (by omega) (by omega)
            have hD7 : r25 7 = mLk (g 18) thr := by rw [eD]; exact mC1_7 _ _
            have hD9 : r25 9 = mLN (g 18) thr := by rw [eD]; exact mC1_9 hO hon _
            have hDt1 : r25 (112 + 11 * g 18 1 + 1) = g 18 (112 + 11 * g 18 1 + 1) := by rw [eD]; exact mC1_n hO hon (by omega) (by omega) (by omega)
            have hDt2 : r25 (112 + 11 * g 18 1 + 2) = g 18 (112 + 11 * g 18 1 + 2) := by rw [eD]; exact mC1_n hO hon (by omega) (by omega) (by omega)
            obtain ⟨ht0, ht1, ht2, -⟩ := mOk_t hO (k := g 18 1) (by omega) (by omega)
            refine g_aload_n C dX3_comesTo_166 2 rfl ?_
            refine g_get C dX3_comesTo_167 kcX3 18 q1481 (fun _ _ _ _ h9 => h9) M30.o (Nat.le_of_ble_eq_true rfl) rfl ?_
            refine g_bipush C dX3_comesTo_170 (by decide) ?_
            refine g_iald C dX3_comesTo_172 (v := r25 7) M30.a18 (by decide) (by decide) (by decide) rfl ?_
            refine g_aload_n C dX3_comesTo_173 2 rfl ?_
            refine g_get C dX3_comesTo_174 kcX3 6 q1469 (fun _ _ _ _ h9 => h9) M30.o (Nat.le_of_ble_eq_true rfl) rfl ?_
            refine g_iconst C dX3_comesTo_177 ?_
            refine g_iald C dX3_comesTo_178 (v := g 6 4) M30.a6 (by decide) (by decide) (by decide) rfl ?_
            refine g_icmp_ne C dX3_comesTo_179 (tgt := 207) (by decide) (hO1.2.1 _) (hiR _) (fun c179 => ?_) (fun c179 => ?_)
            · refine g_aload_n C dX3_comesTo_207 2 rfl ?_
              refine g_get C dX3_comesTo_208 kcX3 18 q1481 (fun _ _ _ _ h9 => h9) M30.o (Nat.le_of_ble_eq_true rfl) rfl ?_
              refine g_iconst C dX3_comesTo_211 ?_
              refine g_iald C dX3_comesTo_212 (v := r25 5) M30.a18 (by decide) (by decide) (by decide) rfl ?_
              refine g_aload_n C dX3_comesTo_213 2 rfl ?_
              refine g_get C dX3_comesTo_214 kcX3 6 q1469 (fun _ _ _ _ h9 => h9) M30.o (Nat.le_of_ble_eq_true rfl) rfl ?_
              refine g_iconst C dX3_comesTo_217 ?_
              refine g_iald C dX3_comesTo_218 (v := g 6 3) M30.a6 (by decide) (by decide) (by decide) rfl ?_
              refine g_iadd C dX3_comesTo_219 (v := r25 5 + g 6 3) rfl ?_
              refine g_istore_n C dX3_comesTo_220 (lv' := [(3, .int (iI (r25 5 + g 6 3))), (2, .int (iI (g 18 1))), (0, .ref m), (1, .int (iI thr))]) 3 rfl (Nat.le_of_ble_eq_true rfl) rfl ?_
              refine g_iload_n C dX3_comesTo_221 0 rfl ?_
              refine g_aload_n C dX3_comesTo_222 2 rfl ?_
              refine g_aload_n C dX3_comesTo_223 2 rfl ?_
              refine g_get C dX3_comesTo_224 kcX3 18 q1481 (fun _ _ _ _ h9 => h9) M30.o (Nat.le_of_ble_eq_true rfl) rfl ?_
              refine g_iload_n C dX3_comesTo_227 1 rfl ?_
              refine g_iconst C dX3_comesTo_228 ?_
              refine g_callS C dX3_comesTo_229 lkX3_213 (As := [.int (iI (g 18 1)), .int (iI 1)]) (c_X3_at (g 18 1) 1) rfl rfl ⟨Nat.le_of_ble_eq_true rfl, Nat.le_of_ble_eq_true rfl⟩ (Nat.le_of_ble_eq_true rfl) ?_
              rintro _ _ ⟨rfl, rfl⟩
              refine g_iald C dX3_comesTo_232 (v := r25 (112 + 11 * (g 18 1) + 1)) M30.a18 (by decide) (by omega) (by omega) rfl ?_
              refine g_aload_n C dX3_comesTo_233 2 rfl ?_
              refine g_get C dX3_comesTo_234 kcX3 18 q1481 (fun _ _ _ _ h9 => h9) M30.o (Nat.le_of_ble_eq_true rfl) rfl ?_
              refine g_iload_n C dX3_comesTo_237 1 rfl ?_
              refine g_iconst C dX3_comesTo_238 ?_
              refine g_callS C dX3_comesTo_239 lkX3_213 (As := [.int (iI (g 18 1)), .int (iI 2)]) (c_X3_at (g 18 1) 2) rfl rfl ⟨Nat.le_of_ble_eq_true rfl, Nat.le_of_ble_eq_true rfl⟩ (Nat.le_of_ble_eq_true rfl) ?_
              rintro _ _ ⟨rfl, rfl⟩
              refine g_iald C dX3_comesTo_242 (v := r25 (112 + 11 * (g 18 1) + 2)) M30.a18 (by decide) (by omega) (by omega) rfl ?_
              refine g_callV C dX3_comesTo_243 lkX3_251 M30.o rfl (As := [.int (iI (r25 (112 + 11 * (g 18 1) + 1))), .int (iI (r25 (112 + 11 * (g 18 1) + 2)))]) (c_X3_bound M30 (r25 (112 + 11 * (g 18 1) + 1)) (r25 (112 + 11 * (g 18 1) + 2)) hO1 (by omega) (show 0 ≤ (r25 (112 + 11 * (g 18 1) + 2)) ∧ (r25 (112 + 11 * (g 18 1) + 2)) < g 6 0 from by omega)) rfl rfl ⟨Nat.le_of_ble_eq_true rfl, Nat.le_of_ble_eq_true rfl⟩ (Nat.le_of_ble_eq_true rfl) ?_
              rintro _ _ ⟨rfl, rfl⟩
              show gW X h27 0 0 246 [(3, .int (iI (r25 5 + g 6 3))), (2, .int (iI (g 18 1))), (0, .ref m), (1, .int (iI thr))] [.int (iI (mBound (g 6) (r25) (r25 (112 + 11 * (g 18 1) + 1)) (r25 (112 + 11 * (g 18 1) + 2)))), .int (iI (r25 5 + g 6 3))]
              have b31 := mBound_b hO1 (ear := (r25 (112 + 11 * (g 18 1) + 1))) (tone := (r25 (112 + 11 * (g 18 1) + 2))) (by omega) (by omega)
              refine g_icmp_le C dX3_comesTo_246 (tgt := 257) (by decide) (gRo (by omega) (by omega)) (gRo (by omega) (by omega)) (fun c246 => ?_) (fun c246 => ?_)
              · refine g_aload_n C dX3_comesTo_257 2 rfl ?_
                refine g_iload_n C dX3_comesTo_258 3 rfl ?_
                refine g_iload_n C dX3_comesTo_259 0 rfl ?_
                refine g_callV C dX3_comesTo_260 lkX3_244 M30.o rfl (As := [.int (iI thr), .int (iI (r25 5 + g 6 3))]) (c_X3_searches M30 thr (r25 5 + g 6 3) hO1.2.1 (by show 0 ≤ r25 1 ∧ r25 1 < 48; omega) (by omega) (by omega)) rfl rfl ⟨Nat.le_of_ble_eq_true rfl, Nat.le_of_ble_eq_true rfl⟩ (Nat.le_of_ble_eq_true rfl) ?_
                rintro _ h32 ⟨rfl, M33⟩
                obtain ⟨r34, er35⟩ : ∃ z, z = mSrchs (r25) thr (r25 5 + g 6 3) := ⟨_, rfl⟩
                have M36 : mSt G h0 h32 m ad f (va_up g 18 r34) := mSt.uu M33 er35.symm
                refine g_iconst C dX3_comesTo_263 ?_
                refine g_iret C E dX3_comesTo_264 rfl ?_
                have hcb : mBound (g 6) (mC1 (g 18) thr) (g 18 (112 + 11 * g 18 1 + 1)) (g 18 (112 + 11 * g 18 1 + 2)) = mBound (g 6) r25 (r25 (112 + 11 * g 18 1 + 1)) (r25 (112 + 11 * g 18 1 + 2)) := by rw [hDt1, hDt2, eD]
                have eR : r34 = mCmR (g 6) (g 18) thr := by unfold mCmR; rw [if_neg (by omega), if_neg (by omega), if_neg (by omega)]; rw [er35, hD5, eD]
                have eV : mCmV (g 6) (g 18) thr = 1 := by unfold mCmV; rw [if_neg (by omega), if_neg (by omega), if_neg (by omega)]
                rw [← eR, eV]
                exact ⟨rfl, M36⟩
              · refine g_aload_n C dX3_comesTo_249 2 rfl ?_
                refine g_iconst C dX3_comesTo_250 ?_
                refine g_bipush C dX3_comesTo_251 (by decide) ?_
                refine g_callV C dX3_comesTo_253 lkX3_263 M30.o rfl (As := [.int (iI 3), .int (iI (-2))]) (c_X3_ends M30 3 (-2) hO1 (show r25 1 ≠ -2 from by omega) (by omega) (by omega) (by omega)) rfl rfl ⟨Nat.le_of_ble_eq_true rfl, Nat.le_of_ble_eq_true rfl⟩ (Nat.le_of_ble_eq_true rfl) ?_
                rintro _ h37 ⟨rfl, M38⟩
                obtain ⟨r39, er40⟩ : ∃ z, z = mEndR ((g 6)) (r25) 3 (-2) := ⟨_, rfl⟩
                have M41 : mSt G h0 h37 m ad f (va_up g 18 r39) := mSt.uu M38 er40.symm
                have hO42 : mOk (g 6) r39 := by rw [er40]; exact mEndR_ok hO1 (by omega) (by omega) (by omega) (by omega)
                have hn43 := hO42.2.2.1
                have hs44 := hO42.2.2.2.2.1
                show gW X h37 0 0 256 [(3, .int (iI (r25 5 + g 6 3))), (2, .int (iI (g 18 1))), (0, .ref m), (1, .int (iI thr))] [.int (iI (mEndV (g 6) (r25) 3 (-2)))]
                refine g_iret C E dX3_comesTo_256 rfl ?_
                have hcb : mBound (g 6) (mC1 (g 18) thr) (g 18 (112 + 11 * g 18 1 + 1)) (g 18 (112 + 11 * g 18 1 + 2)) = mBound (g 6) r25 (r25 (112 + 11 * g 18 1 + 1)) (r25 (112 + 11 * g 18 1 + 2)) := by rw [hDt1, hDt2, eD]
                have eR : r39 = mCmR (g 6) (g 18) thr := by unfold mCmR; rw [if_neg (by omega), if_neg (by omega), if_pos (by omega)]; rw [er40, eD]
                have eV : mCmV (g 6) (g 18) thr = mEndV (g 6) (r25) 3 (-2) := by unfold mCmV; rw [if_neg (by omega), if_neg (by omega), if_pos (by omega)]; rw [eD]
                rw [← eR, eV]
                exact ⟨rfl, M41⟩
            · refine g_aload_n C dX3_comesTo_182 2 rfl ?_
              refine g_get C dX3_comesTo_183 kcX3 18 q1481 (fun _ _ _ _ h9 => h9) M30.o (Nat.le_of_ble_eq_true rfl) rfl ?_
              refine g_iload_n C dX3_comesTo_186 1 rfl ?_
              refine g_bipush C dX3_comesTo_187 (by decide) ?_
              refine g_callS C dX3_comesTo_189 lkX3_213 (As := [.int (iI (g 18 1)), .int (iI 9)]) (c_X3_at (g 18 1) 9) rfl rfl ⟨Nat.le_of_ble_eq_true rfl, Nat.le_of_ble_eq_true rfl⟩ (Nat.le_of_ble_eq_true rfl) ?_
              rintro _ _ ⟨rfl, rfl⟩
              refine g_aload_n C dX3_comesTo_192 2 rfl ?_
              refine g_get C dX3_comesTo_193 kcX3 18 q1481 (fun _ _ _ _ h9 => h9) M30.o (Nat.le_of_ble_eq_true rfl) rfl ?_
              refine g_bipush C dX3_comesTo_196 (by decide) ?_
              refine g_iald C dX3_comesTo_198 (v := r25 9) M30.a18 (by decide) (by decide) (by decide) rfl ?_
              obtain ⟨r45, er46⟩ : ∃ z, z = iUp r25 (112 + 11 * (g 18 1) + 9) (r25 9) := ⟨_, rfl⟩
              refine g_iast C dX3_comesTo_199 M30.a18 (by decide) (by omega) (by omega) er46.symm (fun h47 hh48 => ?_)
              have hr49 : mR0 r45 := by rw [er46]; exact mR0.up (hO1.2.1) (hO1.2.1 _)
              have M50 : mSt G h0 h47 m ad f (va_up g 18 r45) := mSt.uu (M30.st18 hh48) rfl
              have eF : r45 = mC2 (g 18) thr := by rw [er46, hD9, eD]; rfl
              have hO2 : mOk (g 6) r45 := by rw [eF]; exact mC2_ok hO hon hth
              have hF1 : r45 1 = g 18 1 := by rw [er46, iUp_n (by omega)]; exact hD1
              refine g_aload_n C dX3_comesTo_200 2 rfl ?_
              refine g_iconst C dX3_comesTo_201 ?_
              refine g_iload_n C dX3_comesTo_202 3 rfl ?_
              refine g_callV C dX3_comesTo_203 lkX3_263 M50.o rfl (As := [.int (iI 2), .int (iI thr)]) (c_X3_ends M50 2 thr hO2 (show r45 1 ≠ -2 from by omega) (by omega) (by omega) (by omega)) rfl rfl ⟨Nat.le_of_ble_eq_true rfl, Nat.le_of_ble_eq_true rfl⟩ (Nat.le_of_ble_eq_true rfl) ?_
              rintro _ h51 ⟨rfl, M52⟩
              obtain ⟨r53, er54⟩ : ∃ z, z = mEndR ((g 6)) (r45) 2 thr := ⟨_, rfl⟩
              have M55 : mSt G h0 h51 m ad f (va_up g 18 r53) := mSt.uu M52 er54.symm
              have hO56 : mOk (g 6) r53 := by rw [er54]; exact mEndR_ok hO2 (by omega) (by omega) (by omega) (by omega)
              have hn57 := hO56.2.2.1
              have hs58 := hO56.2.2.2.2.1
              show gW X h51 0 0 206 [(3, .int (iI lv)), (2, .int (iI (g 18 1))), (0, .ref m), (1, .int (iI thr))] [.int (iI (mEndV (g 6) (r45) 2 thr))]
              refine g_iret C E dX3_comesTo_206 rfl ?_
              have eR : r53 = mCmR (g 6) (g 18) thr := by unfold mCmR; rw [if_neg (by omega), if_pos (by omega)]; rw [er54, eF]
              have eV : mCmV (g 6) (g 18) thr = mEndV (g 6) (r45) 2 thr := by unfold mCmV; rw [if_neg (by omega), if_pos (by omega)]; rw [eF]
              rw [← eR, eV]
              exact ⟨rfl, M55⟩
          · refine g_aload_n C dX3_comesTo_115 2 rfl ?_
            refine g_get C dX3_comesTo_116 kcX3 18 q1481 (fun _ _ _ _ h9 => h9) M1.o (Nat.le_of_ble_eq_true rfl) rfl ?_
            refine g_bipush C dX3_comesTo_119 (by decide) ?_
            refine g_iald C dX3_comesTo_121 (v := g 18 8) M1.a18 (by decide) (by decide) (by decide) (by show (ρ) 8 = _; rw [eρ, mC0_n hO hon (by omega) (by omega)]) ?_
            refine g_iload_n C dX3_comesTo_122 3 rfl ?_
            refine g_icmp_eq C dX3_comesTo_123 (tgt := 147) (by decide) (hr _) (gRo (by omega) (by omega)) (fun c123 => ?_) (fun c123 => ?_)
            · refine g_aload_n C dX3_comesTo_147 2 rfl ?_
              refine g_get C dX3_comesTo_148 kcX3 18 q1481 (fun _ _ _ _ h9 => h9) M1.o (Nat.le_of_ble_eq_true rfl) rfl ?_
              refine g_bipush C dX3_comesTo_151 (by decide) ?_
              refine g_iload_n C dX3_comesTo_153 3 rfl ?_
              obtain ⟨r59, er60⟩ : ∃ z, z = iUp (ρ) 8 thr := ⟨_, rfl⟩
              refine g_iast C dX3_comesTo_154 M1.a18 (by decide) (by decide) (by decide) er60.symm (fun h61 hh62 => ?_)
              have hr63 : mR0 r59 := by rw [er60]; exact mR0.up (ho9.2.1) (gRo (by omega) (by omega))
              have M64 : mSt G h0 h61 m ad f (va_up g 18 r59) := mSt.uu (M1.st18 hh62) rfl
              refine g_aload_n C dX3_comesTo_155 2 rfl ?_
              refine g_get C dX3_comesTo_156 kcX3 18 q1481 (fun _ _ _ _ h9 => h9) M64.o (Nat.le_of_ble_eq_true rfl) rfl ?_
              refine g_bipush C dX3_comesTo_159 (by decide) ?_
              refine g_dup2 C dX3_comesTo_161 rfl rfl ?_
              refine g_iald C dX3_comesTo_162 (v := g 18 7) M64.a18 (by decide) (by decide) (by decide) (by show r59 7 = _; rw [er60, iUp_n (by decide), eρ, mC0_n hO hon (by omega) (by omega)]) ?_
              refine g_iconst C dX3_comesTo_163 ?_
              refine g_iadd C dX3_comesTo_164 (v := g 18 7 + 1) rfl ?_
              rw [show iI (g 18 7 + 1) = iI (iW (g 18 7 + 1)) from (iI_W _).symm]
              obtain ⟨r65, er66⟩ : ∃ z, z = iUp r59 7 (iW (g 18 7 + 1)) := ⟨_, rfl⟩
              refine g_iast C dX3_comesTo_165 M64.a18 (by decide) (by decide) (by decide) er66.symm (fun h67 hh68 => ?_)
              have hr69 : mR0 r65 := by rw [er66]; exact mR0.up (hr63) (gR_W _)
              have M70 : mSt G h0 h67 m ad f (va_up g 18 r65) := mSt.uu (M64.st18 hh68) rfl
              have eD : r65 = mC1 (g 18) thr := by unfold mC1; first | (rw [if_pos (by omega)]; rw [er66, er60, eρ]) | (rw [if_neg (by omega)]; rw [er66, er60, eρ])
              have hO1 : mOk (g 6) r65 := by rw [eD]; exact mC1_ok hO hon hth
              have hD0 : r65 0 = g 18 0 := by rw [eD]; exact mC1_n hO hon (by omega) (by omega) (by omega)
              have hD1 : r65 1 = g 18 1 := by rw [eD]; exact mC1_n hO hon (by omega) (by omega) (by omega)
              have hD5 : r65 5 = g 18 5 := by rw [eD]; exact mC1_n hO hon (by omega) (by omega) (by omega)
              have hD7 : r65 7 = mLk (g 18) thr := by rw [eD]; exact mC1_7 _ _
              have hD9 : r65 9 = mLN (g 18) thr := by rw [eD]; exact mC1_9 hO hon _
              have hDt1 : r65 (112 + 11 * g 18 1 + 1) = g 18 (112 + 11 * g 18 1 + 1) := by rw [eD]; exact mC1_n hO hon (by omega) (by omega) (by omega)
              have hDt2 : r65 (112 + 11 * g 18 1 + 2) = g 18 (112 + 11 * g 18 1 + 2) := by rw [eD]; exact mC1_n hO hon (by omega) (by omega) (by omega)
              obtain ⟨ht0, ht1, ht2, -⟩ := mOk_t hO (k := g 18 1) (by omega) (by omega)
              refine g_aload_n C dX3_comesTo_166 2 rfl ?_
              refine g_get C dX3_comesTo_167 kcX3 18 q1481 (fun _ _ _ _ h9 => h9) M70.o (Nat.le_of_ble_eq_true rfl) rfl ?_
              refine g_bipush C dX3_comesTo_170 (by decide) ?_
              refine g_iald C dX3_comesTo_172 (v := r65 7) M70.a18 (by decide) (by decide) (by decide) rfl ?_
              refine g_aload_n C dX3_comesTo_173 2 rfl ?_
              refine g_get C dX3_comesTo_174 kcX3 6 q1469 (fun _ _ _ _ h9 => h9) M70.o (Nat.le_of_ble_eq_true rfl) rfl ?_
              refine g_iconst C dX3_comesTo_177 ?_
              refine g_iald C dX3_comesTo_178 (v := g 6 4) M70.a6 (by decide) (by decide) (by decide) rfl ?_
              refine g_icmp_ne C dX3_comesTo_179 (tgt := 207) (by decide) (hO1.2.1 _) (hiR _) (fun c179 => ?_) (fun c179 => ?_)
              · refine g_aload_n C dX3_comesTo_207 2 rfl ?_
                refine g_get C dX3_comesTo_208 kcX3 18 q1481 (fun _ _ _ _ h9 => h9) M70.o (Nat.le_of_ble_eq_true rfl) rfl ?_
                refine g_iconst C dX3_comesTo_211 ?_
                refine g_iald C dX3_comesTo_212 (v := r65 5) M70.a18 (by decide) (by decide) (by decide) rfl ?_
                refine g_aload_n C dX3_comesTo_213 2 rfl ?_
                refine g_get C dX3_comesTo_214 kcX3 6 q1469 (fun _ _ _ _ h9 => h9) M70.o (Nat.le_of_ble_eq_true rfl) rfl ?_
                refine g_iconst C dX3_comesTo_217 ?_
                refine g_iald C dX3_comesTo_218 (v := g 6 3) M70.a6 (by decide) (by decide) (by decide) rfl ?_
                refine g_iadd C dX3_comesTo_219 (v := r65 5 + g 6 3) rfl ?_
                refine g_istore_n C dX3_comesTo_220 (lv' := [(3, .int (iI (r65 5 + g 6 3))), (2, .int (iI (g 18 1))), (0, .ref m), (1, .int (iI thr))]) 3 rfl (Nat.le_of_ble_eq_true rfl) rfl ?_
                refine g_iload_n C dX3_comesTo_221 0 rfl ?_
                refine g_aload_n C dX3_comesTo_222 2 rfl ?_
                refine g_aload_n C dX3_comesTo_223 2 rfl ?_
                refine g_get C dX3_comesTo_224 kcX3 18 q1481 (fun _ _ _ _ h9 => h9) M70.o (Nat.le_of_ble_eq_true rfl) rfl ?_
                refine g_iload_n C dX3_comesTo_227 1 rfl ?_
                refine g_iconst C dX3_comesTo_228 ?_
                refine g_callS C dX3_comesTo_229 lkX3_213 (As := [.int (iI (g 18 1)), .int (iI 1)]) (c_X3_at (g 18 1) 1) rfl rfl ⟨Nat.le_of_ble_eq_true rfl, Nat.le_of_ble_eq_true rfl⟩ (Nat.le_of_ble_eq_true rfl) ?_
                rintro _ _ ⟨rfl, rfl⟩
                refine g_iald C dX3_comesTo_232 (v := r65 (112 + 11 * (g 18 1) + 1)) M70.a18 (by decide) (by omega) (by omega) rfl ?_
                refine g_aload_n C dX3_comesTo_233 2 rfl ?_
                refine g_get C dX3_comesTo_234 kcX3 18 q1481 (fun _ _ _ _ h9 => h9) M70.o (Nat.le_of_ble_eq_true rfl) rfl ?_
                refine g_iload_n C dX3_comesTo_237 1 rfl ?_
                refine g_iconst C dX3_comesTo_238 ?_
                refine g_callS C dX3_comesTo_239 lkX3_213 (As := [.int (iI (g 18 1)), .int (iI 2)]) (c_X3_at (g 18 1) 2) rfl rfl ⟨Nat.le_of_ble_eq_true rfl, Nat.le_of_ble_eq_true rfl⟩ (Nat.le_of_ble_eq_true rfl) ?_
                rintro _ _ ⟨rfl, rfl⟩
                refine g_iald C dX3_comesTo_242 (v := r65 (112 + 11 * (g 18 1) + 2)) M70.a18 (by decide) (by omega) (by omega) rfl ?_
                refine g_callV C dX3_comesTo_243 lkX3_251 M70.o rfl (As := [.int (iI (r65 (112 + 11 * (g 18 1) + 1))), .int (iI (r65 (112 + 11 * (g 18 1) + 2)))]) (c_X3_bound M70 (r65 (112 + 11 * (g 18 1) + 1)) (r65 (112 + 11 * (g 18 1) + 2)) hO1 (by omega) (show 0 ≤ (r65 (112 + 11 * (g 18 1) + 2)) ∧ (r65 (112 + 11 * (g 18 1) + 2)) < g 6 0 from by omega)) rfl rfl ⟨Nat.le_of_ble_eq_true rfl, Nat.le_of_ble_eq_true rfl⟩ (Nat.le_of_ble_eq_true rfl) ?_
                rintro _ _ ⟨rfl, rfl⟩
                show gW X h67 0 0 246 [(3, .int (iI (r65 5 + g 6 3))), (2, .int (iI (g 18 1))), (0, .ref m), (1, .int (iI thr))] [.int (iI (mBound (g 6) (r65) (r65 (112 + 11 * (g 18 1) + 1)) (r65 (112 + 11 * (g 18 1) + 2)))), .int (iI (r65 5 + g 6 3))]
                have b71 := mBound_b hO1 (ear := (r65 (112 + 11 * (g 18 1) + 1))) (tone := (r65 (112 + 11 * (g 18 1) + 2))) (by omega) (by omega)
                refine g_icmp_le C dX3_comesTo_246 (tgt := 257) (by decide) (gRo (by omega) (by omega)) (gRo (by omega) (by omega)) (fun c246 => ?_) (fun c246 => ?_)
                · refine g_aload_n C dX3_comesTo_257 2 rfl ?_
                  refine g_iload_n C dX3_comesTo_258 3 rfl ?_
                  refine g_iload_n C dX3_comesTo_259 0 rfl ?_
                  refine g_callV C dX3_comesTo_260 lkX3_244 M70.o rfl (As := [.int (iI thr), .int (iI (r65 5 + g 6 3))]) (c_X3_searches M70 thr (r65 5 + g 6 3) hO1.2.1 (by show 0 ≤ r65 1 ∧ r65 1 < 48; omega) (by omega) (by omega)) rfl rfl ⟨Nat.le_of_ble_eq_true rfl, Nat.le_of_ble_eq_true rfl⟩ (Nat.le_of_ble_eq_true rfl) ?_
                  rintro _ h72 ⟨rfl, M73⟩
                  obtain ⟨r74, er75⟩ : ∃ z, z = mSrchs (r65) thr (r65 5 + g 6 3) := ⟨_, rfl⟩
                  have M76 : mSt G h0 h72 m ad f (va_up g 18 r74) := mSt.uu M73 er75.symm
                  refine g_iconst C dX3_comesTo_263 ?_
                  refine g_iret C E dX3_comesTo_264 rfl ?_
                  have hcb : mBound (g 6) (mC1 (g 18) thr) (g 18 (112 + 11 * g 18 1 + 1)) (g 18 (112 + 11 * g 18 1 + 2)) = mBound (g 6) r65 (r65 (112 + 11 * g 18 1 + 1)) (r65 (112 + 11 * g 18 1 + 2)) := by rw [hDt1, hDt2, eD]
                  have eR : r74 = mCmR (g 6) (g 18) thr := by unfold mCmR; rw [if_neg (by omega), if_neg (by omega), if_neg (by omega)]; rw [er75, hD5, eD]
                  have eV : mCmV (g 6) (g 18) thr = 1 := by unfold mCmV; rw [if_neg (by omega), if_neg (by omega), if_neg (by omega)]
                  rw [← eR, eV]
                  exact ⟨rfl, M76⟩
                · refine g_aload_n C dX3_comesTo_249 2 rfl ?_
                  refine g_iconst C dX3_comesTo_250 ?_
                  refine g_bipush C dX3_comesTo_251 (by decide) ?_
                  refine g_callV C dX3_comesTo_253 lkX3_263 M70.o rfl (As := [.int (iI 3), .int (iI (-2))]) (c_X3_ends M70 3 (-2) hO1 (show r65 1 ≠ -2 from by omega) (by omega) (by omega) (by omega)) rfl rfl ⟨Nat.le_of_ble_eq_true rfl, Nat.le_of_ble_eq_true rfl⟩ (Nat.le_of_ble_eq_true rfl) ?_
                  rintro _ h77 ⟨rfl, M78⟩
                  obtain ⟨r79, er80⟩ : ∃ z, z = mEndR ((g 6)) (r65) 3 (-2) := ⟨_, rfl⟩
                  have M81 : mSt G h0 h77 m ad f (va_up g 18 r79) := mSt.uu M78 er80.symm
                  have hO82 : mOk (g 6) r79 := by rw [er80]; exact mEndR_ok hO1 (by omega) (by omega) (by omega) (by omega)
                  have hn83 := hO82.2.2.1
                  have hs84 := hO82.2.2.2.2.1
                  show gW X h77 0 0 256 [(3, .int (iI (r65 5 + g 6 3))), (2, .int (iI (g 18 1))), (0, .ref m), (1, .int (iI thr))] [.int (iI (mEndV (g 6) (r65) 3 (-2)))]
                  refine g_iret C E dX3_comesTo_256 rfl ?_
                  have hcb : mBound (g 6) (mC1 (g 18) thr) (g 18 (112 + 11 * g 18 1 + 1)) (g 18 (112 + 11 * g 18 1 + 2)) = mBound (g 6) r65 (r65 (112 + 11 * g 18 1 + 1)) (r65 (112 + 11 * g 18 1 + 2)) := by rw [hDt1, hDt2, eD]
                  have eR : r79 = mCmR (g 6) (g 18) thr := by unfold mCmR; rw [if_neg (by omega), if_neg (by omega), if_pos (by omega)]; rw [er80, eD]
                  have eV : mCmV (g 6) (g 18) thr = mEndV (g 6) (r65) 3 (-2) := by unfold mCmV; rw [if_neg (by omega), if_neg (by omega), if_pos (by omega)]; rw [eD]
                  rw [← eR, eV]
                  exact ⟨rfl, M81⟩
              · refine g_aload_n C dX3_comesTo_182 2 rfl ?_
                refine g_get C dX3_comesTo_183 kcX3 18 q1481 (fun _ _ _ _ h9 => h9) M70.o (Nat.le_of_ble_eq_true rfl) rfl ?_
                refine g_iload_n C dX3_comesTo_186 1 rfl ?_
                refine g_bipush C dX3_comesTo_187 (by decide) ?_
                refine g_callS C dX3_comesTo_189 lkX3_213 (As := [.int (iI (g 18 1)), .int (iI 9)]) (c_X3_at (g 18 1) 9) rfl rfl ⟨Nat.le_of_ble_eq_true rfl, Nat.le_of_ble_eq_true rfl⟩ (Nat.le_of_ble_eq_true rfl) ?_
                rintro _ _ ⟨rfl, rfl⟩
                refine g_aload_n C dX3_comesTo_192 2 rfl ?_
                refine g_get C dX3_comesTo_193 kcX3 18 q1481 (fun _ _ _ _ h9 => h9) M70.o (Nat.le_of_ble_eq_true rfl) rfl ?_
                refine g_bipush C dX3_comesTo_196 (by decide) ?_
                refine g_iald C dX3_comesTo_198 (v := r65 9) M70.a18 (by decide) (by decide) (by decide) rfl ?_
                obtain ⟨r85, er86⟩ : ∃ z, z = iUp r65 (112 + 11 * (g 18 1) + 9) (r65 9) := ⟨_, rfl⟩
                refine g_iast C dX3_comesTo_199 M70.a18 (by decide) (by omega) (by omega) er86.symm (fun h87 hh88 => ?_)
                have hr89 : mR0 r85 := by rw [er86]; exact mR0.up (hO1.2.1) (hO1.2.1 _)
                have M90 : mSt G h0 h87 m ad f (va_up g 18 r85) := mSt.uu (M70.st18 hh88) rfl
                have eF : r85 = mC2 (g 18) thr := by rw [er86, hD9, eD]; rfl
                have hO2 : mOk (g 6) r85 := by rw [eF]; exact mC2_ok hO hon hth
                have hF1 : r85 1 = g 18 1 := by rw [er86, iUp_n (by omega)]; exact hD1
                refine g_aload_n C dX3_comesTo_200 2 rfl ?_
                refine g_iconst C dX3_comesTo_201 ?_
                refine g_iload_n C dX3_comesTo_202 3 rfl ?_
                refine g_callV C dX3_comesTo_203 lkX3_263 M90.o rfl (As := [.int (iI 2), .int (iI thr)]) (c_X3_ends M90 2 thr hO2 (show r85 1 ≠ -2 from by omega) (by omega) (by omega) (by omega)) rfl rfl ⟨Nat.le_of_ble_eq_true rfl, Nat.le_of_ble_eq_true rfl⟩ (Nat.le_of_ble_eq_true rfl) ?_
                rintro _ h91 ⟨rfl, M92⟩
                obtain ⟨r93, er94⟩ : ∃ z, z = mEndR ((g 6)) (r85) 2 thr := ⟨_, rfl⟩
                have M95 : mSt G h0 h91 m ad f (va_up g 18 r93) := mSt.uu M92 er94.symm
                have hO96 : mOk (g 6) r93 := by rw [er94]; exact mEndR_ok hO2 (by omega) (by omega) (by omega) (by omega)
                have hn97 := hO96.2.2.1
                have hs98 := hO96.2.2.2.2.1
                show gW X h91 0 0 206 [(3, .int (iI lv)), (2, .int (iI (g 18 1))), (0, .ref m), (1, .int (iI thr))] [.int (iI (mEndV (g 6) (r85) 2 thr))]
                refine g_iret C E dX3_comesTo_206 rfl ?_
                have eR : r93 = mCmR (g 6) (g 18) thr := by unfold mCmR; rw [if_neg (by omega), if_pos (by omega)]; rw [er94, eF]
                have eV : mCmV (g 6) (g 18) thr = mEndV (g 6) (r85) 2 thr := by unfold mCmV; rw [if_neg (by omega), if_pos (by omega)]; rw [eF]
                rw [← eR, eV]
                exact ⟨rfl, M95⟩
            · refine g_aload_n C dX3_comesTo_126 2 rfl ?_
              refine g_get C dX3_comesTo_127 kcX3 18 q1481 (fun _ _ _ _ h9 => h9) M1.o (Nat.le_of_ble_eq_true rfl) rfl ?_
              refine g_bipush C dX3_comesTo_130 (by decide) ?_
              refine g_iconst C dX3_comesTo_132 ?_
              obtain ⟨r99, er100⟩ : ∃ z, z = iUp (ρ) 7 0 := ⟨_, rfl⟩
              refine g_iast C dX3_comesTo_133 M1.a18 (by decide) (by decide) (by decide) er100.symm (fun h101 hh102 => ?_)
              have hr103 : mR0 r99 := by rw [er100]; exact mR0.up (ho9.2.1) (gRo (by decide) (by decide))
              have M104 : mSt G h0 h101 m ad f (va_up g 18 r99) := mSt.uu (M1.st18 hh102) rfl
              refine g_aload_n C dX3_comesTo_134 2 rfl ?_
              refine g_get C dX3_comesTo_135 kcX3 18 q1481 (fun _ _ _ _ h9 => h9) M104.o (Nat.le_of_ble_eq_true rfl) rfl ?_
              refine g_bipush C dX3_comesTo_138 (by decide) ?_
              refine g_aload_n C dX3_comesTo_140 2 rfl ?_
              refine g_get C dX3_comesTo_141 kcX3 18 q1481 (fun _ _ _ _ h9 => h9) M104.o (Nat.le_of_ble_eq_true rfl) rfl ?_
              refine g_iconst C dX3_comesTo_144 ?_
              refine g_iald C dX3_comesTo_145 (v := g 18 5) M104.a18 (by decide) (by decide) (by decide) (by show r99 5 = _; rw [er100, iUp_n (by decide), eρ, mC0_n hO hon (by omega) (by omega)]) ?_
              obtain ⟨r105, er106⟩ : ∃ z, z = iUp r99 9 (g 18 5) := ⟨_, rfl⟩
              refine g_iast C dX3_comesTo_146 M104.a18 (by decide) (by decide) (by decide) er106.symm (fun h107 hh108 => ?_)
              have hr109 : mR0 r105 := by rw [er106]; exact mR0.up (hr103) (hr _)
              have M110 : mSt G h0 h107 m ad f (va_up g 18 r105) := mSt.uu (M104.st18 hh108) rfl
              refine g_aload_n C dX3_comesTo_147 2 rfl ?_
              refine g_get C dX3_comesTo_148 kcX3 18 q1481 (fun _ _ _ _ h9 => h9) M110.o (Nat.le_of_ble_eq_true rfl) rfl ?_
              refine g_bipush C dX3_comesTo_151 (by decide) ?_
              refine g_iload_n C dX3_comesTo_153 3 rfl ?_
              obtain ⟨r111, er112⟩ : ∃ z, z = iUp r105 8 thr := ⟨_, rfl⟩
              refine g_iast C dX3_comesTo_154 M110.a18 (by decide) (by decide) (by decide) er112.symm (fun h113 hh114 => ?_)
              have hr115 : mR0 r111 := by rw [er112]; exact mR0.up (hr109) (gRo (by omega) (by omega))
              have M116 : mSt G h0 h113 m ad f (va_up g 18 r111) := mSt.uu (M110.st18 hh114) rfl
              refine g_aload_n C dX3_comesTo_155 2 rfl ?_
              refine g_get C dX3_comesTo_156 kcX3 18 q1481 (fun _ _ _ _ h9 => h9) M116.o (Nat.le_of_ble_eq_true rfl) rfl ?_
              refine g_bipush C dX3_comesTo_159 (by decide) ?_
              refine g_dup2 C dX3_comesTo_161 rfl rfl ?_
              refine g_iald C dX3_comesTo_162 (v := 0) M116.a18 (by decide) (by decide) (by decide) (by show r111 7 = _; rw [er112, iUp_n (by decide), er106, iUp_n (by decide), er100, iUp_s]) ?_
              refine g_iconst C dX3_comesTo_163 ?_
              refine g_iadd C dX3_comesTo_164 (v := 1) (by decide) ?_
              obtain ⟨r117, er118⟩ : ∃ z, z = iUp r111 7 1 := ⟨_, rfl⟩
              refine g_iast C dX3_comesTo_165 M116.a18 (by decide) (by decide) (by decide) er118.symm (fun h119 hh120 => ?_)
              have hr121 : mR0 r117 := by rw [er118]; exact mR0.up (hr115) (gRo (by decide) (by decide))
              have M122 : mSt G h0 h119 m ad f (va_up g 18 r117) := mSt.uu (M116.st18 hh120) rfl
              have eD : r117 = mC1 (g 18) thr := by unfold mC1; first | (rw [if_pos (by omega)]; rw [er118, er112, er106, er100, eρ]) | (rw [if_neg (by omega)]; rw [er118, er112, er106, er100, eρ])
              have hO1 : mOk (g 6) r117 := by rw [eD]; exact mC1_ok hO hon hth
              have hD0 : r117 0 = g 18 0 := by rw [eD]; exact mC1_n hO hon (by omega) (by omega) (by omega)
              have hD1 : r117 1 = g 18 1 := by rw [eD]; exact mC1_n hO hon (by omega) (by omega) (by omega)
              have hD5 : r117 5 = g 18 5 := by rw [eD]; exact mC1_n hO hon (by omega) (by omega) (by omega)
              have hD7 : r117 7 = mLk (g 18) thr := by rw [eD]; exact mC1_7 _ _
              have hD9 : r117 9 = mLN (g 18) thr := by rw [eD]; exact mC1_9 hO hon _
              have hDt1 : r117 (112 + 11 * g 18 1 + 1) = g 18 (112 + 11 * g 18 1 + 1) := by rw [eD]; exact mC1_n hO hon (by omega) (by omega) (by omega)
              have hDt2 : r117 (112 + 11 * g 18 1 + 2) = g 18 (112 + 11 * g 18 1 + 2) := by rw [eD]; exact mC1_n hO hon (by omega) (by omega) (by omega)
              obtain ⟨ht0, ht1, ht2, -⟩ := mOk_t hO (k := g 18 1) (by omega) (by omega)
              refine g_aload_n C dX3_comesTo_166 2 rfl ?_
              refine g_get C dX3_comesTo_167 kcX3 18 q1481 (fun _ _ _ _ h9 => h9) M122.o (Nat.le_of_ble_eq_true rfl) rfl ?_
              refine g_bipush C dX3_comesTo_170 (by decide) ?_
              refine g_iald C dX3_comesTo_172 (v := r117 7) M122.a18 (by decide) (by decide) (by decide) rfl ?_
              refine g_aload_n C dX3_comesTo_173 2 rfl ?_
              refine g_get C dX3_comesTo_174 kcX3 6 q1469 (fun _ _ _ _ h9 => h9) M122.o (Nat.le_of_ble_eq_true rfl) rfl ?_
              refine g_iconst C dX3_comesTo_177 ?_
              refine g_iald C dX3_comesTo_178 (v := g 6 4) M122.a6 (by decide) (by decide) (by decide) rfl ?_
              refine g_icmp_ne C dX3_comesTo_179 (tgt := 207) (by decide) (hO1.2.1 _) (hiR _) (fun c179 => ?_) (fun c179 => ?_)
              · refine g_aload_n C dX3_comesTo_207 2 rfl ?_
                refine g_get C dX3_comesTo_208 kcX3 18 q1481 (fun _ _ _ _ h9 => h9) M122.o (Nat.le_of_ble_eq_true rfl) rfl ?_
                refine g_iconst C dX3_comesTo_211 ?_
                refine g_iald C dX3_comesTo_212 (v := r117 5) M122.a18 (by decide) (by decide) (by decide) rfl ?_
                refine g_aload_n C dX3_comesTo_213 2 rfl ?_
                refine g_get C dX3_comesTo_214 kcX3 6 q1469 (fun _ _ _ _ h9 => h9) M122.o (Nat.le_of_ble_eq_true rfl) rfl ?_
                refine g_iconst C dX3_comesTo_217 ?_
                refine g_iald C dX3_comesTo_218 (v := g 6 3) M122.a6 (by decide) (by decide) (by decide) rfl ?_
                refine g_iadd C dX3_comesTo_219 (v := r117 5 + g 6 3) rfl ?_
                refine g_istore_n C dX3_comesTo_220 (lv' := [(3, .int (iI (r117 5 + g 6 3))), (2, .int (iI (g 18 1))), (0, .ref m), (1, .int (iI thr))]) 3 rfl (Nat.le_of_ble_eq_true rfl) rfl ?_
                refine g_iload_n C dX3_comesTo_221 0 rfl ?_
                refine g_aload_n C dX3_comesTo_222 2 rfl ?_
                refine g_aload_n C dX3_comesTo_223 2 rfl ?_
                refine g_get C dX3_comesTo_224 kcX3 18 q1481 (fun _ _ _ _ h9 => h9) M122.o (Nat.le_of_ble_eq_true rfl) rfl ?_
                refine g_iload_n C dX3_comesTo_227 1 rfl ?_
                refine g_iconst C dX3_comesTo_228 ?_
                refine g_callS C dX3_comesTo_229 lkX3_213 (As := [.int (iI (g 18 1)), .int (iI 1)]) (c_X3_at (g 18 1) 1) rfl rfl ⟨Nat.le_of_ble_eq_true rfl, Nat.le_of_ble_eq_true rfl⟩ (Nat.le_of_ble_eq_true rfl) ?_
                rintro _ _ ⟨rfl, rfl⟩
                refine g_iald C dX3_comesTo_232 (v := r117 (112 + 11 * (g 18 1) + 1)) M122.a18 (by decide) (by omega) (by omega) rfl ?_
                refine g_aload_n C dX3_comesTo_233 2 rfl ?_
                refine g_get C dX3_comesTo_234 kcX3 18 q1481 (fun _ _ _ _ h9 => h9) M122.o (Nat.le_of_ble_eq_true rfl) rfl ?_
                refine g_iload_n C dX3_comesTo_237 1 rfl ?_
                refine g_iconst C dX3_comesTo_238 ?_
                refine g_callS C dX3_comesTo_239 lkX3_213 (As := [.int (iI (g 18 1)), .int (iI 2)]) (c_X3_at (g 18 1) 2) rfl rfl ⟨Nat.le_of_ble_eq_true rfl, Nat.le_of_ble_eq_true rfl⟩ (Nat.le_of_ble_eq_true rfl) ?_
                rintro _ _ ⟨rfl, rfl⟩
                refine g_iald C dX3_comesTo_242 (v := r117 (112 + 11 * (g 18 1) + 2)) M122.a18 (by decide) (by omega) (by omega) rfl ?_
                refine g_callV C dX3_comesTo_243 lkX3_251 M122.o rfl (As := [.int (iI (r117 (112 + 11 * (g 18 1) + 1))), .int (iI (r117 (112 + 11 * (g 18 1) + 2)))]) (c_X3_bound M122 (r117 (112 + 11 * (g 18 1) + 1)) (r117 (112 + 11 * (g 18 1) + 2)) hO1 (by omega) (show 0 ≤ (r117 (112 + 11 * (g 18 1) + 2)) ∧ (r117 (112 + 11 * (g 18 1) + 2)) < g 6 0 from by omega)) rfl rfl ⟨Nat.le_of_ble_eq_true rfl, Nat.le_of_ble_eq_true rfl⟩ (Nat.le_of_ble_eq_true rfl) ?_
                rintro _ _ ⟨rfl, rfl⟩
                show gW X h119 0 0 246 [(3, .int (iI (r117 5 + g 6 3))), (2, .int (iI (g 18 1))), (0, .ref m), (1, .int (iI thr))] [.int (iI (mBound (g 6) (r117) (r117 (112 + 11 * (g 18 1) + 1)) (r117 (112 + 11 * (g 18 1) + 2)))), .int (iI (r117 5 + g 6 3))]
                have b123 := mBound_b hO1 (ear := (r117 (112 + 11 * (g 18 1) + 1))) (tone := (r117 (112 + 11 * (g 18 1) + 2))) (by omega) (by omega)
                refine g_icmp_le C dX3_comesTo_246 (tgt := 257) (by decide) (gRo (by omega) (by omega)) (gRo (by omega) (by omega)) (fun c246 => ?_) (fun c246 => ?_)
                · refine g_aload_n C dX3_comesTo_257 2 rfl ?_
                  refine g_iload_n C dX3_comesTo_258 3 rfl ?_
                  refine g_iload_n C dX3_comesTo_259 0 rfl ?_
                  refine g_callV C dX3_comesTo_260 lkX3_244 M122.o rfl (As := [.int (iI thr), .int (iI (r117 5 + g 6 3))]) (c_X3_searches M122 thr (r117 5 + g 6 3) hO1.2.1 (by show 0 ≤ r117 1 ∧ r117 1 < 48; omega) (by omega) (by omega)) rfl rfl ⟨Nat.le_of_ble_eq_true rfl, Nat.le_of_ble_eq_true rfl⟩ (Nat.le_of_ble_eq_true rfl) ?_
                  rintro _ h124 ⟨rfl, M125⟩
                  obtain ⟨r126, er127⟩ : ∃ z, z = mSrchs (r117) thr (r117 5 + g 6 3) := ⟨_, rfl⟩
                  have M128 : mSt G h0 h124 m ad f (va_up g 18 r126) := mSt.uu M125 er127.symm
                  refine g_iconst C dX3_comesTo_263 ?_
                  refine g_iret C E dX3_comesTo_264 rfl ?_
                  have hcb : mBound (g 6) (mC1 (g 18) thr) (g 18 (112 + 11 * g 18 1 + 1)) (g 18 (112 + 11 * g 18 1 + 2)) = mBound (g 6) r117 (r117 (112 + 11 * g 18 1 + 1)) (r117 (112 + 11 * g 18 1 + 2)) := by rw [hDt1, hDt2, eD]
                  have eR : r126 = mCmR (g 6) (g 18) thr := by unfold mCmR; rw [if_neg (by omega), if_neg (by omega), if_neg (by omega)]; rw [er127, hD5, eD]
                  have eV : mCmV (g 6) (g 18) thr = 1 := by unfold mCmV; rw [if_neg (by omega), if_neg (by omega), if_neg (by omega)]
                  rw [← eR, eV]
                  exact ⟨rfl, M128⟩
                · refine g_aload_n C dX3_comesTo_249 2 rfl ?_
                  refine g_iconst C dX3_comesTo_250 ?_
                  refine g_bipush C dX3_comesTo_251 (by decide) ?_
                  refine g_callV C dX3_comesTo_253 lkX3_263 M122.o rfl (As := [.int (iI 3), .int (iI (-2))]) (c_X3_ends M122 3 (-2) hO1 (show r117 1 ≠ -2 from by omega) (by omega) (by omega) (by omega)) rfl rfl ⟨Nat.le_of_ble_eq_true rfl, Nat.le_of_ble_eq_true rfl⟩ (Nat.le_of_ble_eq_true rfl) ?_
                  rintro _ h129 ⟨rfl, M130⟩
                  obtain ⟨r131, er132⟩ : ∃ z, z = mEndR ((g 6)) (r117) 3 (-2) := ⟨_, rfl⟩
                  have M133 : mSt G h0 h129 m ad f (va_up g 18 r131) := mSt.uu M130 er132.symm
                  have hO134 : mOk (g 6) r131 := by rw [er132]; exact mEndR_ok hO1 (by omega) (by omega) (by omega) (by omega)
                  have hn135 := hO134.2.2.1
                  have hs136 := hO134.2.2.2.2.1
                  show gW X h129 0 0 256 [(3, .int (iI (r117 5 + g 6 3))), (2, .int (iI (g 18 1))), (0, .ref m), (1, .int (iI thr))] [.int (iI (mEndV (g 6) (r117) 3 (-2)))]
                  refine g_iret C E dX3_comesTo_256 rfl ?_
                  have hcb : mBound (g 6) (mC1 (g 18) thr) (g 18 (112 + 11 * g 18 1 + 1)) (g 18 (112 + 11 * g 18 1 + 2)) = mBound (g 6) r117 (r117 (112 + 11 * g 18 1 + 1)) (r117 (112 + 11 * g 18 1 + 2)) := by rw [hDt1, hDt2, eD]
                  have eR : r131 = mCmR (g 6) (g 18) thr := by unfold mCmR; rw [if_neg (by omega), if_neg (by omega), if_pos (by omega)]; rw [er132, eD]
                  have eV : mCmV (g 6) (g 18) thr = mEndV (g 6) (r117) 3 (-2) := by unfold mCmV; rw [if_neg (by omega), if_neg (by omega), if_pos (by omega)]; rw [eD]
                  rw [← eR, eV]
                  exact ⟨rfl, M133⟩
              · refine g_aload_n C dX3_comesTo_182 2 rfl ?_
                refine g_get C dX3_comesTo_183 kcX3 18 q1481 (fun _ _ _ _ h9 => h9) M122.o (Nat.le_of_ble_eq_true rfl) rfl ?_
                refine g_iload_n C dX3_comesTo_186 1 rfl ?_
                refine g_bipush C dX3_comesTo_187 (by decide) ?_
                refine g_callS C dX3_comesTo_189 lkX3_213 (As := [.int (iI (g 18 1)), .int (iI 9)]) (c_X3_at (g 18 1) 9) rfl rfl ⟨Nat.le_of_ble_eq_true rfl, Nat.le_of_ble_eq_true rfl⟩ (Nat.le_of_ble_eq_true rfl) ?_
                rintro _ _ ⟨rfl, rfl⟩
                refine g_aload_n C dX3_comesTo_192 2 rfl ?_
                refine g_get C dX3_comesTo_193 kcX3 18 q1481 (fun _ _ _ _ h9 => h9) M122.o (Nat.le_of_ble_eq_true rfl) rfl ?_
                refine g_bipush C dX3_comesTo_196 (by decide) ?_
                refine g_iald C dX3_comesTo_198 (v := r117 9) M122.a18 (by decide) (by decide) (by decide) rfl ?_
                obtain ⟨r137, er138⟩ : ∃ z, z = iUp r117 (112 + 11 * (g 18 1) + 9) (r117 9) := ⟨_, rfl⟩
                refine g_iast C dX3_comesTo_199 M122.a18 (by decide) (by omega) (by omega) er138.symm (fun h139 hh140 => ?_)
                have hr141 : mR0 r137 := by rw [er138]; exact mR0.up (hO1.2.1) (hO1.2.1 _)
                have M142 : mSt G h0 h139 m ad f (va_up g 18 r137) := mSt.uu (M122.st18 hh140) rfl
                have eF : r137 = mC2 (g 18) thr := by rw [er138, hD9, eD]; rfl
                have hO2 : mOk (g 6) r137 := by rw [eF]; exact mC2_ok hO hon hth
                have hF1 : r137 1 = g 18 1 := by rw [er138, iUp_n (by omega)]; exact hD1
                refine g_aload_n C dX3_comesTo_200 2 rfl ?_
                refine g_iconst C dX3_comesTo_201 ?_
                refine g_iload_n C dX3_comesTo_202 3 rfl ?_
                refine g_callV C dX3_comesTo_203 lkX3_263 M142.o rfl (As := [.int (iI 2), .int (iI thr)]) (c_X3_ends M142 2 thr hO2 (show r137 1 ≠ -2 from by omega) (by omega) (by omega) (by omega)) rfl rfl ⟨Nat.le_of_ble_eq_true rfl, Nat.le_of_ble_eq_true rfl⟩ (Nat.le_of_ble_eq_true rfl) ?_
                rintro _ h143 ⟨rfl, M144⟩
                obtain ⟨r145, er146⟩ : ∃ z, z = mEndR ((g 6)) (r137) 2 thr := ⟨_, rfl⟩
                have M147 : mSt G h0 h143 m ad f (va_up g 18 r145) := mSt.uu M144 er146.symm
                have hO148 : mOk (g 6) r145 := by rw [er146]; exact mEndR_ok hO2 (by omega) (by omega) (by omega) (by omega)
                have hn149 := hO148.2.2.1
                have hs150 := hO148.2.2.2.2.1
                show gW X h143 0 0 206 [(3, .int (iI lv)), (2, .int (iI (g 18 1))), (0, .ref m), (1, .int (iI thr))] [.int (iI (mEndV (g 6) (r137) 2 thr))]
                refine g_iret C E dX3_comesTo_206 rfl ?_
                have eR : r145 = mCmR (g 6) (g 18) thr := by unfold mCmR; rw [if_neg (by omega), if_pos (by omega)]; rw [er146, eF]
                have eV : mCmV (g 6) (g 18) thr = mEndV (g 6) (r137) 2 thr := by unfold mCmV; rw [if_neg (by omega), if_pos (by omega)]; rw [eF]
                rw [← eR, eV]
                exact ⟨rfl, M147⟩
        · have h1ρ : ρ 1 = g 18 1 := by rw [eρ]; exact mC0_n hO hon (by omega) (by omega)
          refine g_aload_n C dX3_comesTo_98 2 rfl ?_
          refine g_iconst C dX3_comesTo_99 ?_
          refine g_iload_n C dX3_comesTo_100 3 rfl ?_
          refine g_callV C dX3_comesTo_101 lkX3_263 M1.o rfl (As := [.int (iI 2), .int (iI thr)]) (c_X3_ends M1 2 thr ho9 (show ρ 1 ≠ -2 from by omega) (by omega) (by omega) (by omega)) rfl rfl ⟨Nat.le_of_ble_eq_true rfl, Nat.le_of_ble_eq_true rfl⟩ (Nat.le_of_ble_eq_true rfl) ?_
          rintro _ h151 ⟨rfl, M152⟩
          obtain ⟨r153, er154⟩ : ∃ z, z = mEndR ((g 6)) ((ρ)) 2 thr := ⟨_, rfl⟩
          have M155 : mSt G h0 h151 m ad f (va_up g 18 r153) := mSt.uu M152 er154.symm
          have hO156 : mOk (g 6) r153 := by rw [er154]; exact mEndR_ok ho9 (by omega) (by omega) (by omega) (by omega)
          have hn157 := hO156.2.2.1
          have hs158 := hO156.2.2.2.2.1
          show gW X h151 0 0 104 [(3, .int (iI lv)), (2, .int (iI (g 18 1))), (0, .ref m), (1, .int (iI thr))] [.int (iI (mEndV (g 6) (ρ) 2 thr))]
          refine g_iret C E dX3_comesTo_104 rfl ?_
          have eR : r153 = mCmR (g 6) (g 18) thr := by unfold mCmR; rw [if_pos (by omega)]; rw [er154, eρ]
          have eV : mCmV (g 6) (g 18) thr = mEndV (g 6) (ρ) 2 thr := by unfold mCmV; rw [if_pos (by omega)]; rw [eρ]
          rw [← eR, eV]
          exact ⟨rfl, M155⟩
      · refine g_aload_n C dX3_comesTo_30 2 rfl ?_
        refine g_get C dX3_comesTo_31 kcX3 18 q1481 (fun _ _ _ _ h9 => h9) M1.o (Nat.le_of_ble_eq_true rfl) rfl ?_
        refine g_iload_n C dX3_comesTo_34 0 rfl ?_
        refine g_iconst C dX3_comesTo_35 ?_
        refine g_callS C dX3_comesTo_36 lkX3_260 (As := [.int (iI lv), .int (iI 3)]) (c_X3_countAt lv 3) rfl rfl ⟨Nat.le_of_ble_eq_true rfl, Nat.le_of_ble_eq_true rfl⟩ (Nat.le_of_ble_eq_true rfl) ?_
        rintro _ _ ⟨rfl, rfl⟩
        refine g_iald C dX3_comesTo_39 (v := (ρ) (12 + 4 * lv + 3)) M1.a18 (by decide) (by omega) (by omega) rfl ?_
        refine g_istore C dX3_comesTo_40 (lv' := [(4, .int (iI ((ρ) (12 + 4 * lv + 3)))), (3, .int (iI lv)), (2, .int (iI (g 18 1))), (0, .ref m), (1, .int (iI thr))]) (Nat.le_of_ble_eq_true rfl) rfl ?_
        refine g_aload_n C dX3_comesTo_42 3 rfl ?_
        refine g_get C dX3_comesTo_43 kcX3 18 q1481 (fun _ _ _ _ h9 => h9) M1.o (Nat.le_of_ble_eq_true rfl) rfl ?_
        refine g_iload_n C dX3_comesTo_46 2 rfl ?_
        refine g_bipush C dX3_comesTo_47 (by decide) ?_
        refine g_callS C dX3_comesTo_49 lkX3_213 (As := [.int (iI (g 18 1)), .int (iI 10)]) (c_X3_at (g 18 1) 10) rfl rfl ⟨Nat.le_of_ble_eq_true rfl, Nat.le_of_ble_eq_true rfl⟩ (Nat.le_of_ble_eq_true rfl) ?_
        rintro _ _ ⟨rfl, rfl⟩
        refine g_dup2 C dX3_comesTo_52 rfl rfl ?_
        refine g_iald C dX3_comesTo_53 (v := (ρ) (112 + 11 * (g 18 1) + 10)) M1.a18 (by decide) (by omega) (by omega) rfl ?_
        refine g_iload_n C dX3_comesTo_54 1 rfl ?_
        refine g_iload_n C dX3_comesTo_55 4 rfl ?_
        refine g_icmp_ge C dX3_comesTo_56 (tgt := 64) (by decide) (gRo (by omega) (by omega)) (gRo (by omega) (by omega)) (fun c56 => ?_) (fun c56 => ?_)
        · refine g_aload_n C dX3_comesTo_64 3 rfl ?_
          refine g_get C dX3_comesTo_65 kcX3 18 q1481 (fun _ _ _ _ h9 => h9) M1.o (Nat.le_of_ble_eq_true rfl) rfl ?_
          refine g_iload_n C dX3_comesTo_68 1 rfl ?_
          refine g_iconst C dX3_comesTo_69 ?_
          refine g_callS C dX3_comesTo_70 lkX3_260 (As := [.int (iI lv), .int (iI 2)]) (c_X3_countAt lv 2) rfl rfl ⟨Nat.le_of_ble_eq_true rfl, Nat.le_of_ble_eq_true rfl⟩ (Nat.le_of_ble_eq_true rfl) ?_
          rintro _ _ ⟨rfl, rfl⟩
          refine g_iald C dX3_comesTo_73 (v := (ρ) (12 + 4 * lv + 2)) M1.a18 (by decide) (by omega) (by omega) rfl ?_
          refine g_iload C dX3_comesTo_74 0 rfl ?_
          refine g_isub C dX3_comesTo_76 (v := (ρ) (12 + 4 * lv + 2) - ((ρ) (12 + 4 * lv + 3))) rfl ?_
          refine g_iadd C dX3_comesTo_77 (v := (ρ) (112 + 11 * (g 18 1) + 10) + ((ρ) (12 + 4 * lv + 2) - ((ρ) (12 + 4 * lv + 3)))) rfl ?_
          rw [show iI ((ρ) (112 + 11 * (g 18 1) + 10) + ((ρ) (12 + 4 * lv + 2) - ((ρ) (12 + 4 * lv + 3)))) = iI (iW ((ρ) (112 + 11 * (g 18 1) + 10) + ((ρ) (12 + 4 * lv + 2) - ((ρ) (12 + 4 * lv + 3))))) from (iI_W _).symm]
          obtain ⟨r159, er160⟩ : ∃ z, z = iUp (ρ) (112 + 11 * (g 18 1) + 10) (iW ((ρ) (112 + 11 * (g 18 1) + 10) + ((ρ) (12 + 4 * lv + 2) - ((ρ) (12 + 4 * lv + 3))))) := ⟨_, rfl⟩
          refine g_iast C dX3_comesTo_78 M1.a18 (by decide) (by omega) (by omega) er160.symm (fun h161 hh162 => ?_)
          have hr163 : mR0 r159 := by rw [er160]; exact mR0.up (ho9.2.1) (gR_W _)
          have M164 : mSt G h0 h161 m ad f (va_up g 18 r159) := mSt.uu (M1.st18 hh162) rfl
          refine g_iinc C dX3_comesTo_79 (v := lv + 1) (lv' := [(3, .int (iI (lv + 1))), (4, .int (iI ((ρ) (12 + 4 * lv + 3)))), (2, .int (iI (g 18 1))), (0, .ref m), (1, .int (iI thr))]) 1 rfl rfl (Nat.le_of_ble_eq_true rfl) rfl ?_
          refine g_goto C dX3_comesTo_82 (tgt := 24) (by decide) ?_
          refine gW.loc [0, 2, 3, 4] (lv' := [(3, .int (iI (lv + 1))), (2, .int (iI (g 18 1))), (0, .ref m), (1, .int (iI thr))]) rfl ?_
          have e9 : r159 = mOdd (g 18 1) thr lv ρ := by unfold mOdd; first | rw [if_pos (by omega)]; exact er160 | rw [if_neg (by omega)]; exact er160
          have ho7 : mOk (g 6) r159 := by rw [er160]; exact ho9.t6 (by omega) (by omega) (by omega) (gR_W _)
          exact ih (lv + 1) r159 h161 (M164) (by omega) (by omega) ho7 (by rw [e9, ← mFor_step (by omega), hf9])
        · refine g_iload C dX3_comesTo_59 0 rfl ?_
          refine g_goto C dX3_comesTo_61 (tgt := 77) (by decide) ?_
          refine g_iadd C dX3_comesTo_77 (v := (ρ) (112 + 11 * (g 18 1) + 10) + ((ρ) (12 + 4 * lv + 3))) rfl ?_
          rw [show iI ((ρ) (112 + 11 * (g 18 1) + 10) + ((ρ) (12 + 4 * lv + 3))) = iI (iW ((ρ) (112 + 11 * (g 18 1) + 10) + ((ρ) (12 + 4 * lv + 3)))) from (iI_W _).symm]
          obtain ⟨r165, er166⟩ : ∃ z, z = iUp (ρ) (112 + 11 * (g 18 1) + 10) (iW ((ρ) (112 + 11 * (g 18 1) + 10) + ((ρ) (12 + 4 * lv + 3)))) := ⟨_, rfl⟩
          refine g_iast C dX3_comesTo_78 M1.a18 (by decide) (by omega) (by omega) er166.symm (fun h167 hh168 => ?_)
          have hr169 : mR0 r165 := by rw [er166]; exact mR0.up (ho9.2.1) (gR_W _)
          have M170 : mSt G h0 h167 m ad f (va_up g 18 r165) := mSt.uu (M1.st18 hh168) rfl
          refine g_iinc C dX3_comesTo_79 (v := lv + 1) (lv' := [(3, .int (iI (lv + 1))), (4, .int (iI ((ρ) (12 + 4 * lv + 3)))), (2, .int (iI (g 18 1))), (0, .ref m), (1, .int (iI thr))]) 1 rfl rfl (Nat.le_of_ble_eq_true rfl) rfl ?_
          refine g_goto C dX3_comesTo_82 (tgt := 24) (by decide) ?_
          refine gW.loc [0, 2, 3, 4] (lv' := [(3, .int (iI (lv + 1))), (2, .int (iI (g 18 1))), (0, .ref m), (1, .int (iI thr))]) rfl ?_
          have e9 : r165 = mOdd (g 18 1) thr lv ρ := by unfold mOdd; first | rw [if_pos (by omega)]; exact er166 | rw [if_neg (by omega)]; exact er166
          have ho7 : mOk (g 6) r165 := by rw [er166]; exact ho9.t6 (by omega) (by omega) (by omega) (gR_W _)
          exact ih (lv + 1) r165 h167 (M170) (by omega) (by omega) ho7 (by rw [e9, ← mFor_step (by omega), hf9])
  exact L24 (25 + 1) 0 r1 h3 (M6) (by omega) (by omega) ho8 (by rw [er2]; rfl)
theorem c_X3_logs {G : gG} {h : gH} {h0 : gH} {m : Nat} {ad : Nat → Nat} {f : Nat → Int} {g : Nat → Int → Int} (M : mSt G h0 h m ad f g) (level : Int) (heard : Bool) (asc : Bool) (hlevel1 : -2147483648 ≤ level) (hlevel2 : level ≤ 2147483647) (hr : mR0 (g 18)) (h11 : 0 ≤ g 18 11 ∧ g 18 11 ≤ 200) : gC G yX3_logs (.code yX3_logs cX3_logs 5 none) 1 0 0 [.ref m, .int (iI level), .int (iI (gb heard)), .int (iI (gb asc))] h (fun r h' => r = none ∧ mSt G h0 h' m ad (f) (va_up g 18 (mLogR (g 18) level heard asc))) := by
  refine gC.of (by decide) (Nat.le_of_ble_eq_true rfl) rfl ?_
  intro X C E hI
  have C : gCtx G X cX3_logs 5 RX3 1 none := C
  refine g_sipush C dX3_logs_0 (by decide) ?_
  refine g_istore C dX3_logs_3 (lv' := [(4, .int (iI 1839)), (0, .ref m), (1, .int (iI level)), (2, .int (iI (gb heard))), (3, .int (iI (gb asc)))]) (Nat.le_of_ble_eq_true rfl) rfl ?_
  have L5 : ∀ (n : Nat) (k : Int) (ρ : Int → Int) (h1 : gH) (M1 : mSt G h0 h1 m ad f (va_up g 18 ρ)) (hk : 645 ≤ k ∧ k ≤ 1839) (hn9 : k - 645 < n) (hz : ∀ j, ρ j = if k < j ∧ j ≤ 1839 then g 18 (j - 6) else g 18 j), gW X h1 0 0 5 [(4, .int (iI k)), (0, .ref m), (1, .int (iI level)), (2, .int (iI (gb heard))), (3, .int (iI (gb asc)))] [] := by
    intro n
    induction n with
    | zero => intro k ρ h1 M1 hk hn9 hz; exfalso; omega
    | succ n ih =>
      intro k ρ h1 M1 hk hn9 hz
      refine g_iload C dX3_logs_5 0 rfl ?_
      refine g_sipush C dX3_logs_7 (by decide) ?_
      refine g_icmp_lt C dX3_logs_10 (tgt := 36) (by decide) (gRo (by omega) (by omega)) (gRo (by decide) (by decide)) (fun c10 => ?_) (fun c10 => ?_)
      · have eρ : ρ = mShiftL (g 18) := mSh_end hz (by omega)
        cases heard
        · cases asc
          · refine g_aload_n C dX3_logs_36 1 rfl ?_
            refine g_get C dX3_logs_37 kcX3 18 q1481 (fun _ _ _ _ h9 => h9) M1.o (Nat.le_of_ble_eq_true rfl) rfl ?_
            refine g_bipush C dX3_logs_40 (by decide) ?_
            refine g_sipush C dX3_logs_42 (by decide) ?_
            refine g_aload_n C dX3_logs_45 1 rfl ?_
            refine g_get C dX3_logs_46 kcX3 18 q1481 (fun _ _ _ _ h9 => h9) M1.o (Nat.le_of_ble_eq_true rfl) rfl ?_
            refine g_bipush C dX3_logs_49 (by decide) ?_
            refine g_iald C dX3_logs_51 (v := g 18 11) M1.a18 (by decide) (by decide) (by decide) (by show (ρ) 11 = _; rw [eρ, mShiftL_n (by omega)]) ?_
            refine g_iconst C dX3_logs_52 ?_
            refine g_iadd C dX3_logs_53 (v := g 18 11 + 1) rfl ?_
            refine g_callS C dX3_logs_54 lkX3_238 (As := [.int (iI 200), .int (iI (g 18 11 + 1))]) (c_X3_lesser 200 (g 18 11 + 1) (by decide) (by decide) (by omega) (by omega)) rfl rfl ⟨Nat.le_of_ble_eq_true rfl, Nat.le_of_ble_eq_true rfl⟩ (Nat.le_of_ble_eq_true rfl) ?_
            rintro _ _ ⟨rfl, rfl⟩
            obtain ⟨r1, er2⟩ : ∃ z, z = iUp (ρ) 11 (min 200 (g 18 11 + 1)) := ⟨_, rfl⟩
            refine g_iast C dX3_logs_57 M1.a18 (by decide) (by decide) (by decide) er2.symm (fun h3 hh4 => ?_)
            have M5 : mSt G h0 h3 m ad f (va_up g 18 r1) := mSt.uu (M1.st18 hh4) rfl
            refine g_aload_n C dX3_logs_58 1 rfl ?_
            refine g_get C dX3_logs_59 kcX3 18 q1481 (fun _ _ _ _ h9 => h9) M5.o (Nat.le_of_ble_eq_true rfl) rfl ?_
            refine g_sipush C dX3_logs_62 (by decide) ?_
            refine g_aload_n C dX3_logs_65 1 rfl ?_
            refine g_get C dX3_logs_66 kcX3 18 q1481 (fun _ _ _ _ h9 => h9) M5.o (Nat.le_of_ble_eq_true rfl) rfl ?_
            refine g_iconst C dX3_logs_69 ?_
            refine g_iald C dX3_logs_70 (v := g 18 1) M5.a18 (by decide) (by decide) (by decide) (by show r1 1 = _; rw [er2, iUp_n (by decide), eρ, mShiftL_n (by omega)]) ?_
            obtain ⟨r6, er7⟩ : ∃ z, z = iUp r1 640 (g 18 1) := ⟨_, rfl⟩
            refine g_iast C dX3_logs_71 M5.a18 (by decide) (by decide) (by decide) er7.symm (fun h8 hh9 => ?_)
            have M10 : mSt G h0 h8 m ad f (va_up g 18 r6) := mSt.uu (M5.st18 hh9) rfl
            refine g_aload_n C dX3_logs_72 1 rfl ?_
            refine g_get C dX3_logs_73 kcX3 18 q1481 (fun _ _ _ _ h9 => h9) M10.o (Nat.le_of_ble_eq_true rfl) rfl ?_
            refine g_sipush C dX3_logs_76 (by decide) ?_
            refine g_iload_n C dX3_logs_79 2 rfl ?_
            obtain ⟨r11, er12⟩ : ∃ z, z = iUp r6 641 level := ⟨_, rfl⟩
            refine g_iast C dX3_logs_80 M10.a18 (by decide) (by decide) (by decide) er12.symm (fun h13 hh14 => ?_)
            have M15 : mSt G h0 h13 m ad f (va_up g 18 r11) := mSt.uu (M10.st18 hh14) rfl
            refine g_aload_n C dX3_logs_81 1 rfl ?_
            refine g_get C dX3_logs_82 kcX3 18 q1481 (fun _ _ _ _ h9 => h9) M15.o (Nat.le_of_ble_eq_true rfl) rfl ?_
            refine g_sipush C dX3_logs_85 (by decide) ?_
            refine g_aload_n C dX3_logs_88 1 rfl ?_
            refine g_get C dX3_logs_89 kcX3 18 q1481 (fun _ _ _ _ h9 => h9) M15.o (Nat.le_of_ble_eq_true rfl) rfl ?_
            refine g_iconst C dX3_logs_92 ?_
            refine g_iald C dX3_logs_93 (v := g 18 5) M15.a18 (by decide) (by decide) (by decide) (by show r11 5 = _; rw [er12, iUp_n (by decide), er7, iUp_n (by decide), er2, iUp_n (by decide), eρ, mShiftL_n (by omega)]) ?_
            obtain ⟨r16, er17⟩ : ∃ z, z = iUp r11 642 (g 18 5) := ⟨_, rfl⟩
            refine g_iast C dX3_logs_94 M15.a18 (by decide) (by decide) (by decide) er17.symm (fun h18 hh19 => ?_)
            have M20 : mSt G h0 h18 m ad f (va_up g 18 r16) := mSt.uu (M15.st18 hh19) rfl
            refine g_aload_n C dX3_logs_95 1 rfl ?_
            refine g_get C dX3_logs_96 kcX3 18 q1481 (fun _ _ _ _ h9 => h9) M20.o (Nat.le_of_ble_eq_true rfl) rfl ?_
            refine g_sipush C dX3_logs_99 (by decide) ?_
            refine g_iload_n C dX3_logs_102 3 rfl ?_
            refine g_ifF C dX3_logs_103 (tgt := 110) (by decide) (fun q => ?_) (fun q => absurd q (by decide))
            refine g_iconst C dX3_logs_110 ?_
            obtain ⟨r21, er22⟩ : ∃ z, z = iUp r16 643 0 := ⟨_, rfl⟩
            refine g_iast C dX3_logs_111 M20.a18 (by decide) (by decide) (by decide) er22.symm (fun h23 hh24 => ?_)
            have M25 : mSt G h0 h23 m ad f (va_up g 18 r21) := mSt.uu (M20.st18 hh24) rfl
            refine g_aload_n C dX3_logs_112 1 rfl ?_
            refine g_get C dX3_logs_113 kcX3 18 q1481 (fun _ _ _ _ h9 => h9) M25.o (Nat.le_of_ble_eq_true rfl) rfl ?_
            refine g_sipush C dX3_logs_116 (by decide) ?_
            refine g_aload_n C dX3_logs_119 1 rfl ?_
            refine g_get C dX3_logs_120 kcX3 18 q1481 (fun _ _ _ _ h9 => h9) M25.o (Nat.le_of_ble_eq_true rfl) rfl ?_
            refine g_bipush C dX3_logs_123 (by decide) ?_
            refine g_iald C dX3_logs_125 (v := g 18 10) M25.a18 (by decide) (by decide) (by decide) (by show r21 10 = _; rw [er22, iUp_n (by decide), er17, iUp_n (by decide), er12, iUp_n (by decide), er7, iUp_n (by decide), er2, iUp_n (by decide), eρ, mShiftL_n (by omega)]) ?_
            obtain ⟨r26, er27⟩ : ∃ z, z = iUp r21 644 (g 18 10) := ⟨_, rfl⟩
            refine g_iast C dX3_logs_126 M25.a18 (by decide) (by decide) (by decide) er27.symm (fun h28 hh29 => ?_)
            have M30 : mSt G h0 h28 m ad f (va_up g 18 r26) := mSt.uu (M25.st18 hh29) rfl
            refine g_aload_n C dX3_logs_127 1 rfl ?_
            refine g_get C dX3_logs_128 kcX3 18 q1481 (fun _ _ _ _ h9 => h9) M30.o (Nat.le_of_ble_eq_true rfl) rfl ?_
            refine g_sipush C dX3_logs_131 (by decide) ?_
            refine g_iload_n C dX3_logs_134 4 rfl ?_
            refine g_ifF C dX3_logs_135 (tgt := 142) (by decide) (fun q => ?_) (fun q => absurd q (by decide))
            refine g_iconst C dX3_logs_142 ?_
            obtain ⟨r31, er32⟩ : ∃ z, z = iUp r26 645 0 := ⟨_, rfl⟩
            refine g_iast C dX3_logs_143 M30.a18 (by decide) (by decide) (by decide) er32.symm (fun h33 hh34 => ?_)
            have M35 : mSt G h0 h33 m ad f (va_up g 18 r31) := mSt.uu (M30.st18 hh34) rfl
            refine g_vret C E dX3_logs_144 rfl ?_
            subst er32
            subst er27
            subst er22
            subst er17
            subst er12
            subst er7
            subst er2
            subst eρ
            exact ⟨rfl, M35⟩
          · refine g_aload_n C dX3_logs_36 1 rfl ?_
            refine g_get C dX3_logs_37 kcX3 18 q1481 (fun _ _ _ _ h9 => h9) M1.o (Nat.le_of_ble_eq_true rfl) rfl ?_
            refine g_bipush C dX3_logs_40 (by decide) ?_
            refine g_sipush C dX3_logs_42 (by decide) ?_
            refine g_aload_n C dX3_logs_45 1 rfl ?_
            refine g_get C dX3_logs_46 kcX3 18 q1481 (fun _ _ _ _ h9 => h9) M1.o (Nat.le_of_ble_eq_true rfl) rfl ?_
            refine g_bipush C dX3_logs_49 (by decide) ?_
            refine g_iald C dX3_logs_51 (v := g 18 11) M1.a18 (by decide) (by decide) (by decide) (by show (ρ) 11 = _; rw [eρ, mShiftL_n (by omega)]) ?_
            refine g_iconst C dX3_logs_52 ?_
            refine g_iadd C dX3_logs_53 (v := g 18 11 + 1) rfl ?_
            refine g_callS C dX3_logs_54 lkX3_238 (As := [.int (iI 200), .int (iI (g 18 11 + 1))]) (c_X3_lesser 200 (g 18 11 + 1) (by decide) (by decide) (by omega) (by omega)) rfl rfl ⟨Nat.le_of_ble_eq_true rfl, Nat.le_of_ble_eq_true rfl⟩ (Nat.le_of_ble_eq_true rfl) ?_
            rintro _ _ ⟨rfl, rfl⟩
            obtain ⟨r36, er37⟩ : ∃ z, z = iUp (ρ) 11 (min 200 (g 18 11 + 1)) := ⟨_, rfl⟩
            refine g_iast C dX3_logs_57 M1.a18 (by decide) (by decide) (by decide) er37.symm (fun h38 hh39 => ?_)
            have M40 : mSt G h0 h38 m ad f (va_up g 18 r36) := mSt.uu (M1.st18 hh39) rfl
            refine g_aload_n C dX3_logs_58 1 rfl ?_
            refine g_get C dX3_logs_59 kcX3 18 q1481 (fun _ _ _ _ h9 => h9) M40.o (Nat.le_of_ble_eq_true rfl) rfl ?_
            refine g_sipush C dX3_logs_62 (by decide) ?_
            refine g_aload_n C dX3_logs_65 1 rfl ?_
            refine g_get C dX3_logs_66 kcX3 18 q1481 (fun _ _ _ _ h9 => h9) M40.o (Nat.le_of_ble_eq_true rfl) rfl ?_
            refine g_iconst C dX3_logs_69 ?_
            refine g_iald C dX3_logs_70 (v := g 18 1) M40.a18 (by decide) (by decide) (by decide) (by show r36 1 = _; rw [er37, iUp_n (by decide), eρ, mShiftL_n (by omega)]) ?_
            obtain ⟨r41, er42⟩ : ∃ z, z = iUp r36 640 (g 18 1) := ⟨_, rfl⟩
            refine g_iast C dX3_logs_71 M40.a18 (by decide) (by decide) (by decide) er42.symm (fun h43 hh44 => ?_)
            have M45 : mSt G h0 h43 m ad f (va_up g 18 r41) := mSt.uu (M40.st18 hh44) rfl
            refine g_aload_n C dX3_logs_72 1 rfl ?_
            refine g_get C dX3_logs_73 kcX3 18 q1481 (fun _ _ _ _ h9 => h9) M45.o (Nat.le_of_ble_eq_true rfl) rfl ?_
            refine g_sipush C dX3_logs_76 (by decide) ?_
            refine g_iload_n C dX3_logs_79 2 rfl ?_
            obtain ⟨r46, er47⟩ : ∃ z, z = iUp r41 641 level := ⟨_, rfl⟩
            refine g_iast C dX3_logs_80 M45.a18 (by decide) (by decide) (by decide) er47.symm (fun h48 hh49 => ?_)
            have M50 : mSt G h0 h48 m ad f (va_up g 18 r46) := mSt.uu (M45.st18 hh49) rfl
            refine g_aload_n C dX3_logs_81 1 rfl ?_
            refine g_get C dX3_logs_82 kcX3 18 q1481 (fun _ _ _ _ h9 => h9) M50.o (Nat.le_of_ble_eq_true rfl) rfl ?_
            refine g_sipush C dX3_logs_85 (by decide) ?_
            refine g_aload_n C dX3_logs_88 1 rfl ?_
            refine g_get C dX3_logs_89 kcX3 18 q1481 (fun _ _ _ _ h9 => h9) M50.o (Nat.le_of_ble_eq_true rfl) rfl ?_
            refine g_iconst C dX3_logs_92 ?_
            refine g_iald C dX3_logs_93 (v := g 18 5) M50.a18 (by decide) (by decide) (by decide) (by show r46 5 = _; rw [er47, iUp_n (by decide), er42, iUp_n (by decide), er37, iUp_n (by decide), eρ, mShiftL_n (by omega)]) ?_
            obtain ⟨r51, er52⟩ : ∃ z, z = iUp r46 642 (g 18 5) := ⟨_, rfl⟩
            refine g_iast C dX3_logs_94 M50.a18 (by decide) (by decide) (by decide) er52.symm (fun h53 hh54 => ?_)
            have M55 : mSt G h0 h53 m ad f (va_up g 18 r51) := mSt.uu (M50.st18 hh54) rfl
            refine g_aload_n C dX3_logs_95 1 rfl ?_
            refine g_get C dX3_logs_96 kcX3 18 q1481 (fun _ _ _ _ h9 => h9) M55.o (Nat.le_of_ble_eq_true rfl) rfl ?_
            refine g_sipush C dX3_logs_99 (by decide) ?_
            refine g_iload_n C dX3_logs_102 3 rfl ?_
            refine g_ifF C dX3_logs_103 (tgt := 110) (by decide) (fun q => ?_) (fun q => absurd q (by decide))
            refine g_iconst C dX3_logs_110 ?_
            obtain ⟨r56, er57⟩ : ∃ z, z = iUp r51 643 0 := ⟨_, rfl⟩
            refine g_iast C dX3_logs_111 M55.a18 (by decide) (by decide) (by decide) er57.symm (fun h58 hh59 => ?_)
            have M60 : mSt G h0 h58 m ad f (va_up g 18 r56) := mSt.uu (M55.st18 hh59) rfl
            refine g_aload_n C dX3_logs_112 1 rfl ?_
            refine g_get C dX3_logs_113 kcX3 18 q1481 (fun _ _ _ _ h9 => h9) M60.o (Nat.le_of_ble_eq_true rfl) rfl ?_
            refine g_sipush C dX3_logs_116 (by decide) ?_
            refine g_aload_n C dX3_logs_119 1 rfl ?_
            refine g_get C dX3_logs_120 kcX3 18 q1481 (fun _ _ _ _ h9 => h9) M60.o (Nat.le_of_ble_eq_true rfl) rfl ?_
            refine g_bipush C dX3_logs_123 (by decide) ?_
            refine g_iald C dX3_logs_125 (v := g 18 10) M60.a18 (by decide) (by decide) (by decide) (by show r56 10 = _; rw [er57, iUp_n (by decide), er52, iUp_n (by decide), er47, iUp_n (by decide), er42, iUp_n (by decide), er37, iUp_n (by decide), eρ, mShiftL_n (by omega)]) ?_
            obtain ⟨r61, er62⟩ : ∃ z, z = iUp r56 644 (g 18 10) := ⟨_, rfl⟩
            refine g_iast C dX3_logs_126 M60.a18 (by decide) (by decide) (by decide) er62.symm (fun h63 hh64 => ?_)
            have M65 : mSt G h0 h63 m ad f (va_up g 18 r61) := mSt.uu (M60.st18 hh64) rfl
            refine g_aload_n C dX3_logs_127 1 rfl ?_
            refine g_get C dX3_logs_128 kcX3 18 q1481 (fun _ _ _ _ h9 => h9) M65.o (Nat.le_of_ble_eq_true rfl) rfl ?_
            refine g_sipush C dX3_logs_131 (by decide) ?_
            refine g_iload_n C dX3_logs_134 4 rfl ?_
            refine g_ifF C dX3_logs_135 (tgt := 142) (by decide) (fun q => absurd q (by decide)) (fun q => ?_)
            refine g_iconst C dX3_logs_138 ?_
            refine g_goto C dX3_logs_139 (tgt := 143) (by decide) ?_
            obtain ⟨r66, er67⟩ : ∃ z, z = iUp r61 645 1 := ⟨_, rfl⟩
            refine g_iast C dX3_logs_143 M65.a18 (by decide) (by decide) (by decide) er67.symm (fun h68 hh69 => ?_)
            have M70 : mSt G h0 h68 m ad f (va_up g 18 r66) := mSt.uu (M65.st18 hh69) rfl
            refine g_vret C E dX3_logs_144 rfl ?_
            subst er67
            subst er62
            subst er57
            subst er52
            subst er47
            subst er42
            subst er37
            subst eρ
            exact ⟨rfl, M70⟩
        · cases asc
          · refine g_aload_n C dX3_logs_36 1 rfl ?_
            refine g_get C dX3_logs_37 kcX3 18 q1481 (fun _ _ _ _ h9 => h9) M1.o (Nat.le_of_ble_eq_true rfl) rfl ?_
            refine g_bipush C dX3_logs_40 (by decide) ?_
            refine g_sipush C dX3_logs_42 (by decide) ?_
            refine g_aload_n C dX3_logs_45 1 rfl ?_
            refine g_get C dX3_logs_46 kcX3 18 q1481 (fun _ _ _ _ h9 => h9) M1.o (Nat.le_of_ble_eq_true rfl) rfl ?_
            refine g_bipush C dX3_logs_49 (by decide) ?_
            refine g_iald C dX3_logs_51 (v := g 18 11) M1.a18 (by decide) (by decide) (by decide) (by show (ρ) 11 = _; rw [eρ, mShiftL_n (by omega)]) ?_
            refine g_iconst C dX3_logs_52 ?_
            refine g_iadd C dX3_logs_53 (v := g 18 11 + 1) rfl ?_
            refine g_callS C dX3_logs_54 lkX3_238 (As := [.int (iI 200), .int (iI (g 18 11 + 1))]) (c_X3_lesser 200 (g 18 11 + 1) (by decide) (by decide) (by omega) (by omega)) rfl rfl ⟨Nat.le_of_ble_eq_true rfl, Nat.le_of_ble_eq_true rfl⟩ (Nat.le_of_ble_eq_true rfl) ?_
            rintro _ _ ⟨rfl, rfl⟩
            obtain ⟨r71, er72⟩ : ∃ z, z = iUp (ρ) 11 (min 200 (g 18 11 + 1)) := ⟨_, rfl⟩
            refine g_iast C dX3_logs_57 M1.a18 (by decide) (by decide) (by decide) er72.symm (fun h73 hh74 => ?_)
            have M75 : mSt G h0 h73 m ad f (va_up g 18 r71) := mSt.uu (M1.st18 hh74) rfl
            refine g_aload_n C dX3_logs_58 1 rfl ?_
            refine g_get C dX3_logs_59 kcX3 18 q1481 (fun _ _ _ _ h9 => h9) M75.o (Nat.le_of_ble_eq_true rfl) rfl ?_
            refine g_sipush C dX3_logs_62 (by decide) ?_
            refine g_aload_n C dX3_logs_65 1 rfl ?_
            refine g_get C dX3_logs_66 kcX3 18 q1481 (fun _ _ _ _ h9 => h9) M75.o (Nat.le_of_ble_eq_true rfl) rfl ?_
            refine g_iconst C dX3_logs_69 ?_
            refine g_iald C dX3_logs_70 (v := g 18 1) M75.a18 (by decide) (by decide) (by decide) (by show r71 1 = _; rw [er72, iUp_n (by decide), eρ, mShiftL_n (by omega)]) ?_
            obtain ⟨r76, er77⟩ : ∃ z, z = iUp r71 640 (g 18 1) := ⟨_, rfl⟩
            refine g_iast C dX3_logs_71 M75.a18 (by decide) (by decide) (by decide) er77.symm (fun h78 hh79 => ?_)
            have M80 : mSt G h0 h78 m ad f (va_up g 18 r76) := mSt.uu (M75.st18 hh79) rfl
            refine g_aload_n C dX3_logs_72 1 rfl ?_
            refine g_get C dX3_logs_73 kcX3 18 q1481 (fun _ _ _ _ h9 => h9) M80.o (Nat.le_of_ble_eq_true rfl) rfl ?_
            refine g_sipush C dX3_logs_76 (by decide) ?_
            refine g_iload_n C dX3_logs_79 2 rfl ?_
            obtain ⟨r81, er82⟩ : ∃ z, z = iUp r76 641 level := ⟨_, rfl⟩
            refine g_iast C dX3_logs_80 M80.a18 (by decide) (by decide) (by decide) er82.symm (fun h83 hh84 => ?_)
            have M85 : mSt G h0 h83 m ad f (va_up g 18 r81) := mSt.uu (M80.st18 hh84) rfl
            refine g_aload_n C dX3_logs_81 1 rfl ?_
            refine g_get C dX3_logs_82 kcX3 18 q1481 (fun _ _ _ _ h9 => h9) M85.o (Nat.le_of_ble_eq_true rfl) rfl ?_
            refine g_sipush C dX3_logs_85 (by decide) ?_
            refine g_aload_n C dX3_logs_88 1 rfl ?_
            refine g_get C dX3_logs_89 kcX3 18 q1481 (fun _ _ _ _ h9 => h9) M85.o (Nat.le_of_ble_eq_true rfl) rfl ?_
            refine g_iconst C dX3_logs_92 ?_
            refine g_iald C dX3_logs_93 (v := g 18 5) M85.a18 (by decide) (by decide) (by decide) (by show r81 5 = _; rw [er82, iUp_n (by decide), er77, iUp_n (by decide), er72, iUp_n (by decide), eρ, mShiftL_n (by omega)]) ?_
            obtain ⟨r86, er87⟩ : ∃ z, z = iUp r81 642 (g 18 5) := ⟨_, rfl⟩
            refine g_iast C dX3_logs_94 M85.a18 (by decide) (by decide) (by decide) er87.symm (fun h88 hh89 => ?_)
            have M90 : mSt G h0 h88 m ad f (va_up g 18 r86) := mSt.uu (M85.st18 hh89) rfl
            refine g_aload_n C dX3_logs_95 1 rfl ?_
            refine g_get C dX3_logs_96 kcX3 18 q1481 (fun _ _ _ _ h9 => h9) M90.o (Nat.le_of_ble_eq_true rfl) rfl ?_
            refine g_sipush C dX3_logs_99 (by decide) ?_
            refine g_iload_n C dX3_logs_102 3 rfl ?_
            refine g_ifF C dX3_logs_103 (tgt := 110) (by decide) (fun q => absurd q (by decide)) (fun q => ?_)
            refine g_iconst C dX3_logs_106 ?_
            refine g_goto C dX3_logs_107 (tgt := 111) (by decide) ?_
            obtain ⟨r91, er92⟩ : ∃ z, z = iUp r86 643 1 := ⟨_, rfl⟩
            refine g_iast C dX3_logs_111 M90.a18 (by decide) (by decide) (by decide) er92.symm (fun h93 hh94 => ?_)
            have M95 : mSt G h0 h93 m ad f (va_up g 18 r91) := mSt.uu (M90.st18 hh94) rfl
            refine g_aload_n C dX3_logs_112 1 rfl ?_
            refine g_get C dX3_logs_113 kcX3 18 q1481 (fun _ _ _ _ h9 => h9) M95.o (Nat.le_of_ble_eq_true rfl) rfl ?_
            refine g_sipush C dX3_logs_116 (by decide) ?_
            refine g_aload_n C dX3_logs_119 1 rfl ?_
            refine g_get C dX3_logs_120 kcX3 18 q1481 (fun _ _ _ _ h9 => h9) M95.o (Nat.le_of_ble_eq_true rfl) rfl ?_
            refine g_bipush C dX3_logs_123 (by decide) ?_
            refine g_iald C dX3_logs_125 (v := g 18 10) M95.a18 (by decide) (by decide) (by decide) (by show r91 10 = _; rw [er92, iUp_n (by decide), er87, iUp_n (by decide), er82, iUp_n (by decide), er77, iUp_n (by decide), er72, iUp_n (by decide), eρ, mShiftL_n (by omega)]) ?_
            obtain ⟨r96, er97⟩ : ∃ z, z = iUp r91 644 (g 18 10) := ⟨_, rfl⟩
            refine g_iast C dX3_logs_126 M95.a18 (by decide) (by decide) (by decide) er97.symm (fun h98 hh99 => ?_)
            have M100 : mSt G h0 h98 m ad f (va_up g 18 r96) := mSt.uu (M95.st18 hh99) rfl
            refine g_aload_n C dX3_logs_127 1 rfl ?_
            refine g_get C dX3_logs_128 kcX3 18 q1481 (fun _ _ _ _ h9 => h9) M100.o (Nat.le_of_ble_eq_true rfl) rfl ?_
            refine g_sipush C dX3_logs_131 (by decide) ?_
            refine g_iload_n C dX3_logs_134 4 rfl ?_
            refine g_ifF C dX3_logs_135 (tgt := 142) (by decide) (fun q => ?_) (fun q => absurd q (by decide))
            refine g_iconst C dX3_logs_142 ?_
            obtain ⟨r101, er102⟩ : ∃ z, z = iUp r96 645 0 := ⟨_, rfl⟩
            refine g_iast C dX3_logs_143 M100.a18 (by decide) (by decide) (by decide) er102.symm (fun h103 hh104 => ?_)
            have M105 : mSt G h0 h103 m ad f (va_up g 18 r101) := mSt.uu (M100.st18 hh104) rfl
            refine g_vret C E dX3_logs_144 rfl ?_
            subst er102
            subst er97
            subst er92
            subst er87
            subst er82
            subst er77
            subst er72
            subst eρ
            exact ⟨rfl, M105⟩
          · refine g_aload_n C dX3_logs_36 1 rfl ?_
            refine g_get C dX3_logs_37 kcX3 18 q1481 (fun _ _ _ _ h9 => h9) M1.o (Nat.le_of_ble_eq_true rfl) rfl ?_
            refine g_bipush C dX3_logs_40 (by decide) ?_
            refine g_sipush C dX3_logs_42 (by decide) ?_
            refine g_aload_n C dX3_logs_45 1 rfl ?_
            refine g_get C dX3_logs_46 kcX3 18 q1481 (fun _ _ _ _ h9 => h9) M1.o (Nat.le_of_ble_eq_true rfl) rfl ?_
            refine g_bipush C dX3_logs_49 (by decide) ?_
            refine g_iald C dX3_logs_51 (v := g 18 11) M1.a18 (by decide) (by decide) (by decide) (by show (ρ) 11 = _; rw [eρ, mShiftL_n (by omega)]) ?_
            refine g_iconst C dX3_logs_52 ?_
            refine g_iadd C dX3_logs_53 (v := g 18 11 + 1) rfl ?_
            refine g_callS C dX3_logs_54 lkX3_238 (As := [.int (iI 200), .int (iI (g 18 11 + 1))]) (c_X3_lesser 200 (g 18 11 + 1) (by decide) (by decide) (by omega) (by omega)) rfl rfl ⟨Nat.le_of_ble_eq_true rfl, Nat.le_of_ble_eq_true rfl⟩ (Nat.le_of_ble_eq_true rfl) ?_
            rintro _ _ ⟨rfl, rfl⟩
            obtain ⟨r106, er107⟩ : ∃ z, z = iUp (ρ) 11 (min 200 (g 18 11 + 1)) := ⟨_, rfl⟩
            refine g_iast C dX3_logs_57 M1.a18 (by decide) (by decide) (by decide) er107.symm (fun h108 hh109 => ?_)
            have M110 : mSt G h0 h108 m ad f (va_up g 18 r106) := mSt.uu (M1.st18 hh109) rfl
            refine g_aload_n C dX3_logs_58 1 rfl ?_
            refine g_get C dX3_logs_59 kcX3 18 q1481 (fun _ _ _ _ h9 => h9) M110.o (Nat.le_of_ble_eq_true rfl) rfl ?_
            refine g_sipush C dX3_logs_62 (by decide) ?_
            refine g_aload_n C dX3_logs_65 1 rfl ?_
            refine g_get C dX3_logs_66 kcX3 18 q1481 (fun _ _ _ _ h9 => h9) M110.o (Nat.le_of_ble_eq_true rfl) rfl ?_
            refine g_iconst C dX3_logs_69 ?_
            refine g_iald C dX3_logs_70 (v := g 18 1) M110.a18 (by decide) (by decide) (by decide) (by show r106 1 = _; rw [er107, iUp_n (by decide), eρ, mShiftL_n (by omega)]) ?_
            obtain ⟨r111, er112⟩ : ∃ z, z = iUp r106 640 (g 18 1) := ⟨_, rfl⟩
            refine g_iast C dX3_logs_71 M110.a18 (by decide) (by decide) (by decide) er112.symm (fun h113 hh114 => ?_)
            have M115 : mSt G h0 h113 m ad f (va_up g 18 r111) := mSt.uu (M110.st18 hh114) rfl
            refine g_aload_n C dX3_logs_72 1 rfl ?_
            refine g_get C dX3_logs_73 kcX3 18 q1481 (fun _ _ _ _ h9 => h9) M115.o (Nat.le_of_ble_eq_true rfl) rfl ?_
            refine g_sipush C dX3_logs_76 (by decide) ?_
            refine g_iload_n C dX3_logs_79 2 rfl ?_
            obtain ⟨r116, er117⟩ : ∃ z, z = iUp r111 641 level := ⟨_, rfl⟩
            refine g_iast C dX3_logs_80 M115.a18 (by decide) (by decide) (by decide) er117.symm (fun h118 hh119 => ?_)
            have M120 : mSt G h0 h118 m ad f (va_up g 18 r116) := mSt.uu (M115.st18 hh119) rfl
            refine g_aload_n C dX3_logs_81 1 rfl ?_
            refine g_get C dX3_logs_82 kcX3 18 q1481 (fun _ _ _ _ h9 => h9) M120.o (Nat.le_of_ble_eq_true rfl) rfl ?_
            refine g_sipush C dX3_logs_85 (by decide) ?_
            refine g_aload_n C dX3_logs_88 1 rfl ?_
            refine g_get C dX3_logs_89 kcX3 18 q1481 (fun _ _ _ _ h9 => h9) M120.o (Nat.le_of_ble_eq_true rfl) rfl ?_
            refine g_iconst C dX3_logs_92 ?_
            refine g_iald C dX3_logs_93 (v := g 18 5) M120.a18 (by decide) (by decide) (by decide) (by show r116 5 = _; rw [er117, iUp_n (by decide), er112, iUp_n (by decide), er107, iUp_n (by decide), eρ, mShiftL_n (by omega)]) ?_
            obtain ⟨r121, er122⟩ : ∃ z, z = iUp r116 642 (g 18 5) := ⟨_, rfl⟩
            refine g_iast C dX3_logs_94 M120.a18 (by decide) (by decide) (by decide) er122.symm (fun h123 hh124 => ?_)
            have M125 : mSt G h0 h123 m ad f (va_up g 18 r121) := mSt.uu (M120.st18 hh124) rfl
            refine g_aload_n C dX3_logs_95 1 rfl ?_
            refine g_get C dX3_logs_96 kcX3 18 q1481 (fun _ _ _ _ h9 => h9) M125.o (Nat.le_of_ble_eq_true rfl) rfl ?_
            refine g_sipush C dX3_logs_99 (by decide) ?_
            refine g_iload_n C dX3_logs_102 3 rfl ?_
            refine g_ifF C dX3_logs_103 (tgt := 110) (by decide) (fun q => absurd q (by decide)) (fun q => ?_)
            refine g_iconst C dX3_logs_106 ?_
            refine g_goto C dX3_logs_107 (tgt := 111) (by decide) ?_
            obtain ⟨r126, er127⟩ : ∃ z, z = iUp r121 643 1 := ⟨_, rfl⟩
            refine g_iast C dX3_logs_111 M125.a18 (by decide) (by decide) (by decide) er127.symm (fun h128 hh129 => ?_)
            have M130 : mSt G h0 h128 m ad f (va_up g 18 r126) := mSt.uu (M125.st18 hh129) rfl
            refine g_aload_n C dX3_logs_112 1 rfl ?_
            refine g_get C dX3_logs_113 kcX3 18 q1481 (fun _ _ _ _ h9 => h9) M130.o (Nat.le_of_ble_eq_true rfl) rfl ?_
            refine g_sipush C dX3_logs_116 (by decide) ?_
            refine g_aload_n C dX3_logs_119 1 rfl ?_
            refine g_get C dX3_logs_120 kcX3 18 q1481 (fun _ _ _ _ h9 => h9) M130.o (Nat.le_of_ble_eq_true rfl) rfl ?_
            refine g_bipush C dX3_logs_123 (by decide) ?_
            refine g_iald C dX3_logs_125 (v := g 18 10) M130.a18 (by decide) (by decide) (by decide) (by show r126 10 = _; rw [er127, iUp_n (by decide), er122, iUp_n (by decide), er117, iUp_n (by decide), er112, iUp_n (by decide), er107, iUp_n (by decide), eρ, mShiftL_n (by omega)]) ?_
            obtain ⟨r131, er132⟩ : ∃ z, z = iUp r126 644 (g 18 10) := ⟨_, rfl⟩
            refine g_iast C dX3_logs_126 M130.a18 (by decide) (by decide) (by decide) er132.symm (fun h133 hh134 => ?_)
            have M135 : mSt G h0 h133 m ad f (va_up g 18 r131) := mSt.uu (M130.st18 hh134) rfl
            refine g_aload_n C dX3_logs_127 1 rfl ?_
            refine g_get C dX3_logs_128 kcX3 18 q1481 (fun _ _ _ _ h9 => h9) M135.o (Nat.le_of_ble_eq_true rfl) rfl ?_
            refine g_sipush C dX3_logs_131 (by decide) ?_
            refine g_iload_n C dX3_logs_134 4 rfl ?_
            refine g_ifF C dX3_logs_135 (tgt := 142) (by decide) (fun q => absurd q (by decide)) (fun q => ?_)
            refine g_iconst C dX3_logs_138 ?_
            refine g_goto C dX3_logs_139 (tgt := 143) (by decide) ?_
            obtain ⟨r136, er137⟩ : ∃ z, z = iUp r131 645 1 := ⟨_, rfl⟩
            refine g_iast C dX3_logs_143 M135.a18 (by decide) (by decide) (by decide) er137.symm (fun h138 hh139 => ?_)
            have M140 : mSt G h0 h138 m ad f (va_up g 18 r136) := mSt.uu (M135.st18 hh139) rfl
            refine g_vret C E dX3_logs_144 rfl ?_
            subst er137
            subst er132
            subst er127
            subst er122
            subst er117
            subst er112
            subst er107
            subst eρ
            exact ⟨rfl, M140⟩
      · refine g_aload_n C dX3_logs_13 1 rfl ?_
        refine g_get C dX3_logs_14 kcX3 18 q1481 (fun _ _ _ _ h9 => h9) M1.o (Nat.le_of_ble_eq_true rfl) rfl ?_
        refine g_iload C dX3_logs_17 0 rfl ?_
        refine g_aload_n C dX3_logs_19 1 rfl ?_
        refine g_get C dX3_logs_20 kcX3 18 q1481 (fun _ _ _ _ h9 => h9) M1.o (Nat.le_of_ble_eq_true rfl) rfl ?_
        refine g_iload C dX3_logs_23 0 rfl ?_
        refine g_bipush C dX3_logs_25 (by decide) ?_
        refine g_isub C dX3_logs_27 (v := k - 6) rfl ?_
        refine g_iald C dX3_logs_28 (v := (ρ) (k - 6)) M1.a18 (by decide) (by omega) (by omega) rfl ?_
        obtain ⟨r141, er142⟩ : ∃ z, z = iUp (ρ) k ((ρ) (k - 6)) := ⟨_, rfl⟩
        refine g_iast C dX3_logs_29 M1.a18 (by decide) (by omega) (by omega) er142.symm (fun h143 hh144 => ?_)
        have M145 : mSt G h0 h143 m ad f (va_up g 18 r141) := mSt.uu (M1.st18 hh144) rfl
        refine g_iinc C dX3_logs_30 (v := k - 1) (lv' := [(4, .int (iI (k - 1))), (0, .ref m), (1, .int (iI level)), (2, .int (iI (gb heard))), (3, .int (iI (gb asc)))]) 0 rfl (by omega) (Nat.le_of_ble_eq_true rfl) rfl ?_
        refine g_goto C dX3_logs_33 (tgt := 5) (by decide) ?_
        exact ih (k - 1) r141 h143 M145 (by omega) (by omega) (fun j => by rw [er142]; exact mSh_step hz (by omega) j)
  exact L5 1195 1839 (g 18) h (M.u0) (by omega) (by omega) (fun j => by rw [if_neg (by omega)])
theorem c_X3_answers {G : gG} {h : gH} {h0 : gH} {m : Nat} {ad : Nat → Nat} {f : Nat → Int} {g : Nat → Int → Int} (M : mSt G h0 h m ad f g) (heard : Bool) (logged : Bool) (hO : mOk (g 6) (g 18)) (hon : g 18 1 ≠ -2) (h6 : g 18 6 ≤ 29) (hC : mCnt (g 18)) : gC G yX3_answers (.code yX3_answers cX3_answers 5 (some .int)) 8 0 0 [.ref m, .int (iI (gb heard)), .int (iI (gb logged))] h (fun r h' => r = some (.int (iI (mAnsV (g 6) (g 18) heard logged))) ∧ mSt G h0 h' m ad (f) (va_up g 18 (mAnsR (g 6) (g 18) heard logged))) := by
  refine gC.of (by decide) (Nat.le_of_ble_eq_true rfl) rfl ?_
  intro X C E hI
  have C : gCtx G X cX3_answers 5 RX3 8 (some .int) := C
  obtain ⟨hI_, hr, hn, hT, hS_⟩ := id hO
  obtain ⟨hi0, hi1, hi2, hi3, hi4, hi5, hiA, hiR⟩ := id hI_
  obtain ⟨hs1, hs3, hs4, hs5, hs6, hs7, hs8, hs11, hs2⟩ := id hS_
  have J218 : ∀ (asc : Bool) (ρ : Int → Int) (h1 : gH) (M1 : mSt G h0 h1 m ad f (va_up g 18 ρ)) (eA : ρ = mA1 (g 18) heard logged), gW X h1 0 0 218 [(3, .int (iI (g 18 3))), (0, .ref m), (1, .int (iI (gb heard))), (2, .int (iI (gb logged))), (4, .int (iI (gb asc)))] [] := by
    intro asc ρ h1 M1 eA
    obtain ⟨hoA, hA1, hA6, hAC⟩ := mA1_ok hO hon h6 hC heard logged; rw [← eA] at hoA hA1 hA6 hAC; have hAl := hAC (g 18 3) (by omega) (by omega); have hOn := mOnes_b (ρ (12 + 4 * g 18 3 + 1))
    refine g_aload_n C dX3_answers_218 1 rfl ?_
    refine g_get C dX3_answers_219 kcX3 18 q1481 (fun _ _ _ _ h9 => h9) M1.o (Nat.le_of_ble_eq_true rfl) rfl ?_
    refine g_iload_n C dX3_answers_222 0 rfl ?_
    refine g_iconst C dX3_answers_223 ?_
    refine g_callS C dX3_answers_224 lkX3_260 (As := [.int (iI (g 18 3)), .int (iI 1)]) (c_X3_countAt (g 18 3) 1) rfl rfl ⟨Nat.le_of_ble_eq_true rfl, Nat.le_of_ble_eq_true rfl⟩ (Nat.le_of_ble_eq_true rfl) ?_
    rintro _ _ ⟨rfl, rfl⟩
    refine g_iald C dX3_answers_227 (v := (ρ) (12 + 4 * (g 18 3) + 1)) M1.a18 (by decide) (by omega) (by omega) rfl ?_
    refine g_callS C dX3_answers_228 lkX3_270 (As := [.int (iI ((ρ) (12 + 4 * (g 18 3) + 1)))]) (c_X3_onesOf ((ρ) (12 + 4 * (g 18 3) + 1)) (hoA.2.1 _).1 (hoA.2.1 _).2) rfl rfl ⟨Nat.le_of_ble_eq_true rfl, Nat.le_of_ble_eq_true rfl⟩ (Nat.le_of_ble_eq_true rfl) ?_
    rintro _ _ ⟨rfl, rfl⟩
    refine g_iconst C dX3_answers_231 ?_
    refine g_icmp_ge C dX3_answers_232 (tgt := 253) (by decide) (gRo (by omega) (by omega)) (gRo (by decide) (by decide)) (fun c232 => ?_) (fun c232 => ?_)
    · refine g_aload_n C dX3_answers_253 1 rfl ?_
      refine g_iload_n C dX3_answers_254 0 rfl ?_
      refine g_callV C dX3_answers_255 lkX3_273 M1.o rfl (As := [.int (iI (g 18 3))]) (c_X3_comesTo M1 (g 18 3) hoA (show ρ 1 ≠ -2 from by omega) (by omega)) rfl rfl ⟨Nat.le_of_ble_eq_true rfl, Nat.le_of_ble_eq_true rfl⟩ (Nat.le_of_ble_eq_true rfl) ?_
      rintro _ h1 ⟨rfl, M2⟩
      obtain ⟨r3, er4⟩ : ∃ z, z = mCmR ((g 6)) ((ρ)) (g 18 3) := ⟨_, rfl⟩
      have M5 : mSt G h0 h1 m ad f (va_up g 18 r3) := mSt.uu M2 er4.symm
      have hO6 : mOk (g 6) r3 := by rw [er4]; exact mCmR_ok hoA (by omega) (by omega)
      have hn7 := hO6.2.2.1
      have hs8 := hO6.2.2.2.2.1
      show gW X h1 0 0 258 [(3, .int (iI (g 18 3))), (0, .ref m), (1, .int (iI (gb heard))), (2, .int (iI (gb logged))), (4, .int (iI (gb asc)))] [.int (iI (mCmV (g 6) (ρ) (g 18 3)))]
      refine g_iret C E dX3_answers_258 rfl ?_
      have eV : mAnsV (g 6) (g 18) heard logged = mCmV (g 6) (ρ) (g 18 3) := (by unfold mAnsV; rw [← eA]; unfold mAV2; (first | rw [if_pos (by omega)] | rw [if_neg (by omega), if_pos (by omega)] | rw [if_neg (by omega), if_neg (by omega), if_pos (by omega)] | rw [if_neg (by omega), if_neg (by omega), if_neg (by omega)]))
      have eR : mAnsR (g 6) (g 18) heard logged = r3 := (by unfold mAnsR; rw [← eA]; unfold mAR2; (first | rw [if_pos (by omega)] | rw [if_neg (by omega), if_pos (by omega)] | rw [if_neg (by omega), if_neg (by omega), if_pos (by omega)] | rw [if_neg (by omega), if_neg (by omega), if_neg (by omega)]); exact er4.symm)
      rw [eV, eR]
      exact ⟨rfl, M5⟩
    · refine g_iload_n C dX3_answers_235 0 rfl ?_
      refine g_if_ne C dX3_answers_236 (tgt := 259) (by decide) (gRo (by omega) (by omega)) (fun c236 => ?_) (fun c236 => ?_)
      · refine g_iload_n C dX3_answers_259 0 rfl ?_
        refine g_bipush C dX3_answers_260 (by decide) ?_
        refine g_icmp_ne C dX3_answers_262 (tgt := 299) (by decide) (gRo (by omega) (by omega)) (gRo (by decide) (by decide)) (fun c262 => ?_) (fun c262 => ?_)
        · refine g_aload_n C dX3_answers_299 1 rfl ?_
          refine g_get C dX3_answers_300 kcX3 18 q1481 (fun _ _ _ _ h9 => h9) M1.o (Nat.le_of_ble_eq_true rfl) rfl ?_
          refine g_bipush C dX3_answers_303 (by decide) ?_
          refine g_iald C dX3_answers_305 (v := (ρ) 6) M1.a18 (by decide) (by decide) (by decide) rfl ?_
          refine g_bipush C dX3_answers_306 (by decide) ?_
          refine g_icmp_ne C dX3_answers_308 (tgt := 321) (by decide) (hoA.2.1 _) (gRo (by decide) (by decide)) (fun c308 => ?_) (fun c308 => ?_)
          · refine g_iconst C dX3_answers_321 ?_
            refine g_iret C E dX3_answers_322 rfl ?_
            first | (exfalso; clear hOn hAl; omega) | (have eV : mAnsV (g 6) (g 18) heard logged = 0 := (by unfold mAnsV; rw [← eA]; unfold mAV2; (first | rw [if_pos (by omega)] | rw [if_neg (by omega), if_pos (by omega)] | rw [if_neg (by omega), if_neg (by omega), if_pos (by omega)] | rw [if_neg (by omega), if_neg (by omega), if_neg (by omega)])); have eR : mAnsR (g 6) (g 18) heard logged = ρ := (by unfold mAnsR; rw [← eA]; unfold mAR2; (first | rw [if_pos (by omega)] | rw [if_neg (by omega), if_pos (by omega)] | rw [if_neg (by omega), if_neg (by omega), if_pos (by omega)] | rw [if_neg (by omega), if_neg (by omega), if_neg (by omega)])); rw [eV, eR]; exact ⟨rfl, M1⟩)
          · refine g_aload_n C dX3_answers_311 1 rfl ?_
            refine g_iconst C dX3_answers_312 ?_
            refine g_bipush C dX3_answers_313 (by decide) ?_
            refine g_callV C dX3_answers_315 lkX3_263 M1.o rfl (As := [.int (iI 4), .int (iI (-2))]) (c_X3_ends M1 4 (-2) hoA (show ρ 1 ≠ -2 from by omega) (by omega) (by omega) (by omega)) rfl rfl ⟨Nat.le_of_ble_eq_true rfl, Nat.le_of_ble_eq_true rfl⟩ (Nat.le_of_ble_eq_true rfl) ?_
            rintro _ h9 ⟨rfl, M10⟩
            obtain ⟨r11, er12⟩ : ∃ z, z = mEndR ((g 6)) ((ρ)) 4 (-2) := ⟨_, rfl⟩
            have M13 : mSt G h0 h9 m ad f (va_up g 18 r11) := mSt.uu M10 er12.symm
            have hO14 : mOk (g 6) r11 := by rw [er12]; exact mEndR_ok hoA (by omega) (by omega) (by omega) (by omega)
            have hn15 := hO14.2.2.1
            have hs16 := hO14.2.2.2.2.1
            show gW X h9 0 0 318 [(3, .int (iI (g 18 3))), (0, .ref m), (1, .int (iI (gb heard))), (2, .int (iI (gb logged))), (4, .int (iI (gb asc)))] [.int (iI (mEndV (g 6) (ρ) 4 (-2)))]
            refine g_goto C dX3_answers_318 (tgt := 322) (by decide) ?_
            refine g_iret C E dX3_answers_322 rfl ?_
            first | (exfalso; clear hOn hAl; omega) | (have eV : mAnsV (g 6) (g 18) heard logged = mEndV (g 6) (ρ) 4 (-2) := (by unfold mAnsV; rw [← eA]; unfold mAV2; (first | rw [if_pos (by omega)] | rw [if_neg (by omega), if_pos (by omega)] | rw [if_neg (by omega), if_neg (by omega), if_pos (by omega)] | rw [if_neg (by omega), if_neg (by omega), if_neg (by omega)])); have eR : mAnsR (g 6) (g 18) heard logged = r11 := (by unfold mAnsR; rw [← eA]; unfold mAR2; (first | rw [if_pos (by omega)] | rw [if_neg (by omega), if_pos (by omega)] | rw [if_neg (by omega), if_neg (by omega), if_pos (by omega)] | rw [if_neg (by omega), if_neg (by omega), if_neg (by omega)]); exact er12.symm); rw [eV, eR]; exact ⟨rfl, M13⟩)
        · refine g_aload_n C dX3_answers_265 1 rfl ?_
          refine g_get C dX3_answers_266 kcX3 18 q1481 (fun _ _ _ _ h9 => h9) M1.o (Nat.le_of_ble_eq_true rfl) rfl ?_
          refine g_bipush C dX3_answers_269 (by decide) ?_
          refine g_iconst C dX3_answers_271 ?_
          refine g_callS C dX3_answers_272 lkX3_260 (As := [.int (iI 24), .int (iI 2)]) (c_X3_countAt 24 2) rfl rfl ⟨Nat.le_of_ble_eq_true rfl, Nat.le_of_ble_eq_true rfl⟩ (Nat.le_of_ble_eq_true rfl) ?_
          rintro _ _ ⟨rfl, rfl⟩
          refine g_iald C dX3_answers_275 (v := (ρ) (12 + 4 * 24 + 2)) M1.a18 (by decide) (by omega) (by omega) rfl ?_
          refine g_aload_n C dX3_answers_276 1 rfl ?_
          refine g_get C dX3_answers_277 kcX3 18 q1481 (fun _ _ _ _ h9 => h9) M1.o (Nat.le_of_ble_eq_true rfl) rfl ?_
          refine g_bipush C dX3_answers_280 (by decide) ?_
          refine g_iconst C dX3_answers_282 ?_
          refine g_callS C dX3_answers_283 lkX3_260 (As := [.int (iI 24), .int (iI 3)]) (c_X3_countAt 24 3) rfl rfl ⟨Nat.le_of_ble_eq_true rfl, Nat.le_of_ble_eq_true rfl⟩ (Nat.le_of_ble_eq_true rfl) ?_
          rintro _ _ ⟨rfl, rfl⟩
          refine g_iald C dX3_answers_286 (v := (ρ) (12 + 4 * 24 + 3)) M1.a18 (by decide) (by omega) (by omega) rfl ?_
          refine g_isub C dX3_answers_287 (v := (ρ) (12 + 4 * 24 + 2) - ((ρ) (12 + 4 * 24 + 3))) rfl ?_
          rw [show iI ((ρ) (12 + 4 * 24 + 2) - ((ρ) (12 + 4 * 24 + 3))) = iI (iW ((ρ) (12 + 4 * 24 + 2) - ((ρ) (12 + 4 * 24 + 3)))) from (iI_W _).symm]
          refine g_iconst C dX3_answers_288 ?_
          refine g_icmp_ne C dX3_answers_289 (tgt := 299) (by decide) (gR_W _) (gRo (by decide) (by decide)) (fun c289 => ?_) (fun c289 => ?_)
          · refine g_aload_n C dX3_answers_299 1 rfl ?_
            refine g_get C dX3_answers_300 kcX3 18 q1481 (fun _ _ _ _ h9 => h9) M1.o (Nat.le_of_ble_eq_true rfl) rfl ?_
            refine g_bipush C dX3_answers_303 (by decide) ?_
            refine g_iald C dX3_answers_305 (v := (ρ) 6) M1.a18 (by decide) (by decide) (by decide) rfl ?_
            refine g_bipush C dX3_answers_306 (by decide) ?_
            refine g_icmp_ne C dX3_answers_308 (tgt := 321) (by decide) (hoA.2.1 _) (gRo (by decide) (by decide)) (fun c308 => ?_) (fun c308 => ?_)
            · refine g_iconst C dX3_answers_321 ?_
              refine g_iret C E dX3_answers_322 rfl ?_
              first | (exfalso; clear hOn hAl; omega) | (have eV : mAnsV (g 6) (g 18) heard logged = 0 := (by unfold mAnsV; rw [← eA]; unfold mAV2; (first | rw [if_pos (by omega)] | rw [if_neg (by omega), if_pos (by omega)] | rw [if_neg (by omega), if_neg (by omega), if_pos (by omega)] | rw [if_neg (by omega), if_neg (by omega), if_neg (by omega)])); have eR : mAnsR (g 6) (g 18) heard logged = ρ := (by unfold mAnsR; rw [← eA]; unfold mAR2; (first | rw [if_pos (by omega)] | rw [if_neg (by omega), if_pos (by omega)] | rw [if_neg (by omega), if_neg (by omega), if_pos (by omega)] | rw [if_neg (by omega), if_neg (by omega), if_neg (by omega)])); rw [eV, eR]; exact ⟨rfl, M1⟩)
            · refine g_aload_n C dX3_answers_311 1 rfl ?_
              refine g_iconst C dX3_answers_312 ?_
              refine g_bipush C dX3_answers_313 (by decide) ?_
              refine g_callV C dX3_answers_315 lkX3_263 M1.o rfl (As := [.int (iI 4), .int (iI (-2))]) (c_X3_ends M1 4 (-2) hoA (show ρ 1 ≠ -2 from by omega) (by omega) (by omega) (by omega)) rfl rfl ⟨Nat.le_of_ble_eq_true rfl, Nat.le_of_ble_eq_true rfl⟩ (Nat.le_of_ble_eq_true rfl) ?_
              rintro _ h17 ⟨rfl, M18⟩
              obtain ⟨r19, er20⟩ : ∃ z, z = mEndR ((g 6)) ((ρ)) 4 (-2) := ⟨_, rfl⟩
              have M21 : mSt G h0 h17 m ad f (va_up g 18 r19) := mSt.uu M18 er20.symm
              have hO22 : mOk (g 6) r19 := by rw [er20]; exact mEndR_ok hoA (by omega) (by omega) (by omega) (by omega)
              have hn23 := hO22.2.2.1
              have hs24 := hO22.2.2.2.2.1
              show gW X h17 0 0 318 [(3, .int (iI (g 18 3))), (0, .ref m), (1, .int (iI (gb heard))), (2, .int (iI (gb logged))), (4, .int (iI (gb asc)))] [.int (iI (mEndV (g 6) (ρ) 4 (-2)))]
              refine g_goto C dX3_answers_318 (tgt := 322) (by decide) ?_
              refine g_iret C E dX3_answers_322 rfl ?_
              first | (exfalso; clear hOn hAl; omega) | (have eV : mAnsV (g 6) (g 18) heard logged = mEndV (g 6) (ρ) 4 (-2) := (by unfold mAnsV; rw [← eA]; unfold mAV2; (first | rw [if_pos (by omega)] | rw [if_neg (by omega), if_pos (by omega)] | rw [if_neg (by omega), if_neg (by omega), if_pos (by omega)] | rw [if_neg (by omega), if_neg (by omega), if_neg (by omega)])); have eR : mAnsR (g 6) (g 18) heard logged = r19 := (by unfold mAnsR; rw [← eA]; unfold mAR2; (first | rw [if_pos (by omega)] | rw [if_neg (by omega), if_pos (by omega)] | rw [if_neg (by omega), if_neg (by omega), if_pos (by omega)] | rw [if_neg (by omega), if_neg (by omega), if_neg (by omega)]); exact er20.symm); rw [eV, eR]; exact ⟨rfl, M21⟩)
          · refine g_aload_n C dX3_answers_292 1 rfl ?_
            refine g_bipush C dX3_answers_293 (by decide) ?_
            refine g_callV C dX3_answers_295 lkX3_273 M1.o rfl (As := [.int (iI 25)]) (c_X3_comesTo M1 25 hoA (show ρ 1 ≠ -2 from by omega) (by omega)) rfl rfl ⟨Nat.le_of_ble_eq_true rfl, Nat.le_of_ble_eq_true rfl⟩ (Nat.le_of_ble_eq_true rfl) ?_
            rintro _ h25 ⟨rfl, M26⟩
            obtain ⟨r27, er28⟩ : ∃ z, z = mCmR ((g 6)) ((ρ)) 25 := ⟨_, rfl⟩
            have M29 : mSt G h0 h25 m ad f (va_up g 18 r27) := mSt.uu M26 er28.symm
            have hO30 : mOk (g 6) r27 := by rw [er28]; exact mCmR_ok hoA (by omega) (by omega)
            have hn31 := hO30.2.2.1
            have hs32 := hO30.2.2.2.2.1
            show gW X h25 0 0 298 [(3, .int (iI (g 18 3))), (0, .ref m), (1, .int (iI (gb heard))), (2, .int (iI (gb logged))), (4, .int (iI (gb asc)))] [.int (iI (mCmV (g 6) (ρ) 25))]
            refine g_iret C E dX3_answers_298 rfl ?_
            first | (exfalso; clear hOn hAl; omega) | (have eV : mAnsV (g 6) (g 18) heard logged = mCmV (g 6) (ρ) 25 := (by unfold mAnsV; rw [← eA]; unfold mAV2; (first | rw [if_pos (by omega)] | rw [if_neg (by omega), if_pos (by omega)] | rw [if_neg (by omega), if_neg (by omega), if_pos (by omega)] | rw [if_neg (by omega), if_neg (by omega), if_neg (by omega)])); have eR : mAnsR (g 6) (g 18) heard logged = r27 := (by unfold mAnsR; rw [← eA]; unfold mAR2; (first | rw [if_pos (by omega)] | rw [if_neg (by omega), if_pos (by omega)] | rw [if_neg (by omega), if_neg (by omega), if_pos (by omega)] | rw [if_neg (by omega), if_neg (by omega), if_neg (by omega)]); exact er28.symm); rw [eV, eR]; exact ⟨rfl, M29⟩)
      · refine g_aload_n C dX3_answers_239 1 rfl ?_
        refine g_get C dX3_answers_240 kcX3 18 q1481 (fun _ _ _ _ h9 => h9) M1.o (Nat.le_of_ble_eq_true rfl) rfl ?_
        refine g_iconst C dX3_answers_243 ?_
        refine g_iconst C dX3_answers_244 ?_
        refine g_callS C dX3_answers_245 lkX3_260 (As := [.int (iI 0), .int (iI 3)]) (c_X3_countAt 0 3) rfl rfl ⟨Nat.le_of_ble_eq_true rfl, Nat.le_of_ble_eq_true rfl⟩ (Nat.le_of_ble_eq_true rfl) ?_
        rintro _ _ ⟨rfl, rfl⟩
        refine g_iald C dX3_answers_248 (v := (ρ) (12 + 4 * 0 + 3)) M1.a18 (by decide) (by omega) (by omega) rfl ?_
        refine g_iconst C dX3_answers_249 ?_
        refine g_icmp_ne C dX3_answers_250 (tgt := 259) (by decide) (hoA.2.1 _) (gRo (by decide) (by decide)) (fun c250 => ?_) (fun c250 => ?_)
        · refine g_iload_n C dX3_answers_259 0 rfl ?_
          refine g_bipush C dX3_answers_260 (by decide) ?_
          refine g_icmp_ne C dX3_answers_262 (tgt := 299) (by decide) (gRo (by omega) (by omega)) (gRo (by decide) (by decide)) (fun c262 => ?_) (fun c262 => ?_)
          · refine g_aload_n C dX3_answers_299 1 rfl ?_
            refine g_get C dX3_answers_300 kcX3 18 q1481 (fun _ _ _ _ h9 => h9) M1.o (Nat.le_of_ble_eq_true rfl) rfl ?_
            refine g_bipush C dX3_answers_303 (by decide) ?_
            refine g_iald C dX3_answers_305 (v := (ρ) 6) M1.a18 (by decide) (by decide) (by decide) rfl ?_
            refine g_bipush C dX3_answers_306 (by decide) ?_
            refine g_icmp_ne C dX3_answers_308 (tgt := 321) (by decide) (hoA.2.1 _) (gRo (by decide) (by decide)) (fun c308 => ?_) (fun c308 => ?_)
            · refine g_iconst C dX3_answers_321 ?_
              refine g_iret C E dX3_answers_322 rfl ?_
              first | (exfalso; clear hOn hAl; omega) | (have eV : mAnsV (g 6) (g 18) heard logged = 0 := (by unfold mAnsV; rw [← eA]; unfold mAV2; (first | rw [if_pos (by omega)] | rw [if_neg (by omega), if_pos (by omega)] | rw [if_neg (by omega), if_neg (by omega), if_pos (by omega)] | rw [if_neg (by omega), if_neg (by omega), if_neg (by omega)])); have eR : mAnsR (g 6) (g 18) heard logged = ρ := (by unfold mAnsR; rw [← eA]; unfold mAR2; (first | rw [if_pos (by omega)] | rw [if_neg (by omega), if_pos (by omega)] | rw [if_neg (by omega), if_neg (by omega), if_pos (by omega)] | rw [if_neg (by omega), if_neg (by omega), if_neg (by omega)])); rw [eV, eR]; exact ⟨rfl, M1⟩)
            · refine g_aload_n C dX3_answers_311 1 rfl ?_
              refine g_iconst C dX3_answers_312 ?_
              refine g_bipush C dX3_answers_313 (by decide) ?_
              refine g_callV C dX3_answers_315 lkX3_263 M1.o rfl (As := [.int (iI 4), .int (iI (-2))]) (c_X3_ends M1 4 (-2) hoA (show ρ 1 ≠ -2 from by omega) (by omega) (by omega) (by omega)) rfl rfl ⟨Nat.le_of_ble_eq_true rfl, Nat.le_of_ble_eq_true rfl⟩ (Nat.le_of_ble_eq_true rfl) ?_
              rintro _ h33 ⟨rfl, M34⟩
              obtain ⟨r35, er36⟩ : ∃ z, z = mEndR ((g 6)) ((ρ)) 4 (-2) := ⟨_, rfl⟩
              have M37 : mSt G h0 h33 m ad f (va_up g 18 r35) := mSt.uu M34 er36.symm
              have hO38 : mOk (g 6) r35 := by rw [er36]; exact mEndR_ok hoA (by omega) (by omega) (by omega) (by omega)
              have hn39 := hO38.2.2.1
              have hs40 := hO38.2.2.2.2.1
              show gW X h33 0 0 318 [(3, .int (iI (g 18 3))), (0, .ref m), (1, .int (iI (gb heard))), (2, .int (iI (gb logged))), (4, .int (iI (gb asc)))] [.int (iI (mEndV (g 6) (ρ) 4 (-2)))]
              refine g_goto C dX3_answers_318 (tgt := 322) (by decide) ?_
              refine g_iret C E dX3_answers_322 rfl ?_
              first | (exfalso; clear hOn hAl; omega) | (have eV : mAnsV (g 6) (g 18) heard logged = mEndV (g 6) (ρ) 4 (-2) := (by unfold mAnsV; rw [← eA]; unfold mAV2; (first | rw [if_pos (by omega)] | rw [if_neg (by omega), if_pos (by omega)] | rw [if_neg (by omega), if_neg (by omega), if_pos (by omega)] | rw [if_neg (by omega), if_neg (by omega), if_neg (by omega)])); have eR : mAnsR (g 6) (g 18) heard logged = r35 := (by unfold mAnsR; rw [← eA]; unfold mAR2; (first | rw [if_pos (by omega)] | rw [if_neg (by omega), if_pos (by omega)] | rw [if_neg (by omega), if_neg (by omega), if_pos (by omega)] | rw [if_neg (by omega), if_neg (by omega), if_neg (by omega)]); exact er36.symm); rw [eV, eR]; exact ⟨rfl, M37⟩)
          · refine g_aload_n C dX3_answers_265 1 rfl ?_
            refine g_get C dX3_answers_266 kcX3 18 q1481 (fun _ _ _ _ h9 => h9) M1.o (Nat.le_of_ble_eq_true rfl) rfl ?_
            refine g_bipush C dX3_answers_269 (by decide) ?_
            refine g_iconst C dX3_answers_271 ?_
            refine g_callS C dX3_answers_272 lkX3_260 (As := [.int (iI 24), .int (iI 2)]) (c_X3_countAt 24 2) rfl rfl ⟨Nat.le_of_ble_eq_true rfl, Nat.le_of_ble_eq_true rfl⟩ (Nat.le_of_ble_eq_true rfl) ?_
            rintro _ _ ⟨rfl, rfl⟩
            refine g_iald C dX3_answers_275 (v := (ρ) (12 + 4 * 24 + 2)) M1.a18 (by decide) (by omega) (by omega) rfl ?_
            refine g_aload_n C dX3_answers_276 1 rfl ?_
            refine g_get C dX3_answers_277 kcX3 18 q1481 (fun _ _ _ _ h9 => h9) M1.o (Nat.le_of_ble_eq_true rfl) rfl ?_
            refine g_bipush C dX3_answers_280 (by decide) ?_
            refine g_iconst C dX3_answers_282 ?_
            refine g_callS C dX3_answers_283 lkX3_260 (As := [.int (iI 24), .int (iI 3)]) (c_X3_countAt 24 3) rfl rfl ⟨Nat.le_of_ble_eq_true rfl, Nat.le_of_ble_eq_true rfl⟩ (Nat.le_of_ble_eq_true rfl) ?_
            rintro _ _ ⟨rfl, rfl⟩
            refine g_iald C dX3_answers_286 (v := (ρ) (12 + 4 * 24 + 3)) M1.a18 (by decide) (by omega) (by omega) rfl ?_
            refine g_isub C dX3_answers_287 (v := (ρ) (12 + 4 * 24 + 2) - ((ρ) (12 + 4 * 24 + 3))) rfl ?_
            rw [show iI ((ρ) (12 + 4 * 24 + 2) - ((ρ) (12 + 4 * 24 + 3))) = iI (iW ((ρ) (12 + 4 * 24 + 2) - ((ρ) (12 + 4 * 24 + 3)))) from (iI_W _).symm]
            refine g_iconst C dX3_answers_288 ?_
            refine g_icmp_ne C dX3_answers_289 (tgt := 299) (by decide) (gR_W _) (gRo (by decide) (by decide)) (fun c289 => ?_) (fun c289 => ?_)
            · refine g_aload_n C dX3_answers_299 1 rfl ?_
              refine g_get C dX3_answers_300 kcX3 18 q1481 (fun _ _ _ _ h9 => h9) M1.o (Nat.le_of_ble_eq_true rfl) rfl ?_
              refine g_bipush C dX3_answers_303 (by decide) ?_
              refine g_iald C dX3_answers_305 (v := (ρ) 6) M1.a18 (by decide) (by decide) (by decide) rfl ?_
              refine g_bipush C dX3_answers_306 (by decide) ?_
              refine g_icmp_ne C dX3_answers_308 (tgt := 321) (by decide) (hoA.2.1 _) (gRo (by decide) (by decide)) (fun c308 => ?_) (fun c308 => ?_)
              · refine g_iconst C dX3_answers_321 ?_
                refine g_iret C E dX3_answers_322 rfl ?_
                first | (exfalso; clear hOn hAl; omega) | (have eV : mAnsV (g 6) (g 18) heard logged = 0 := (by unfold mAnsV; rw [← eA]; unfold mAV2; (first | rw [if_pos (by omega)] | rw [if_neg (by omega), if_pos (by omega)] | rw [if_neg (by omega), if_neg (by omega), if_pos (by omega)] | rw [if_neg (by omega), if_neg (by omega), if_neg (by omega)])); have eR : mAnsR (g 6) (g 18) heard logged = ρ := (by unfold mAnsR; rw [← eA]; unfold mAR2; (first | rw [if_pos (by omega)] | rw [if_neg (by omega), if_pos (by omega)] | rw [if_neg (by omega), if_neg (by omega), if_pos (by omega)] | rw [if_neg (by omega), if_neg (by omega), if_neg (by omega)])); rw [eV, eR]; exact ⟨rfl, M1⟩)
              · refine g_aload_n C dX3_answers_311 1 rfl ?_
                refine g_iconst C dX3_answers_312 ?_
                refine g_bipush C dX3_answers_313 (by decide) ?_
                refine g_callV C dX3_answers_315 lkX3_263 M1.o rfl (As := [.int (iI 4), .int (iI (-2))]) (c_X3_ends M1 4 (-2) hoA (show ρ 1 ≠ -2 from by omega) (by omega) (by omega) (by omega)) rfl rfl ⟨Nat.le_of_ble_eq_true rfl, Nat.le_of_ble_eq_true rfl⟩ (Nat.le_of_ble_eq_true rfl) ?_
                rintro _ h41 ⟨rfl, M42⟩
                obtain ⟨r43, er44⟩ : ∃ z, z = mEndR ((g 6)) ((ρ)) 4 (-2) := ⟨_, rfl⟩
                have M45 : mSt G h0 h41 m ad f (va_up g 18 r43) := mSt.uu M42 er44.symm
                have hO46 : mOk (g 6) r43 := by rw [er44]; exact mEndR_ok hoA (by omega) (by omega) (by omega) (by omega)
                have hn47 := hO46.2.2.1
                have hs48 := hO46.2.2.2.2.1
                show gW X h41 0 0 318 [(3, .int (iI (g 18 3))), (0, .ref m), (1, .int (iI (gb heard))), (2, .int (iI (gb logged))), (4, .int (iI (gb asc)))] [.int (iI (mEndV (g 6) (ρ) 4 (-2)))]
                refine g_goto C dX3_answers_318 (tgt := 322) (by decide) ?_
                refine g_iret C E dX3_answers_322 rfl ?_
                first | (exfalso; clear hOn hAl; omega) | (have eV : mAnsV (g 6) (g 18) heard logged = mEndV (g 6) (ρ) 4 (-2) := (by unfold mAnsV; rw [← eA]; unfold mAV2; (first | rw [if_pos (by omega)] | rw [if_neg (by omega), if_pos (by omega)] | rw [if_neg (by omega), if_neg (by omega), if_pos (by omega)] | rw [if_neg (by omega), if_neg (by omega), if_neg (by omega)])); have eR : mAnsR (g 6) (g 18) heard logged = r43 := (by unfold mAnsR; rw [← eA]; unfold mAR2; (first | rw [if_pos (by omega)] | rw [if_neg (by omega), if_pos (by omega)] | rw [if_neg (by omega), if_neg (by omega), if_pos (by omega)] | rw [if_neg (by omega), if_neg (by omega), if_neg (by omega)]); exact er44.symm); rw [eV, eR]; exact ⟨rfl, M45⟩)
            · refine g_aload_n C dX3_answers_292 1 rfl ?_
              refine g_bipush C dX3_answers_293 (by decide) ?_
              refine g_callV C dX3_answers_295 lkX3_273 M1.o rfl (As := [.int (iI 25)]) (c_X3_comesTo M1 25 hoA (show ρ 1 ≠ -2 from by omega) (by omega)) rfl rfl ⟨Nat.le_of_ble_eq_true rfl, Nat.le_of_ble_eq_true rfl⟩ (Nat.le_of_ble_eq_true rfl) ?_
              rintro _ h49 ⟨rfl, M50⟩
              obtain ⟨r51, er52⟩ : ∃ z, z = mCmR ((g 6)) ((ρ)) 25 := ⟨_, rfl⟩
              have M53 : mSt G h0 h49 m ad f (va_up g 18 r51) := mSt.uu M50 er52.symm
              have hO54 : mOk (g 6) r51 := by rw [er52]; exact mCmR_ok hoA (by omega) (by omega)
              have hn55 := hO54.2.2.1
              have hs56 := hO54.2.2.2.2.1
              show gW X h49 0 0 298 [(3, .int (iI (g 18 3))), (0, .ref m), (1, .int (iI (gb heard))), (2, .int (iI (gb logged))), (4, .int (iI (gb asc)))] [.int (iI (mCmV (g 6) (ρ) 25))]
              refine g_iret C E dX3_answers_298 rfl ?_
              first | (exfalso; clear hOn hAl; omega) | (have eV : mAnsV (g 6) (g 18) heard logged = mCmV (g 6) (ρ) 25 := (by unfold mAnsV; rw [← eA]; unfold mAV2; (first | rw [if_pos (by omega)] | rw [if_neg (by omega), if_pos (by omega)] | rw [if_neg (by omega), if_neg (by omega), if_pos (by omega)] | rw [if_neg (by omega), if_neg (by omega), if_neg (by omega)])); have eR : mAnsR (g 6) (g 18) heard logged = r51 := (by unfold mAnsR; rw [← eA]; unfold mAR2; (first | rw [if_pos (by omega)] | rw [if_neg (by omega), if_pos (by omega)] | rw [if_neg (by omega), if_neg (by omega), if_pos (by omega)] | rw [if_neg (by omega), if_neg (by omega), if_neg (by omega)]); exact er52.symm); rw [eV, eR]; exact ⟨rfl, M53⟩)
        · refine g_aload_n C dX3_answers_253 1 rfl ?_
          refine g_iload_n C dX3_answers_254 0 rfl ?_
          refine g_callV C dX3_answers_255 lkX3_273 M1.o rfl (As := [.int (iI (g 18 3))]) (c_X3_comesTo M1 (g 18 3) hoA (show ρ 1 ≠ -2 from by omega) (by omega)) rfl rfl ⟨Nat.le_of_ble_eq_true rfl, Nat.le_of_ble_eq_true rfl⟩ (Nat.le_of_ble_eq_true rfl) ?_
          rintro _ h57 ⟨rfl, M58⟩
          obtain ⟨r59, er60⟩ : ∃ z, z = mCmR ((g 6)) ((ρ)) (g 18 3) := ⟨_, rfl⟩
          have M61 : mSt G h0 h57 m ad f (va_up g 18 r59) := mSt.uu M58 er60.symm
          have hO62 : mOk (g 6) r59 := by rw [er60]; exact mCmR_ok hoA (by omega) (by omega)
          have hn63 := hO62.2.2.1
          have hs64 := hO62.2.2.2.2.1
          show gW X h57 0 0 258 [(3, .int (iI (g 18 3))), (0, .ref m), (1, .int (iI (gb heard))), (2, .int (iI (gb logged))), (4, .int (iI (gb asc)))] [.int (iI (mCmV (g 6) (ρ) (g 18 3)))]
          refine g_iret C E dX3_answers_258 rfl ?_
          have eV : mAnsV (g 6) (g 18) heard logged = mCmV (g 6) (ρ) (g 18 3) := (by unfold mAnsV; rw [← eA]; unfold mAV2; (first | rw [if_pos (by omega)] | rw [if_neg (by omega), if_pos (by omega)] | rw [if_neg (by omega), if_neg (by omega), if_pos (by omega)] | rw [if_neg (by omega), if_neg (by omega), if_neg (by omega)]))
          have eR : mAnsR (g 6) (g 18) heard logged = r59 := (by unfold mAnsR; rw [← eA]; unfold mAR2; (first | rw [if_pos (by omega)] | rw [if_neg (by omega), if_pos (by omega)] | rw [if_neg (by omega), if_neg (by omega), if_pos (by omega)] | rw [if_neg (by omega), if_neg (by omega), if_neg (by omega)]); exact er60.symm)
          rw [eV, eR]
          exact ⟨rfl, M61⟩
  have J34 : ∀ (asc : Bool) (ea : asc = mAsc (g 18)), gW X h 0 0 34 [(4, .int (iI (gb asc))), (3, .int (iI (g 18 3))), (0, .ref m), (1, .int (iI (gb heard))), (2, .int (iI (gb logged)))] [] := by
    intro asc ea
    have J88 : ∀ (ρ : Int → Int) (h1 : gH) (M1 : mSt G h0 h1 m ad f (va_up g 18 ρ)) (eb : ρ = mAb (g 18) heard logged asc), gW X h1 0 0 88 [(4, .int (iI (gb asc))), (3, .int (iI (g 18 3))), (0, .ref m), (1, .int (iI (gb heard))), (2, .int (iI (gb logged)))] [] := by
      intro ρ h1 M1 eb
      have hob : mOk (g 6) ρ := by rw [eb]; exact mAb_ok hO hon h6 _ _ _
      have hbl : ρ (12 + 4 * g 18 3 + 1) = g 18 (12 + 4 * g 18 3 + 1) := by rw [eb]; exact mAb_n hO hon (by omega) (by omega) (by omega) (by omega) (by omega)
      cases heard
      · cases asc
        · refine g_aload_n C dX3_answers_88 2 rfl ?_
          refine g_get C dX3_answers_89 kcX3 18 q1481 (fun _ _ _ _ h9 => h9) M1.o (Nat.le_of_ble_eq_true rfl) rfl ?_
          refine g_iload_n C dX3_answers_92 1 rfl ?_
          refine g_iconst C dX3_answers_93 ?_
          refine g_callS C dX3_answers_94 lkX3_260 (As := [.int (iI (g 18 3)), .int (iI 2)]) (c_X3_countAt (g 18 3) 2) rfl rfl ⟨Nat.le_of_ble_eq_true rfl, Nat.le_of_ble_eq_true rfl⟩ (Nat.le_of_ble_eq_true rfl) ?_
          rintro _ _ ⟨rfl, rfl⟩
          refine g_dup2 C dX3_answers_97 rfl rfl ?_
          refine g_iald C dX3_answers_98 (v := (ρ) (12 + 4 * (g 18 3) + 2)) M1.a18 (by decide) (by omega) (by omega) rfl ?_
          refine g_iconst C dX3_answers_99 ?_
          refine g_iadd C dX3_answers_100 (v := (ρ) (12 + 4 * (g 18 3) + 2) + 1) rfl ?_
          rw [show iI ((ρ) (12 + 4 * (g 18 3) + 2) + 1) = iI (iW ((ρ) (12 + 4 * (g 18 3) + 2) + 1)) from (iI_W _).symm]
          obtain ⟨r65, er66⟩ : ∃ z, z = iUp (ρ) (12 + 4 * (g 18 3) + 2) (iW ((ρ) (12 + 4 * (g 18 3) + 2) + 1)) := ⟨_, rfl⟩
          refine g_iast C dX3_answers_101 M1.a18 (by decide) (by omega) (by omega) er66.symm (fun h67 hh68 => ?_)
          have hr69 : mR0 r65 := by rw [er66]; exact mR0.up (hob.2.1) (gR_W _)
          have M70 : mSt G h0 h67 m ad f (va_up g 18 r65) := mSt.uu (M1.st18 hh68) rfl
          refine g_aload_n C dX3_answers_102 2 rfl ?_
          refine g_get C dX3_answers_103 kcX3 18 q1481 (fun _ _ _ _ h9 => h9) M70.o (Nat.le_of_ble_eq_true rfl) rfl ?_
          refine g_iload_n C dX3_answers_106 1 rfl ?_
          refine g_iconst C dX3_answers_107 ?_
          refine g_callS C dX3_answers_108 lkX3_260 (As := [.int (iI (g 18 3)), .int (iI 3)]) (c_X3_countAt (g 18 3) 3) rfl rfl ⟨Nat.le_of_ble_eq_true rfl, Nat.le_of_ble_eq_true rfl⟩ (Nat.le_of_ble_eq_true rfl) ?_
          rintro _ _ ⟨rfl, rfl⟩
          refine g_dup2 C dX3_answers_111 rfl rfl ?_
          refine g_iald C dX3_answers_112 (v := (ρ) (12 + 4 * (g 18 3) + 3)) M70.a18 (by decide) (by omega) (by omega) (by show r65 (12 + 4 * (g 18 3) + 3) = _; rw [er66, iUp_n (by omega)]) ?_
          refine g_iload_n C dX3_answers_113 3 rfl ?_
          refine g_ifF C dX3_answers_114 (tgt := 121) (by decide) (fun q => ?_) (fun q => absurd q (by decide))
          refine g_iconst C dX3_answers_121 ?_
          refine g_iadd C dX3_answers_122 (v := (ρ) (12 + 4 * (g 18 3) + 3) + 0) rfl ?_
          rw [show iI ((ρ) (12 + 4 * (g 18 3) + 3) + 0) = iI (iW ((ρ) (12 + 4 * (g 18 3) + 3) + 0)) from (iI_W _).symm]
          obtain ⟨r71, er72⟩ : ∃ z, z = iUp r65 (12 + 4 * (g 18 3) + 3) (iW ((ρ) (12 + 4 * (g 18 3) + 3) + 0)) := ⟨_, rfl⟩
          refine g_iast C dX3_answers_123 M70.a18 (by decide) (by omega) (by omega) er72.symm (fun h73 hh74 => ?_)
          have hr75 : mR0 r71 := by rw [er72]; exact mR0.up (hr69) (gR_W _)
          have M76 : mSt G h0 h73 m ad f (va_up g 18 r71) := mSt.uu (M70.st18 hh74) rfl
          have eS77 : r71 = mAc (mAb (g 18) false logged false) (g 18 3) false := by rw [er72, er66, eb]; rfl
          have hcl : r71 (12 + 4 * g 18 3 + 1) = g 18 (12 + 4 * g 18 3 + 1) := by rw [er72, er66, iUp_n (by omega), iUp_n (by omega)]; exact hbl
          have hlc := hC (g 18 3) (by omega) (by omega)
          refine g_iload C dX3_answers_124 0 rfl ?_
          refine g_ifF C dX3_answers_126 (tgt := 178) (by decide) (fun q => ?_) (fun q => absurd q (by decide))
          have eS78 : r71 = mAd (mAc (mAb (g 18) false logged false) (g 18 3) false) (g 18 3) false false := by unfold mAd; rw [if_neg (by decide)]; exact eS77
          refine g_aload_n C dX3_answers_178 2 rfl ?_
          refine g_get C dX3_answers_179 kcX3 18 q1481 (fun _ _ _ _ h9 => h9) M76.o (Nat.le_of_ble_eq_true rfl) rfl ?_
          refine g_iconst C dX3_answers_182 ?_
          refine g_iload_n C dX3_answers_183 1 rfl ?_
          obtain ⟨r79, er80⟩ : ∃ z, z = iUp r71 4 (g 18 3) := ⟨_, rfl⟩
          refine g_iast C dX3_answers_184 M76.a18 (by decide) (by decide) (by decide) er80.symm (fun h81 hh82 => ?_)
          have hr83 : mR0 r79 := by rw [er80]; exact mR0.up (hr75) (gRo (by omega) (by omega))
          have M84 : mSt G h0 h81 m ad f (va_up g 18 r79) := mSt.uu (M76.st18 hh82) rfl
          refine g_aload_n C dX3_answers_185 2 rfl ?_
          refine g_get C dX3_answers_186 kcX3 18 q1481 (fun _ _ _ _ h9 => h9) M84.o (Nat.le_of_ble_eq_true rfl) rfl ?_
          refine g_iconst C dX3_answers_189 ?_
          refine g_iload_n C dX3_answers_190 3 rfl ?_
          refine g_ifF C dX3_answers_191 (tgt := 209) (by decide) (fun q => ?_) (fun q => absurd q (by decide))
          refine g_bipush C dX3_answers_209 (by decide) ?_
          refine g_iload_n C dX3_answers_211 1 rfl ?_
          refine g_iconst C dX3_answers_212 ?_
          refine g_iadd C dX3_answers_213 (v := g 18 3 + 1) rfl ?_
          refine g_callS C dX3_answers_214 lkX3_238 (As := [.int (iI 24), .int (iI (g 18 3 + 1))]) (c_X3_lesser 24 (g 18 3 + 1) (by decide) (by decide) (by omega) (by omega)) rfl rfl ⟨Nat.le_of_ble_eq_true rfl, Nat.le_of_ble_eq_true rfl⟩ (Nat.le_of_ble_eq_true rfl) ?_
          rintro _ _ ⟨rfl, rfl⟩
          obtain ⟨r85, er86⟩ : ∃ z, z = iUp r79 3 (min 24 (g 18 3 + 1)) := ⟨_, rfl⟩
          refine g_iast C dX3_answers_217 M84.a18 (by decide) (by decide) (by decide) er86.symm (fun h87 hh88 => ?_)
          have hr89 : mR0 r85 := by rw [er86]; exact mR0.up (hr83) (gRo (by omega) (by omega))
          have M90 : mSt G h0 h87 m ad f (va_up g 18 r85) := mSt.uu (M84.st18 hh88) rfl
          have eA : r85 = mA1 (g 18) false logged := by unfold mA1 mAe; rw [← ea]; rw [er86, er80, eS78]; first | rfl | (unfold mNxL; first | (rw [if_pos rfl, if_pos (by omega)]) | (rw [if_pos rfl, if_neg (by omega)]))
          refine gW.loc [1, 2, 3, 4, 0] (lv' := [(3, .int (iI (g 18 3))), (0, .ref m), (1, .int (iI (gb false))), (2, .int (iI (gb logged))), (4, .int (iI (gb false)))]) rfl ?_
          exact J218 false r85 h87 M90 eA
        · refine g_aload_n C dX3_answers_88 2 rfl ?_
          refine g_get C dX3_answers_89 kcX3 18 q1481 (fun _ _ _ _ h9 => h9) M1.o (Nat.le_of_ble_eq_true rfl) rfl ?_
          refine g_iload_n C dX3_answers_92 1 rfl ?_
          refine g_iconst C dX3_answers_93 ?_
          refine g_callS C dX3_answers_94 lkX3_260 (As := [.int (iI (g 18 3)), .int (iI 2)]) (c_X3_countAt (g 18 3) 2) rfl rfl ⟨Nat.le_of_ble_eq_true rfl, Nat.le_of_ble_eq_true rfl⟩ (Nat.le_of_ble_eq_true rfl) ?_
          rintro _ _ ⟨rfl, rfl⟩
          refine g_dup2 C dX3_answers_97 rfl rfl ?_
          refine g_iald C dX3_answers_98 (v := (ρ) (12 + 4 * (g 18 3) + 2)) M1.a18 (by decide) (by omega) (by omega) rfl ?_
          refine g_iconst C dX3_answers_99 ?_
          refine g_iadd C dX3_answers_100 (v := (ρ) (12 + 4 * (g 18 3) + 2) + 1) rfl ?_
          rw [show iI ((ρ) (12 + 4 * (g 18 3) + 2) + 1) = iI (iW ((ρ) (12 + 4 * (g 18 3) + 2) + 1)) from (iI_W _).symm]
          obtain ⟨r91, er92⟩ : ∃ z, z = iUp (ρ) (12 + 4 * (g 18 3) + 2) (iW ((ρ) (12 + 4 * (g 18 3) + 2) + 1)) := ⟨_, rfl⟩
          refine g_iast C dX3_answers_101 M1.a18 (by decide) (by omega) (by omega) er92.symm (fun h93 hh94 => ?_)
          have hr95 : mR0 r91 := by rw [er92]; exact mR0.up (hob.2.1) (gR_W _)
          have M96 : mSt G h0 h93 m ad f (va_up g 18 r91) := mSt.uu (M1.st18 hh94) rfl
          refine g_aload_n C dX3_answers_102 2 rfl ?_
          refine g_get C dX3_answers_103 kcX3 18 q1481 (fun _ _ _ _ h9 => h9) M96.o (Nat.le_of_ble_eq_true rfl) rfl ?_
          refine g_iload_n C dX3_answers_106 1 rfl ?_
          refine g_iconst C dX3_answers_107 ?_
          refine g_callS C dX3_answers_108 lkX3_260 (As := [.int (iI (g 18 3)), .int (iI 3)]) (c_X3_countAt (g 18 3) 3) rfl rfl ⟨Nat.le_of_ble_eq_true rfl, Nat.le_of_ble_eq_true rfl⟩ (Nat.le_of_ble_eq_true rfl) ?_
          rintro _ _ ⟨rfl, rfl⟩
          refine g_dup2 C dX3_answers_111 rfl rfl ?_
          refine g_iald C dX3_answers_112 (v := (ρ) (12 + 4 * (g 18 3) + 3)) M96.a18 (by decide) (by omega) (by omega) (by show r91 (12 + 4 * (g 18 3) + 3) = _; rw [er92, iUp_n (by omega)]) ?_
          refine g_iload_n C dX3_answers_113 3 rfl ?_
          refine g_ifF C dX3_answers_114 (tgt := 121) (by decide) (fun q => ?_) (fun q => absurd q (by decide))
          refine g_iconst C dX3_answers_121 ?_
          refine g_iadd C dX3_answers_122 (v := (ρ) (12 + 4 * (g 18 3) + 3) + 0) rfl ?_
          rw [show iI ((ρ) (12 + 4 * (g 18 3) + 3) + 0) = iI (iW ((ρ) (12 + 4 * (g 18 3) + 3) + 0)) from (iI_W _).symm]
          obtain ⟨r97, er98⟩ : ∃ z, z = iUp r91 (12 + 4 * (g 18 3) + 3) (iW ((ρ) (12 + 4 * (g 18 3) + 3) + 0)) := ⟨_, rfl⟩
          refine g_iast C dX3_answers_123 M96.a18 (by decide) (by omega) (by omega) er98.symm (fun h99 hh100 => ?_)
          have hr101 : mR0 r97 := by rw [er98]; exact mR0.up (hr95) (gR_W _)
          have M102 : mSt G h0 h99 m ad f (va_up g 18 r97) := mSt.uu (M96.st18 hh100) rfl
          have eS103 : r97 = mAc (mAb (g 18) false logged true) (g 18 3) false := by rw [er98, er92, eb]; rfl
          have hcl : r97 (12 + 4 * g 18 3 + 1) = g 18 (12 + 4 * g 18 3 + 1) := by rw [er98, er92, iUp_n (by omega), iUp_n (by omega)]; exact hbl
          have hlc := hC (g 18 3) (by omega) (by omega)
          refine g_iload C dX3_answers_124 0 rfl ?_
          refine g_ifF C dX3_answers_126 (tgt := 178) (by decide) (fun q => absurd q (by decide)) (fun q => ?_)
          refine g_aload_n C dX3_answers_129 2 rfl ?_
          refine g_get C dX3_answers_130 kcX3 18 q1481 (fun _ _ _ _ h9 => h9) M102.o (Nat.le_of_ble_eq_true rfl) rfl ?_
          refine g_iload_n C dX3_answers_133 1 rfl ?_
          refine g_iconst C dX3_answers_134 ?_
          refine g_callS C dX3_answers_135 lkX3_260 (As := [.int (iI (g 18 3)), .int (iI 0)]) (c_X3_countAt (g 18 3) 0) rfl rfl ⟨Nat.le_of_ble_eq_true rfl, Nat.le_of_ble_eq_true rfl⟩ (Nat.le_of_ble_eq_true rfl) ?_
          rintro _ _ ⟨rfl, rfl⟩
          refine g_dup2 C dX3_answers_138 rfl rfl ?_
          refine g_iald C dX3_answers_139 (v := r97 (12 + 4 * (g 18 3) + 0)) M102.a18 (by decide) (by omega) (by omega) rfl ?_
          refine g_iconst C dX3_answers_140 ?_
          refine g_iadd C dX3_answers_141 (v := r97 (12 + 4 * (g 18 3) + 0) + 1) rfl ?_
          rw [show iI (r97 (12 + 4 * (g 18 3) + 0) + 1) = iI (iW (r97 (12 + 4 * (g 18 3) + 0) + 1)) from (iI_W _).symm]
          obtain ⟨r104, er105⟩ : ∃ z, z = iUp r97 (12 + 4 * (g 18 3) + 0) (iW (r97 (12 + 4 * (g 18 3) + 0) + 1)) := ⟨_, rfl⟩
          refine g_iast C dX3_answers_142 M102.a18 (by decide) (by omega) (by omega) er105.symm (fun h106 hh107 => ?_)
          have hr108 : mR0 r104 := by rw [er105]; exact mR0.up (hr101) (gR_W _)
          have M109 : mSt G h0 h106 m ad f (va_up g 18 r104) := mSt.uu (M102.st18 hh107) rfl
          refine g_aload_n C dX3_answers_143 2 rfl ?_
          refine g_get C dX3_answers_144 kcX3 18 q1481 (fun _ _ _ _ h9 => h9) M109.o (Nat.le_of_ble_eq_true rfl) rfl ?_
          refine g_iload_n C dX3_answers_147 1 rfl ?_
          refine g_iconst C dX3_answers_148 ?_
          refine g_callS C dX3_answers_149 lkX3_260 (As := [.int (iI (g 18 3)), .int (iI 1)]) (c_X3_countAt (g 18 3) 1) rfl rfl ⟨Nat.le_of_ble_eq_true rfl, Nat.le_of_ble_eq_true rfl⟩ (Nat.le_of_ble_eq_true rfl) ?_
          rintro _ _ ⟨rfl, rfl⟩
          refine g_iconst C dX3_answers_152 ?_
          refine g_aload_n C dX3_answers_153 2 rfl ?_
          refine g_get C dX3_answers_154 kcX3 18 q1481 (fun _ _ _ _ h9 => h9) M109.o (Nat.le_of_ble_eq_true rfl) rfl ?_
          refine g_iload_n C dX3_answers_157 1 rfl ?_
          refine g_iconst C dX3_answers_158 ?_
          refine g_callS C dX3_answers_159 lkX3_260 (As := [.int (iI (g 18 3)), .int (iI 1)]) (c_X3_countAt (g 18 3) 1) rfl rfl ⟨Nat.le_of_ble_eq_true rfl, Nat.le_of_ble_eq_true rfl⟩ (Nat.le_of_ble_eq_true rfl) ?_
          rintro _ _ ⟨rfl, rfl⟩
          refine g_iald C dX3_answers_162 (v := r97 (12 + 4 * (g 18 3) + 1)) M109.a18 (by decide) (by omega) (by omega) (by show r104 (12 + 4 * (g 18 3) + 1) = _; rw [er105, iUp_n (by omega)]) ?_
          refine g_imul C dX3_answers_163 (v := 2 * (r97 (12 + 4 * (g 18 3) + 1))) rfl ?_
          refine g_iload_n C dX3_answers_164 3 rfl ?_
          refine g_ifF C dX3_answers_165 (tgt := 172) (by decide) (fun q => ?_) (fun q => absurd q (by decide))
          refine g_iconst C dX3_answers_172 ?_
          refine g_iadd C dX3_answers_173 (v := 2 * (r97 (12 + 4 * (g 18 3) + 1)) + 0) rfl ?_
          refine g_bipush C dX3_answers_174 (by decide) ?_
          refine g_irem C dX3_answers_176 ⟨by omega, by omega⟩ ⟨by omega, by omega⟩ rfl ?_
          obtain ⟨r110, er111⟩ : ∃ z, z = iUp r104 (12 + 4 * (g 18 3) + 1) ((2 * (r97 (12 + 4 * (g 18 3) + 1)) + 0) % 8) := ⟨_, rfl⟩
          refine g_iast C dX3_answers_177 M109.a18 (by decide) (by omega) (by omega) er111.symm (fun h112 hh113 => ?_)
          have hr114 : mR0 r110 := by rw [er111]; exact mR0.up (hr108) (gRo (by omega) (by omega))
          have M115 : mSt G h0 h112 m ad f (va_up g 18 r110) := mSt.uu (M109.st18 hh113) rfl
          have eS116 : r110 = mAd (mAc (mAb (g 18) false logged true) (g 18 3) false) (g 18 3) false true := by unfold mAd; rw [if_pos rfl, er111, er105, eS103]; rfl
          refine g_aload_n C dX3_answers_178 2 rfl ?_
          refine g_get C dX3_answers_179 kcX3 18 q1481 (fun _ _ _ _ h9 => h9) M115.o (Nat.le_of_ble_eq_true rfl) rfl ?_
          refine g_iconst C dX3_answers_182 ?_
          refine g_iload_n C dX3_answers_183 1 rfl ?_
          obtain ⟨r117, er118⟩ : ∃ z, z = iUp r110 4 (g 18 3) := ⟨_, rfl⟩
          refine g_iast C dX3_answers_184 M115.a18 (by decide) (by decide) (by decide) er118.symm (fun h119 hh120 => ?_)
          have hr121 : mR0 r117 := by rw [er118]; exact mR0.up (hr114) (gRo (by omega) (by omega))
          have M122 : mSt G h0 h119 m ad f (va_up g 18 r117) := mSt.uu (M115.st18 hh120) rfl
          refine g_aload_n C dX3_answers_185 2 rfl ?_
          refine g_get C dX3_answers_186 kcX3 18 q1481 (fun _ _ _ _ h9 => h9) M122.o (Nat.le_of_ble_eq_true rfl) rfl ?_
          refine g_iconst C dX3_answers_189 ?_
          refine g_iload_n C dX3_answers_190 3 rfl ?_
          refine g_ifF C dX3_answers_191 (tgt := 209) (by decide) (fun q => ?_) (fun q => absurd q (by decide))
          refine g_bipush C dX3_answers_209 (by decide) ?_
          refine g_iload_n C dX3_answers_211 1 rfl ?_
          refine g_iconst C dX3_answers_212 ?_
          refine g_iadd C dX3_answers_213 (v := g 18 3 + 1) rfl ?_
          refine g_callS C dX3_answers_214 lkX3_238 (As := [.int (iI 24), .int (iI (g 18 3 + 1))]) (c_X3_lesser 24 (g 18 3 + 1) (by decide) (by decide) (by omega) (by omega)) rfl rfl ⟨Nat.le_of_ble_eq_true rfl, Nat.le_of_ble_eq_true rfl⟩ (Nat.le_of_ble_eq_true rfl) ?_
          rintro _ _ ⟨rfl, rfl⟩
          obtain ⟨r123, er124⟩ : ∃ z, z = iUp r117 3 (min 24 (g 18 3 + 1)) := ⟨_, rfl⟩
          refine g_iast C dX3_answers_217 M122.a18 (by decide) (by decide) (by decide) er124.symm (fun h125 hh126 => ?_)
          have hr127 : mR0 r123 := by rw [er124]; exact mR0.up (hr121) (gRo (by omega) (by omega))
          have M128 : mSt G h0 h125 m ad f (va_up g 18 r123) := mSt.uu (M122.st18 hh126) rfl
          have eA : r123 = mA1 (g 18) false logged := by unfold mA1 mAe; rw [← ea]; rw [er124, er118, eS116]; first | rfl | (unfold mNxL; first | (rw [if_pos rfl, if_pos (by omega)]) | (rw [if_pos rfl, if_neg (by omega)]))
          refine gW.loc [1, 2, 3, 4, 0] (lv' := [(3, .int (iI (g 18 3))), (0, .ref m), (1, .int (iI (gb false))), (2, .int (iI (gb logged))), (4, .int (iI (gb true)))]) rfl ?_
          exact J218 true r123 h125 M128 eA
      · cases asc
        · refine g_aload_n C dX3_answers_88 2 rfl ?_
          refine g_get C dX3_answers_89 kcX3 18 q1481 (fun _ _ _ _ h9 => h9) M1.o (Nat.le_of_ble_eq_true rfl) rfl ?_
          refine g_iload_n C dX3_answers_92 1 rfl ?_
          refine g_iconst C dX3_answers_93 ?_
          refine g_callS C dX3_answers_94 lkX3_260 (As := [.int (iI (g 18 3)), .int (iI 2)]) (c_X3_countAt (g 18 3) 2) rfl rfl ⟨Nat.le_of_ble_eq_true rfl, Nat.le_of_ble_eq_true rfl⟩ (Nat.le_of_ble_eq_true rfl) ?_
          rintro _ _ ⟨rfl, rfl⟩
          refine g_dup2 C dX3_answers_97 rfl rfl ?_
          refine g_iald C dX3_answers_98 (v := (ρ) (12 + 4 * (g 18 3) + 2)) M1.a18 (by decide) (by omega) (by omega) rfl ?_
          refine g_iconst C dX3_answers_99 ?_
          refine g_iadd C dX3_answers_100 (v := (ρ) (12 + 4 * (g 18 3) + 2) + 1) rfl ?_
          rw [show iI ((ρ) (12 + 4 * (g 18 3) + 2) + 1) = iI (iW ((ρ) (12 + 4 * (g 18 3) + 2) + 1)) from (iI_W _).symm]
          obtain ⟨r129, er130⟩ : ∃ z, z = iUp (ρ) (12 + 4 * (g 18 3) + 2) (iW ((ρ) (12 + 4 * (g 18 3) + 2) + 1)) := ⟨_, rfl⟩
          refine g_iast C dX3_answers_101 M1.a18 (by decide) (by omega) (by omega) er130.symm (fun h131 hh132 => ?_)
          have hr133 : mR0 r129 := by rw [er130]; exact mR0.up (hob.2.1) (gR_W _)
          have M134 : mSt G h0 h131 m ad f (va_up g 18 r129) := mSt.uu (M1.st18 hh132) rfl
          refine g_aload_n C dX3_answers_102 2 rfl ?_
          refine g_get C dX3_answers_103 kcX3 18 q1481 (fun _ _ _ _ h9 => h9) M134.o (Nat.le_of_ble_eq_true rfl) rfl ?_
          refine g_iload_n C dX3_answers_106 1 rfl ?_
          refine g_iconst C dX3_answers_107 ?_
          refine g_callS C dX3_answers_108 lkX3_260 (As := [.int (iI (g 18 3)), .int (iI 3)]) (c_X3_countAt (g 18 3) 3) rfl rfl ⟨Nat.le_of_ble_eq_true rfl, Nat.le_of_ble_eq_true rfl⟩ (Nat.le_of_ble_eq_true rfl) ?_
          rintro _ _ ⟨rfl, rfl⟩
          refine g_dup2 C dX3_answers_111 rfl rfl ?_
          refine g_iald C dX3_answers_112 (v := (ρ) (12 + 4 * (g 18 3) + 3)) M134.a18 (by decide) (by omega) (by omega) (by show r129 (12 + 4 * (g 18 3) + 3) = _; rw [er130, iUp_n (by omega)]) ?_
          refine g_iload_n C dX3_answers_113 3 rfl ?_
          refine g_ifF C dX3_answers_114 (tgt := 121) (by decide) (fun q => absurd q (by decide)) (fun q => ?_)
          refine g_iconst C dX3_answers_117 ?_
          refine g_goto C dX3_answers_118 (tgt := 122) (by decide) ?_
          refine g_iadd C dX3_answers_122 (v := (ρ) (12 + 4 * (g 18 3) + 3) + 1) rfl ?_
          rw [show iI ((ρ) (12 + 4 * (g 18 3) + 3) + 1) = iI (iW ((ρ) (12 + 4 * (g 18 3) + 3) + 1)) from (iI_W _).symm]
          obtain ⟨r135, er136⟩ : ∃ z, z = iUp r129 (12 + 4 * (g 18 3) + 3) (iW ((ρ) (12 + 4 * (g 18 3) + 3) + 1)) := ⟨_, rfl⟩
          refine g_iast C dX3_answers_123 M134.a18 (by decide) (by omega) (by omega) er136.symm (fun h137 hh138 => ?_)
          have hr139 : mR0 r135 := by rw [er136]; exact mR0.up (hr133) (gR_W _)
          have M140 : mSt G h0 h137 m ad f (va_up g 18 r135) := mSt.uu (M134.st18 hh138) rfl
          have eS141 : r135 = mAc (mAb (g 18) true logged false) (g 18 3) true := by rw [er136, er130, eb]; rfl
          have hcl : r135 (12 + 4 * g 18 3 + 1) = g 18 (12 + 4 * g 18 3 + 1) := by rw [er136, er130, iUp_n (by omega), iUp_n (by omega)]; exact hbl
          have hlc := hC (g 18 3) (by omega) (by omega)
          refine g_iload C dX3_answers_124 0 rfl ?_
          refine g_ifF C dX3_answers_126 (tgt := 178) (by decide) (fun q => ?_) (fun q => absurd q (by decide))
          have eS142 : r135 = mAd (mAc (mAb (g 18) true logged false) (g 18 3) true) (g 18 3) true false := by unfold mAd; rw [if_neg (by decide)]; exact eS141
          refine g_aload_n C dX3_answers_178 2 rfl ?_
          refine g_get C dX3_answers_179 kcX3 18 q1481 (fun _ _ _ _ h9 => h9) M140.o (Nat.le_of_ble_eq_true rfl) rfl ?_
          refine g_iconst C dX3_answers_182 ?_
          refine g_iload_n C dX3_answers_183 1 rfl ?_
          obtain ⟨r143, er144⟩ : ∃ z, z = iUp r135 4 (g 18 3) := ⟨_, rfl⟩
          refine g_iast C dX3_answers_184 M140.a18 (by decide) (by decide) (by decide) er144.symm (fun h145 hh146 => ?_)
          have hr147 : mR0 r143 := by rw [er144]; exact mR0.up (hr139) (gRo (by omega) (by omega))
          have M148 : mSt G h0 h145 m ad f (va_up g 18 r143) := mSt.uu (M140.st18 hh146) rfl
          refine g_aload_n C dX3_answers_185 2 rfl ?_
          refine g_get C dX3_answers_186 kcX3 18 q1481 (fun _ _ _ _ h9 => h9) M148.o (Nat.le_of_ble_eq_true rfl) rfl ?_
          refine g_iconst C dX3_answers_189 ?_
          refine g_iload_n C dX3_answers_190 3 rfl ?_
          refine g_ifF C dX3_answers_191 (tgt := 209) (by decide) (fun q => absurd q (by decide)) (fun q => ?_)
          refine g_iload_n C dX3_answers_194 1 rfl ?_
          refine g_iconst C dX3_answers_195 ?_
          refine g_icmp_ge C dX3_answers_196 (tgt := 203) (by decide) (gRo (by omega) (by omega)) (gRo (by decide) (by decide)) (fun c196 => ?_) (fun c196 => ?_)
          · refine g_iload_n C dX3_answers_203 1 rfl ?_
            refine g_iconst C dX3_answers_204 ?_
            refine g_isub C dX3_answers_205 (v := g 18 3 - 2) rfl ?_
            refine g_goto C dX3_answers_206 (tgt := 217) (by decide) ?_
            obtain ⟨r149, er150⟩ : ∃ z, z = iUp r143 3 (g 18 3 - 2) := ⟨_, rfl⟩
            refine g_iast C dX3_answers_217 M148.a18 (by decide) (by decide) (by decide) er150.symm (fun h151 hh152 => ?_)
            have hr153 : mR0 r149 := by rw [er150]; exact mR0.up (hr147) (gRo (by omega) (by omega))
            have M154 : mSt G h0 h151 m ad f (va_up g 18 r149) := mSt.uu (M148.st18 hh152) rfl
            have eA : r149 = mA1 (g 18) true logged := by unfold mA1 mAe; rw [← ea]; rw [er150, er144, eS142]; first | rfl | (unfold mNxL; first | (rw [if_pos rfl, if_pos (by omega)]) | (rw [if_pos rfl, if_neg (by omega)]))
            refine gW.loc [1, 2, 3, 4, 0] (lv' := [(3, .int (iI (g 18 3))), (0, .ref m), (1, .int (iI (gb true))), (2, .int (iI (gb logged))), (4, .int (iI (gb false)))]) rfl ?_
            exact J218 false r149 h151 M154 eA
          · refine g_iconst C dX3_answers_199 ?_
            refine g_goto C dX3_answers_200 (tgt := 217) (by decide) ?_
            obtain ⟨r155, er156⟩ : ∃ z, z = iUp r143 3 0 := ⟨_, rfl⟩
            refine g_iast C dX3_answers_217 M148.a18 (by decide) (by decide) (by decide) er156.symm (fun h157 hh158 => ?_)
            have hr159 : mR0 r155 := by rw [er156]; exact mR0.up (hr147) (gRo (by decide) (by decide))
            have M160 : mSt G h0 h157 m ad f (va_up g 18 r155) := mSt.uu (M148.st18 hh158) rfl
            have eA : r155 = mA1 (g 18) true logged := by unfold mA1 mAe; rw [← ea]; rw [er156, er144, eS142]; first | rfl | (unfold mNxL; first | (rw [if_pos rfl, if_pos (by omega)]) | (rw [if_pos rfl, if_neg (by omega)]))
            refine gW.loc [1, 2, 3, 4, 0] (lv' := [(3, .int (iI (g 18 3))), (0, .ref m), (1, .int (iI (gb true))), (2, .int (iI (gb logged))), (4, .int (iI (gb false)))]) rfl ?_
            exact J218 false r155 h157 M160 eA
        · refine g_aload_n C dX3_answers_88 2 rfl ?_
          refine g_get C dX3_answers_89 kcX3 18 q1481 (fun _ _ _ _ h9 => h9) M1.o (Nat.le_of_ble_eq_true rfl) rfl ?_
          refine g_iload_n C dX3_answers_92 1 rfl ?_
          refine g_iconst C dX3_answers_93 ?_
          refine g_callS C dX3_answers_94 lkX3_260 (As := [.int (iI (g 18 3)), .int (iI 2)]) (c_X3_countAt (g 18 3) 2) rfl rfl ⟨Nat.le_of_ble_eq_true rfl, Nat.le_of_ble_eq_true rfl⟩ (Nat.le_of_ble_eq_true rfl) ?_
          rintro _ _ ⟨rfl, rfl⟩
          refine g_dup2 C dX3_answers_97 rfl rfl ?_
          refine g_iald C dX3_answers_98 (v := (ρ) (12 + 4 * (g 18 3) + 2)) M1.a18 (by decide) (by omega) (by omega) rfl ?_
          refine g_iconst C dX3_answers_99 ?_
          refine g_iadd C dX3_answers_100 (v := (ρ) (12 + 4 * (g 18 3) + 2) + 1) rfl ?_
          rw [show iI ((ρ) (12 + 4 * (g 18 3) + 2) + 1) = iI (iW ((ρ) (12 + 4 * (g 18 3) + 2) + 1)) from (iI_W _).symm]
          obtain ⟨r161, er162⟩ : ∃ z, z = iUp (ρ) (12 + 4 * (g 18 3) + 2) (iW ((ρ) (12 + 4 * (g 18 3) + 2) + 1)) := ⟨_, rfl⟩
          refine g_iast C dX3_answers_101 M1.a18 (by decide) (by omega) (by omega) er162.symm (fun h163 hh164 => ?_)
          have hr165 : mR0 r161 := by rw [er162]; exact mR0.up (hob.2.1) (gR_W _)
          have M166 : mSt G h0 h163 m ad f (va_up g 18 r161) := mSt.uu (M1.st18 hh164) rfl
          refine g_aload_n C dX3_answers_102 2 rfl ?_
          refine g_get C dX3_answers_103 kcX3 18 q1481 (fun _ _ _ _ h9 => h9) M166.o (Nat.le_of_ble_eq_true rfl) rfl ?_
          refine g_iload_n C dX3_answers_106 1 rfl ?_
          refine g_iconst C dX3_answers_107 ?_
          refine g_callS C dX3_answers_108 lkX3_260 (As := [.int (iI (g 18 3)), .int (iI 3)]) (c_X3_countAt (g 18 3) 3) rfl rfl ⟨Nat.le_of_ble_eq_true rfl, Nat.le_of_ble_eq_true rfl⟩ (Nat.le_of_ble_eq_true rfl) ?_
          rintro _ _ ⟨rfl, rfl⟩
          refine g_dup2 C dX3_answers_111 rfl rfl ?_
          refine g_iald C dX3_answers_112 (v := (ρ) (12 + 4 * (g 18 3) + 3)) M166.a18 (by decide) (by omega) (by omega) (by show r161 (12 + 4 * (g 18 3) + 3) = _; rw [er162, iUp_n (by omega)]) ?_
          refine g_iload_n C dX3_answers_113 3 rfl ?_
          refine g_ifF C dX3_answers_114 (tgt := 121) (by decide) (fun q => absurd q (by decide)) (fun q => ?_)
          refine g_iconst C dX3_answers_117 ?_
          refine g_goto C dX3_answers_118 (tgt := 122) (by decide) ?_
          refine g_iadd C dX3_answers_122 (v := (ρ) (12 + 4 * (g 18 3) + 3) + 1) rfl ?_
          rw [show iI ((ρ) (12 + 4 * (g 18 3) + 3) + 1) = iI (iW ((ρ) (12 + 4 * (g 18 3) + 3) + 1)) from (iI_W _).symm]
          obtain ⟨r167, er168⟩ : ∃ z, z = iUp r161 (12 + 4 * (g 18 3) + 3) (iW ((ρ) (12 + 4 * (g 18 3) + 3) + 1)) := ⟨_, rfl⟩
          refine g_iast C dX3_answers_123 M166.a18 (by decide) (by omega) (by omega) er168.symm (fun h169 hh170 => ?_)
          have hr171 : mR0 r167 := by rw [er168]; exact mR0.up (hr165) (gR_W _)
          have M172 : mSt G h0 h169 m ad f (va_up g 18 r167) := mSt.uu (M166.st18 hh170) rfl
          have eS173 : r167 = mAc (mAb (g 18) true logged true) (g 18 3) true := by rw [er168, er162, eb]; rfl
          have hcl : r167 (12 + 4 * g 18 3 + 1) = g 18 (12 + 4 * g 18 3 + 1) := by rw [er168, er162, iUp_n (by omega), iUp_n (by omega)]; exact hbl
          have hlc := hC (g 18 3) (by omega) (by omega)
          refine g_iload C dX3_answers_124 0 rfl ?_
          refine g_ifF C dX3_answers_126 (tgt := 178) (by decide) (fun q => absurd q (by decide)) (fun q => ?_)
          refine g_aload_n C dX3_answers_129 2 rfl ?_
          refine g_get C dX3_answers_130 kcX3 18 q1481 (fun _ _ _ _ h9 => h9) M172.o (Nat.le_of_ble_eq_true rfl) rfl ?_
          refine g_iload_n C dX3_answers_133 1 rfl ?_
          refine g_iconst C dX3_answers_134 ?_
          refine g_callS C dX3_answers_135 lkX3_260 (As := [.int (iI (g 18 3)), .int (iI 0)]) (c_X3_countAt (g 18 3) 0) rfl rfl ⟨Nat.le_of_ble_eq_true rfl, Nat.le_of_ble_eq_true rfl⟩ (Nat.le_of_ble_eq_true rfl) ?_
          rintro _ _ ⟨rfl, rfl⟩
          refine g_dup2 C dX3_answers_138 rfl rfl ?_
          refine g_iald C dX3_answers_139 (v := r167 (12 + 4 * (g 18 3) + 0)) M172.a18 (by decide) (by omega) (by omega) rfl ?_
          refine g_iconst C dX3_answers_140 ?_
          refine g_iadd C dX3_answers_141 (v := r167 (12 + 4 * (g 18 3) + 0) + 1) rfl ?_
          rw [show iI (r167 (12 + 4 * (g 18 3) + 0) + 1) = iI (iW (r167 (12 + 4 * (g 18 3) + 0) + 1)) from (iI_W _).symm]
          obtain ⟨r174, er175⟩ : ∃ z, z = iUp r167 (12 + 4 * (g 18 3) + 0) (iW (r167 (12 + 4 * (g 18 3) + 0) + 1)) := ⟨_, rfl⟩
          refine g_iast C dX3_answers_142 M172.a18 (by decide) (by omega) (by omega) er175.symm (fun h176 hh177 => ?_)
          have hr178 : mR0 r174 := by rw [er175]; exact mR0.up (hr171) (gR_W _)
          have M179 : mSt G h0 h176 m ad f (va_up g 18 r174) := mSt.uu (M172.st18 hh177) rfl
          refine g_aload_n C dX3_answers_143 2 rfl ?_
          refine g_get C dX3_answers_144 kcX3 18 q1481 (fun _ _ _ _ h9 => h9) M179.o (Nat.le_of_ble_eq_true rfl) rfl ?_
          refine g_iload_n C dX3_answers_147 1 rfl ?_
          refine g_iconst C dX3_answers_148 ?_
          refine g_callS C dX3_answers_149 lkX3_260 (As := [.int (iI (g 18 3)), .int (iI 1)]) (c_X3_countAt (g 18 3) 1) rfl rfl ⟨Nat.le_of_ble_eq_true rfl, Nat.le_of_ble_eq_true rfl⟩ (Nat.le_of_ble_eq_true rfl) ?_
          rintro _ _ ⟨rfl, rfl⟩
          refine g_iconst C dX3_answers_152 ?_
          refine g_aload_n C dX3_answers_153 2 rfl ?_
          refine g_get C dX3_answers_154 kcX3 18 q1481 (fun _ _ _ _ h9 => h9) M179.o (Nat.le_of_ble_eq_true rfl) rfl ?_
          refine g_iload_n C dX3_answers_157 1 rfl ?_
          refine g_iconst C dX3_answers_158 ?_
          refine g_callS C dX3_answers_159 lkX3_260 (As := [.int (iI (g 18 3)), .int (iI 1)]) (c_X3_countAt (g 18 3) 1) rfl rfl ⟨Nat.le_of_ble_eq_true rfl, Nat.le_of_ble_eq_true rfl⟩ (Nat.le_of_ble_eq_true rfl) ?_
          rintro _ _ ⟨rfl, rfl⟩
          refine g_iald C dX3_answers_162 (v := r167 (12 + 4 * (g 18 3) + 1)) M179.a18 (by decide) (by omega) (by omega) (by show r174 (12 + 4 * (g 18 3) + 1) = _; rw [er175, iUp_n (by omega)]) ?_
          refine g_imul C dX3_answers_163 (v := 2 * (r167 (12 + 4 * (g 18 3) + 1))) rfl ?_
          refine g_iload_n C dX3_answers_164 3 rfl ?_
          refine g_ifF C dX3_answers_165 (tgt := 172) (by decide) (fun q => absurd q (by decide)) (fun q => ?_)
          refine g_iconst C dX3_answers_168 ?_
          refine g_goto C dX3_answers_169 (tgt := 173) (by decide) ?_
          refine g_iadd C dX3_answers_173 (v := 2 * (r167 (12 + 4 * (g 18 3) + 1)) + 1) rfl ?_
          refine g_bipush C dX3_answers_174 (by decide) ?_
          refine g_irem C dX3_answers_176 ⟨by omega, by omega⟩ ⟨by omega, by omega⟩ rfl ?_
          obtain ⟨r180, er181⟩ : ∃ z, z = iUp r174 (12 + 4 * (g 18 3) + 1) ((2 * (r167 (12 + 4 * (g 18 3) + 1)) + 1) % 8) := ⟨_, rfl⟩
          refine g_iast C dX3_answers_177 M179.a18 (by decide) (by omega) (by omega) er181.symm (fun h182 hh183 => ?_)
          have hr184 : mR0 r180 := by rw [er181]; exact mR0.up (hr178) (gRo (by omega) (by omega))
          have M185 : mSt G h0 h182 m ad f (va_up g 18 r180) := mSt.uu (M179.st18 hh183) rfl
          have eS186 : r180 = mAd (mAc (mAb (g 18) true logged true) (g 18 3) true) (g 18 3) true true := by unfold mAd; rw [if_pos rfl, er181, er175, eS173]; rfl
          refine g_aload_n C dX3_answers_178 2 rfl ?_
          refine g_get C dX3_answers_179 kcX3 18 q1481 (fun _ _ _ _ h9 => h9) M185.o (Nat.le_of_ble_eq_true rfl) rfl ?_
          refine g_iconst C dX3_answers_182 ?_
          refine g_iload_n C dX3_answers_183 1 rfl ?_
          obtain ⟨r187, er188⟩ : ∃ z, z = iUp r180 4 (g 18 3) := ⟨_, rfl⟩
          refine g_iast C dX3_answers_184 M185.a18 (by decide) (by decide) (by decide) er188.symm (fun h189 hh190 => ?_)
          have hr191 : mR0 r187 := by rw [er188]; exact mR0.up (hr184) (gRo (by omega) (by omega))
          have M192 : mSt G h0 h189 m ad f (va_up g 18 r187) := mSt.uu (M185.st18 hh190) rfl
          refine g_aload_n C dX3_answers_185 2 rfl ?_
          refine g_get C dX3_answers_186 kcX3 18 q1481 (fun _ _ _ _ h9 => h9) M192.o (Nat.le_of_ble_eq_true rfl) rfl ?_
          refine g_iconst C dX3_answers_189 ?_
          refine g_iload_n C dX3_answers_190 3 rfl ?_
          refine g_ifF C dX3_answers_191 (tgt := 209) (by decide) (fun q => absurd q (by decide)) (fun q => ?_)
          refine g_iload_n C dX3_answers_194 1 rfl ?_
          refine g_iconst C dX3_answers_195 ?_
          refine g_icmp_ge C dX3_answers_196 (tgt := 203) (by decide) (gRo (by omega) (by omega)) (gRo (by decide) (by decide)) (fun c196 => ?_) (fun c196 => ?_)
          · refine g_iload_n C dX3_answers_203 1 rfl ?_
            refine g_iconst C dX3_answers_204 ?_
            refine g_isub C dX3_answers_205 (v := g 18 3 - 2) rfl ?_
            refine g_goto C dX3_answers_206 (tgt := 217) (by decide) ?_
            obtain ⟨r193, er194⟩ : ∃ z, z = iUp r187 3 (g 18 3 - 2) := ⟨_, rfl⟩
            refine g_iast C dX3_answers_217 M192.a18 (by decide) (by decide) (by decide) er194.symm (fun h195 hh196 => ?_)
            have hr197 : mR0 r193 := by rw [er194]; exact mR0.up (hr191) (gRo (by omega) (by omega))
            have M198 : mSt G h0 h195 m ad f (va_up g 18 r193) := mSt.uu (M192.st18 hh196) rfl
            have eA : r193 = mA1 (g 18) true logged := by unfold mA1 mAe; rw [← ea]; rw [er194, er188, eS186]; first | rfl | (unfold mNxL; first | (rw [if_pos rfl, if_pos (by omega)]) | (rw [if_pos rfl, if_neg (by omega)]))
            refine gW.loc [1, 2, 3, 4, 0] (lv' := [(3, .int (iI (g 18 3))), (0, .ref m), (1, .int (iI (gb true))), (2, .int (iI (gb logged))), (4, .int (iI (gb true)))]) rfl ?_
            exact J218 true r193 h195 M198 eA
          · refine g_iconst C dX3_answers_199 ?_
            refine g_goto C dX3_answers_200 (tgt := 217) (by decide) ?_
            obtain ⟨r199, er200⟩ : ∃ z, z = iUp r187 3 0 := ⟨_, rfl⟩
            refine g_iast C dX3_answers_217 M192.a18 (by decide) (by decide) (by decide) er200.symm (fun h201 hh202 => ?_)
            have hr203 : mR0 r199 := by rw [er200]; exact mR0.up (hr191) (gRo (by decide) (by decide))
            have M204 : mSt G h0 h201 m ad f (va_up g 18 r199) := mSt.uu (M192.st18 hh202) rfl
            have eA : r199 = mA1 (g 18) true logged := by unfold mA1 mAe; rw [← ea]; rw [er200, er188, eS186]; first | rfl | (unfold mNxL; first | (rw [if_pos rfl, if_pos (by omega)]) | (rw [if_pos rfl, if_neg (by omega)]))
            refine gW.loc [1, 2, 3, 4, 0] (lv' := [(3, .int (iI (g 18 3))), (0, .ref m), (1, .int (iI (gb true))), (2, .int (iI (gb logged))), (4, .int (iI (gb true)))]) rfl ?_
            exact J218 true r199 h201 M204 eA
    refine g_aload_n C dX3_answers_34 2 rfl ?_
    refine g_get C dX3_answers_35 kcX3 18 q1481 (fun _ _ _ _ h9 => h9) M.o (Nat.le_of_ble_eq_true rfl) rfl ?_
    refine g_bipush C dX3_answers_38 (by decide) ?_
    refine g_dup2 C dX3_answers_40 rfl rfl ?_
    refine g_iald C dX3_answers_41 (v := g 18 10) M.a18 (by decide) (by decide) (by decide) rfl ?_
    refine g_iconst C dX3_answers_42 ?_
    refine g_iadd C dX3_answers_43 (v := g 18 10 + 1) rfl ?_
    rw [show iI (g 18 10 + 1) = iI (iW (g 18 10 + 1)) from (iI_W _).symm]
    obtain ⟨r205, er206⟩ : ∃ z, z = iUp (g 18) 10 (iW (g 18 10 + 1)) := ⟨_, rfl⟩
    refine g_iast C dX3_answers_44 M.a18 (by decide) (by decide) (by decide) er206.symm (fun h207 hh208 => ?_)
    have hr209 : mR0 r205 := by rw [er206]; exact mR0.up (hr) (gR_W _)
    have M210 : mSt G h0 h207 m ad f (va_up g 18 r205) := mSt.u1 (M.st18 hh208) rfl
    refine g_aload_n C dX3_answers_45 2 rfl ?_
    refine g_get C dX3_answers_46 kcX3 18 q1481 (fun _ _ _ _ h9 => h9) M210.o (Nat.le_of_ble_eq_true rfl) rfl ?_
    refine g_bipush C dX3_answers_49 (by decide) ?_
    refine g_dup2 C dX3_answers_51 rfl rfl ?_
    refine g_iald C dX3_answers_52 (v := g 18 6) M210.a18 (by decide) (by decide) (by decide) (by show r205 6 = _; rw [er206, iUp_n (by decide)]) ?_
    refine g_iconst C dX3_answers_53 ?_
    refine g_iadd C dX3_answers_54 (v := g 18 6 + 1) rfl ?_
    obtain ⟨r211, er212⟩ : ∃ z, z = iUp r205 6 (g 18 6 + 1) := ⟨_, rfl⟩
    refine g_iast C dX3_answers_55 M210.a18 (by decide) (by decide) (by decide) er212.symm (fun h213 hh214 => ?_)
    have hr215 : mR0 r211 := by rw [er212]; exact mR0.up (hr209) (gRo (by omega) (by omega))
    have M216 : mSt G h0 h213 m ad f (va_up g 18 r211) := mSt.uu (M210.st18 hh214) rfl
    refine g_aload_n C dX3_answers_56 2 rfl ?_
    refine g_get C dX3_answers_57 kcX3 18 q1481 (fun _ _ _ _ h9 => h9) M216.o (Nat.le_of_ble_eq_true rfl) rfl ?_
    refine g_aload_n C dX3_answers_60 2 rfl ?_
    refine g_get C dX3_answers_61 kcX3 18 q1481 (fun _ _ _ _ h9 => h9) M216.o (Nat.le_of_ble_eq_true rfl) rfl ?_
    refine g_iconst C dX3_answers_64 ?_
    refine g_iald C dX3_answers_65 (v := g 18 1) M216.a18 (by decide) (by decide) (by decide) (by show r211 1 = _; rw [er212, iUp_n (by decide), er206, iUp_n (by decide)]) ?_
    refine g_bipush C dX3_answers_66 (by decide) ?_
    refine g_callS C dX3_answers_68 lkX3_213 (As := [.int (iI (g 18 1)), .int (iI 6)]) (c_X3_at (g 18 1) 6) rfl rfl ⟨Nat.le_of_ble_eq_true rfl, Nat.le_of_ble_eq_true rfl⟩ (Nat.le_of_ble_eq_true rfl) ?_
    rintro _ _ ⟨rfl, rfl⟩
    refine g_dup2 C dX3_answers_71 rfl rfl ?_
    refine g_iald C dX3_answers_72 (v := g 18 (112 + 11 * (g 18 1) + 6)) M216.a18 (by decide) (by omega) (by omega) (by show r211 (112 + 11 * (g 18 1) + 6) = _; rw [er212, iUp_n (by omega), er206, iUp_n (by omega)]) ?_
    refine g_iconst C dX3_answers_73 ?_
    refine g_iadd C dX3_answers_74 (v := g 18 (112 + 11 * (g 18 1) + 6) + 1) rfl ?_
    rw [show iI (g 18 (112 + 11 * (g 18 1) + 6) + 1) = iI (iW (g 18 (112 + 11 * (g 18 1) + 6) + 1)) from (iI_W _).symm]
    obtain ⟨r217, er218⟩ : ∃ z, z = iUp r211 (112 + 11 * (g 18 1) + 6) (iW (g 18 (112 + 11 * (g 18 1) + 6) + 1)) := ⟨_, rfl⟩
    refine g_iast C dX3_answers_75 M216.a18 (by decide) (by omega) (by omega) er218.symm (fun h219 hh220 => ?_)
    have hr221 : mR0 r217 := by rw [er218]; exact mR0.up (hr215) (gR_W _)
    have M222 : mSt G h0 h219 m ad f (va_up g 18 r217) := mSt.uu (M216.st18 hh220) rfl
    have eS223 : r217 = mAa (g 18) := by rw [er218, er212, er206]; rfl
    have hO224 : mOk (g 6) r217 := by rw [eS223]; exact mAa_ok hO hon h6
    have hA3 : r217 3 = g 18 3 := by rw [eS223]; exact mAa_n hO hon (by omega) (by omega) (by omega)
    refine g_iload_n C dX3_answers_76 4 rfl ?_
    refine g_ifF C dX3_answers_77 (tgt := 88) (by decide) (fun c77 => ?_) (fun c77 => ?_)
    · have eS225 : r217 = mAb (g 18) heard logged asc := by unfold mAb; first | (rw [if_pos (by assumption)]; rw [eS223]) | (rw [if_neg (by intro z; simp_all)]; rw [eS223])
      exact J88 r217 h219 M222 eS225
    · refine g_aload_n C dX3_answers_80 2 rfl ?_
      refine g_iload_n C dX3_answers_81 1 rfl ?_
      refine g_iload_n C dX3_answers_82 3 rfl ?_
      refine g_iload C dX3_answers_83 0 rfl ?_
      refine g_callV C dX3_answers_85 lkX3_266 M222.o rfl (As := [.int (iI (g 18 3)), .int (iI (gb heard)), .int (iI (gb asc))]) (c_X3_logs M222 (g 18 3) heard asc (by omega) (by omega) hO224.2.1 hO224.2.2.2.2.2.2.2.2.2.2.2.1) rfl rfl ⟨Nat.le_of_ble_eq_true rfl, Nat.le_of_ble_eq_true rfl⟩ (Nat.le_of_ble_eq_true rfl) ?_
      rintro _ h226 ⟨rfl, M227⟩
      obtain ⟨r228, er229⟩ : ∃ z, z = mLogR (r217) (g 18 3) heard asc := ⟨_, rfl⟩
      have M230 : mSt G h0 h226 m ad f (va_up g 18 r228) := mSt.uu M227 er229.symm
      have hr231 : mR0 r228 := by rw [er229]; exact mLogR_R hO224.2.1 (by constructor <;> omega) heard asc
      have eS232 : r228 = mAb (g 18) heard logged asc := by unfold mAb; first | (rw [if_pos (by assumption)]; rw [er229, eS223]) | (rw [if_neg (by intro z; simp_all)]; rw [er229, eS223])
      exact J88 r228 h226 M230 eS232
  refine g_aload_n C dX3_answers_0 0 rfl ?_
  refine g_get C dX3_answers_1 kcX3 18 q1481 (fun _ _ _ _ h9 => h9) M.o (Nat.le_of_ble_eq_true rfl) rfl ?_
  refine g_iconst C dX3_answers_4 ?_
  refine g_iald C dX3_answers_5 (v := g 18 3) M.a18 (by decide) (by decide) (by decide) rfl ?_
  refine g_istore_n C dX3_answers_6 (lv' := [(3, .int (iI (g 18 3))), (0, .ref m), (1, .int (iI (gb heard))), (2, .int (iI (gb logged)))]) 3 rfl (Nat.le_of_ble_eq_true rfl) rfl ?_
  refine g_aload_n C dX3_answers_7 1 rfl ?_
  refine g_get C dX3_answers_8 kcX3 18 q1481 (fun _ _ _ _ h9 => h9) M.o (Nat.le_of_ble_eq_true rfl) rfl ?_
  refine g_bipush C dX3_answers_11 (by decide) ?_
  refine g_iald C dX3_answers_13 (v := g 18 6) M.a18 (by decide) (by decide) (by decide) rfl ?_
  refine g_if_le C dX3_answers_14 (tgt := 31) (by decide) (hr _) (fun c14 => ?_) (fun c14 => ?_)
  · refine g_iconst C dX3_answers_31 ?_
    refine g_istore C dX3_answers_32 (lv' := [(4, .int (iI 0)), (3, .int (iI (g 18 3))), (0, .ref m), (1, .int (iI (gb heard))), (2, .int (iI (gb logged)))]) (Nat.le_of_ble_eq_true rfl) rfl ?_
    exact J34 false (by unfold mAsc; grind)
  · refine g_iload_n C dX3_answers_17 0 rfl ?_
    refine g_aload_n C dX3_answers_18 1 rfl ?_
    refine g_get C dX3_answers_19 kcX3 18 q1481 (fun _ _ _ _ h9 => h9) M.o (Nat.le_of_ble_eq_true rfl) rfl ?_
    refine g_iconst C dX3_answers_22 ?_
    refine g_iald C dX3_answers_23 (v := g 18 4) M.a18 (by decide) (by decide) (by decide) rfl ?_
    refine g_icmp_le C dX3_answers_24 (tgt := 31) (by decide) (hr _) (hr _) (fun c24 => ?_) (fun c24 => ?_)
    · refine g_iconst C dX3_answers_31 ?_
      refine g_istore C dX3_answers_32 (lv' := [(4, .int (iI 0)), (3, .int (iI (g 18 3))), (0, .ref m), (1, .int (iI (gb heard))), (2, .int (iI (gb logged)))]) (Nat.le_of_ble_eq_true rfl) rfl ?_
      exact J34 false (by unfold mAsc; grind)
    · refine g_iconst C dX3_answers_27 ?_
      refine g_goto C dX3_answers_28 (tgt := 32) (by decide) ?_
      refine g_istore C dX3_answers_32 (lv' := [(4, .int (iI 1)), (3, .int (iI (g 18 3))), (0, .ref m), (1, .int (iI (gb heard))), (2, .int (iI (gb logged)))]) (Nat.le_of_ble_eq_true rfl) rfl ?_
      exact J34 true (by unfold mAsc; grind)
