/-! THE REFERENCE, walks 5 -/
set_option maxRecDepth 100000
theorem lkX3_216 : gLkV RX3 216 yX3_forgets cX3_forgets 2 none 1 := ⟨⟨q1641, q1643, qs64, q111, q1644⟩, ⟨by decide, by decide⟩, by decide +kernel⟩
theorem lkX3_244 : gLkV RX3 244 yX3_searches cX3_searches 4 none 2 := ⟨⟨q1649, q1651, qs66, q111, q1652⟩, ⟨by decide, by decide⟩, by decide +kernel⟩
theorem c_X3_forgets {G : gG} {h : gH} {h0 : gH} {m : Nat} {ad : Nat → Nat} {f : Nat → Int} {g : Nat → Int → Int} (M : mSt G h0 h m ad f g) (k : Int) (hk : 0 ≤ k ∧ k < 48) : gC G yX3_forgets (.code yX3_forgets cX3_forgets 2 none) 1 0 0 [.ref m, .int (iI k)] h (fun r h' => r = none ∧ mSt G h0 h' m ad (f) (va_up g 18 (mForget (g 18) k))) := by
  refine gC.of (by decide) (Nat.le_of_ble_eq_true rfl) rfl ?_
  intro X C E hI
  have C : gCtx G X cX3_forgets 2 RX3 1 none := C
  refine g_aload_n C dX3_forgets_0 0 rfl ?_
  refine g_get C dX3_forgets_1 kcX3 18 q1481 (fun _ _ _ _ h9 => h9) M.o (Nat.le_of_ble_eq_true rfl) rfl ?_
  refine g_iload_n C dX3_forgets_4 1 rfl ?_
  refine g_iconst C dX3_forgets_5 ?_
  refine g_callS C dX3_forgets_6 lkX3_213 (As := [.int (iI k), .int (iI 4)]) (c_X3_at k 4) rfl rfl ⟨Nat.le_of_ble_eq_true rfl, Nat.le_of_ble_eq_true rfl⟩ (Nat.le_of_ble_eq_true rfl) ?_
  rintro _ _ ⟨rfl, rfl⟩
  refine g_iconst C dX3_forgets_9 ?_
  obtain ⟨r1, er2⟩ : ∃ z, z = iUp (g 18) (112 + 11 * k + 4) 0 := ⟨_, rfl⟩
  refine g_iast C dX3_forgets_10 M.a18 (by decide) (by omega) (by omega) er2.symm (fun h3 hh4 => ?_)
  have M5 : mSt G h0 h3 m ad f (va_up g 18 r1) := mSt.u1 (M.st18 hh4) rfl
  refine g_aload_n C dX3_forgets_11 0 rfl ?_
  refine g_get C dX3_forgets_12 kcX3 18 q1481 (fun _ _ _ _ h9 => h9) M5.o (Nat.le_of_ble_eq_true rfl) rfl ?_
  refine g_iload_n C dX3_forgets_15 1 rfl ?_
  refine g_iconst C dX3_forgets_16 ?_
  refine g_callS C dX3_forgets_17 lkX3_213 (As := [.int (iI k), .int (iI 5)]) (c_X3_at k 5) rfl rfl ⟨Nat.le_of_ble_eq_true rfl, Nat.le_of_ble_eq_true rfl⟩ (Nat.le_of_ble_eq_true rfl) ?_
  rintro _ _ ⟨rfl, rfl⟩
  refine g_bipush C dX3_forgets_20 (by decide) ?_
  obtain ⟨r6, er7⟩ : ∃ z, z = iUp r1 (112 + 11 * k + 5) (-2) := ⟨_, rfl⟩
  refine g_iast C dX3_forgets_22 M5.a18 (by decide) (by omega) (by omega) er7.symm (fun h8 hh9 => ?_)
  have M10 : mSt G h0 h8 m ad f (va_up g 18 r6) := mSt.uu (M5.st18 hh9) rfl
  refine g_aload_n C dX3_forgets_23 0 rfl ?_
  refine g_get C dX3_forgets_24 kcX3 18 q1481 (fun _ _ _ _ h9 => h9) M10.o (Nat.le_of_ble_eq_true rfl) rfl ?_
  refine g_iload_n C dX3_forgets_27 1 rfl ?_
  refine g_bipush C dX3_forgets_28 (by decide) ?_
  refine g_callS C dX3_forgets_30 lkX3_213 (As := [.int (iI k), .int (iI 6)]) (c_X3_at k 6) rfl rfl ⟨Nat.le_of_ble_eq_true rfl, Nat.le_of_ble_eq_true rfl⟩ (Nat.le_of_ble_eq_true rfl) ?_
  rintro _ _ ⟨rfl, rfl⟩
  refine g_iconst C dX3_forgets_33 ?_
  obtain ⟨r11, er12⟩ : ∃ z, z = iUp r6 (112 + 11 * k + 6) 0 := ⟨_, rfl⟩
  refine g_iast C dX3_forgets_34 M10.a18 (by decide) (by omega) (by omega) er12.symm (fun h13 hh14 => ?_)
  have M15 : mSt G h0 h13 m ad f (va_up g 18 r11) := mSt.uu (M10.st18 hh14) rfl
  refine g_aload_n C dX3_forgets_35 0 rfl ?_
  refine g_get C dX3_forgets_36 kcX3 18 q1481 (fun _ _ _ _ h9 => h9) M15.o (Nat.le_of_ble_eq_true rfl) rfl ?_
  refine g_iload_n C dX3_forgets_39 1 rfl ?_
  refine g_bipush C dX3_forgets_40 (by decide) ?_
  refine g_callS C dX3_forgets_42 lkX3_213 (As := [.int (iI k), .int (iI 7)]) (c_X3_at k 7) rfl rfl ⟨Nat.le_of_ble_eq_true rfl, Nat.le_of_ble_eq_true rfl⟩ (Nat.le_of_ble_eq_true rfl) ?_
  rintro _ _ ⟨rfl, rfl⟩
  refine g_iconst C dX3_forgets_45 ?_
  obtain ⟨r16, er17⟩ : ∃ z, z = iUp r11 (112 + 11 * k + 7) 0 := ⟨_, rfl⟩
  refine g_iast C dX3_forgets_46 M15.a18 (by decide) (by omega) (by omega) er17.symm (fun h18 hh19 => ?_)
  have M20 : mSt G h0 h18 m ad f (va_up g 18 r16) := mSt.uu (M15.st18 hh19) rfl
  refine g_aload_n C dX3_forgets_47 0 rfl ?_
  refine g_get C dX3_forgets_48 kcX3 18 q1481 (fun _ _ _ _ h9 => h9) M20.o (Nat.le_of_ble_eq_true rfl) rfl ?_
  refine g_iload_n C dX3_forgets_51 1 rfl ?_
  refine g_bipush C dX3_forgets_52 (by decide) ?_
  refine g_callS C dX3_forgets_54 lkX3_213 (As := [.int (iI k), .int (iI 8)]) (c_X3_at k 8) rfl rfl ⟨Nat.le_of_ble_eq_true rfl, Nat.le_of_ble_eq_true rfl⟩ (Nat.le_of_ble_eq_true rfl) ?_
  rintro _ _ ⟨rfl, rfl⟩
  refine g_iconst C dX3_forgets_57 ?_
  obtain ⟨r21, er22⟩ : ∃ z, z = iUp r16 (112 + 11 * k + 8) (-1) := ⟨_, rfl⟩
  refine g_iast C dX3_forgets_58 M20.a18 (by decide) (by omega) (by omega) er22.symm (fun h23 hh24 => ?_)
  have M25 : mSt G h0 h23 m ad f (va_up g 18 r21) := mSt.uu (M20.st18 hh24) rfl
  refine g_aload_n C dX3_forgets_59 0 rfl ?_
  refine g_get C dX3_forgets_60 kcX3 18 q1481 (fun _ _ _ _ h9 => h9) M25.o (Nat.le_of_ble_eq_true rfl) rfl ?_
  refine g_iload_n C dX3_forgets_63 1 rfl ?_
  refine g_bipush C dX3_forgets_64 (by decide) ?_
  refine g_callS C dX3_forgets_66 lkX3_213 (As := [.int (iI k), .int (iI 9)]) (c_X3_at k 9) rfl rfl ⟨Nat.le_of_ble_eq_true rfl, Nat.le_of_ble_eq_true rfl⟩ (Nat.le_of_ble_eq_true rfl) ?_
  rintro _ _ ⟨rfl, rfl⟩
  refine g_iconst C dX3_forgets_69 ?_
  obtain ⟨r26, er27⟩ : ∃ z, z = iUp r21 (112 + 11 * k + 9) (-1) := ⟨_, rfl⟩
  refine g_iast C dX3_forgets_70 M25.a18 (by decide) (by omega) (by omega) er27.symm (fun h28 hh29 => ?_)
  have M30 : mSt G h0 h28 m ad f (va_up g 18 r26) := mSt.uu (M25.st18 hh29) rfl
  refine g_aload_n C dX3_forgets_71 0 rfl ?_
  refine g_get C dX3_forgets_72 kcX3 18 q1481 (fun _ _ _ _ h9 => h9) M30.o (Nat.le_of_ble_eq_true rfl) rfl ?_
  refine g_iload_n C dX3_forgets_75 1 rfl ?_
  refine g_bipush C dX3_forgets_76 (by decide) ?_
  refine g_callS C dX3_forgets_78 lkX3_213 (As := [.int (iI k), .int (iI 10)]) (c_X3_at k 10) rfl rfl ⟨Nat.le_of_ble_eq_true rfl, Nat.le_of_ble_eq_true rfl⟩ (Nat.le_of_ble_eq_true rfl) ?_
  rintro _ _ ⟨rfl, rfl⟩
  refine g_iconst C dX3_forgets_81 ?_
  obtain ⟨r31, er32⟩ : ∃ z, z = iUp r26 (112 + 11 * k + 10) 0 := ⟨_, rfl⟩
  refine g_iast C dX3_forgets_82 M30.a18 (by decide) (by omega) (by omega) er32.symm (fun h33 hh34 => ?_)
  have M35 : mSt G h0 h33 m ad f (va_up g 18 r31) := mSt.uu (M30.st18 hh34) rfl
  refine g_vret C E dX3_forgets_83 rfl ?_
  subst er32
  subst er27
  subst er22
  subst er17
  subst er12
  subst er7
  subst er2
  exact ⟨rfl, M35⟩
theorem c_X3_addsTask {G : gG} {h : gH} {h0 : gH} {m : Nat} {ad : Nat → Nat} {f : Nat → Int} {g : Nat → Int → Int} (M : mSt G h0 h m ad f g) (ro : Int) (e : Int) (t : Int) (mk : Int) (hn : 0 ≤ g 18 0 ∧ g 18 0 < 48) : gC G yX3_addsTask (.code yX3_addsTask cX3_addsTask 6 none) 2 0 0 [.ref m, .int (iI ro), .int (iI e), .int (iI t), .int (iI mk)] h (fun r h' => r = none ∧ mSt G h0 h' m ad (f) (va_up g 18 (mAdd (g 18) ro e t mk))) := by
  refine gC.of (by decide) (Nat.le_of_ble_eq_true rfl) rfl ?_
  intro X C E hI
  have C : gCtx G X cX3_addsTask 6 RX3 2 none := C
  refine g_aload_n C dX3_addsTask_0 0 rfl ?_
  refine g_get C dX3_addsTask_1 kcX3 18 q1481 (fun _ _ _ _ h9 => h9) M.o (Nat.le_of_ble_eq_true rfl) rfl ?_
  refine g_iconst C dX3_addsTask_4 ?_
  refine g_iald C dX3_addsTask_5 (v := g 18 0) M.a18 (by decide) (by decide) (by decide) rfl ?_
  refine g_istore C dX3_addsTask_6 (lv' := [(5, .int (iI (g 18 0))), (0, .ref m), (1, .int (iI ro)), (2, .int (iI e)), (3, .int (iI t)), (4, .int (iI mk))]) (Nat.le_of_ble_eq_true rfl) rfl ?_
  refine g_aload_n C dX3_addsTask_8 1 rfl ?_
  refine g_get C dX3_addsTask_9 kcX3 18 q1481 (fun _ _ _ _ h9 => h9) M.o (Nat.le_of_ble_eq_true rfl) rfl ?_
  refine g_iload C dX3_addsTask_12 0 rfl ?_
  refine g_iconst C dX3_addsTask_14 ?_
  refine g_callS C dX3_addsTask_15 lkX3_213 (As := [.int (iI (g 18 0)), .int (iI 0)]) (c_X3_at (g 18 0) 0) rfl rfl ⟨Nat.le_of_ble_eq_true rfl, Nat.le_of_ble_eq_true rfl⟩ (Nat.le_of_ble_eq_true rfl) ?_
  rintro _ _ ⟨rfl, rfl⟩
  refine g_iload_n C dX3_addsTask_18 2 rfl ?_
  obtain ⟨r1, er2⟩ : ∃ z, z = iUp (g 18) (112 + 11 * (g 18 0) + 0) ro := ⟨_, rfl⟩
  refine g_iast C dX3_addsTask_19 M.a18 (by decide) (by omega) (by omega) er2.symm (fun h3 hh4 => ?_)
  have M5 : mSt G h0 h3 m ad f (va_up g 18 r1) := mSt.u1 (M.st18 hh4) rfl
  refine g_aload_n C dX3_addsTask_20 1 rfl ?_
  refine g_get C dX3_addsTask_21 kcX3 18 q1481 (fun _ _ _ _ h9 => h9) M5.o (Nat.le_of_ble_eq_true rfl) rfl ?_
  refine g_iload C dX3_addsTask_24 0 rfl ?_
  refine g_iconst C dX3_addsTask_26 ?_
  refine g_callS C dX3_addsTask_27 lkX3_213 (As := [.int (iI (g 18 0)), .int (iI 1)]) (c_X3_at (g 18 0) 1) rfl rfl ⟨Nat.le_of_ble_eq_true rfl, Nat.le_of_ble_eq_true rfl⟩ (Nat.le_of_ble_eq_true rfl) ?_
  rintro _ _ ⟨rfl, rfl⟩
  refine g_iload_n C dX3_addsTask_30 3 rfl ?_
  obtain ⟨r6, er7⟩ : ∃ z, z = iUp r1 (112 + 11 * (g 18 0) + 1) e := ⟨_, rfl⟩
  refine g_iast C dX3_addsTask_31 M5.a18 (by decide) (by omega) (by omega) er7.symm (fun h8 hh9 => ?_)
  have M10 : mSt G h0 h8 m ad f (va_up g 18 r6) := mSt.uu (M5.st18 hh9) rfl
  refine g_aload_n C dX3_addsTask_32 1 rfl ?_
  refine g_get C dX3_addsTask_33 kcX3 18 q1481 (fun _ _ _ _ h9 => h9) M10.o (Nat.le_of_ble_eq_true rfl) rfl ?_
  refine g_iload C dX3_addsTask_36 0 rfl ?_
  refine g_iconst C dX3_addsTask_38 ?_
  refine g_callS C dX3_addsTask_39 lkX3_213 (As := [.int (iI (g 18 0)), .int (iI 2)]) (c_X3_at (g 18 0) 2) rfl rfl ⟨Nat.le_of_ble_eq_true rfl, Nat.le_of_ble_eq_true rfl⟩ (Nat.le_of_ble_eq_true rfl) ?_
  rintro _ _ ⟨rfl, rfl⟩
  refine g_iload_n C dX3_addsTask_42 4 rfl ?_
  obtain ⟨r11, er12⟩ : ∃ z, z = iUp r6 (112 + 11 * (g 18 0) + 2) t := ⟨_, rfl⟩
  refine g_iast C dX3_addsTask_43 M10.a18 (by decide) (by omega) (by omega) er12.symm (fun h13 hh14 => ?_)
  have M15 : mSt G h0 h13 m ad f (va_up g 18 r11) := mSt.uu (M10.st18 hh14) rfl
  refine g_aload_n C dX3_addsTask_44 1 rfl ?_
  refine g_get C dX3_addsTask_45 kcX3 18 q1481 (fun _ _ _ _ h9 => h9) M15.o (Nat.le_of_ble_eq_true rfl) rfl ?_
  refine g_iload C dX3_addsTask_48 0 rfl ?_
  refine g_iconst C dX3_addsTask_50 ?_
  refine g_callS C dX3_addsTask_51 lkX3_213 (As := [.int (iI (g 18 0)), .int (iI 3)]) (c_X3_at (g 18 0) 3) rfl rfl ⟨Nat.le_of_ble_eq_true rfl, Nat.le_of_ble_eq_true rfl⟩ (Nat.le_of_ble_eq_true rfl) ?_
  rintro _ _ ⟨rfl, rfl⟩
  refine g_iload C dX3_addsTask_54 5 rfl ?_
  obtain ⟨r16, er17⟩ : ∃ z, z = iUp r11 (112 + 11 * (g 18 0) + 3) mk := ⟨_, rfl⟩
  refine g_iast C dX3_addsTask_56 M15.a18 (by decide) (by omega) (by omega) er17.symm (fun h18 hh19 => ?_)
  have M20 : mSt G h0 h18 m ad f (va_up g 18 r16) := mSt.uu (M15.st18 hh19) rfl
  refine g_aload_n C dX3_addsTask_57 1 rfl ?_
  refine g_iload C dX3_addsTask_58 0 rfl ?_
  refine g_callV C dX3_addsTask_60 lkX3_216 M20.o rfl (As := [.int (iI (g 18 0))]) (c_X3_forgets M20 (g 18 0) (by omega)) rfl rfl ⟨Nat.le_of_ble_eq_true rfl, Nat.le_of_ble_eq_true rfl⟩ (Nat.le_of_ble_eq_true rfl) ?_
  rintro _ h21 ⟨rfl, M22⟩
  obtain ⟨r23, er24⟩ : ∃ z, z = mForget (r16) (g 18 0) := ⟨_, rfl⟩
  have M25 : mSt G h0 h21 m ad f (va_up g 18 r23) := mSt.uu M22 er24.symm
  refine g_aload_n C dX3_addsTask_63 1 rfl ?_
  refine g_get C dX3_addsTask_64 kcX3 18 q1481 (fun _ _ _ _ h9 => h9) M25.o (Nat.le_of_ble_eq_true rfl) rfl ?_
  refine g_iconst C dX3_addsTask_67 ?_
  refine g_dup2 C dX3_addsTask_68 rfl rfl ?_
  refine g_iald C dX3_addsTask_69 (v := g 18 0) M25.a18 (by decide) (by decide) (by decide) (by show r23 0 = _; rw [er24, mForget_n (by omega), er17, iUp_n (by omega), er12, iUp_n (by omega), er7, iUp_n (by omega), er2, iUp_n (by omega)]) ?_
  refine g_iconst C dX3_addsTask_70 ?_
  refine g_iadd C dX3_addsTask_71 (v := g 18 0 + 1) rfl ?_
  obtain ⟨r26, er27⟩ : ∃ z, z = iUp r23 0 (g 18 0 + 1) := ⟨_, rfl⟩
  refine g_iast C dX3_addsTask_72 M25.a18 (by decide) (by decide) (by decide) er27.symm (fun h28 hh29 => ?_)
  have M30 : mSt G h0 h28 m ad f (va_up g 18 r26) := mSt.uu (M25.st18 hh29) rfl
  refine g_vret C E dX3_addsTask_73 rfl ?_
  subst er27
  subst er24
  subst er17
  subst er12
  subst er7
  subst er2
  exact ⟨rfl, M30⟩
theorem c_X3_searches {G : gG} {h : gH} {h0 : gH} {m : Nat} {ad : Nat → Nat} {f : Nat → Int} {g : Nat → Int → Int} (M : mSt G h0 h m ad f g) (level : Int) (noise : Int) (hr : mR0 (g 18)) (hon : 0 ≤ g 18 1 ∧ g 18 1 < 48) (hl : -1000 ≤ level ∧ level ≤ 1000) (hno : -1000 ≤ noise ∧ noise ≤ 1000) : gC G yX3_searches (.code yX3_searches cX3_searches 4 none) 1 0 0 [.ref m, .int (iI level), .int (iI noise)] h (fun r h' => r = none ∧ mSt G h0 h' m ad (f) (va_up g 18 (mSrchs (g 18) level noise))) := by
  refine gC.of (by decide) (Nat.le_of_ble_eq_true rfl) rfl ?_
  intro X C E hI
  have C : gCtx G X cX3_searches 4 RX3 1 none := C
  refine g_aload_n C dX3_searches_0 0 rfl ?_
  refine g_get C dX3_searches_1 kcX3 18 q1481 (fun _ _ _ _ h9 => h9) M.o (Nat.le_of_ble_eq_true rfl) rfl ?_
  refine g_iconst C dX3_searches_4 ?_
  refine g_iload_n C dX3_searches_5 1 rfl ?_
  refine g_bipush C dX3_searches_6 (by decide) ?_
  refine g_callS C dX3_searches_8 lkX3_238 (As := [.int (iI level), .int (iI 24)]) (c_X3_lesser level 24 (by omega) (by omega) (by decide) (by decide)) rfl rfl ⟨Nat.le_of_ble_eq_true rfl, Nat.le_of_ble_eq_true rfl⟩ (Nat.le_of_ble_eq_true rfl) ?_
  rintro _ _ ⟨rfl, rfl⟩
  obtain ⟨r1, er2⟩ : ∃ z, z = iUp (g 18) 3 (min level 24) := ⟨_, rfl⟩
  refine g_iast C dX3_searches_11 M.a18 (by decide) (by decide) (by decide) er2.symm (fun h3 hh4 => ?_)
  have hr5 : mR0 r1 := by rw [er2]; exact mR0.up (hr) (gRo (by omega) (by omega))
  have M6 : mSt G h0 h3 m ad f (va_up g 18 r1) := mSt.u1 (M.st18 hh4) rfl
  refine g_aload_n C dX3_searches_12 0 rfl ?_
  refine g_get C dX3_searches_13 kcX3 18 q1481 (fun _ _ _ _ h9 => h9) M6.o (Nat.le_of_ble_eq_true rfl) rfl ?_
  refine g_iconst C dX3_searches_16 ?_
  refine g_iconst C dX3_searches_17 ?_
  obtain ⟨r7, er8⟩ : ∃ z, z = iUp r1 4 (-1) := ⟨_, rfl⟩
  refine g_iast C dX3_searches_18 M6.a18 (by decide) (by decide) (by decide) er8.symm (fun h9 hh10 => ?_)
  have hr11 : mR0 r7 := by rw [er8]; exact mR0.up (hr5) (gRo (by decide) (by decide))
  have M12 : mSt G h0 h9 m ad f (va_up g 18 r7) := mSt.uu (M6.st18 hh10) rfl
  refine g_aload_n C dX3_searches_19 0 rfl ?_
  refine g_get C dX3_searches_20 kcX3 18 q1481 (fun _ _ _ _ h9 => h9) M12.o (Nat.le_of_ble_eq_true rfl) rfl ?_
  refine g_iconst C dX3_searches_23 ?_
  refine g_iload_n C dX3_searches_24 2 rfl ?_
  obtain ⟨r13, er14⟩ : ∃ z, z = iUp r7 5 noise := ⟨_, rfl⟩
  refine g_iast C dX3_searches_25 M12.a18 (by decide) (by decide) (by decide) er14.symm (fun h15 hh16 => ?_)
  have hr17 : mR0 r13 := by rw [er14]; exact mR0.up (hr11) (gRo (by omega) (by omega))
  have M18 : mSt G h0 h15 m ad f (va_up g 18 r13) := mSt.uu (M12.st18 hh16) rfl
  refine g_aload_n C dX3_searches_26 0 rfl ?_
  refine g_get C dX3_searches_27 kcX3 18 q1481 (fun _ _ _ _ h9 => h9) M18.o (Nat.le_of_ble_eq_true rfl) rfl ?_
  refine g_bipush C dX3_searches_30 (by decide) ?_
  refine g_iconst C dX3_searches_32 ?_
  obtain ⟨r19, er20⟩ : ∃ z, z = iUp r13 6 0 := ⟨_, rfl⟩
  refine g_iast C dX3_searches_33 M18.a18 (by decide) (by decide) (by decide) er20.symm (fun h21 hh22 => ?_)
  have hr23 : mR0 r19 := by rw [er20]; exact mR0.up (hr17) (gRo (by decide) (by decide))
  have M24 : mSt G h0 h21 m ad f (va_up g 18 r19) := mSt.uu (M18.st18 hh22) rfl
  refine g_bipush C dX3_searches_34 (by decide) ?_
  refine g_istore_n C dX3_searches_36 (lv' := [(3, .int (iI 12)), (0, .ref m), (1, .int (iI level)), (2, .int (iI noise))]) 3 rfl (Nat.le_of_ble_eq_true rfl) rfl ?_
  have L37 : ∀ (n : Nat) (k : Int) (ρ : Int → Int) (h1 : gH) (M1 : mSt G h0 h1 m ad f (va_up g 18 ρ)) (hk : 12 ≤ k ∧ k ≤ 112) (hn9 : 112 - k < n) (hz : ∀ j, ρ j = if 12 ≤ j ∧ j < k then 0 else r19 j), gW X h1 0 0 37 [(3, .int (iI k)), (0, .ref m), (1, .int (iI level)), (2, .int (iI noise))] [] := by
    intro n
    induction n with
    | zero => intro k ρ h1 M1 hk hn9 hz; exfalso; omega
    | succ n ih =>
      intro k ρ h1 M1 hk hn9 hz
      refine g_iload_n C dX3_searches_37 0 rfl ?_
      refine g_bipush C dX3_searches_38 (by decide) ?_
      refine g_icmp_ge C dX3_searches_40 (tgt := 56) (by decide) (gRo (by omega) (by omega)) (gRo (by decide) (by decide)) (fun c40 => ?_) (fun c40 => ?_)
      · have eρ : ρ = mZero r19 12 112 := mZ_end hz (by omega)
        have hrρ : mR0 ρ := by rw [eρ]; exact mZero_R hr23 12 112
        refine g_aload_n C dX3_searches_56 1 rfl ?_
        refine g_get C dX3_searches_57 kcX3 18 q1481 (fun _ _ _ _ h9 => h9) M1.o (Nat.le_of_ble_eq_true rfl) rfl ?_
        refine g_iconst C dX3_searches_60 ?_
        refine g_iald C dX3_searches_61 (v := g 18 1) M1.a18 (by decide) (by decide) (by decide) (by show (ρ) 1 = _; rw [eρ, mZero_n (by omega), er20, iUp_n (by decide), er14, iUp_n (by decide), er8, iUp_n (by decide), er2, iUp_n (by decide)]) ?_
        refine g_istore_n C dX3_searches_62 (lv' := [(3, .int (iI (g 18 1))), (0, .ref m), (1, .int (iI level)), (2, .int (iI noise))]) 3 rfl (Nat.le_of_ble_eq_true rfl) rfl ?_
        refine g_aload_n C dX3_searches_63 1 rfl ?_
        refine g_get C dX3_searches_64 kcX3 18 q1481 (fun _ _ _ _ h9 => h9) M1.o (Nat.le_of_ble_eq_true rfl) rfl ?_
        refine g_iload_n C dX3_searches_67 0 rfl ?_
        refine g_bipush C dX3_searches_68 (by decide) ?_
        refine g_callS C dX3_searches_70 lkX3_213 (As := [.int (iI (g 18 1)), .int (iI 8)]) (c_X3_at (g 18 1) 8) rfl rfl ⟨Nat.le_of_ble_eq_true rfl, Nat.le_of_ble_eq_true rfl⟩ (Nat.le_of_ble_eq_true rfl) ?_
        rintro _ _ ⟨rfl, rfl⟩
        refine g_iload_n C dX3_searches_73 3 rfl ?_
        refine g_aload_n C dX3_searches_74 1 rfl ?_
        refine g_get C dX3_searches_75 kcX3 18 q1481 (fun _ _ _ _ h9 => h9) M1.o (Nat.le_of_ble_eq_true rfl) rfl ?_
        refine g_iload_n C dX3_searches_78 0 rfl ?_
        refine g_bipush C dX3_searches_79 (by decide) ?_
        refine g_callS C dX3_searches_81 lkX3_213 (As := [.int (iI (g 18 1)), .int (iI 8)]) (c_X3_at (g 18 1) 8) rfl rfl ⟨Nat.le_of_ble_eq_true rfl, Nat.le_of_ble_eq_true rfl⟩ (Nat.le_of_ble_eq_true rfl) ?_
        rintro _ _ ⟨rfl, rfl⟩
        refine g_iald C dX3_searches_84 (v := g 18 (112 + 11 * (g 18 1) + 8)) M1.a18 (by decide) (by omega) (by omega) (by show (ρ) (112 + 11 * (g 18 1) + 8) = _; rw [eρ, mZero_n (by omega), er20, iUp_n (by omega), er14, iUp_n (by omega), er8, iUp_n (by omega), er2, iUp_n (by omega)]) ?_
        refine g_icmp_le C dX3_searches_85 (tgt := 92) (by decide) (gRo (by omega) (by omega)) (hr _) (fun c85 => ?_) (fun c85 => ?_)
        · refine g_aload_n C dX3_searches_92 1 rfl ?_
          refine g_get C dX3_searches_93 kcX3 18 q1481 (fun _ _ _ _ h9 => h9) M1.o (Nat.le_of_ble_eq_true rfl) rfl ?_
          refine g_iload_n C dX3_searches_96 0 rfl ?_
          refine g_bipush C dX3_searches_97 (by decide) ?_
          refine g_callS C dX3_searches_99 lkX3_213 (As := [.int (iI (g 18 1)), .int (iI 8)]) (c_X3_at (g 18 1) 8) rfl rfl ⟨Nat.le_of_ble_eq_true rfl, Nat.le_of_ble_eq_true rfl⟩ (Nat.le_of_ble_eq_true rfl) ?_
          rintro _ _ ⟨rfl, rfl⟩
          refine g_iald C dX3_searches_102 (v := g 18 (112 + 11 * (g 18 1) + 8)) M1.a18 (by decide) (by omega) (by omega) (by show (ρ) (112 + 11 * (g 18 1) + 8) = _; rw [eρ, mZero_n (by omega), er20, iUp_n (by omega), er14, iUp_n (by omega), er8, iUp_n (by omega), er2, iUp_n (by omega)]) ?_
          obtain ⟨r25, er26⟩ : ∃ z, z = iUp (ρ) (112 + 11 * (g 18 1) + 8) (g 18 (112 + 11 * (g 18 1) + 8)) := ⟨_, rfl⟩
          refine g_iast C dX3_searches_103 M1.a18 (by decide) (by omega) (by omega) er26.symm (fun h27 hh28 => ?_)
          have hr29 : mR0 r25 := by rw [er26]; exact mR0.up (hrρ) (hr _)
          have M30 : mSt G h0 h27 m ad f (va_up g 18 r25) := mSt.uu (M1.st18 hh28) rfl
          refine g_vret C E dX3_searches_104 rfl ?_
          unfold mSrchs
          (try rw [if_pos (by omega)]); (try rw [if_neg (by omega)])
          subst er26
          subst eρ
          subst er20
          subst er14
          subst er8
          subst er2
          exact ⟨rfl, M30⟩
        · refine g_iload_n C dX3_searches_88 3 rfl ?_
          refine g_goto C dX3_searches_89 (tgt := 103) (by decide) ?_
          obtain ⟨r31, er32⟩ : ∃ z, z = iUp (ρ) (112 + 11 * (g 18 1) + 8) noise := ⟨_, rfl⟩
          refine g_iast C dX3_searches_103 M1.a18 (by decide) (by omega) (by omega) er32.symm (fun h33 hh34 => ?_)
          have hr35 : mR0 r31 := by rw [er32]; exact mR0.up (hrρ) (gRo (by omega) (by omega))
          have M36 : mSt G h0 h33 m ad f (va_up g 18 r31) := mSt.uu (M1.st18 hh34) rfl
          refine g_vret C E dX3_searches_104 rfl ?_
          unfold mSrchs
          (try rw [if_pos (by omega)]); (try rw [if_neg (by omega)])
          subst er32
          subst eρ
          subst er20
          subst er14
          subst er8
          subst er2
          exact ⟨rfl, M36⟩
      · refine g_aload_n C dX3_searches_43 1 rfl ?_
        refine g_get C dX3_searches_44 kcX3 18 q1481 (fun _ _ _ _ h9 => h9) M1.o (Nat.le_of_ble_eq_true rfl) rfl ?_
        refine g_iload_n C dX3_searches_47 0 rfl ?_
        refine g_iconst C dX3_searches_48 ?_
        obtain ⟨r37, er38⟩ : ∃ z, z = iUp (ρ) k 0 := ⟨_, rfl⟩
        refine g_iast C dX3_searches_49 M1.a18 (by decide) (by omega) (by omega) er38.symm (fun h39 hh40 => ?_)
        have M41 : mSt G h0 h39 m ad f (va_up g 18 r37) := mSt.uu (M1.st18 hh40) rfl
        refine g_iinc C dX3_searches_50 (v := k + 1) (lv' := [(3, .int (iI (k + 1))), (0, .ref m), (1, .int (iI level)), (2, .int (iI noise))]) 0 rfl rfl (Nat.le_of_ble_eq_true rfl) rfl ?_
        refine g_goto C dX3_searches_53 (tgt := 37) (by decide) ?_
        exact ih (k + 1) r37 h39 M41 (by omega) (by omega) (fun j => by rw [er38]; exact mZ_step hz (by omega) j)
  exact L37 (112 - 12 + 1 : Int).toNat 12 r19 h21 (M24) (by omega) (by omega) (fun j => by rw [if_neg (by omega)])
theorem c_X3_begins {G : gG} {h : gH} {h0 : gH} {m : Nat} {ad : Nat → Nat} {f : Nat → Int} {g : Nat → Int → Int} (M : mSt G h0 h m ad f g) (k : Int) (hO : mOk (g 6) (g 18)) (hk : 0 ≤ k ∧ k < g 18 0) : gC G yX3_begins (.code yX3_begins cX3_begins 5 (some .boolean)) 3 0 0 [.ref m, .int (iI k)] h (fun r h' => r = some (.int (iI (gb (mBegB (g 6) (g 18) k)))) ∧ mSt G h0 h' m ad (f) (va_up g 18 (mBegR (g 6) (g 18) k))) := by
  refine gC.of (by decide) (Nat.le_of_ble_eq_true rfl) rfl ?_
  intro X C E hI
  have C : gCtx G X cX3_begins 5 RX3 3 (some .boolean) := C
  obtain ⟨hI_, hr, hn, hT, hS_⟩ := id hO
  obtain ⟨hi0, hi1, hi2, hi3, hi4, hi5, hiA, hiR⟩ := id hI_
  obtain ⟨hs1, hs3, hs4, hs5, hs6, hs7, hs8, hs11, hs2⟩ := id hS_
  refine g_aload_n C dX3_begins_0 0 rfl ?_
  refine g_get C dX3_begins_1 kcX3 18 q1481 (fun _ _ _ _ h9 => h9) M.o (Nat.le_of_ble_eq_true rfl) rfl ?_
  refine g_iconst C dX3_begins_4 ?_
  refine g_iload_n C dX3_begins_5 1 rfl ?_
  obtain ⟨r1, er2⟩ : ∃ z, z = iUp (g 18) 1 k := ⟨_, rfl⟩
  refine g_iast C dX3_begins_6 M.a18 (by decide) (by decide) (by decide) er2.symm (fun h3 hh4 => ?_)
  have hr5 : mR0 r1 := by rw [er2]; exact mR0.up (hr) (gRo (by omega) (by omega))
  have M6 : mSt G h0 h3 m ad f (va_up g 18 r1) := mSt.u1 (M.st18 hh4) rfl
  refine g_aload_n C dX3_begins_7 0 rfl ?_
  refine g_get C dX3_begins_8 kcX3 18 q1481 (fun _ _ _ _ h9 => h9) M6.o (Nat.le_of_ble_eq_true rfl) rfl ?_
  refine g_bipush C dX3_begins_11 (by decide) ?_
  refine g_iconst C dX3_begins_13 ?_
  obtain ⟨r7, er8⟩ : ∃ z, z = iUp r1 7 0 := ⟨_, rfl⟩
  refine g_iast C dX3_begins_14 M6.a18 (by decide) (by decide) (by decide) er8.symm (fun h9 hh10 => ?_)
  have hr11 : mR0 r7 := by rw [er8]; exact mR0.up (hr5) (gRo (by decide) (by decide))
  have M12 : mSt G h0 h9 m ad f (va_up g 18 r7) := mSt.uu (M6.st18 hh10) rfl
  refine g_aload_n C dX3_begins_15 0 rfl ?_
  refine g_get C dX3_begins_16 kcX3 18 q1481 (fun _ _ _ _ h9 => h9) M12.o (Nat.le_of_ble_eq_true rfl) rfl ?_
  refine g_bipush C dX3_begins_19 (by decide) ?_
  refine g_bipush C dX3_begins_21 (by decide) ?_
  obtain ⟨r13, er14⟩ : ∃ z, z = iUp r7 8 (-2) := ⟨_, rfl⟩
  refine g_iast C dX3_begins_23 M12.a18 (by decide) (by decide) (by decide) er14.symm (fun h15 hh16 => ?_)
  have hr17 : mR0 r13 := by rw [er14]; exact mR0.up (hr11) (gRo (by decide) (by decide))
  have M18 : mSt G h0 h15 m ad f (va_up g 18 r13) := mSt.uu (M12.st18 hh16) rfl
  refine g_aload_n C dX3_begins_24 0 rfl ?_
  refine g_get C dX3_begins_25 kcX3 18 q1481 (fun _ _ _ _ h9 => h9) M18.o (Nat.le_of_ble_eq_true rfl) rfl ?_
  refine g_iload_n C dX3_begins_28 1 rfl ?_
  refine g_iconst C dX3_begins_29 ?_
  refine g_callS C dX3_begins_30 lkX3_213 (As := [.int (iI k), .int (iI 4)]) (c_X3_at k 4) rfl rfl ⟨Nat.le_of_ble_eq_true rfl, Nat.le_of_ble_eq_true rfl⟩ (Nat.le_of_ble_eq_true rfl) ?_
  rintro _ _ ⟨rfl, rfl⟩
  refine g_iconst C dX3_begins_33 ?_
  obtain ⟨r19, er20⟩ : ∃ z, z = iUp r13 (112 + 11 * k + 4) 1 := ⟨_, rfl⟩
  refine g_iast C dX3_begins_34 M18.a18 (by decide) (by omega) (by omega) er20.symm (fun h21 hh22 => ?_)
  have hr23 : mR0 r19 := by rw [er20]; exact mR0.up (hr17) (gRo (by decide) (by decide))
  have M24 : mSt G h0 h21 m ad f (va_up g 18 r19) := mSt.uu (M18.st18 hh22) rfl
  have eB : r19 = mBeg0 (g 18) k := by rw [er20, er14, er8, er2]; rfl
  have hO1 : mOk (g 6) r19 := by rw [eB]; exact mBeg0_ok hO hk.1 hk.2
  obtain ⟨hT0, hT1, hT2, hT3, hT4, hT5, hT6⟩ := mOk_t hO (k := k) (by omega) (by omega)
  refine g_aload_n C dX3_begins_35 0 rfl ?_
  refine g_get C dX3_begins_36 kcX3 18 q1481 (fun _ _ _ _ h9 => h9) M24.o (Nat.le_of_ble_eq_true rfl) rfl ?_
  refine g_iload_n C dX3_begins_39 1 rfl ?_
  refine g_iconst C dX3_begins_40 ?_
  refine g_callS C dX3_begins_41 lkX3_213 (As := [.int (iI k), .int (iI 0)]) (c_X3_at k 0) rfl rfl ⟨Nat.le_of_ble_eq_true rfl, Nat.le_of_ble_eq_true rfl⟩ (Nat.le_of_ble_eq_true rfl) ?_
  rintro _ _ ⟨rfl, rfl⟩
  refine g_iald C dX3_begins_44 (v := g 18 (112 + 11 * k + 0)) M24.a18 (by decide) (by omega) (by omega) (by show r19 (112 + 11 * k + 0) = _; rw [er20, iUp_n (by omega), er14, iUp_n (by omega), er8, iUp_n (by omega), er2, iUp_n (by omega)]) ?_
  refine g_istore_n C dX3_begins_45 (lv' := [(2, .int (iI (g 18 (112 + 11 * k + 0)))), (0, .ref m), (1, .int (iI k))]) 2 rfl (Nat.le_of_ble_eq_true rfl) rfl ?_
  refine g_aload_n C dX3_begins_46 1 rfl ?_
  refine g_get C dX3_begins_47 kcX3 18 q1481 (fun _ _ _ _ h9 => h9) M24.o (Nat.le_of_ble_eq_true rfl) rfl ?_
  refine g_iload_n C dX3_begins_50 2 rfl ?_
  refine g_iconst C dX3_begins_51 ?_
  refine g_callS C dX3_begins_52 lkX3_213 (As := [.int (iI k), .int (iI 1)]) (c_X3_at k 1) rfl rfl ⟨Nat.le_of_ble_eq_true rfl, Nat.le_of_ble_eq_true rfl⟩ (Nat.le_of_ble_eq_true rfl) ?_
  rintro _ _ ⟨rfl, rfl⟩
  refine g_iald C dX3_begins_55 (v := g 18 (112 + 11 * k + 1)) M24.a18 (by decide) (by omega) (by omega) (by show r19 (112 + 11 * k + 1) = _; rw [er20, iUp_n (by omega), er14, iUp_n (by omega), er8, iUp_n (by omega), er2, iUp_n (by omega)]) ?_
  refine g_istore_n C dX3_begins_56 (lv' := [(3, .int (iI (g 18 (112 + 11 * k + 1)))), (2, .int (iI (g 18 (112 + 11 * k + 0)))), (0, .ref m), (1, .int (iI k))]) 3 rfl (Nat.le_of_ble_eq_true rfl) rfl ?_
  refine g_aload_n C dX3_begins_57 2 rfl ?_
  refine g_get C dX3_begins_58 kcX3 18 q1481 (fun _ _ _ _ h9 => h9) M24.o (Nat.le_of_ble_eq_true rfl) rfl ?_
  refine g_iload_n C dX3_begins_61 3 rfl ?_
  refine g_iconst C dX3_begins_62 ?_
  refine g_callS C dX3_begins_63 lkX3_213 (As := [.int (iI k), .int (iI 2)]) (c_X3_at k 2) rfl rfl ⟨Nat.le_of_ble_eq_true rfl, Nat.le_of_ble_eq_true rfl⟩ (Nat.le_of_ble_eq_true rfl) ?_
  rintro _ _ ⟨rfl, rfl⟩
  refine g_iald C dX3_begins_66 (v := g 18 (112 + 11 * k + 2)) M24.a18 (by decide) (by omega) (by omega) (by show r19 (112 + 11 * k + 2) = _; rw [er20, iUp_n (by omega), er14, iUp_n (by omega), er8, iUp_n (by omega), er2, iUp_n (by omega)]) ?_
  refine g_istore C dX3_begins_67 (lv' := [(4, .int (iI (g 18 (112 + 11 * k + 2)))), (3, .int (iI (g 18 (112 + 11 * k + 1)))), (2, .int (iI (g 18 (112 + 11 * k + 0)))), (0, .ref m), (1, .int (iI k))]) (Nat.le_of_ble_eq_true rfl) rfl ?_
  refine g_aload_n C dX3_begins_69 3 rfl ?_
  refine g_get C dX3_begins_70 kcX3 18 q1481 (fun _ _ _ _ h9 => h9) M24.o (Nat.le_of_ble_eq_true rfl) rfl ?_
  refine g_iload_n C dX3_begins_73 4 rfl ?_
  refine g_iconst C dX3_begins_74 ?_
  refine g_callS C dX3_begins_75 lkX3_213 (As := [.int (iI k), .int (iI 3)]) (c_X3_at k 3) rfl rfl ⟨Nat.le_of_ble_eq_true rfl, Nat.le_of_ble_eq_true rfl⟩ (Nat.le_of_ble_eq_true rfl) ?_
  rintro _ _ ⟨rfl, rfl⟩
  refine g_iald C dX3_begins_78 (v := g 18 (112 + 11 * k + 3)) M24.a18 (by decide) (by omega) (by omega) (by show r19 (112 + 11 * k + 3) = _; rw [er20, iUp_n (by omega), er14, iUp_n (by omega), er8, iUp_n (by omega), er2, iUp_n (by omega)]) ?_
  refine g_if_ne C dX3_begins_79 (tgt := 91) (by decide) (hr _) (fun c79 => ?_) (fun c79 => ?_)
  · refine g_aload_n C dX3_begins_91 3 rfl ?_
    refine g_iload C dX3_begins_92 0 rfl ?_
    refine g_callV C dX3_begins_94 lkX3_232 M24.o rfl (As := [.int (iI (g 18 (112 + 11 * k + 2)))]) (c_X3_areProved M24 (g 18 (112 + 11 * k + 2)) hO1 (show 0 ≤ (g 18 (112 + 11 * k + 2)) ∧ (g 18 (112 + 11 * k + 2)) < g 6 0 from by omega)) rfl rfl ⟨Nat.le_of_ble_eq_true rfl, Nat.le_of_ble_eq_true rfl⟩ (Nat.le_of_ble_eq_true rfl) ?_
    rintro _ _ ⟨rfl, rfl⟩
    show gW X h21 0 0 97 [(4, .int (iI (g 18 (112 + 11 * k + 2)))), (3, .int (iI (g 18 (112 + 11 * k + 1)))), (2, .int (iI (g 18 (112 + 11 * k + 0)))), (0, .ref m), (1, .int (iI k))] [.int (iI (gb (mAreP (g 6) (r19) (g 18 (112 + 11 * k + 2)))))]
    refine g_ifF C dX3_begins_97 (tgt := 117) (by decide) (fun c97 => ?_) (fun c97 => ?_)
    · refine g_aload_n C dX3_begins_117 3 rfl ?_
      refine g_get C dX3_begins_118 kcX3 18 q1481 (fun _ _ _ _ h9 => h9) M24.o (Nat.le_of_ble_eq_true rfl) rfl ?_
      refine g_iload_n C dX3_begins_121 4 rfl ?_
      refine g_iconst C dX3_begins_122 ?_
      refine g_callS C dX3_begins_123 lkX3_213 (As := [.int (iI k), .int (iI 4)]) (c_X3_at k 4) rfl rfl ⟨Nat.le_of_ble_eq_true rfl, Nat.le_of_ble_eq_true rfl⟩ (Nat.le_of_ble_eq_true rfl) ?_
      rintro _ _ ⟨rfl, rfl⟩
      refine g_aload_n C dX3_begins_126 3 rfl ?_
      refine g_iload C dX3_begins_127 0 rfl ?_
      refine g_callV C dX3_begins_129 lkX3_232 M24.o rfl (As := [.int (iI (g 18 (112 + 11 * k + 2)))]) (c_X3_areProved M24 (g 18 (112 + 11 * k + 2)) hO1 (show 0 ≤ (g 18 (112 + 11 * k + 2)) ∧ (g 18 (112 + 11 * k + 2)) < g 6 0 from by omega)) rfl rfl ⟨Nat.le_of_ble_eq_true rfl, Nat.le_of_ble_eq_true rfl⟩ (Nat.le_of_ble_eq_true rfl) ?_
      rintro _ _ ⟨rfl, rfl⟩
      show gW X h21 0 0 132 [(4, .int (iI (g 18 (112 + 11 * k + 2)))), (3, .int (iI (g 18 (112 + 11 * k + 1)))), (2, .int (iI (g 18 (112 + 11 * k + 0)))), (0, .ref m), (1, .int (iI k))] [.int (iI (gb (mAreP (g 6) (r19) (g 18 (112 + 11 * k + 2))))), .int (iI (112 + 11 * k + 4)), .ref (ad 18)]
      refine g_ifF C dX3_begins_132 (tgt := 139) (by decide) (fun c132 => ?_) (fun c132 => ?_)
      · refine g_iconst C dX3_begins_139 ?_
        obtain ⟨r25, er26⟩ : ∃ z, z = iUp r19 (112 + 11 * k + 4) 4 := ⟨_, rfl⟩
        refine g_iast C dX3_begins_140 M24.a18 (by decide) (by omega) (by omega) er26.symm (fun h27 hh28 => ?_)
        have hr29 : mR0 r25 := by rw [er26]; exact mR0.up (hr23) (gRo (by decide) (by decide))
        have M30 : mSt G h0 h27 m ad f (va_up g 18 r25) := mSt.uu (M24.st18 hh28) rfl
        refine g_aload_n C dX3_begins_141 3 rfl ?_
        refine g_get C dX3_begins_142 kcX3 18 q1481 (fun _ _ _ _ h9 => h9) M30.o (Nat.le_of_ble_eq_true rfl) rfl ?_
        refine g_iconst C dX3_begins_145 ?_
        refine g_bipush C dX3_begins_146 (by decide) ?_
        obtain ⟨r31, er32⟩ : ∃ z, z = iUp r25 1 (-2) := ⟨_, rfl⟩
        refine g_iast C dX3_begins_148 M30.a18 (by decide) (by decide) (by decide) er32.symm (fun h33 hh34 => ?_)
        have hr35 : mR0 r31 := by rw [er32]; exact mR0.up (hr29) (gRo (by decide) (by decide))
        have M36 : mSt G h0 h33 m ad f (va_up g 18 r31) := mSt.uu (M30.st18 hh34) rfl
        refine g_iconst C dX3_begins_149 ?_
        refine g_bret C E dX3_begins_150 rfl false rfl ?_
        subst er32
        subst er26
        subst eB
        have e1 : mBegB (g 6) (g 18) k = false := by unfold mBegB; grind
        unfold mBegR; rw [if_neg (by assumption), if_neg (by rw [e1]; decide)]
        (try rw [if_pos c97]); (try rw [if_pos c132]); (try rw [if_neg (by rw [c97]; decide)]); (try rw [if_neg (by rw [c132]; decide)])
        first | exact ⟨rB e1.symm, M36⟩ | exact absurd (c97.symm.trans c132) (by decide)
      · refine g_iconst C dX3_begins_135 ?_
        refine g_goto C dX3_begins_136 (tgt := 140) (by decide) ?_
        obtain ⟨r37, er38⟩ : ∃ z, z = iUp r19 (112 + 11 * k + 4) 3 := ⟨_, rfl⟩
        refine g_iast C dX3_begins_140 M24.a18 (by decide) (by omega) (by omega) er38.symm (fun h39 hh40 => ?_)
        have hr41 : mR0 r37 := by rw [er38]; exact mR0.up (hr23) (gRo (by decide) (by decide))
        have M42 : mSt G h0 h39 m ad f (va_up g 18 r37) := mSt.uu (M24.st18 hh40) rfl
        refine g_aload_n C dX3_begins_141 3 rfl ?_
        refine g_get C dX3_begins_142 kcX3 18 q1481 (fun _ _ _ _ h9 => h9) M42.o (Nat.le_of_ble_eq_true rfl) rfl ?_
        refine g_iconst C dX3_begins_145 ?_
        refine g_bipush C dX3_begins_146 (by decide) ?_
        obtain ⟨r43, er44⟩ : ∃ z, z = iUp r37 1 (-2) := ⟨_, rfl⟩
        refine g_iast C dX3_begins_148 M42.a18 (by decide) (by decide) (by decide) er44.symm (fun h45 hh46 => ?_)
        have hr47 : mR0 r43 := by rw [er44]; exact mR0.up (hr41) (gRo (by decide) (by decide))
        have M48 : mSt G h0 h45 m ad f (va_up g 18 r43) := mSt.uu (M42.st18 hh46) rfl
        refine g_iconst C dX3_begins_149 ?_
        refine g_bret C E dX3_begins_150 rfl false rfl ?_
        subst er44
        subst er38
        subst eB
        have e1 : mBegB (g 6) (g 18) k = false := by unfold mBegB; grind
        unfold mBegR; rw [if_neg (by assumption), if_neg (by rw [e1]; decide)]
        (try rw [if_pos c97]); (try rw [if_pos c132]); (try rw [if_neg (by rw [c97]; decide)]); (try rw [if_neg (by rw [c132]; decide)])
        first | exact ⟨rB e1.symm, M48⟩ | exact absurd (c97.symm.trans c132) (by decide)
    · refine g_aload_n C dX3_begins_100 3 rfl ?_
      refine g_iload_n C dX3_begins_101 1 rfl ?_
      refine g_iload C dX3_begins_102 0 rfl ?_
      refine g_callV C dX3_begins_104 lkX3_248 M24.o rfl (As := [.int (iI (g 18 (112 + 11 * k + 1))), .int (iI (g 18 (112 + 11 * k + 2)))]) (c_X3_firstNoise M24 (g 18 (112 + 11 * k + 1)) (g 18 (112 + 11 * k + 2)) hO1 (by omega) (show 0 ≤ (g 18 (112 + 11 * k + 2)) ∧ (g 18 (112 + 11 * k + 2)) < g 6 0 from by omega)) rfl rfl ⟨Nat.le_of_ble_eq_true rfl, Nat.le_of_ble_eq_true rfl⟩ (Nat.le_of_ble_eq_true rfl) ?_
      rintro _ _ ⟨rfl, rfl⟩
      show gW X h21 0 0 107 [(4, .int (iI (g 18 (112 + 11 * k + 2)))), (3, .int (iI (g 18 (112 + 11 * k + 1)))), (2, .int (iI (g 18 (112 + 11 * k + 0)))), (0, .ref m), (1, .int (iI k))] [.int (iI (mFirst (g 6) (r19) (g 18 (112 + 11 * k + 1)) (g 18 (112 + 11 * k + 2))))]
      have b49 := mFirst_b hO1 (ear := (g 18 (112 + 11 * k + 1))) (tone := (g 18 (112 + 11 * k + 2))) (by omega) (by omega)
      refine g_aload_n C dX3_begins_107 3 rfl ?_
      refine g_iload_n C dX3_begins_108 1 rfl ?_
      refine g_iload C dX3_begins_109 0 rfl ?_
      refine g_callV C dX3_begins_111 lkX3_251 M24.o rfl (As := [.int (iI (g 18 (112 + 11 * k + 1))), .int (iI (g 18 (112 + 11 * k + 2)))]) (c_X3_bound M24 (g 18 (112 + 11 * k + 1)) (g 18 (112 + 11 * k + 2)) hO1 (by omega) (show 0 ≤ (g 18 (112 + 11 * k + 2)) ∧ (g 18 (112 + 11 * k + 2)) < g 6 0 from by omega)) rfl rfl ⟨Nat.le_of_ble_eq_true rfl, Nat.le_of_ble_eq_true rfl⟩ (Nat.le_of_ble_eq_true rfl) ?_
      rintro _ _ ⟨rfl, rfl⟩
      show gW X h21 0 0 114 [(4, .int (iI (g 18 (112 + 11 * k + 2)))), (3, .int (iI (g 18 (112 + 11 * k + 1)))), (2, .int (iI (g 18 (112 + 11 * k + 0)))), (0, .ref m), (1, .int (iI k))] [.int (iI (mBound (g 6) (r19) (g 18 (112 + 11 * k + 1)) (g 18 (112 + 11 * k + 2)))), .int (iI (mFirst (g 6) (r19) (g 18 (112 + 11 * k + 1)) (g 18 (112 + 11 * k + 2))))]
      have b50 := mBound_b hO1 (ear := (g 18 (112 + 11 * k + 1))) (tone := (g 18 (112 + 11 * k + 2))) (by omega) (by omega)
      refine g_icmp_le C dX3_begins_114 (tgt := 151) (by decide) (gRo (by omega) (by omega)) (gRo (by omega) (by omega)) (fun c114 => ?_) (fun c114 => ?_)
      · refine g_aload_n C dX3_begins_151 3 rfl ?_
        refine g_aload_n C dX3_begins_152 3 rfl ?_
        refine g_iload_n C dX3_begins_153 2 rfl ?_
        refine g_iload_n C dX3_begins_154 1 rfl ?_
        refine g_iload C dX3_begins_155 0 rfl ?_
        refine g_callV C dX3_begins_157 lkX3_235 M24.o rfl (As := [.int (iI (g 18 (112 + 11 * k + 0))), .int (iI (g 18 (112 + 11 * k + 1))), .int (iI (g 18 (112 + 11 * k + 2)))]) (c_X3_plainThreshold M24 (g 18 (112 + 11 * k + 0)) (g 18 (112 + 11 * k + 1)) (g 18 (112 + 11 * k + 2)) hO1 (by omega) (by omega) (show 0 ≤ (g 18 (112 + 11 * k + 2)) ∧ (g 18 (112 + 11 * k + 2)) < g 6 0 from by omega)) rfl rfl ⟨Nat.le_of_ble_eq_true rfl, Nat.le_of_ble_eq_true rfl⟩ (Nat.le_of_ble_eq_true rfl) ?_
        rintro _ _ ⟨rfl, rfl⟩
        show gW X h21 0 0 160 [(4, .int (iI (g 18 (112 + 11 * k + 2)))), (3, .int (iI (g 18 (112 + 11 * k + 1)))), (2, .int (iI (g 18 (112 + 11 * k + 0)))), (0, .ref m), (1, .int (iI k))] [.int (iI (mPT (g 6) (r19) (g 18 (112 + 11 * k + 0)) (g 18 (112 + 11 * k + 1)) (g 18 (112 + 11 * k + 2)))), .ref m]
        have b51 := mPT_b hO1 (route := (g 18 (112 + 11 * k + 0))) (ear := (g 18 (112 + 11 * k + 1))) (tone := (g 18 (112 + 11 * k + 2))) (by omega) (by omega) (by omega)
        refine g_aload_n C dX3_begins_160 3 rfl ?_
        refine g_iload_n C dX3_begins_161 1 rfl ?_
        refine g_iload C dX3_begins_162 0 rfl ?_
        refine g_callV C dX3_begins_164 lkX3_248 M24.o rfl (As := [.int (iI (g 18 (112 + 11 * k + 1))), .int (iI (g 18 (112 + 11 * k + 2)))]) (c_X3_firstNoise M24 (g 18 (112 + 11 * k + 1)) (g 18 (112 + 11 * k + 2)) hO1 (by omega) (show 0 ≤ (g 18 (112 + 11 * k + 2)) ∧ (g 18 (112 + 11 * k + 2)) < g 6 0 from by omega)) rfl rfl ⟨Nat.le_of_ble_eq_true rfl, Nat.le_of_ble_eq_true rfl⟩ (Nat.le_of_ble_eq_true rfl) ?_
        rintro _ _ ⟨rfl, rfl⟩
        show gW X h21 0 0 167 [(4, .int (iI (g 18 (112 + 11 * k + 2)))), (3, .int (iI (g 18 (112 + 11 * k + 1)))), (2, .int (iI (g 18 (112 + 11 * k + 0)))), (0, .ref m), (1, .int (iI k))] [.int (iI (mFirst (g 6) (r19) (g 18 (112 + 11 * k + 1)) (g 18 (112 + 11 * k + 2)))), .int (iI (mPT (g 6) (r19) (g 18 (112 + 11 * k + 0)) (g 18 (112 + 11 * k + 1)) (g 18 (112 + 11 * k + 2)))), .ref m]
        have b52 := mFirst_b hO1 (ear := (g 18 (112 + 11 * k + 1))) (tone := (g 18 (112 + 11 * k + 2))) (by omega) (by omega)
        refine g_callV C dX3_begins_167 lkX3_244 M24.o rfl (As := [.int (iI (mPT (g 6) (r19) (g 18 (112 + 11 * k + 0)) (g 18 (112 + 11 * k + 1)) (g 18 (112 + 11 * k + 2)))), .int (iI (mFirst (g 6) (r19) (g 18 (112 + 11 * k + 1)) (g 18 (112 + 11 * k + 2))))]) (c_X3_searches M24 (mPT (g 6) (r19) (g 18 (112 + 11 * k + 0)) (g 18 (112 + 11 * k + 1)) (g 18 (112 + 11 * k + 2))) (mFirst (g 6) (r19) (g 18 (112 + 11 * k + 1)) (g 18 (112 + 11 * k + 2))) hr23 (by show 0 ≤ r19 1 ∧ r19 1 < 48; rw [show r19 1 = k from (by show r19 1 = _; rw [er20, iUp_n (by omega), er14, iUp_n (by decide), er8, iUp_n (by decide), er2, iUp_s])]; omega) (by omega) (by omega)) rfl rfl ⟨Nat.le_of_ble_eq_true rfl, Nat.le_of_ble_eq_true rfl⟩ (Nat.le_of_ble_eq_true rfl) ?_
        rintro _ h53 ⟨rfl, M54⟩
        obtain ⟨r55, er56⟩ : ∃ z, z = mSrchs (r19) (mPT (g 6) (r19) (g 18 (112 + 11 * k + 0)) (g 18 (112 + 11 * k + 1)) (g 18 (112 + 11 * k + 2))) (mFirst (g 6) (r19) (g 18 (112 + 11 * k + 1)) (g 18 (112 + 11 * k + 2))) := ⟨_, rfl⟩
        have M57 : mSt G h0 h53 m ad f (va_up g 18 r55) := mSt.uu M54 er56.symm
        refine g_iconst C dX3_begins_170 ?_
        refine g_bret C E dX3_begins_171 rfl true rfl ?_
        subst er56
        subst eB
        have e1 : mBegB (g 6) (g 18) k = true := by unfold mBegB; grind
        unfold mBegR; rw [if_neg (by assumption), if_pos e1]
        exact ⟨rB e1.symm, M57⟩
      · refine g_aload_n C dX3_begins_117 3 rfl ?_
        refine g_get C dX3_begins_118 kcX3 18 q1481 (fun _ _ _ _ h9 => h9) M24.o (Nat.le_of_ble_eq_true rfl) rfl ?_
        refine g_iload_n C dX3_begins_121 4 rfl ?_
        refine g_iconst C dX3_begins_122 ?_
        refine g_callS C dX3_begins_123 lkX3_213 (As := [.int (iI k), .int (iI 4)]) (c_X3_at k 4) rfl rfl ⟨Nat.le_of_ble_eq_true rfl, Nat.le_of_ble_eq_true rfl⟩ (Nat.le_of_ble_eq_true rfl) ?_
        rintro _ _ ⟨rfl, rfl⟩
        refine g_aload_n C dX3_begins_126 3 rfl ?_
        refine g_iload C dX3_begins_127 0 rfl ?_
        refine g_callV C dX3_begins_129 lkX3_232 M24.o rfl (As := [.int (iI (g 18 (112 + 11 * k + 2)))]) (c_X3_areProved M24 (g 18 (112 + 11 * k + 2)) hO1 (show 0 ≤ (g 18 (112 + 11 * k + 2)) ∧ (g 18 (112 + 11 * k + 2)) < g 6 0 from by omega)) rfl rfl ⟨Nat.le_of_ble_eq_true rfl, Nat.le_of_ble_eq_true rfl⟩ (Nat.le_of_ble_eq_true rfl) ?_
        rintro _ _ ⟨rfl, rfl⟩
        show gW X h21 0 0 132 [(4, .int (iI (g 18 (112 + 11 * k + 2)))), (3, .int (iI (g 18 (112 + 11 * k + 1)))), (2, .int (iI (g 18 (112 + 11 * k + 0)))), (0, .ref m), (1, .int (iI k))] [.int (iI (gb (mAreP (g 6) (r19) (g 18 (112 + 11 * k + 2))))), .int (iI (112 + 11 * k + 4)), .ref (ad 18)]
        refine g_ifF C dX3_begins_132 (tgt := 139) (by decide) (fun c132 => ?_) (fun c132 => ?_)
        · refine g_iconst C dX3_begins_139 ?_
          obtain ⟨r58, er59⟩ : ∃ z, z = iUp r19 (112 + 11 * k + 4) 4 := ⟨_, rfl⟩
          refine g_iast C dX3_begins_140 M24.a18 (by decide) (by omega) (by omega) er59.symm (fun h60 hh61 => ?_)
          have hr62 : mR0 r58 := by rw [er59]; exact mR0.up (hr23) (gRo (by decide) (by decide))
          have M63 : mSt G h0 h60 m ad f (va_up g 18 r58) := mSt.uu (M24.st18 hh61) rfl
          refine g_aload_n C dX3_begins_141 3 rfl ?_
          refine g_get C dX3_begins_142 kcX3 18 q1481 (fun _ _ _ _ h9 => h9) M63.o (Nat.le_of_ble_eq_true rfl) rfl ?_
          refine g_iconst C dX3_begins_145 ?_
          refine g_bipush C dX3_begins_146 (by decide) ?_
          obtain ⟨r64, er65⟩ : ∃ z, z = iUp r58 1 (-2) := ⟨_, rfl⟩
          refine g_iast C dX3_begins_148 M63.a18 (by decide) (by decide) (by decide) er65.symm (fun h66 hh67 => ?_)
          have hr68 : mR0 r64 := by rw [er65]; exact mR0.up (hr62) (gRo (by decide) (by decide))
          have M69 : mSt G h0 h66 m ad f (va_up g 18 r64) := mSt.uu (M63.st18 hh67) rfl
          refine g_iconst C dX3_begins_149 ?_
          refine g_bret C E dX3_begins_150 rfl false rfl ?_
          subst er65
          subst er59
          subst eB
          have e1 : mBegB (g 6) (g 18) k = false := by unfold mBegB; grind
          unfold mBegR; rw [if_neg (by assumption), if_neg (by rw [e1]; decide)]
          (try rw [if_pos c97]); (try rw [if_pos c132]); (try rw [if_neg (by rw [c97]; decide)]); (try rw [if_neg (by rw [c132]; decide)])
          first | exact ⟨rB e1.symm, M69⟩ | exact absurd (c97.symm.trans c132) (by decide)
        · refine g_iconst C dX3_begins_135 ?_
          refine g_goto C dX3_begins_136 (tgt := 140) (by decide) ?_
          obtain ⟨r70, er71⟩ : ∃ z, z = iUp r19 (112 + 11 * k + 4) 3 := ⟨_, rfl⟩
          refine g_iast C dX3_begins_140 M24.a18 (by decide) (by omega) (by omega) er71.symm (fun h72 hh73 => ?_)
          have hr74 : mR0 r70 := by rw [er71]; exact mR0.up (hr23) (gRo (by decide) (by decide))
          have M75 : mSt G h0 h72 m ad f (va_up g 18 r70) := mSt.uu (M24.st18 hh73) rfl
          refine g_aload_n C dX3_begins_141 3 rfl ?_
          refine g_get C dX3_begins_142 kcX3 18 q1481 (fun _ _ _ _ h9 => h9) M75.o (Nat.le_of_ble_eq_true rfl) rfl ?_
          refine g_iconst C dX3_begins_145 ?_
          refine g_bipush C dX3_begins_146 (by decide) ?_
          obtain ⟨r76, er77⟩ : ∃ z, z = iUp r70 1 (-2) := ⟨_, rfl⟩
          refine g_iast C dX3_begins_148 M75.a18 (by decide) (by decide) (by decide) er77.symm (fun h78 hh79 => ?_)
          have hr80 : mR0 r76 := by rw [er77]; exact mR0.up (hr74) (gRo (by decide) (by decide))
          have M81 : mSt G h0 h78 m ad f (va_up g 18 r76) := mSt.uu (M75.st18 hh79) rfl
          refine g_iconst C dX3_begins_149 ?_
          refine g_bret C E dX3_begins_150 rfl false rfl ?_
          subst er77
          subst er71
          subst eB
          have e1 : mBegB (g 6) (g 18) k = false := by unfold mBegB; grind
          unfold mBegR; rw [if_neg (by assumption), if_neg (by rw [e1]; decide)]
          (try rw [if_pos c97]); (try rw [if_pos c132]); (try rw [if_neg (by rw [c97]; decide)]); (try rw [if_neg (by rw [c132]; decide)])
          first | exact ⟨rB e1.symm, M81⟩ | exact absurd (c97.symm.trans c132) (by decide)
  · refine g_aload_n C dX3_begins_82 3 rfl ?_
    refine g_bipush C dX3_begins_83 (by decide) ?_
    refine g_iconst C dX3_begins_85 ?_
    refine g_callV C dX3_begins_86 lkX3_244 M24.o rfl (As := [.int (iI 8), .int (iI (-1))]) (c_X3_searches M24 8 (-1) hr23 (by show 0 ≤ r19 1 ∧ r19 1 < 48; rw [show r19 1 = k from (by show r19 1 = _; rw [er20, iUp_n (by omega), er14, iUp_n (by decide), er8, iUp_n (by decide), er2, iUp_s])]; omega) (by omega) (by omega)) rfl rfl ⟨Nat.le_of_ble_eq_true rfl, Nat.le_of_ble_eq_true rfl⟩ (Nat.le_of_ble_eq_true rfl) ?_
    rintro _ h82 ⟨rfl, M83⟩
    obtain ⟨r84, er85⟩ : ∃ z, z = mSrchs (r19) 8 (-1) := ⟨_, rfl⟩
    have M86 : mSt G h0 h82 m ad f (va_up g 18 r84) := mSt.uu M83 er85.symm
    refine g_iconst C dX3_begins_89 ?_
    refine g_bret C E dX3_begins_90 rfl true rfl ?_
    subst er85
    subst eB
    have e1 : mBegB (g 6) (g 18) k = true := by unfold mBegB; rw [decide_eq_true (by assumption)]; rfl
    have e2 := c79
    have e3 : mBegR (g 6) (g 18) k = mSrchs (mBeg0 (g 18) k) 8 (-1) := by unfold mBegR; rw [if_pos (by assumption)]
    rw [e3]
    exact ⟨rB e1.symm, M86⟩
