/-! THE REFERENCE, walks 12 -/
set_option maxRecDepth 100000
theorem lkX3_50 : gLkV RX3 50 yX3_laysWord cX3_laysWord 3 none 1 := ⟨⟨q1550, q1552, qs47, q111, q1553⟩, ⟨by decide, by decide⟩, by decide +kernel⟩
theorem c_X3_laysWord {G : gG} {h : gH} {h0 : gH} {m : Nat} {ad : Nat → Nat} {f : Nat → Int} {g : Nat → Int → Int} (M : mSt G h0 h m ad f g) (v : Int) (hv1 : -2147483648 ≤ v) (hv2 : v ≤ 2147483647) (h5 : 0 ≤ f 5 ∧ f 5 ≤ 696) : gC G yX3_laysWord (.code yX3_laysWord cX3_laysWord 3 none) 0 0 0 [.ref m, .int (iI v)] h (fun r h' => r = none ∧ mSt G h0 h' m ad (va_up f 5 (f 5 + 4)) (va_up g 4 (mLay (g 4) (f 5) v))) := by
  refine gC.of (by decide) (Nat.le_of_ble_eq_true rfl) rfl ?_
  intro X C E hI
  have C : gCtx G X cX3_laysWord 3 RX3 0 none := C
  refine g_iconst C dX3_laysWord_0 ?_
  refine g_istore_n C dX3_laysWord_1 (lv' := [(2, .int (iI 0)), (0, .ref m), (1, .int (iI v))]) 2 rfl (Nat.le_of_ble_eq_true rfl) rfl ?_
  refine g_iload_n C dX3_laysWord_2 0 rfl ?_
  refine g_iconst C dX3_laysWord_3 ?_
  refine g_icmp_ge C dX3_laysWord_4 (tgt := 37) (by decide) (gRo (by decide) (by decide)) (gRo (by decide) (by decide)) (fun q => absurd q (by decide)) (fun _ => ?_)
  refine g_aload_n C dX3_laysWord_7 1 rfl ?_
  refine g_get C dX3_laysWord_8 kcX3 4 q1467 (fun _ _ _ _ h9 => h9) M.o (Nat.le_of_ble_eq_true rfl) rfl ?_
  refine g_aload_n C dX3_laysWord_11 1 rfl ?_
  refine g_get C dX3_laysWord_12 kcX3 5 q1468 (fun _ _ _ _ h9 => h9) M.o (Nat.le_of_ble_eq_true rfl) rfl ?_
  refine g_iload_n C dX3_laysWord_15 0 rfl ?_
  refine g_iadd C dX3_laysWord_16 (v := f 5 + 0) rfl ?_
  refine g_iload_n C dX3_laysWord_17 2 rfl ?_
  refine g_bipush C dX3_laysWord_18 (by decide) ?_
  refine g_bipush C dX3_laysWord_20 (by decide) ?_
  refine g_iload_n C dX3_laysWord_22 0 rfl ?_
  refine g_imul C dX3_laysWord_23 (v := 0) (by decide) ?_
  refine g_isub C dX3_laysWord_24 (v := 24) (by decide) ?_
  refine g_ishr C dX3_laysWord_25 (v := v / 16777216) (iI_shr (gRo (by omega) (by omega)) 24 (by decide)) ?_
  refine g_sipush C dX3_laysWord_26 (by decide) ?_
  refine g_iand C dX3_laysWord_29 (v := (v / 16777216) % 256) (iI_and 8 (by decide) (by decide)) ?_
  obtain ⟨r1, er2⟩ : ∃ z, z = iUp (g 4) (f 5 + 0) ((v / 16777216) % 256) := ⟨_, rfl⟩
  refine g_iast C dX3_laysWord_30 M.a4 (by decide) (by omega) (by omega) er2.symm (fun h3 hh4 => ?_)
  have M5 : mSt G h0 h3 m ad f (va_up g 4 r1) := mSt.u1 (M.st4 hh4) rfl
  refine g_iinc C dX3_laysWord_31 (v := 1) (lv' := [(2, .int (iI 1)), (0, .ref m), (1, .int (iI v))]) 0 rfl (by decide) (Nat.le_of_ble_eq_true rfl) rfl ?_
  refine g_goto C dX3_laysWord_34 (tgt := 2) (by decide) ?_
  refine g_iload_n C dX3_laysWord_2 0 rfl ?_
  refine g_iconst C dX3_laysWord_3 ?_
  refine g_icmp_ge C dX3_laysWord_4 (tgt := 37) (by decide) (gRo (by decide) (by decide)) (gRo (by decide) (by decide)) (fun q => absurd q (by decide)) (fun _ => ?_)
  refine g_aload_n C dX3_laysWord_7 1 rfl ?_
  refine g_get C dX3_laysWord_8 kcX3 4 q1467 (fun _ _ _ _ h9 => h9) M5.o (Nat.le_of_ble_eq_true rfl) rfl ?_
  refine g_aload_n C dX3_laysWord_11 1 rfl ?_
  refine g_get C dX3_laysWord_12 kcX3 5 q1468 (fun _ _ _ _ h9 => h9) M5.o (Nat.le_of_ble_eq_true rfl) rfl ?_
  refine g_iload_n C dX3_laysWord_15 0 rfl ?_
  refine g_iadd C dX3_laysWord_16 (v := f 5 + 1) rfl ?_
  refine g_iload_n C dX3_laysWord_17 2 rfl ?_
  refine g_bipush C dX3_laysWord_18 (by decide) ?_
  refine g_bipush C dX3_laysWord_20 (by decide) ?_
  refine g_iload_n C dX3_laysWord_22 0 rfl ?_
  refine g_imul C dX3_laysWord_23 (v := 8) (by decide) ?_
  refine g_isub C dX3_laysWord_24 (v := 16) (by decide) ?_
  refine g_ishr C dX3_laysWord_25 (v := v / 65536) (iI_shr (gRo (by omega) (by omega)) 16 (by decide)) ?_
  refine g_sipush C dX3_laysWord_26 (by decide) ?_
  refine g_iand C dX3_laysWord_29 (v := (v / 65536) % 256) (iI_and 8 (by decide) (by decide)) ?_
  obtain ⟨r6, er7⟩ : ∃ z, z = iUp r1 (f 5 + 1) ((v / 65536) % 256) := ⟨_, rfl⟩
  refine g_iast C dX3_laysWord_30 M5.a4 (by decide) (by omega) (by omega) er7.symm (fun h8 hh9 => ?_)
  have M10 : mSt G h0 h8 m ad f (va_up g 4 r6) := mSt.uu (M5.st4 hh9) rfl
  refine g_iinc C dX3_laysWord_31 (v := 2) (lv' := [(2, .int (iI 2)), (0, .ref m), (1, .int (iI v))]) 0 rfl (by decide) (Nat.le_of_ble_eq_true rfl) rfl ?_
  refine g_goto C dX3_laysWord_34 (tgt := 2) (by decide) ?_
  refine g_iload_n C dX3_laysWord_2 0 rfl ?_
  refine g_iconst C dX3_laysWord_3 ?_
  refine g_icmp_ge C dX3_laysWord_4 (tgt := 37) (by decide) (gRo (by decide) (by decide)) (gRo (by decide) (by decide)) (fun q => absurd q (by decide)) (fun _ => ?_)
  refine g_aload_n C dX3_laysWord_7 1 rfl ?_
  refine g_get C dX3_laysWord_8 kcX3 4 q1467 (fun _ _ _ _ h9 => h9) M10.o (Nat.le_of_ble_eq_true rfl) rfl ?_
  refine g_aload_n C dX3_laysWord_11 1 rfl ?_
  refine g_get C dX3_laysWord_12 kcX3 5 q1468 (fun _ _ _ _ h9 => h9) M10.o (Nat.le_of_ble_eq_true rfl) rfl ?_
  refine g_iload_n C dX3_laysWord_15 0 rfl ?_
  refine g_iadd C dX3_laysWord_16 (v := f 5 + 2) rfl ?_
  refine g_iload_n C dX3_laysWord_17 2 rfl ?_
  refine g_bipush C dX3_laysWord_18 (by decide) ?_
  refine g_bipush C dX3_laysWord_20 (by decide) ?_
  refine g_iload_n C dX3_laysWord_22 0 rfl ?_
  refine g_imul C dX3_laysWord_23 (v := 16) (by decide) ?_
  refine g_isub C dX3_laysWord_24 (v := 8) (by decide) ?_
  refine g_ishr C dX3_laysWord_25 (v := v / 256) (iI_shr (gRo (by omega) (by omega)) 8 (by decide)) ?_
  refine g_sipush C dX3_laysWord_26 (by decide) ?_
  refine g_iand C dX3_laysWord_29 (v := (v / 256) % 256) (iI_and 8 (by decide) (by decide)) ?_
  obtain ⟨r11, er12⟩ : ∃ z, z = iUp r6 (f 5 + 2) ((v / 256) % 256) := ⟨_, rfl⟩
  refine g_iast C dX3_laysWord_30 M10.a4 (by decide) (by omega) (by omega) er12.symm (fun h13 hh14 => ?_)
  have M15 : mSt G h0 h13 m ad f (va_up g 4 r11) := mSt.uu (M10.st4 hh14) rfl
  refine g_iinc C dX3_laysWord_31 (v := 3) (lv' := [(2, .int (iI 3)), (0, .ref m), (1, .int (iI v))]) 0 rfl (by decide) (Nat.le_of_ble_eq_true rfl) rfl ?_
  refine g_goto C dX3_laysWord_34 (tgt := 2) (by decide) ?_
  refine g_iload_n C dX3_laysWord_2 0 rfl ?_
  refine g_iconst C dX3_laysWord_3 ?_
  refine g_icmp_ge C dX3_laysWord_4 (tgt := 37) (by decide) (gRo (by decide) (by decide)) (gRo (by decide) (by decide)) (fun q => absurd q (by decide)) (fun _ => ?_)
  refine g_aload_n C dX3_laysWord_7 1 rfl ?_
  refine g_get C dX3_laysWord_8 kcX3 4 q1467 (fun _ _ _ _ h9 => h9) M15.o (Nat.le_of_ble_eq_true rfl) rfl ?_
  refine g_aload_n C dX3_laysWord_11 1 rfl ?_
  refine g_get C dX3_laysWord_12 kcX3 5 q1468 (fun _ _ _ _ h9 => h9) M15.o (Nat.le_of_ble_eq_true rfl) rfl ?_
  refine g_iload_n C dX3_laysWord_15 0 rfl ?_
  refine g_iadd C dX3_laysWord_16 (v := f 5 + 3) rfl ?_
  refine g_iload_n C dX3_laysWord_17 2 rfl ?_
  refine g_bipush C dX3_laysWord_18 (by decide) ?_
  refine g_bipush C dX3_laysWord_20 (by decide) ?_
  refine g_iload_n C dX3_laysWord_22 0 rfl ?_
  refine g_imul C dX3_laysWord_23 (v := 24) (by decide) ?_
  refine g_isub C dX3_laysWord_24 (v := 0) (by decide) ?_
  refine g_ishr C dX3_laysWord_25 (v := v / 1) (iI_shr (gRo (by omega) (by omega)) 0 (by decide)) ?_
  refine g_sipush C dX3_laysWord_26 (by decide) ?_
  refine g_iand C dX3_laysWord_29 (v := (v / 1) % 256) (iI_and 8 (by decide) (by decide)) ?_
  obtain ⟨r16, er17⟩ : ∃ z, z = iUp r11 (f 5 + 3) ((v / 1) % 256) := ⟨_, rfl⟩
  refine g_iast C dX3_laysWord_30 M15.a4 (by decide) (by omega) (by omega) er17.symm (fun h18 hh19 => ?_)
  have M20 : mSt G h0 h18 m ad f (va_up g 4 r16) := mSt.uu (M15.st4 hh19) rfl
  refine g_iinc C dX3_laysWord_31 (v := 4) (lv' := [(2, .int (iI 4)), (0, .ref m), (1, .int (iI v))]) 0 rfl (by decide) (Nat.le_of_ble_eq_true rfl) rfl ?_
  refine g_goto C dX3_laysWord_34 (tgt := 2) (by decide) ?_
  refine g_iload_n C dX3_laysWord_2 0 rfl ?_
  refine g_iconst C dX3_laysWord_3 ?_
  refine g_icmp_ge C dX3_laysWord_4 (tgt := 37) (by decide) (gRo (by decide) (by decide)) (gRo (by decide) (by decide)) (fun _ => ?_) (fun q => absurd (by decide) q)
  refine g_aload_n C dX3_laysWord_37 1 rfl ?_
  refine g_dup C dX3_laysWord_38 rfl ?_
  refine g_get C dX3_laysWord_39 kcX3 5 q1468 (fun _ _ _ _ h9 => h9) M20.o (Nat.le_of_ble_eq_true rfl) rfl ?_
  refine g_iconst C dX3_laysWord_42 ?_
  refine g_iadd C dX3_laysWord_43 (v := f 5 + 4) rfl ?_
  refine g_put C dX3_laysWord_44 kcX3 5 q1468 (fun _ _ _ _ h9 => h9) M20.o rfl (Nat.le_of_ble_eq_true rfl) rfl rfl (Nat.le_of_ble_eq_true rfl) (fs2 := mFs ad (va_up f 5 (f 5 + 4))) rfl (fun h21 hh22 => ?_)
  have M23 : mSt G h0 h21 m ad (va_up f 5 (f 5 + 4)) (va_up g 4 r16) := M20.put hh22 rfl
  refine g_vret C E dX3_laysWord_47 rfl ?_
  subst er17
  subst er12
  subst er7
  subst er2
  exact ⟨rfl, M23⟩
theorem c_X3_feed {G : gG} {h : gH} {h0 : gH} {m : Nat} {ad : Nat → Nat} {f : Nat → Int} {g : Nat → Int → Int} (M : mSt G h0 h m ad f g) (a : Int) (b : Int) (c : Int) (d : Int) (e : Int) (ha1 : -2147483648 ≤ a) (ha2 : a ≤ 2147483647) (hb1 : -2147483648 ≤ b) (hb2 : b ≤ 2147483647) (hc1 : -2147483648 ≤ c) (hc2 : c ≤ 2147483647) (hd1 : -2147483648 ≤ d) (hd2 : d ≤ 2147483647) (he1 : -2147483648 ≤ e) (he2 : e ≤ 2147483647) (h5 : 0 ≤ f 5 ∧ f 5 ≤ 700) : gC G yX3_feed (.code yX3_feed cX3_feed 6 (some .int)) 1 0 0 [.ref m, .int (iI a), .int (iI b), .int (iI c), .int (iI d), .int (iI e)] h (fun r h' => (f 5 ≤ 680 → r = some (.int (iI (f 5 + 4 + 4 + 4 + 4 + 4))) ∧ mSt G h0 h' m ad (va_up (va_up f 0 0) 5 (f 5 + 4 + 4 + 4 + 4 + 4)) (va_up g 4 (mFeed (g 4) (f 5) a b c d e))) ∧ (680 < f 5 → r = some (.int (iI (-1))) ∧ mSt G h0 h' m ad (va_up f 0 0) g)) := by
  refine gC.of (by decide) (Nat.le_of_ble_eq_true rfl) rfl ?_
  intro X C E hI
  have C : gCtx G X cX3_feed 6 RX3 1 (some .int) := C
  refine g_aload_n C dX3_feed_0 0 rfl ?_
  refine g_iconst C dX3_feed_1 ?_
  refine g_put C dX3_feed_2 kcX3 0 q1463 (fun _ _ _ _ h9 => h9) M.o rfl (Nat.le_of_ble_eq_true rfl) rfl rfl (Nat.le_of_ble_eq_true rfl) (fs2 := mFs ad (va_up f 0 0)) rfl (fun h1 hh2 => ?_)
  have M3 : mSt G h0 h1 m ad (va_up f 0 0) g := M.put hh2 rfl
  refine g_aload_n C dX3_feed_5 0 rfl ?_
  refine g_get C dX3_feed_6 kcX3 5 q1468 (fun _ _ _ _ h9 => h9) M3.o (Nat.le_of_ble_eq_true rfl) (w := .int (iI (f 5))) rfl ?_
  refine g_sipush C dX3_feed_9 (by decide) ?_
  refine g_icmp_le C dX3_feed_12 (tgt := 17) (by decide) (gRo (by omega) (by omega)) (gRo (by decide) (by decide)) (fun c12 => ?_) (fun c12 => ?_)
  · refine g_aload_n C dX3_feed_17 0 rfl ?_
    refine g_iload_n C dX3_feed_18 1 rfl ?_
    refine g_callV C dX3_feed_19 lkX3_50 M3.o rfl (As := [.int (iI a)]) (c_X3_laysWord M3 a (by omega) (by omega) (show 0 ≤ f 5 ∧ f 5 ≤ 696 from by omega)) rfl rfl ⟨Nat.le_of_ble_eq_true rfl, Nat.le_of_ble_eq_true rfl⟩ (Nat.le_of_ble_eq_true rfl) ?_
    rintro _ h4 ⟨rfl, M5⟩
    obtain ⟨r6, er7⟩ : ∃ z, z = mLay (g 4) (f 5) a := ⟨_, rfl⟩
    have M8 : mSt G h0 h4 m ad (va_up (va_up f 0 0) 5 (f 5 + 4)) (va_up g 4 r6) := mSt.u1 M5 er7.symm
    refine g_aload_n C dX3_feed_22 0 rfl ?_
    refine g_iload_n C dX3_feed_23 2 rfl ?_
    refine g_callV C dX3_feed_24 lkX3_50 M8.o rfl (As := [.int (iI b)]) (c_X3_laysWord M8 b (by omega) (by omega) (show 0 ≤ f 5 + 4 ∧ f 5 + 4 ≤ 696 from by omega)) rfl rfl ⟨Nat.le_of_ble_eq_true rfl, Nat.le_of_ble_eq_true rfl⟩ (Nat.le_of_ble_eq_true rfl) ?_
    rintro _ h9 ⟨rfl, M10⟩
    obtain ⟨r11, er12⟩ : ∃ z, z = mLay r6 (f 5 + 4) b := ⟨_, rfl⟩
    have M13 : mSt G h0 h9 m ad (va_up (va_up (va_up f 0 0) 5 (f 5 + 4)) 5 (f 5 + 4 + 4)) (va_up g 4 r11) := mSt.uu M10 er12.symm
    refine g_aload_n C dX3_feed_27 0 rfl ?_
    refine g_iload_n C dX3_feed_28 3 rfl ?_
    refine g_callV C dX3_feed_29 lkX3_50 M13.o rfl (As := [.int (iI c)]) (c_X3_laysWord M13 c (by omega) (by omega) (show 0 ≤ f 5 + 4 + 4 ∧ f 5 + 4 + 4 ≤ 696 from by omega)) rfl rfl ⟨Nat.le_of_ble_eq_true rfl, Nat.le_of_ble_eq_true rfl⟩ (Nat.le_of_ble_eq_true rfl) ?_
    rintro _ h14 ⟨rfl, M15⟩
    obtain ⟨r16, er17⟩ : ∃ z, z = mLay r11 (f 5 + 4 + 4) c := ⟨_, rfl⟩
    have M18 : mSt G h0 h14 m ad (va_up (va_up (va_up (va_up f 0 0) 5 (f 5 + 4)) 5 (f 5 + 4 + 4)) 5 (f 5 + 4 + 4 + 4)) (va_up g 4 r16) := mSt.uu M15 er17.symm
    refine g_aload_n C dX3_feed_32 0 rfl ?_
    refine g_iload C dX3_feed_33 4 rfl ?_
    refine g_callV C dX3_feed_35 lkX3_50 M18.o rfl (As := [.int (iI d)]) (c_X3_laysWord M18 d (by omega) (by omega) (show 0 ≤ f 5 + 4 + 4 + 4 ∧ f 5 + 4 + 4 + 4 ≤ 696 from by omega)) rfl rfl ⟨Nat.le_of_ble_eq_true rfl, Nat.le_of_ble_eq_true rfl⟩ (Nat.le_of_ble_eq_true rfl) ?_
    rintro _ h19 ⟨rfl, M20⟩
    obtain ⟨r21, er22⟩ : ∃ z, z = mLay r16 (f 5 + 4 + 4 + 4) d := ⟨_, rfl⟩
    have M23 : mSt G h0 h19 m ad (va_up (va_up (va_up (va_up (va_up f 0 0) 5 (f 5 + 4)) 5 (f 5 + 4 + 4)) 5 (f 5 + 4 + 4 + 4)) 5 (f 5 + 4 + 4 + 4 + 4)) (va_up g 4 r21) := mSt.uu M20 er22.symm
    refine g_aload_n C dX3_feed_38 0 rfl ?_
    refine g_iload C dX3_feed_39 5 rfl ?_
    refine g_callV C dX3_feed_41 lkX3_50 M23.o rfl (As := [.int (iI e)]) (c_X3_laysWord M23 e (by omega) (by omega) (show 0 ≤ f 5 + 4 + 4 + 4 + 4 ∧ f 5 + 4 + 4 + 4 + 4 ≤ 696 from by omega)) rfl rfl ⟨Nat.le_of_ble_eq_true rfl, Nat.le_of_ble_eq_true rfl⟩ (Nat.le_of_ble_eq_true rfl) ?_
    rintro _ h24 ⟨rfl, M25⟩
    obtain ⟨r26, er27⟩ : ∃ z, z = mLay r21 (f 5 + 4 + 4 + 4 + 4) e := ⟨_, rfl⟩
    have M28 : mSt G h0 h24 m ad (va_up (va_up (va_up (va_up (va_up (va_up f 0 0) 5 (f 5 + 4)) 5 (f 5 + 4 + 4)) 5 (f 5 + 4 + 4 + 4)) 5 (f 5 + 4 + 4 + 4 + 4)) 5 (f 5 + 4 + 4 + 4 + 4 + 4)) (va_up g 4 r26) := mSt.uu M25 er27.symm
    refine g_aload_n C dX3_feed_44 0 rfl ?_
    refine g_get C dX3_feed_45 kcX3 5 q1468 (fun _ _ _ _ h9 => h9) M28.o (Nat.le_of_ble_eq_true rfl) (w := .int (iI (f 5 + 4 + 4 + 4 + 4 + 4))) rfl ?_
    refine g_iret C E dX3_feed_48 rfl ?_
    subst er27
    subst er22
    subst er17
    subst er12
    subst er7
    have M9 := M28
    simp only [bx_uu] at M9
    exact ⟨fun _ => ⟨rfl, M9⟩, fun z => by omega⟩
  · refine g_iconst C dX3_feed_15 ?_
    refine g_iret C E dX3_feed_16 rfl ?_
    exact ⟨fun z => by omega, fun _ => ⟨rfl, M3⟩⟩
theorem c_X3_init {G : gG} {h : gH} {m : Nat} (hm : h m = some ((40, 0), .inr (2, [.int (iI 0), .int (iI 0), .int (iI 0), .int (iI 0), .null, .int (iI 0), .null, .null, .int (iI 0), .int (iI 0), .int (iI 0), .int (iI 0), .int (iI 0), .int (iI 0), .int (iI 0), .int (iI 0), .int (iI 0), .int (iI 0), .null, .null, .null, .null, .null, .int (iI 0), .null, .int (iI 0)]))) : gC G yX3_init (.code yX3_init cX3_init 1 none) 1 9 4563 [.ref m] h (fun r h' => r = none ∧ ∃ ad, mSt G h h' m ad mF0 mG0) := by
  refine gC.of (by decide) (Nat.le_of_ble_eq_true rfl) rfl ?_
  intro X C E hI
  have C : gCtx G X cX3_init 1 RX3 1 none := C
  refine g_aload_n C dX3_init_0 0 rfl ?_
  refine g_objInit C dX3_init_1 q1462 q146 q_objInit (Nat.le_of_ble_eq_true rfl) (Nat.le_of_ble_eq_true rfl) ?_
  refine g_aload_n C dX3_init_4 0 rfl ?_
  refine g_iconst C dX3_init_5 ?_
  refine g_put C dX3_init_6 kcX3 3 q1466 (fun _ _ _ _ h9 => h9) hm rfl (Nat.le_of_ble_eq_true rfl) rfl rfl (Nat.le_of_ble_eq_true rfl) (fs2 := [.int (iI 0), .int (iI 0), .int (iI 0), .int (iI (-1)), .null, .int (iI 0), .null, .null, .int (iI 0), .int (iI 0), .int (iI 0), .int (iI 0), .int (iI 0), .int (iI 0), .int (iI 0), .int (iI 0), .int (iI 0), .int (iI 0), .null, .null, .null, .null, .null, .int (iI 0), .null, .int (iI 0)]) rfl (fun h1 hh2 => ?_)
  have hc3 : h1 m = some ((40, 0), .inr (2, [.int (iI 0), .int (iI 0), .int (iI 0), .int (iI (-1)), .null, .int (iI 0), .null, .null, .int (iI 0), .int (iI 0), .int (iI 0), .int (iI 0), .int (iI 0), .int (iI 0), .int (iI 0), .int (iI 0), .int (iI 0), .int (iI 0), .null, .null, .null, .null, .null, .int (iI 0), .null, .int (iI 0)])) := gUp_s1 hh2
  refine g_aload_n C dX3_init_9 0 rfl ?_
  refine g_sipush C dX3_init_10 (by decide) ?_
  refine g_newai C dX3_init_13 q223 (40, 4) (n := 700) rfl (by decide) (fun o4 h5 hn6 hh7 => ?_)
  have hc8 : h5 m = some ((40, 0), .inr (2, [.int (iI 0), .int (iI 0), .int (iI 0), .int (iI (-1)), .null, .int (iI 0), .null, .null, .int (iI 0), .int (iI 0), .int (iI 0), .int (iI 0), .int (iI 0), .int (iI 0), .int (iI 0), .int (iI 0), .int (iI 0), .int (iI 0), .null, .null, .null, .null, .null, .int (iI 0), .null, .int (iI 0)])) := gUp_f1 hh7 hn6 hc3
  have hc9 : h5 o4 = some ((40, 4), gAI G 700 (fun _ => 0)) := gUp_s1 hh7
  refine g_putF C (hI rfl) dX3_init_15 kcX3 4 q1467 (fun _ _ _ _ h9 => h9) hc8 rfl rfl (Nat.le_of_ble_eq_true rfl) rfl rfl (Nat.le_of_ble_eq_true rfl) (fs2 := [.int (iI 0), .int (iI 0), .int (iI 0), .int (iI (-1)), .ref o4, .int (iI 0), .null, .null, .int (iI 0), .int (iI 0), .int (iI 0), .int (iI 0), .int (iI 0), .int (iI 0), .int (iI 0), .int (iI 0), .int (iI 0), .int (iI 0), .null, .null, .null, .null, .null, .int (iI 0), .null, .int (iI 0)]) rfl (fun h10 hh11 => ?_)
  have hc12 : h10 m = some ((40, 0), .inr (2, [.int (iI 0), .int (iI 0), .int (iI 0), .int (iI (-1)), .ref o4, .int (iI 0), .null, .null, .int (iI 0), .int (iI 0), .int (iI 0), .int (iI 0), .int (iI 0), .int (iI 0), .int (iI 0), .int (iI 0), .int (iI 0), .int (iI 0), .null, .null, .null, .null, .null, .int (iI 0), .null, .int (iI 0)])) := gUp_s1 hh11
  have hc13 : h10 o4 = some ((40, 4), gAI G 700 (fun _ => 0)) := gUp_t1 hh11 hc8 hc9 (by decide)
  refine g_aload_n C dX3_init_18 0 rfl ?_
  refine g_bipush C dX3_init_19 (by decide) ?_
  refine g_newai C dX3_init_21 q223 (40, 6) (n := 42) rfl (by decide) (fun o14 h15 hn16 hh17 => ?_)
  have hc18 : h15 m = some ((40, 0), .inr (2, [.int (iI 0), .int (iI 0), .int (iI 0), .int (iI (-1)), .ref o4, .int (iI 0), .null, .null, .int (iI 0), .int (iI 0), .int (iI 0), .int (iI 0), .int (iI 0), .int (iI 0), .int (iI 0), .int (iI 0), .int (iI 0), .int (iI 0), .null, .null, .null, .null, .null, .int (iI 0), .null, .int (iI 0)])) := gUp_f1 hh17 hn16 hc12
  have hc19 : h15 o4 = some ((40, 4), gAI G 700 (fun _ => 0)) := gUp_f1 hh17 hn16 hc13
  have hc20 : h15 o14 = some ((40, 6), gAI G 42 (fun _ => 0)) := gUp_s1 hh17
  refine g_putF C (hI rfl) dX3_init_23 kcX3 6 q1469 (fun _ _ _ _ h9 => h9) hc18 rfl rfl (Nat.le_of_ble_eq_true rfl) rfl rfl (Nat.le_of_ble_eq_true rfl) (fs2 := [.int (iI 0), .int (iI 0), .int (iI 0), .int (iI (-1)), .ref o4, .int (iI 0), .ref o14, .null, .int (iI 0), .int (iI 0), .int (iI 0), .int (iI 0), .int (iI 0), .int (iI 0), .int (iI 0), .int (iI 0), .int (iI 0), .int (iI 0), .null, .null, .null, .null, .null, .int (iI 0), .null, .int (iI 0)]) rfl (fun h21 hh22 => ?_)
  have hc23 : h21 m = some ((40, 0), .inr (2, [.int (iI 0), .int (iI 0), .int (iI 0), .int (iI (-1)), .ref o4, .int (iI 0), .ref o14, .null, .int (iI 0), .int (iI 0), .int (iI 0), .int (iI 0), .int (iI 0), .int (iI 0), .int (iI 0), .int (iI 0), .int (iI 0), .int (iI 0), .null, .null, .null, .null, .null, .int (iI 0), .null, .int (iI 0)])) := gUp_s1 hh22
  have hc24 : h21 o4 = some ((40, 4), gAI G 700 (fun _ => 0)) := gUp_t1 hh22 hc18 hc19 (by decide)
  have hc25 : h21 o14 = some ((40, 6), gAI G 42 (fun _ => 0)) := gUp_t1 hh22 hc18 hc20 (by decide)
  refine g_aload_n C dX3_init_26 0 rfl ?_
  refine g_bipush C dX3_init_27 (by decide) ?_
  refine g_newai C dX3_init_29 q223 (40, 7) (n := 42) rfl (by decide) (fun o26 h27 hn28 hh29 => ?_)
  have hc30 : h27 m = some ((40, 0), .inr (2, [.int (iI 0), .int (iI 0), .int (iI 0), .int (iI (-1)), .ref o4, .int (iI 0), .ref o14, .null, .int (iI 0), .int (iI 0), .int (iI 0), .int (iI 0), .int (iI 0), .int (iI 0), .int (iI 0), .int (iI 0), .int (iI 0), .int (iI 0), .null, .null, .null, .null, .null, .int (iI 0), .null, .int (iI 0)])) := gUp_f1 hh29 hn28 hc23
  have hc31 : h27 o4 = some ((40, 4), gAI G 700 (fun _ => 0)) := gUp_f1 hh29 hn28 hc24
  have hc32 : h27 o14 = some ((40, 6), gAI G 42 (fun _ => 0)) := gUp_f1 hh29 hn28 hc25
  have hc33 : h27 o26 = some ((40, 7), gAI G 42 (fun _ => 0)) := gUp_s1 hh29
  refine g_putF C (hI rfl) dX3_init_31 kcX3 7 q1470 (fun _ _ _ _ h9 => h9) hc30 rfl rfl (Nat.le_of_ble_eq_true rfl) rfl rfl (Nat.le_of_ble_eq_true rfl) (fs2 := [.int (iI 0), .int (iI 0), .int (iI 0), .int (iI (-1)), .ref o4, .int (iI 0), .ref o14, .ref o26, .int (iI 0), .int (iI 0), .int (iI 0), .int (iI 0), .int (iI 0), .int (iI 0), .int (iI 0), .int (iI 0), .int (iI 0), .int (iI 0), .null, .null, .null, .null, .null, .int (iI 0), .null, .int (iI 0)]) rfl (fun h34 hh35 => ?_)
  have hc36 : h34 m = some ((40, 0), .inr (2, [.int (iI 0), .int (iI 0), .int (iI 0), .int (iI (-1)), .ref o4, .int (iI 0), .ref o14, .ref o26, .int (iI 0), .int (iI 0), .int (iI 0), .int (iI 0), .int (iI 0), .int (iI 0), .int (iI 0), .int (iI 0), .int (iI 0), .int (iI 0), .null, .null, .null, .null, .null, .int (iI 0), .null, .int (iI 0)])) := gUp_s1 hh35
  have hc37 : h34 o4 = some ((40, 4), gAI G 700 (fun _ => 0)) := gUp_t1 hh35 hc30 hc31 (by decide)
  have hc38 : h34 o14 = some ((40, 6), gAI G 42 (fun _ => 0)) := gUp_t1 hh35 hc30 hc32 (by decide)
  have hc39 : h34 o26 = some ((40, 7), gAI G 42 (fun _ => 0)) := gUp_t1 hh35 hc30 hc33 (by decide)
  refine g_aload_n C dX3_init_34 0 rfl ?_
  refine g_sipush C dX3_init_35 (by decide) ?_
  refine g_newai C dX3_init_38 q223 (40, 18) (n := 1840) rfl (by decide) (fun o40 h41 hn42 hh43 => ?_)
  have hc44 : h41 m = some ((40, 0), .inr (2, [.int (iI 0), .int (iI 0), .int (iI 0), .int (iI (-1)), .ref o4, .int (iI 0), .ref o14, .ref o26, .int (iI 0), .int (iI 0), .int (iI 0), .int (iI 0), .int (iI 0), .int (iI 0), .int (iI 0), .int (iI 0), .int (iI 0), .int (iI 0), .null, .null, .null, .null, .null, .int (iI 0), .null, .int (iI 0)])) := gUp_f1 hh43 hn42 hc36
  have hc45 : h41 o4 = some ((40, 4), gAI G 700 (fun _ => 0)) := gUp_f1 hh43 hn42 hc37
  have hc46 : h41 o14 = some ((40, 6), gAI G 42 (fun _ => 0)) := gUp_f1 hh43 hn42 hc38
  have hc47 : h41 o26 = some ((40, 7), gAI G 42 (fun _ => 0)) := gUp_f1 hh43 hn42 hc39
  have hc48 : h41 o40 = some ((40, 18), gAI G 1840 (fun _ => 0)) := gUp_s1 hh43
  refine g_putF C (hI rfl) dX3_init_40 kcX3 18 q1481 (fun _ _ _ _ h9 => h9) hc44 rfl rfl (Nat.le_of_ble_eq_true rfl) rfl rfl (Nat.le_of_ble_eq_true rfl) (fs2 := [.int (iI 0), .int (iI 0), .int (iI 0), .int (iI (-1)), .ref o4, .int (iI 0), .ref o14, .ref o26, .int (iI 0), .int (iI 0), .int (iI 0), .int (iI 0), .int (iI 0), .int (iI 0), .int (iI 0), .int (iI 0), .int (iI 0), .int (iI 0), .ref o40, .null, .null, .null, .null, .int (iI 0), .null, .int (iI 0)]) rfl (fun h49 hh50 => ?_)
  have hc51 : h49 m = some ((40, 0), .inr (2, [.int (iI 0), .int (iI 0), .int (iI 0), .int (iI (-1)), .ref o4, .int (iI 0), .ref o14, .ref o26, .int (iI 0), .int (iI 0), .int (iI 0), .int (iI 0), .int (iI 0), .int (iI 0), .int (iI 0), .int (iI 0), .int (iI 0), .int (iI 0), .ref o40, .null, .null, .null, .null, .int (iI 0), .null, .int (iI 0)])) := gUp_s1 hh50
  have hc52 : h49 o4 = some ((40, 4), gAI G 700 (fun _ => 0)) := gUp_t1 hh50 hc44 hc45 (by decide)
  have hc53 : h49 o14 = some ((40, 6), gAI G 42 (fun _ => 0)) := gUp_t1 hh50 hc44 hc46 (by decide)
  have hc54 : h49 o26 = some ((40, 7), gAI G 42 (fun _ => 0)) := gUp_t1 hh50 hc44 hc47 (by decide)
  have hc55 : h49 o40 = some ((40, 18), gAI G 1840 (fun _ => 0)) := gUp_t1 hh50 hc44 hc48 (by decide)
  refine g_aload_n C dX3_init_43 0 rfl ?_
  refine g_sipush C dX3_init_44 (by decide) ?_
  refine g_newai C dX3_init_47 q223 (40, 19) (n := 1840) rfl (by decide) (fun o56 h57 hn58 hh59 => ?_)
  have hc60 : h57 m = some ((40, 0), .inr (2, [.int (iI 0), .int (iI 0), .int (iI 0), .int (iI (-1)), .ref o4, .int (iI 0), .ref o14, .ref o26, .int (iI 0), .int (iI 0), .int (iI 0), .int (iI 0), .int (iI 0), .int (iI 0), .int (iI 0), .int (iI 0), .int (iI 0), .int (iI 0), .ref o40, .null, .null, .null, .null, .int (iI 0), .null, .int (iI 0)])) := gUp_f1 hh59 hn58 hc51
  have hc61 : h57 o4 = some ((40, 4), gAI G 700 (fun _ => 0)) := gUp_f1 hh59 hn58 hc52
  have hc62 : h57 o14 = some ((40, 6), gAI G 42 (fun _ => 0)) := gUp_f1 hh59 hn58 hc53
  have hc63 : h57 o26 = some ((40, 7), gAI G 42 (fun _ => 0)) := gUp_f1 hh59 hn58 hc54
  have hc64 : h57 o40 = some ((40, 18), gAI G 1840 (fun _ => 0)) := gUp_f1 hh59 hn58 hc55
  have hc65 : h57 o56 = some ((40, 19), gAI G 1840 (fun _ => 0)) := gUp_s1 hh59
  refine g_putF C (hI rfl) dX3_init_49 kcX3 19 q1482 (fun _ _ _ _ h9 => h9) hc60 rfl rfl (Nat.le_of_ble_eq_true rfl) rfl rfl (Nat.le_of_ble_eq_true rfl) (fs2 := [.int (iI 0), .int (iI 0), .int (iI 0), .int (iI (-1)), .ref o4, .int (iI 0), .ref o14, .ref o26, .int (iI 0), .int (iI 0), .int (iI 0), .int (iI 0), .int (iI 0), .int (iI 0), .int (iI 0), .int (iI 0), .int (iI 0), .int (iI 0), .ref o40, .ref o56, .null, .null, .null, .int (iI 0), .null, .int (iI 0)]) rfl (fun h66 hh67 => ?_)
  have hc68 : h66 m = some ((40, 0), .inr (2, [.int (iI 0), .int (iI 0), .int (iI 0), .int (iI (-1)), .ref o4, .int (iI 0), .ref o14, .ref o26, .int (iI 0), .int (iI 0), .int (iI 0), .int (iI 0), .int (iI 0), .int (iI 0), .int (iI 0), .int (iI 0), .int (iI 0), .int (iI 0), .ref o40, .ref o56, .null, .null, .null, .int (iI 0), .null, .int (iI 0)])) := gUp_s1 hh67
  have hc69 : h66 o4 = some ((40, 4), gAI G 700 (fun _ => 0)) := gUp_t1 hh67 hc60 hc61 (by decide)
  have hc70 : h66 o14 = some ((40, 6), gAI G 42 (fun _ => 0)) := gUp_t1 hh67 hc60 hc62 (by decide)
  have hc71 : h66 o26 = some ((40, 7), gAI G 42 (fun _ => 0)) := gUp_t1 hh67 hc60 hc63 (by decide)
  have hc72 : h66 o40 = some ((40, 18), gAI G 1840 (fun _ => 0)) := gUp_t1 hh67 hc60 hc64 (by decide)
  have hc73 : h66 o56 = some ((40, 19), gAI G 1840 (fun _ => 0)) := gUp_t1 hh67 hc60 hc65 (by decide)
  refine g_aload_n C dX3_init_52 0 rfl ?_
  refine g_bipush C dX3_init_53 (by decide) ?_
  refine g_newai C dX3_init_55 q223 (40, 20) (n := 25) rfl (by decide) (fun o74 h75 hn76 hh77 => ?_)
  have hc78 : h75 m = some ((40, 0), .inr (2, [.int (iI 0), .int (iI 0), .int (iI 0), .int (iI (-1)), .ref o4, .int (iI 0), .ref o14, .ref o26, .int (iI 0), .int (iI 0), .int (iI 0), .int (iI 0), .int (iI 0), .int (iI 0), .int (iI 0), .int (iI 0), .int (iI 0), .int (iI 0), .ref o40, .ref o56, .null, .null, .null, .int (iI 0), .null, .int (iI 0)])) := gUp_f1 hh77 hn76 hc68
  have hc79 : h75 o4 = some ((40, 4), gAI G 700 (fun _ => 0)) := gUp_f1 hh77 hn76 hc69
  have hc80 : h75 o14 = some ((40, 6), gAI G 42 (fun _ => 0)) := gUp_f1 hh77 hn76 hc70
  have hc81 : h75 o26 = some ((40, 7), gAI G 42 (fun _ => 0)) := gUp_f1 hh77 hn76 hc71
  have hc82 : h75 o40 = some ((40, 18), gAI G 1840 (fun _ => 0)) := gUp_f1 hh77 hn76 hc72
  have hc83 : h75 o56 = some ((40, 19), gAI G 1840 (fun _ => 0)) := gUp_f1 hh77 hn76 hc73
  have hc84 : h75 o74 = some ((40, 20), gAI G 25 (fun _ => 0)) := gUp_s1 hh77
  refine g_putF C (hI rfl) dX3_init_57 kcX3 20 q1483 (fun _ _ _ _ h9 => h9) hc78 rfl rfl (Nat.le_of_ble_eq_true rfl) rfl rfl (Nat.le_of_ble_eq_true rfl) (fs2 := [.int (iI 0), .int (iI 0), .int (iI 0), .int (iI (-1)), .ref o4, .int (iI 0), .ref o14, .ref o26, .int (iI 0), .int (iI 0), .int (iI 0), .int (iI 0), .int (iI 0), .int (iI 0), .int (iI 0), .int (iI 0), .int (iI 0), .int (iI 0), .ref o40, .ref o56, .ref o74, .null, .null, .int (iI 0), .null, .int (iI 0)]) rfl (fun h85 hh86 => ?_)
  have hc87 : h85 m = some ((40, 0), .inr (2, [.int (iI 0), .int (iI 0), .int (iI 0), .int (iI (-1)), .ref o4, .int (iI 0), .ref o14, .ref o26, .int (iI 0), .int (iI 0), .int (iI 0), .int (iI 0), .int (iI 0), .int (iI 0), .int (iI 0), .int (iI 0), .int (iI 0), .int (iI 0), .ref o40, .ref o56, .ref o74, .null, .null, .int (iI 0), .null, .int (iI 0)])) := gUp_s1 hh86
  have hc88 : h85 o4 = some ((40, 4), gAI G 700 (fun _ => 0)) := gUp_t1 hh86 hc78 hc79 (by decide)
  have hc89 : h85 o14 = some ((40, 6), gAI G 42 (fun _ => 0)) := gUp_t1 hh86 hc78 hc80 (by decide)
  have hc90 : h85 o26 = some ((40, 7), gAI G 42 (fun _ => 0)) := gUp_t1 hh86 hc78 hc81 (by decide)
  have hc91 : h85 o40 = some ((40, 18), gAI G 1840 (fun _ => 0)) := gUp_t1 hh86 hc78 hc82 (by decide)
  have hc92 : h85 o56 = some ((40, 19), gAI G 1840 (fun _ => 0)) := gUp_t1 hh86 hc78 hc83 (by decide)
  have hc93 : h85 o74 = some ((40, 20), gAI G 25 (fun _ => 0)) := gUp_t1 hh86 hc78 hc84 (by decide)
  refine g_aload_n C dX3_init_60 0 rfl ?_
  refine g_bipush C dX3_init_61 (by decide) ?_
  refine g_newai C dX3_init_63 q223 (40, 21) (n := 25) rfl (by decide) (fun o94 h95 hn96 hh97 => ?_)
  have hc98 : h95 m = some ((40, 0), .inr (2, [.int (iI 0), .int (iI 0), .int (iI 0), .int (iI (-1)), .ref o4, .int (iI 0), .ref o14, .ref o26, .int (iI 0), .int (iI 0), .int (iI 0), .int (iI 0), .int (iI 0), .int (iI 0), .int (iI 0), .int (iI 0), .int (iI 0), .int (iI 0), .ref o40, .ref o56, .ref o74, .null, .null, .int (iI 0), .null, .int (iI 0)])) := gUp_f1 hh97 hn96 hc87
  have hc99 : h95 o4 = some ((40, 4), gAI G 700 (fun _ => 0)) := gUp_f1 hh97 hn96 hc88
  have hc100 : h95 o14 = some ((40, 6), gAI G 42 (fun _ => 0)) := gUp_f1 hh97 hn96 hc89
  have hc101 : h95 o26 = some ((40, 7), gAI G 42 (fun _ => 0)) := gUp_f1 hh97 hn96 hc90
  have hc102 : h95 o40 = some ((40, 18), gAI G 1840 (fun _ => 0)) := gUp_f1 hh97 hn96 hc91
  have hc103 : h95 o56 = some ((40, 19), gAI G 1840 (fun _ => 0)) := gUp_f1 hh97 hn96 hc92
  have hc104 : h95 o74 = some ((40, 20), gAI G 25 (fun _ => 0)) := gUp_f1 hh97 hn96 hc93
  have hc105 : h95 o94 = some ((40, 21), gAI G 25 (fun _ => 0)) := gUp_s1 hh97
  refine g_putF C (hI rfl) dX3_init_65 kcX3 21 q1484 (fun _ _ _ _ h9 => h9) hc98 rfl rfl (Nat.le_of_ble_eq_true rfl) rfl rfl (Nat.le_of_ble_eq_true rfl) (fs2 := [.int (iI 0), .int (iI 0), .int (iI 0), .int (iI (-1)), .ref o4, .int (iI 0), .ref o14, .ref o26, .int (iI 0), .int (iI 0), .int (iI 0), .int (iI 0), .int (iI 0), .int (iI 0), .int (iI 0), .int (iI 0), .int (iI 0), .int (iI 0), .ref o40, .ref o56, .ref o74, .ref o94, .null, .int (iI 0), .null, .int (iI 0)]) rfl (fun h106 hh107 => ?_)
  have hc108 : h106 m = some ((40, 0), .inr (2, [.int (iI 0), .int (iI 0), .int (iI 0), .int (iI (-1)), .ref o4, .int (iI 0), .ref o14, .ref o26, .int (iI 0), .int (iI 0), .int (iI 0), .int (iI 0), .int (iI 0), .int (iI 0), .int (iI 0), .int (iI 0), .int (iI 0), .int (iI 0), .ref o40, .ref o56, .ref o74, .ref o94, .null, .int (iI 0), .null, .int (iI 0)])) := gUp_s1 hh107
  have hc109 : h106 o4 = some ((40, 4), gAI G 700 (fun _ => 0)) := gUp_t1 hh107 hc98 hc99 (by decide)
  have hc110 : h106 o14 = some ((40, 6), gAI G 42 (fun _ => 0)) := gUp_t1 hh107 hc98 hc100 (by decide)
  have hc111 : h106 o26 = some ((40, 7), gAI G 42 (fun _ => 0)) := gUp_t1 hh107 hc98 hc101 (by decide)
  have hc112 : h106 o40 = some ((40, 18), gAI G 1840 (fun _ => 0)) := gUp_t1 hh107 hc98 hc102 (by decide)
  have hc113 : h106 o56 = some ((40, 19), gAI G 1840 (fun _ => 0)) := gUp_t1 hh107 hc98 hc103 (by decide)
  have hc114 : h106 o74 = some ((40, 20), gAI G 25 (fun _ => 0)) := gUp_t1 hh107 hc98 hc104 (by decide)
  have hc115 : h106 o94 = some ((40, 21), gAI G 25 (fun _ => 0)) := gUp_t1 hh107 hc98 hc105 (by decide)
  refine g_aload_n C dX3_init_68 0 rfl ?_
  refine g_bipush C dX3_init_69 (by decide) ?_
  refine g_newai C dX3_init_71 q223 (40, 22) (n := 25) rfl (by decide) (fun o116 h117 hn118 hh119 => ?_)
  have hc120 : h117 m = some ((40, 0), .inr (2, [.int (iI 0), .int (iI 0), .int (iI 0), .int (iI (-1)), .ref o4, .int (iI 0), .ref o14, .ref o26, .int (iI 0), .int (iI 0), .int (iI 0), .int (iI 0), .int (iI 0), .int (iI 0), .int (iI 0), .int (iI 0), .int (iI 0), .int (iI 0), .ref o40, .ref o56, .ref o74, .ref o94, .null, .int (iI 0), .null, .int (iI 0)])) := gUp_f1 hh119 hn118 hc108
  have hc121 : h117 o4 = some ((40, 4), gAI G 700 (fun _ => 0)) := gUp_f1 hh119 hn118 hc109
  have hc122 : h117 o14 = some ((40, 6), gAI G 42 (fun _ => 0)) := gUp_f1 hh119 hn118 hc110
  have hc123 : h117 o26 = some ((40, 7), gAI G 42 (fun _ => 0)) := gUp_f1 hh119 hn118 hc111
  have hc124 : h117 o40 = some ((40, 18), gAI G 1840 (fun _ => 0)) := gUp_f1 hh119 hn118 hc112
  have hc125 : h117 o56 = some ((40, 19), gAI G 1840 (fun _ => 0)) := gUp_f1 hh119 hn118 hc113
  have hc126 : h117 o74 = some ((40, 20), gAI G 25 (fun _ => 0)) := gUp_f1 hh119 hn118 hc114
  have hc127 : h117 o94 = some ((40, 21), gAI G 25 (fun _ => 0)) := gUp_f1 hh119 hn118 hc115
  have hc128 : h117 o116 = some ((40, 22), gAI G 25 (fun _ => 0)) := gUp_s1 hh119
  refine g_putF C (hI rfl) dX3_init_73 kcX3 22 q1485 (fun _ _ _ _ h9 => h9) hc120 rfl rfl (Nat.le_of_ble_eq_true rfl) rfl rfl (Nat.le_of_ble_eq_true rfl) (fs2 := [.int (iI 0), .int (iI 0), .int (iI 0), .int (iI (-1)), .ref o4, .int (iI 0), .ref o14, .ref o26, .int (iI 0), .int (iI 0), .int (iI 0), .int (iI 0), .int (iI 0), .int (iI 0), .int (iI 0), .int (iI 0), .int (iI 0), .int (iI 0), .ref o40, .ref o56, .ref o74, .ref o94, .ref o116, .int (iI 0), .null, .int (iI 0)]) rfl (fun h129 hh130 => ?_)
  have hc131 : h129 m = some ((40, 0), .inr (2, [.int (iI 0), .int (iI 0), .int (iI 0), .int (iI (-1)), .ref o4, .int (iI 0), .ref o14, .ref o26, .int (iI 0), .int (iI 0), .int (iI 0), .int (iI 0), .int (iI 0), .int (iI 0), .int (iI 0), .int (iI 0), .int (iI 0), .int (iI 0), .ref o40, .ref o56, .ref o74, .ref o94, .ref o116, .int (iI 0), .null, .int (iI 0)])) := gUp_s1 hh130
  have hc132 : h129 o4 = some ((40, 4), gAI G 700 (fun _ => 0)) := gUp_t1 hh130 hc120 hc121 (by decide)
  have hc133 : h129 o14 = some ((40, 6), gAI G 42 (fun _ => 0)) := gUp_t1 hh130 hc120 hc122 (by decide)
  have hc134 : h129 o26 = some ((40, 7), gAI G 42 (fun _ => 0)) := gUp_t1 hh130 hc120 hc123 (by decide)
  have hc135 : h129 o40 = some ((40, 18), gAI G 1840 (fun _ => 0)) := gUp_t1 hh130 hc120 hc124 (by decide)
  have hc136 : h129 o56 = some ((40, 19), gAI G 1840 (fun _ => 0)) := gUp_t1 hh130 hc120 hc125 (by decide)
  have hc137 : h129 o74 = some ((40, 20), gAI G 25 (fun _ => 0)) := gUp_t1 hh130 hc120 hc126 (by decide)
  have hc138 : h129 o94 = some ((40, 21), gAI G 25 (fun _ => 0)) := gUp_t1 hh130 hc120 hc127 (by decide)
  have hc139 : h129 o116 = some ((40, 22), gAI G 25 (fun _ => 0)) := gUp_t1 hh130 hc120 hc128 (by decide)
  refine g_aload_n C dX3_init_76 0 rfl ?_
  refine g_bipush C dX3_init_77 (by decide) ?_
  refine g_newai C dX3_init_79 q223 (40, 24) (n := 24) rfl (by decide) (fun o140 h141 hn142 hh143 => ?_)
  have hc144 : h141 m = some ((40, 0), .inr (2, [.int (iI 0), .int (iI 0), .int (iI 0), .int (iI (-1)), .ref o4, .int (iI 0), .ref o14, .ref o26, .int (iI 0), .int (iI 0), .int (iI 0), .int (iI 0), .int (iI 0), .int (iI 0), .int (iI 0), .int (iI 0), .int (iI 0), .int (iI 0), .ref o40, .ref o56, .ref o74, .ref o94, .ref o116, .int (iI 0), .null, .int (iI 0)])) := gUp_f1 hh143 hn142 hc131
  have hc145 : h141 o4 = some ((40, 4), gAI G 700 (fun _ => 0)) := gUp_f1 hh143 hn142 hc132
  have hc146 : h141 o14 = some ((40, 6), gAI G 42 (fun _ => 0)) := gUp_f1 hh143 hn142 hc133
  have hc147 : h141 o26 = some ((40, 7), gAI G 42 (fun _ => 0)) := gUp_f1 hh143 hn142 hc134
  have hc148 : h141 o40 = some ((40, 18), gAI G 1840 (fun _ => 0)) := gUp_f1 hh143 hn142 hc135
  have hc149 : h141 o56 = some ((40, 19), gAI G 1840 (fun _ => 0)) := gUp_f1 hh143 hn142 hc136
  have hc150 : h141 o74 = some ((40, 20), gAI G 25 (fun _ => 0)) := gUp_f1 hh143 hn142 hc137
  have hc151 : h141 o94 = some ((40, 21), gAI G 25 (fun _ => 0)) := gUp_f1 hh143 hn142 hc138
  have hc152 : h141 o116 = some ((40, 22), gAI G 25 (fun _ => 0)) := gUp_f1 hh143 hn142 hc139
  have hc153 : h141 o140 = some ((40, 24), gAI G 24 (fun _ => 0)) := gUp_s1 hh143
  refine g_putF C (hI rfl) dX3_init_81 kcX3 24 q1487 (fun _ _ _ _ h9 => h9) hc144 rfl rfl (Nat.le_of_ble_eq_true rfl) rfl rfl (Nat.le_of_ble_eq_true rfl) (fs2 := [.int (iI 0), .int (iI 0), .int (iI 0), .int (iI (-1)), .ref o4, .int (iI 0), .ref o14, .ref o26, .int (iI 0), .int (iI 0), .int (iI 0), .int (iI 0), .int (iI 0), .int (iI 0), .int (iI 0), .int (iI 0), .int (iI 0), .int (iI 0), .ref o40, .ref o56, .ref o74, .ref o94, .ref o116, .int (iI 0), .ref o140, .int (iI 0)]) rfl (fun h154 hh155 => ?_)
  have hc156 : h154 m = some ((40, 0), .inr (2, [.int (iI 0), .int (iI 0), .int (iI 0), .int (iI (-1)), .ref o4, .int (iI 0), .ref o14, .ref o26, .int (iI 0), .int (iI 0), .int (iI 0), .int (iI 0), .int (iI 0), .int (iI 0), .int (iI 0), .int (iI 0), .int (iI 0), .int (iI 0), .ref o40, .ref o56, .ref o74, .ref o94, .ref o116, .int (iI 0), .ref o140, .int (iI 0)])) := gUp_s1 hh155
  have hc157 : h154 o4 = some ((40, 4), gAI G 700 (fun _ => 0)) := gUp_t1 hh155 hc144 hc145 (by decide)
  have hc158 : h154 o14 = some ((40, 6), gAI G 42 (fun _ => 0)) := gUp_t1 hh155 hc144 hc146 (by decide)
  have hc159 : h154 o26 = some ((40, 7), gAI G 42 (fun _ => 0)) := gUp_t1 hh155 hc144 hc147 (by decide)
  have hc160 : h154 o40 = some ((40, 18), gAI G 1840 (fun _ => 0)) := gUp_t1 hh155 hc144 hc148 (by decide)
  have hc161 : h154 o56 = some ((40, 19), gAI G 1840 (fun _ => 0)) := gUp_t1 hh155 hc144 hc149 (by decide)
  have hc162 : h154 o74 = some ((40, 20), gAI G 25 (fun _ => 0)) := gUp_t1 hh155 hc144 hc150 (by decide)
  have hc163 : h154 o94 = some ((40, 21), gAI G 25 (fun _ => 0)) := gUp_t1 hh155 hc144 hc151 (by decide)
  have hc164 : h154 o116 = some ((40, 22), gAI G 25 (fun _ => 0)) := gUp_t1 hh155 hc144 hc152 (by decide)
  have hc165 : h154 o140 = some ((40, 24), gAI G 24 (fun _ => 0)) := gUp_t1 hh155 hc144 hc153 (by decide)
  refine g_vret C E dX3_init_84 rfl ?_
  exact ⟨rfl, fun k => if k = 4 then o4 else if k = 6 then o14 else if k = 7 then o26 else if k = 18 then o40 else if k = 19 then o56 else if k = 20 then o74 else if k = 21 then o94 else if k = 22 then o116 else if k = 24 then o140 else 0, ⟨hc156, hc157, hc158, hc159, hc160, hc161, hc162, hc163, hc164, hc165⟩, (((((((((((((((((((gAgr.rf.trans (gAgr.up hh2 hm (Or.inl rfl))).trans (gAgr.new hh7 hn6)).trans (gAgr.up hh11 hc8 (Or.inl rfl))).trans (gAgr.new hh17 hn16)).trans (gAgr.up hh22 hc18 (Or.inl rfl))).trans (gAgr.new hh29 hn28)).trans (gAgr.up hh35 hc30 (Or.inl rfl))).trans (gAgr.new hh43 hn42)).trans (gAgr.up hh50 hc44 (Or.inl rfl))).trans (gAgr.new hh59 hn58)).trans (gAgr.up hh67 hc60 (Or.inl rfl))).trans (gAgr.new hh77 hn76)).trans (gAgr.up hh86 hc78 (Or.inl rfl))).trans (gAgr.new hh97 hn96)).trans (gAgr.up hh107 hc98 (Or.inl rfl))).trans (gAgr.new hh119 hn118)).trans (gAgr.up hh130 hc120 (Or.inl rfl))).trans (gAgr.new hh143 hn142)).trans (gAgr.up hh155 hc144 (Or.inl rfl)))⟩
