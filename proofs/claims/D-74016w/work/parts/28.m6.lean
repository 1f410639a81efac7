/-! THE REFERENCE, walks 6 -/
set_option maxRecDepth 100000
theorem lkX3_219 : gLkV RX3 219 yX3_addsTask cX3_addsTask 6 none 4 := ⟨⟨q1634, q1636, qs63, q111, q1637⟩, ⟨by decide, by decide⟩, by decide +kernel⟩
theorem lkX3_223 : gLkV RX3 223 yX3_begins cX3_begins 5 (some .boolean) 1 := ⟨⟨q1645, q1647, qs65, q111, q1648⟩, ⟨by decide, by decide⟩, by decide +kernel⟩
theorem lkX3_254 : gLkV RX3 254 yX3_addsMasked cX3_addsMasked 4 none 0 := ⟨⟨q1800, q1802, qs88, q111, q1803⟩, ⟨by decide, by decide⟩, by decide +kernel⟩
theorem lkX3_257 : gLkV RX3 257 yX3_nextTask cX3_nextTask 3 (some .int) 1 := ⟨⟨q1796, q1798, qs87, q111, q1799⟩, ⟨by decide, by decide⟩, by decide +kernel⟩
theorem c_X3_addsMasked {G : gG} {h : gH} {h0 : gH} {m : Nat} {ad : Nat → Nat} {f : Nat → Int} {g : Nat → Int → Int} (M : mSt G h0 h m ad f g) (hO : mOk (g 6) (g 18)) (h4 : g 18 0 = 4 * g 6 0) : gC G yX3_addsMasked (.code yX3_addsMasked cX3_addsMasked 4 none) 4 0 0 [.ref m] h (fun r h' => r = none ∧ mSt G h0 h' m ad (f) (va_up g 18 (mAM (g 6) (g 18)))) := by
  refine gC.of (by decide) (Nat.le_of_ble_eq_true rfl) rfl ?_
  intro X C E hI
  have C : gCtx G X cX3_addsMasked 4 RX3 4 none := C
  obtain ⟨hI_, hr, hn, hT, hS_⟩ := id hO
  obtain ⟨hi0, hi1, hi2, hi3, hi4, hi5, hiA, hiR⟩ := id hI_
  obtain ⟨hs1, hs3, hs4, hs5, hs6, hs7, hs8, hs11, hs2⟩ := id hS_
  refine g_aload_n C dX3_addsMasked_0 0 rfl ?_
  refine g_get C dX3_addsMasked_1 kcX3 18 q1481 (fun _ _ _ _ h9 => h9) M.o (Nat.le_of_ble_eq_true rfl) rfl ?_
  refine g_iconst C dX3_addsMasked_4 ?_
  refine g_iconst C dX3_addsMasked_5 ?_
  obtain ⟨r1, er2⟩ : ∃ z, z = iUp (g 18) 2 1 := ⟨_, rfl⟩
  refine g_iast C dX3_addsMasked_6 M.a18 (by decide) (by decide) (by decide) er2.symm (fun h3 hh4 => ?_)
  have hr5 : mR0 r1 := by rw [er2]; exact mR0.up (hr) (gRo (by decide) (by decide))
  have M6 : mSt G h0 h3 m ad f (va_up g 18 r1) := mSt.u1 (M.st18 hh4) rfl
  refine g_iconst C dX3_addsMasked_7 ?_
  refine g_istore_n C dX3_addsMasked_8 (lv' := [(1, .int (iI 0)), (0, .ref m)]) 1 rfl (Nat.le_of_ble_eq_true rfl) rfl ?_
  have L9 : ∀ (n1 : Nat) (route : Int) (ρ1 : Int → Int) (h1 : gH) (M1 : mSt G h0 h1 m ad f (va_up g 18 ρ1)) (hkroute : 0 ≤ route ∧ route ≤ 2) (hnroute : 2 - route < n1) (ha1 : mAMi (g 6) route 0 0 ρ1) (hs1 : mFor (mAM3 (g 6)) (2 - route).toNat route ρ1 = mAM (g 6) (g 18)), gW X h1 0 0 9 [(1, .int (iI route)), (0, .ref m)] [] := by
    intro n1
    induction n1 with
    | zero => intro route ρ1 h1 M1 hkroute hnroute ha1 hs1; exfalso; omega
    | succ n1 ih1 =>
      intro route ρ1 h1 M1 hkroute hnroute ha1 hs1
      have hcroute := ha1.2.2
      have hdroute := ha1.1.2.2.1
      refine g_iload_n C dX3_addsMasked_9 0 rfl ?_
      refine g_iconst C dX3_addsMasked_10 ?_
      refine g_icmp_ge C dX3_addsMasked_11 (tgt := 69) (by decide) (gRo (by omega) (by omega)) (gRo (by decide) (by decide)) (fun c11 => ?_) (fun c11 => ?_)
      · refine g_vret C E dX3_addsMasked_69 rfl ?_
        refine ⟨rfl, ?_⟩
        rw [← hs1, mFor_end (b := 2) (k := route) (by omega)]
        exact M1
      · refine g_iconst C dX3_addsMasked_14 ?_
        refine g_istore_n C dX3_addsMasked_15 (lv' := [(2, .int (iI 0)), (1, .int (iI route)), (0, .ref m)]) 2 rfl (Nat.le_of_ble_eq_true rfl) rfl ?_
        have L16 : ∀ (n2 : Nat) (tone : Int) (ρ2 : Int → Int) (h2 : gH) (M2 : mSt G h0 h2 m ad f (va_up g 18 ρ2)) (hktone : 0 ≤ tone ∧ tone ≤ g 6 0) (hntone : g 6 0 - tone < n2) (ha2 : mAMi (g 6) route tone 0 ρ2) (hs2 : mFor (mAM3 (g 6)) (2 - (route + 1)).toNat (route + 1) (mFor (mAM2 (g 6) route) (g 6 0 - tone).toNat tone ρ2) = mAM (g 6) (g 18)), gW X h2 0 0 16 [(2, .int (iI tone)), (1, .int (iI route)), (0, .ref m)] [] := by
          intro n2
          induction n2 with
          | zero => intro tone ρ2 h2 M2 hktone hntone ha2 hs2; exfalso; omega
          | succ n2 ih2 =>
            intro tone ρ2 h2 M2 hktone hntone ha2 hs2
            have hctone := ha2.2.2
            have hdtone := ha2.1.2.2.1
            refine g_iload_n C dX3_addsMasked_16 0 rfl ?_
            refine g_aload_n C dX3_addsMasked_17 2 rfl ?_
            refine g_get C dX3_addsMasked_18 kcX3 6 q1469 (fun _ _ _ _ h9 => h9) M2.o (Nat.le_of_ble_eq_true rfl) rfl ?_
            refine g_iconst C dX3_addsMasked_21 ?_
            refine g_iald C dX3_addsMasked_22 (v := g 6 0) M2.a6 (by decide) (by decide) (by decide) rfl ?_
            refine g_icmp_ge C dX3_addsMasked_23 (tgt := 63) (by decide) (gRo (by omega) (by omega)) (hiR _) (fun c23 => ?_) (fun c23 => ?_)
            · refine g_iinc C dX3_addsMasked_63 (v := route + 1) (lv' := [(1, .int (iI (route + 1))), (2, .int (iI tone)), (0, .ref m)]) 1 rfl rfl (Nat.le_of_ble_eq_true rfl) rfl ?_
              refine g_goto C dX3_addsMasked_66 (tgt := 9) (by decide) ?_
              refine gW.loc [0, 2] (lv' := [(1, .int (iI (route + 1))), (0, .ref m)]) rfl ?_
              exact ih1 (route + 1) (ρ2) h2 (M2) (by omega) (by omega) ⟨ha2.1, ha2.2.1, by omega⟩ (by rw [← hs2, mFor_end (b := g 6 0) (k := tone) (by omega)])
            · refine g_iconst C dX3_addsMasked_26 ?_
              refine g_istore_n C dX3_addsMasked_27 (lv' := [(3, .int (iI 0)), (2, .int (iI tone)), (1, .int (iI route)), (0, .ref m)]) 3 rfl (Nat.le_of_ble_eq_true rfl) rfl ?_
              have L28 : ∀ (n3 : Nat) (ear : Int) (ρ3 : Int → Int) (h3 : gH) (M3 : mSt G h0 h3 m ad f (va_up g 18 ρ3)) (hkear : 0 ≤ ear ∧ ear ≤ 2) (hnear : 2 - ear < n3) (ha3 : mAMi (g 6) route tone ear ρ3) (hs3 : mFor (mAM3 (g 6)) (2 - (route + 1)).toNat (route + 1) (mFor (mAM2 (g 6) route) (g 6 0 - (tone + 1)).toNat (tone + 1) (mFor (mAM1 (g 6) route tone) (2 - ear).toNat ear ρ3)) = mAM (g 6) (g 18)), gW X h3 0 0 28 [(3, .int (iI ear)), (2, .int (iI tone)), (1, .int (iI route)), (0, .ref m)] [] := by
                intro n3
                induction n3 with
                | zero => intro ear ρ3 h3 M3 hkear hnear ha3 hs3; exfalso; omega
                | succ n3 ih3 =>
                  intro ear ρ3 h3 M3 hkear hnear ha3 hs3
                  have hcear := ha3.2.2
                  have hdear := ha3.1.2.2.1
                  refine g_iload_n C dX3_addsMasked_28 0 rfl ?_
                  refine g_iconst C dX3_addsMasked_29 ?_
                  refine g_icmp_ge C dX3_addsMasked_30 (tgt := 57) (by decide) (gRo (by omega) (by omega)) (gRo (by decide) (by decide)) (fun c30 => ?_) (fun c30 => ?_)
                  · refine g_iinc C dX3_addsMasked_57 (v := tone + 1) (lv' := [(2, .int (iI (tone + 1))), (3, .int (iI ear)), (1, .int (iI route)), (0, .ref m)]) 1 rfl rfl (Nat.le_of_ble_eq_true rfl) rfl ?_
                    refine g_goto C dX3_addsMasked_60 (tgt := 16) (by decide) ?_
                    refine gW.loc [0, 2, 3] (lv' := [(2, .int (iI (tone + 1))), (1, .int (iI route)), (0, .ref m)]) rfl ?_
                    exact ih2 (tone + 1) (ρ3) h3 (M3) (by omega) (by omega) ⟨ha3.1, ha3.2.1, by omega⟩ (by rw [← hs3, mFor_end (b := 2) (k := ear) (by omega)])
                  · refine g_aload_n C dX3_addsMasked_33 3 rfl ?_
                    refine g_iload_n C dX3_addsMasked_34 2 rfl ?_
                    refine g_iload_n C dX3_addsMasked_35 0 rfl ?_
                    refine g_iload_n C dX3_addsMasked_36 1 rfl ?_
                    refine g_callV C dX3_addsMasked_37 lkX3_241 M3.o rfl (As := [.int (iI route), .int (iI ear), .int (iI tone)]) (c_X3_doesNeed M3 route ear tone ha3.1 (by omega) (by omega) (show 0 ≤ tone ∧ tone < g 6 0 from by omega)) rfl rfl ⟨Nat.le_of_ble_eq_true rfl, Nat.le_of_ble_eq_true rfl⟩ (Nat.le_of_ble_eq_true rfl) ?_
                    rintro _ _ ⟨rfl, rfl⟩
                    show gW X h3 0 0 40 [(3, .int (iI ear)), (2, .int (iI tone)), (1, .int (iI route)), (0, .ref m)] [.int (iI (gb (mNeed (g 6) (ρ3) route ear tone)))]
                    refine g_ifF C dX3_addsMasked_40 (tgt := 51) (by decide) (fun c40 => ?_) (fun c40 => ?_)
                    · refine g_iinc C dX3_addsMasked_51 (v := ear + 1) (lv' := [(3, .int (iI (ear + 1))), (2, .int (iI tone)), (1, .int (iI route)), (0, .ref m)]) 0 rfl rfl (Nat.le_of_ble_eq_true rfl) rfl ?_
                      refine g_goto C dX3_addsMasked_54 (tgt := 28) (by decide) ?_
                      have e9 : ρ3 = mAM1 (g 6) route tone ear ρ3 := by unfold mAM1; rw [if_neg (by rw [c40]; decide)]
                      have e8 := mAM1_i ha3 (by omega) (by omega) (by omega)
                      rw [← e9] at e8
                      exact ih3 (ear + 1) (ρ3) h3 (M3) (by omega) (by omega) e8 (by rw [← hs3, mFor_step (k := ear) (by omega), ← e9])
                    · refine g_aload_n C dX3_addsMasked_43 3 rfl ?_
                      refine g_iload_n C dX3_addsMasked_44 2 rfl ?_
                      refine g_iload_n C dX3_addsMasked_45 0 rfl ?_
                      refine g_iload_n C dX3_addsMasked_46 1 rfl ?_
                      refine g_iconst C dX3_addsMasked_47 ?_
                      refine g_callV C dX3_addsMasked_48 lkX3_219 M3.o rfl (As := [.int (iI route), .int (iI ear), .int (iI tone), .int (iI 1)]) (c_X3_addsTask M3 route ear tone 1 (show 0 ≤ ρ3 0 ∧ ρ3 0 < 48 from by omega)) rfl rfl ⟨Nat.le_of_ble_eq_true rfl, Nat.le_of_ble_eq_true rfl⟩ (Nat.le_of_ble_eq_true rfl) ?_
                      rintro _ h7 ⟨rfl, M8⟩
                      obtain ⟨r9, er10⟩ : ∃ z, z = mAdd ((ρ3)) route ear tone 1 := ⟨_, rfl⟩
                      have M11 : mSt G h0 h7 m ad f (va_up g 18 r9) := mSt.uu M8 er10.symm
                      refine g_iinc C dX3_addsMasked_51 (v := ear + 1) (lv' := [(3, .int (iI (ear + 1))), (2, .int (iI tone)), (1, .int (iI route)), (0, .ref m)]) 0 rfl rfl (Nat.le_of_ble_eq_true rfl) rfl ?_
                      refine g_goto C dX3_addsMasked_54 (tgt := 28) (by decide) ?_
                      have e9 : r9 = mAM1 (g 6) route tone ear ρ3 := by unfold mAM1; rw [if_pos c40]; exact er10
                      have e8 := mAM1_i ha3 (by omega) (by omega) (by omega)
                      rw [← e9] at e8
                      exact ih3 (ear + 1) r9 h7 (M11) (by omega) (by omega) e8 (by rw [← hs3, mFor_step (k := ear) (by omega), ← e9])
              exact L28 (2 + 1) 0 (ρ2) h2 (M2) (by omega) (by omega) ha2 (by rw [← hs2, mFor_step (k := tone) (by omega)]; rfl)
        exact L16 (g 6 0 - 0 + 1 : Int).toNat 0 (ρ1) h1 (M1) (by omega) (by omega) ha1 (by rw [← hs1, mFor_step (k := route) (by omega)]; rfl)
  exact L9 (2 + 1) 0 r1 h3 (M6) (by omega) (by omega) (by rw [er2]; exact mAM_i0 hO h4) (by rw [er2]; rfl)
theorem c_X3_nextTask {G : gG} {h : gH} {h0 : gH} {m : Nat} {ad : Nat → Nat} {f : Nat → Int} {g : Nat → Int → Int} (M : mSt G h0 h m ad f g) (k : Int) (hO : mOk (g 6) (g 18)) (hk : 0 ≤ k ∧ k < g 18 0) : gC G yX3_nextTask (.code yX3_nextTask cX3_nextTask 3 (some .int)) 5 0 0 [.ref m, .int (iI k)] h (fun r h' => r = some (.int (iI (mNxV (g 6) (g 18) k))) ∧ mSt G h0 h' m ad (f) (va_up g 18 ((mNx (g 6) (g 18) k).1))) := by
  refine gC.of (by decide) (Nat.le_of_ble_eq_true rfl) rfl ?_
  intro X C E hI
  have C : gCtx G X cX3_nextTask 3 RX3 5 (some .int) := C
  obtain ⟨hI_, hr, hn, hT, hS_⟩ := id hO
  obtain ⟨hi0, hi1, hi2, hi3, hi4, hi5, hiA, hiR⟩ := id hI_
  obtain ⟨hs1, hs3, hs4, hs5, hs6, hs7, hs8, hs11, hs2⟩ := id hS_
  refine g_aload_n C dX3_nextTask_0 0 rfl ?_
  refine g_get C dX3_nextTask_1 kcX3 18 q1481 (fun _ _ _ _ h9 => h9) M.o (Nat.le_of_ble_eq_true rfl) rfl ?_
  refine g_iconst C dX3_nextTask_4 ?_
  refine g_bipush C dX3_nextTask_5 (by decide) ?_
  obtain ⟨r1, er2⟩ : ∃ z, z = iUp (g 18) 1 (-2) := ⟨_, rfl⟩
  refine g_iast C dX3_nextTask_7 M.a18 (by decide) (by decide) (by decide) er2.symm (fun h3 hh4 => ?_)
  have hr5 : mR0 r1 := by rw [er2]; exact mR0.up (hr) (gRo (by decide) (by decide))
  have M6 : mSt G h0 h3 m ad f (va_up g 18 r1) := mSt.u1 (M.st18 hh4) rfl
  refine g_aload_n C dX3_nextTask_8 0 rfl ?_
  refine g_get C dX3_nextTask_9 kcX3 18 q1481 (fun _ _ _ _ h9 => h9) M6.o (Nat.le_of_ble_eq_true rfl) rfl ?_
  refine g_iconst C dX3_nextTask_12 ?_
  refine g_iald C dX3_nextTask_13 (v := g 18 2) M6.a18 (by decide) (by decide) (by decide) (by show r1 2 = _; rw [er2, iUp_n (by decide)]) ?_
  refine g_if_ne C dX3_nextTask_14 (tgt := 33) (by decide) (hr _) (fun c14 => ?_) (fun c14 => ?_)
  · refine g_iload_n C dX3_nextTask_33 1 rfl ?_
    refine g_iconst C dX3_nextTask_34 ?_
    refine g_iadd C dX3_nextTask_35 (v := k + 1) rfl ?_
    refine g_istore_n C dX3_nextTask_36 (lv' := [(2, .int (iI (k + 1))), (0, .ref m), (1, .int (iI k))]) 2 rfl (Nat.le_of_ble_eq_true rfl) rfl ?_
    have e0 : mN0 (g 6) (g 18) k = r1 := by unfold mN0; rw [if_neg (by omega), er2]
    have ho8 := mN0_ok hO k
    have hge := (mNx_ok hO hk).2.2
    have L37 : ∀ (n : Nat) (q : Int) (ρ : Int → Int) (h1 : gH) (M1 : mSt G h0 h1 m ad f (va_up g 18 ρ)) (hq9 : k + 1 ≤ q ∧ q ≤ mN0 (g 6) (g 18) k 0) (hn9 : mN0 (g 6) (g 18) k 0 - q < n) (ho9 : mOk (g 6) ρ) (hb9 : ρ 0 = mN0 (g 6) (g 18) k 0) (hs9 : mNL (g 6) (mN0 (g 6) (g 18) k 0 - q).toNat ρ q = mNx (g 6) (g 18) k), gW X h1 0 0 37 [(2, .int (iI q)), (0, .ref m), (1, .int (iI k))] [] := by
      intro n
      induction n with
      | zero => intro q ρ h1 M1 hq9 hn9 ho9 hb9 hs9; exfalso; omega
      | succ n ih =>
        intro q ρ h1 M1 hq9 hn9 ho9 hb9 hs9
        have hd9 := ho9.2.2.1
        refine g_iload_n C dX3_nextTask_37 0 rfl ?_
        refine g_aload_n C dX3_nextTask_38 1 rfl ?_
        refine g_get C dX3_nextTask_39 kcX3 18 q1481 (fun _ _ _ _ h9 => h9) M1.o (Nat.le_of_ble_eq_true rfl) rfl ?_
        refine g_iconst C dX3_nextTask_42 ?_
        refine g_iald C dX3_nextTask_43 (v := (ρ) 0) M1.a18 (by decide) (by decide) (by decide) rfl ?_
        refine g_icmp_ge C dX3_nextTask_44 (tgt := 74) (by decide) (gRo (by omega) (by omega)) (ho9.2.1 _) (fun c44 => ?_) (fun c44 => ?_)
        · refine g_iload_n C dX3_nextTask_74 0 rfl ?_
          refine g_aload_n C dX3_nextTask_75 1 rfl ?_
          refine g_get C dX3_nextTask_76 kcX3 18 q1481 (fun _ _ _ _ h9 => h9) M1.o (Nat.le_of_ble_eq_true rfl) rfl ?_
          refine g_iconst C dX3_nextTask_79 ?_
          refine g_iald C dX3_nextTask_80 (v := (ρ) 0) M1.a18 (by decide) (by decide) (by decide) rfl ?_
          refine g_icmp_ge C dX3_nextTask_81 (tgt := 88) (by decide) (gRo (by omega) (by omega)) (ho9.2.1 _) (fun c81 => ?_) (fun c81 => ?_)
          · refine g_iconst C dX3_nextTask_88 ?_
            refine g_iret C E dX3_nextTask_89 rfl ?_
            have e1 : mNx (g 6) (g 18) k = (ρ, q) := by rw [← hs9, mNL_end (by omega)]
            first | (exfalso; omega) | exact ⟨rI (by unfold mNxV; rw [e1]; first | rw [if_pos (by omega)] | rw [if_neg (by omega)]), by rw [e1]; exact M1⟩
          · refine g_iconst C dX3_nextTask_84 ?_
            refine g_goto C dX3_nextTask_85 (tgt := 89) (by decide) ?_
            refine g_iret C E dX3_nextTask_89 rfl ?_
            have e1 : mNx (g 6) (g 18) k = (ρ, q) := by rw [← hs9, mNL_end (by omega)]
            first | (exfalso; omega) | exact ⟨rI (by unfold mNxV; rw [e1]; first | rw [if_pos (by omega)] | rw [if_neg (by omega)]), by rw [e1]; exact M1⟩
        · refine g_aload_n C dX3_nextTask_47 1 rfl ?_
          refine g_get C dX3_nextTask_48 kcX3 18 q1481 (fun _ _ _ _ h9 => h9) M1.o (Nat.le_of_ble_eq_true rfl) rfl ?_
          refine g_iload_n C dX3_nextTask_51 0 rfl ?_
          refine g_iconst C dX3_nextTask_52 ?_
          refine g_callS C dX3_nextTask_53 lkX3_213 (As := [.int (iI q), .int (iI 4)]) (c_X3_at q 4) rfl rfl ⟨Nat.le_of_ble_eq_true rfl, Nat.le_of_ble_eq_true rfl⟩ (Nat.le_of_ble_eq_true rfl) ?_
          rintro _ _ ⟨rfl, rfl⟩
          refine g_iald C dX3_nextTask_56 (v := (ρ) (112 + 11 * q + 4)) M1.a18 (by decide) (by omega) (by omega) rfl ?_
          refine g_if_ne C dX3_nextTask_57 (tgt := 68) (by decide) (ho9.2.1 _) (fun c57 => ?_) (fun c57 => ?_)
          · refine g_iinc C dX3_nextTask_68 (v := q + 1) (lv' := [(2, .int (iI (q + 1))), (0, .ref m), (1, .int (iI k))]) 0 rfl rfl (Nat.le_of_ble_eq_true rfl) rfl ?_
            refine g_goto C dX3_nextTask_71 (tgt := 37) (by decide) ?_
            exact ih (q + 1) (ρ) h1 (M1) (by omega) (by omega) ho9 hb9 (by rw [mNL_skip (by omega) (by omega), hs9])
          · refine g_aload_n C dX3_nextTask_60 1 rfl ?_
            refine g_iload_n C dX3_nextTask_61 0 rfl ?_
            refine g_callV C dX3_nextTask_62 lkX3_223 M1.o rfl (As := [.int (iI q)]) (c_X3_begins M1 q ho9 (show 0 ≤ q ∧ q < ρ 0 from by omega)) rfl rfl ⟨Nat.le_of_ble_eq_true rfl, Nat.le_of_ble_eq_true rfl⟩ (Nat.le_of_ble_eq_true rfl) ?_
            rintro _ h7 ⟨rfl, M8⟩
            obtain ⟨r9, er10⟩ : ∃ z, z = mBegR ((g 6)) ((ρ)) q := ⟨_, rfl⟩
            have M11 : mSt G h0 h7 m ad f (va_up g 18 r9) := mSt.uu M8 er10.symm
            have hO12 : mOk (g 6) r9 := by rw [er10]; exact mBegR_ok ho9 (by omega) (by omega)
            have hn13 := hO12.2.2.1
            have hs14 := hO12.2.2.2.2.1
            show gW X h7 0 0 65 [(2, .int (iI q)), (0, .ref m), (1, .int (iI k))] [.int (iI (gb (mBegB (g 6) (ρ) q)))]
            refine g_ifT C dX3_nextTask_65 (tgt := 74) (by decide) (fun c65 => ?_) (fun c65 => ?_)
            · refine g_iload_n C dX3_nextTask_74 0 rfl ?_
              refine g_aload_n C dX3_nextTask_75 1 rfl ?_
              refine g_get C dX3_nextTask_76 kcX3 18 q1481 (fun _ _ _ _ h9 => h9) M11.o (Nat.le_of_ble_eq_true rfl) rfl ?_
              refine g_iconst C dX3_nextTask_79 ?_
              refine g_iald C dX3_nextTask_80 (v := (ρ) 0) M11.a18 (by decide) (by decide) (by decide) (by show r9 0 = _; rw [er10, mBegR_n (by omega) (by omega) (by omega) (by omega)]) ?_
              refine g_icmp_ge C dX3_nextTask_81 (tgt := 88) (by decide) (gRo (by omega) (by omega)) (ho9.2.1 _) (fun c81 => ?_) (fun c81 => ?_)
              · refine g_iconst C dX3_nextTask_88 ?_
                refine g_iret C E dX3_nextTask_89 rfl ?_
                have e1 : mNx (g 6) (g 18) k = (mBegR (g 6) ρ q, q) := by rw [← hs9, mNL_hit (by omega) (by omega) c65]
                subst er10
                first | (exfalso; omega) | exact ⟨rI (by unfold mNxV; rw [e1]; first | rw [if_pos (by omega)] | rw [if_neg (by omega)]), by rw [e1]; exact M11⟩
              · refine g_iconst C dX3_nextTask_84 ?_
                refine g_goto C dX3_nextTask_85 (tgt := 89) (by decide) ?_
                refine g_iret C E dX3_nextTask_89 rfl ?_
                have e1 : mNx (g 6) (g 18) k = (mBegR (g 6) ρ q, q) := by rw [← hs9, mNL_hit (by omega) (by omega) c65]
                subst er10
                first | (exfalso; omega) | exact ⟨rI (by unfold mNxV; rw [e1]; first | rw [if_pos (by omega)] | rw [if_neg (by omega)]), by rw [e1]; exact M11⟩
            · refine g_iinc C dX3_nextTask_68 (v := q + 1) (lv' := [(2, .int (iI (q + 1))), (0, .ref m), (1, .int (iI k))]) 0 rfl rfl (Nat.le_of_ble_eq_true rfl) rfl ?_
              refine g_goto C dX3_nextTask_71 (tgt := 37) (by decide) ?_
              have hb8 : r9 0 = mN0 (g 6) (g 18) k 0 := by rw [er10, mBegR_n (by omega) (by omega) (by omega) (by omega)]; exact hb9
              exact ih (q + 1) r9 h7 (M11) (by omega) (by omega) hO12 hb8 (by rw [er10, mNL_miss (by omega) (by omega) c65, hs9])
    exact L37 (mN0 (g 6) (g 18) k 0 - (k + 1) + 1).toNat (k + 1) r1 h3 (M6) (by omega) (by omega) (by rw [← e0]; exact ho8) (by rw [e0]) (by rw [← e0]; rfl)
  · refine g_iload_n C dX3_nextTask_17 1 rfl ?_
    refine g_iconst C dX3_nextTask_18 ?_
    refine g_iadd C dX3_nextTask_19 (v := k + 1) rfl ?_
    refine g_aload_n C dX3_nextTask_20 0 rfl ?_
    refine g_get C dX3_nextTask_21 kcX3 18 q1481 (fun _ _ _ _ h9 => h9) M6.o (Nat.le_of_ble_eq_true rfl) rfl ?_
    refine g_iconst C dX3_nextTask_24 ?_
    refine g_iald C dX3_nextTask_25 (v := g 18 0) M6.a18 (by decide) (by decide) (by decide) (by show r1 0 = _; rw [er2, iUp_n (by decide)]) ?_
    refine g_icmp_ne C dX3_nextTask_26 (tgt := 33) (by decide) (gRo (by omega) (by omega)) (hr _) (fun c26 => ?_) (fun c26 => ?_)
    · refine g_iload_n C dX3_nextTask_33 1 rfl ?_
      refine g_iconst C dX3_nextTask_34 ?_
      refine g_iadd C dX3_nextTask_35 (v := k + 1) rfl ?_
      refine g_istore_n C dX3_nextTask_36 (lv' := [(2, .int (iI (k + 1))), (0, .ref m), (1, .int (iI k))]) 2 rfl (Nat.le_of_ble_eq_true rfl) rfl ?_
      have e0 : mN0 (g 6) (g 18) k = r1 := by unfold mN0; rw [if_neg (by omega), er2]
      have ho8 := mN0_ok hO k
      have hge := (mNx_ok hO hk).2.2
      have L37 : ∀ (n : Nat) (q : Int) (ρ : Int → Int) (h1 : gH) (M1 : mSt G h0 h1 m ad f (va_up g 18 ρ)) (hq9 : k + 1 ≤ q ∧ q ≤ mN0 (g 6) (g 18) k 0) (hn9 : mN0 (g 6) (g 18) k 0 - q < n) (ho9 : mOk (g 6) ρ) (hb9 : ρ 0 = mN0 (g 6) (g 18) k 0) (hs9 : mNL (g 6) (mN0 (g 6) (g 18) k 0 - q).toNat ρ q = mNx (g 6) (g 18) k), gW X h1 0 0 37 [(2, .int (iI q)), (0, .ref m), (1, .int (iI k))] [] := by
        intro n
        induction n with
        | zero => intro q ρ h1 M1 hq9 hn9 ho9 hb9 hs9; exfalso; omega
        | succ n ih =>
          intro q ρ h1 M1 hq9 hn9 ho9 hb9 hs9
          have hd9 := ho9.2.2.1
          refine g_iload_n C dX3_nextTask_37 0 rfl ?_
          refine g_aload_n C dX3_nextTask_38 1 rfl ?_
          refine g_get C dX3_nextTask_39 kcX3 18 q1481 (fun _ _ _ _ h9 => h9) M1.o (Nat.le_of_ble_eq_true rfl) rfl ?_
          refine g_iconst C dX3_nextTask_42 ?_
          refine g_iald C dX3_nextTask_43 (v := (ρ) 0) M1.a18 (by decide) (by decide) (by decide) rfl ?_
          refine g_icmp_ge C dX3_nextTask_44 (tgt := 74) (by decide) (gRo (by omega) (by omega)) (ho9.2.1 _) (fun c44 => ?_) (fun c44 => ?_)
          · refine g_iload_n C dX3_nextTask_74 0 rfl ?_
            refine g_aload_n C dX3_nextTask_75 1 rfl ?_
            refine g_get C dX3_nextTask_76 kcX3 18 q1481 (fun _ _ _ _ h9 => h9) M1.o (Nat.le_of_ble_eq_true rfl) rfl ?_
            refine g_iconst C dX3_nextTask_79 ?_
            refine g_iald C dX3_nextTask_80 (v := (ρ) 0) M1.a18 (by decide) (by decide) (by decide) rfl ?_
            refine g_icmp_ge C dX3_nextTask_81 (tgt := 88) (by decide) (gRo (by omega) (by omega)) (ho9.2.1 _) (fun c81 => ?_) (fun c81 => ?_)
            · refine g_iconst C dX3_nextTask_88 ?_
              refine g_iret C E dX3_nextTask_89 rfl ?_
              have e1 : mNx (g 6) (g 18) k = (ρ, q) := by rw [← hs9, mNL_end (by omega)]
              first | (exfalso; omega) | exact ⟨rI (by unfold mNxV; rw [e1]; first | rw [if_pos (by omega)] | rw [if_neg (by omega)]), by rw [e1]; exact M1⟩
            · refine g_iconst C dX3_nextTask_84 ?_
              refine g_goto C dX3_nextTask_85 (tgt := 89) (by decide) ?_
              refine g_iret C E dX3_nextTask_89 rfl ?_
              have e1 : mNx (g 6) (g 18) k = (ρ, q) := by rw [← hs9, mNL_end (by omega)]
              first | (exfalso; omega) | exact ⟨rI (by unfold mNxV; rw [e1]; first | rw [if_pos (by omega)] | rw [if_neg (by omega)]), by rw [e1]; exact M1⟩
          · refine g_aload_n C dX3_nextTask_47 1 rfl ?_
            refine g_get C dX3_nextTask_48 kcX3 18 q1481 (fun _ _ _ _ h9 => h9) M1.o (Nat.le_of_ble_eq_true rfl) rfl ?_
            refine g_iload_n C dX3_nextTask_51 0 rfl ?_
            refine g_iconst C dX3_nextTask_52 ?_
            refine g_callS C dX3_nextTask_53 lkX3_213 (As := [.int (iI q), .int (iI 4)]) (c_X3_at q 4) rfl rfl ⟨Nat.le_of_ble_eq_true rfl, Nat.le_of_ble_eq_true rfl⟩ (Nat.le_of_ble_eq_true rfl) ?_
            rintro _ _ ⟨rfl, rfl⟩
            refine g_iald C dX3_nextTask_56 (v := (ρ) (112 + 11 * q + 4)) M1.a18 (by decide) (by omega) (by omega) rfl ?_
            refine g_if_ne C dX3_nextTask_57 (tgt := 68) (by decide) (ho9.2.1 _) (fun c57 => ?_) (fun c57 => ?_)
            · refine g_iinc C dX3_nextTask_68 (v := q + 1) (lv' := [(2, .int (iI (q + 1))), (0, .ref m), (1, .int (iI k))]) 0 rfl rfl (Nat.le_of_ble_eq_true rfl) rfl ?_
              refine g_goto C dX3_nextTask_71 (tgt := 37) (by decide) ?_
              exact ih (q + 1) (ρ) h1 (M1) (by omega) (by omega) ho9 hb9 (by rw [mNL_skip (by omega) (by omega), hs9])
            · refine g_aload_n C dX3_nextTask_60 1 rfl ?_
              refine g_iload_n C dX3_nextTask_61 0 rfl ?_
              refine g_callV C dX3_nextTask_62 lkX3_223 M1.o rfl (As := [.int (iI q)]) (c_X3_begins M1 q ho9 (show 0 ≤ q ∧ q < ρ 0 from by omega)) rfl rfl ⟨Nat.le_of_ble_eq_true rfl, Nat.le_of_ble_eq_true rfl⟩ (Nat.le_of_ble_eq_true rfl) ?_
              rintro _ h15 ⟨rfl, M16⟩
              obtain ⟨r17, er18⟩ : ∃ z, z = mBegR ((g 6)) ((ρ)) q := ⟨_, rfl⟩
              have M19 : mSt G h0 h15 m ad f (va_up g 18 r17) := mSt.uu M16 er18.symm
              have hO20 : mOk (g 6) r17 := by rw [er18]; exact mBegR_ok ho9 (by omega) (by omega)
              have hn21 := hO20.2.2.1
              have hs22 := hO20.2.2.2.2.1
              show gW X h15 0 0 65 [(2, .int (iI q)), (0, .ref m), (1, .int (iI k))] [.int (iI (gb (mBegB (g 6) (ρ) q)))]
              refine g_ifT C dX3_nextTask_65 (tgt := 74) (by decide) (fun c65 => ?_) (fun c65 => ?_)
              · refine g_iload_n C dX3_nextTask_74 0 rfl ?_
                refine g_aload_n C dX3_nextTask_75 1 rfl ?_
                refine g_get C dX3_nextTask_76 kcX3 18 q1481 (fun _ _ _ _ h9 => h9) M19.o (Nat.le_of_ble_eq_true rfl) rfl ?_
                refine g_iconst C dX3_nextTask_79 ?_
                refine g_iald C dX3_nextTask_80 (v := (ρ) 0) M19.a18 (by decide) (by decide) (by decide) (by show r17 0 = _; rw [er18, mBegR_n (by omega) (by omega) (by omega) (by omega)]) ?_
                refine g_icmp_ge C dX3_nextTask_81 (tgt := 88) (by decide) (gRo (by omega) (by omega)) (ho9.2.1 _) (fun c81 => ?_) (fun c81 => ?_)
                · refine g_iconst C dX3_nextTask_88 ?_
                  refine g_iret C E dX3_nextTask_89 rfl ?_
                  have e1 : mNx (g 6) (g 18) k = (mBegR (g 6) ρ q, q) := by rw [← hs9, mNL_hit (by omega) (by omega) c65]
                  subst er18
                  first | (exfalso; omega) | exact ⟨rI (by unfold mNxV; rw [e1]; first | rw [if_pos (by omega)] | rw [if_neg (by omega)]), by rw [e1]; exact M19⟩
                · refine g_iconst C dX3_nextTask_84 ?_
                  refine g_goto C dX3_nextTask_85 (tgt := 89) (by decide) ?_
                  refine g_iret C E dX3_nextTask_89 rfl ?_
                  have e1 : mNx (g 6) (g 18) k = (mBegR (g 6) ρ q, q) := by rw [← hs9, mNL_hit (by omega) (by omega) c65]
                  subst er18
                  first | (exfalso; omega) | exact ⟨rI (by unfold mNxV; rw [e1]; first | rw [if_pos (by omega)] | rw [if_neg (by omega)]), by rw [e1]; exact M19⟩
              · refine g_iinc C dX3_nextTask_68 (v := q + 1) (lv' := [(2, .int (iI (q + 1))), (0, .ref m), (1, .int (iI k))]) 0 rfl rfl (Nat.le_of_ble_eq_true rfl) rfl ?_
                refine g_goto C dX3_nextTask_71 (tgt := 37) (by decide) ?_
                have hb8 : r17 0 = mN0 (g 6) (g 18) k 0 := by rw [er18, mBegR_n (by omega) (by omega) (by omega) (by omega)]; exact hb9
                exact ih (q + 1) r17 h15 (M19) (by omega) (by omega) hO20 hb8 (by rw [er18, mNL_miss (by omega) (by omega) c65, hs9])
      exact L37 (mN0 (g 6) (g 18) k 0 - (k + 1) + 1).toNat (k + 1) r1 h3 (M6) (by omega) (by omega) (by rw [← e0]; exact ho8) (by rw [e0]) (by rw [← e0]; rfl)
    · have hO1 : mOk (g 6) r1 := by rw [er2]; exact hO.h1 (Or.inl rfl)
      have h40 : r1 0 = 4 * g 6 0 := by rw [er2, iUp_n (by decide)]; have := hn.2; omega
      refine g_aload_n C dX3_nextTask_29 0 rfl ?_
      refine g_callV C dX3_nextTask_30 lkX3_254 M6.o rfl (As := []) (c_X3_addsMasked M6 hO1 (show r1 0 = 4 * g 6 0 from by omega)) rfl rfl ⟨Nat.le_of_ble_eq_true rfl, Nat.le_of_ble_eq_true rfl⟩ (Nat.le_of_ble_eq_true rfl) ?_
      rintro _ h23 ⟨rfl, M24⟩
      obtain ⟨r25, er26⟩ : ∃ z, z = mAM ((g 6)) (r1) := ⟨_, rfl⟩
      have M27 : mSt G h0 h23 m ad f (va_up g 18 r25) := mSt.uu M24 er26.symm
      have hO28 : mOk (g 6) r25 := by rw [er26]; exact mAM_ok hO1 (by omega)
      have hn29 := hO28.2.2.1
      have hs30 := hO28.2.2.2.2.1
      refine g_iload_n C dX3_nextTask_33 1 rfl ?_
      refine g_iconst C dX3_nextTask_34 ?_
      refine g_iadd C dX3_nextTask_35 (v := k + 1) rfl ?_
      refine g_istore_n C dX3_nextTask_36 (lv' := [(2, .int (iI (k + 1))), (0, .ref m), (1, .int (iI k))]) 2 rfl (Nat.le_of_ble_eq_true rfl) rfl ?_
      have e0 : mN0 (g 6) (g 18) k = r25 := by unfold mN0; rw [if_pos (by omega), er26, er2]
      have ho8 := mN0_ok hO k
      have hge := (mNx_ok hO hk).2.2
      have L37 : ∀ (n : Nat) (q : Int) (ρ : Int → Int) (h1 : gH) (M1 : mSt G h0 h1 m ad f (va_up g 18 ρ)) (hq9 : k + 1 ≤ q ∧ q ≤ mN0 (g 6) (g 18) k 0) (hn9 : mN0 (g 6) (g 18) k 0 - q < n) (ho9 : mOk (g 6) ρ) (hb9 : ρ 0 = mN0 (g 6) (g 18) k 0) (hs9 : mNL (g 6) (mN0 (g 6) (g 18) k 0 - q).toNat ρ q = mNx (g 6) (g 18) k), gW X h1 0 0 37 [(2, .int (iI q)), (0, .ref m), (1, .int (iI k))] [] := by
        intro n
        induction n with
        | zero => intro q ρ h1 M1 hq9 hn9 ho9 hb9 hs9; exfalso; omega
        | succ n ih =>
          intro q ρ h1 M1 hq9 hn9 ho9 hb9 hs9
          have hd9 := ho9.2.2.1
          refine g_iload_n C dX3_nextTask_37 0 rfl ?_
          refine g_aload_n C dX3_nextTask_38 1 rfl ?_
          refine g_get C dX3_nextTask_39 kcX3 18 q1481 (fun _ _ _ _ h9 => h9) M1.o (Nat.le_of_ble_eq_true rfl) rfl ?_
          refine g_iconst C dX3_nextTask_42 ?_
          refine g_iald C dX3_nextTask_43 (v := (ρ) 0) M1.a18 (by decide) (by decide) (by decide) rfl ?_
          refine g_icmp_ge C dX3_nextTask_44 (tgt := 74) (by decide) (gRo (by omega) (by omega)) (ho9.2.1 _) (fun c44 => ?_) (fun c44 => ?_)
          · refine g_iload_n C dX3_nextTask_74 0 rfl ?_
            refine g_aload_n C dX3_nextTask_75 1 rfl ?_
            refine g_get C dX3_nextTask_76 kcX3 18 q1481 (fun _ _ _ _ h9 => h9) M1.o (Nat.le_of_ble_eq_true rfl) rfl ?_
            refine g_iconst C dX3_nextTask_79 ?_
            refine g_iald C dX3_nextTask_80 (v := (ρ) 0) M1.a18 (by decide) (by decide) (by decide) rfl ?_
            refine g_icmp_ge C dX3_nextTask_81 (tgt := 88) (by decide) (gRo (by omega) (by omega)) (ho9.2.1 _) (fun c81 => ?_) (fun c81 => ?_)
            · refine g_iconst C dX3_nextTask_88 ?_
              refine g_iret C E dX3_nextTask_89 rfl ?_
              have e1 : mNx (g 6) (g 18) k = (ρ, q) := by rw [← hs9, mNL_end (by omega)]
              first | (exfalso; omega) | exact ⟨rI (by unfold mNxV; rw [e1]; first | rw [if_pos (by omega)] | rw [if_neg (by omega)]), by rw [e1]; exact M1⟩
            · refine g_iconst C dX3_nextTask_84 ?_
              refine g_goto C dX3_nextTask_85 (tgt := 89) (by decide) ?_
              refine g_iret C E dX3_nextTask_89 rfl ?_
              have e1 : mNx (g 6) (g 18) k = (ρ, q) := by rw [← hs9, mNL_end (by omega)]
              first | (exfalso; omega) | exact ⟨rI (by unfold mNxV; rw [e1]; first | rw [if_pos (by omega)] | rw [if_neg (by omega)]), by rw [e1]; exact M1⟩
          · refine g_aload_n C dX3_nextTask_47 1 rfl ?_
            refine g_get C dX3_nextTask_48 kcX3 18 q1481 (fun _ _ _ _ h9 => h9) M1.o (Nat.le_of_ble_eq_true rfl) rfl ?_
            refine g_iload_n C dX3_nextTask_51 0 rfl ?_
            refine g_iconst C dX3_nextTask_52 ?_
            refine g_callS C dX3_nextTask_53 lkX3_213 (As := [.int (iI q), .int (iI 4)]) (c_X3_at q 4) rfl rfl ⟨Nat.le_of_ble_eq_true rfl, Nat.le_of_ble_eq_true rfl⟩ (Nat.le_of_ble_eq_true rfl) ?_
            rintro _ _ ⟨rfl, rfl⟩
            refine g_iald C dX3_nextTask_56 (v := (ρ) (112 + 11 * q + 4)) M1.a18 (by decide) (by omega) (by omega) rfl ?_
            refine g_if_ne C dX3_nextTask_57 (tgt := 68) (by decide) (ho9.2.1 _) (fun c57 => ?_) (fun c57 => ?_)
            · refine g_iinc C dX3_nextTask_68 (v := q + 1) (lv' := [(2, .int (iI (q + 1))), (0, .ref m), (1, .int (iI k))]) 0 rfl rfl (Nat.le_of_ble_eq_true rfl) rfl ?_
              refine g_goto C dX3_nextTask_71 (tgt := 37) (by decide) ?_
              exact ih (q + 1) (ρ) h1 (M1) (by omega) (by omega) ho9 hb9 (by rw [mNL_skip (by omega) (by omega), hs9])
            · refine g_aload_n C dX3_nextTask_60 1 rfl ?_
              refine g_iload_n C dX3_nextTask_61 0 rfl ?_
              refine g_callV C dX3_nextTask_62 lkX3_223 M1.o rfl (As := [.int (iI q)]) (c_X3_begins M1 q ho9 (show 0 ≤ q ∧ q < ρ 0 from by omega)) rfl rfl ⟨Nat.le_of_ble_eq_true rfl, Nat.le_of_ble_eq_true rfl⟩ (Nat.le_of_ble_eq_true rfl) ?_
              rintro _ h31 ⟨rfl, M32⟩
              obtain ⟨r33, er34⟩ : ∃ z, z = mBegR ((g 6)) ((ρ)) q := ⟨_, rfl⟩
              have M35 : mSt G h0 h31 m ad f (va_up g 18 r33) := mSt.uu M32 er34.symm
              have hO36 : mOk (g 6) r33 := by rw [er34]; exact mBegR_ok ho9 (by omega) (by omega)
              have hn37 := hO36.2.2.1
              have hs38 := hO36.2.2.2.2.1
              show gW X h31 0 0 65 [(2, .int (iI q)), (0, .ref m), (1, .int (iI k))] [.int (iI (gb (mBegB (g 6) (ρ) q)))]
              refine g_ifT C dX3_nextTask_65 (tgt := 74) (by decide) (fun c65 => ?_) (fun c65 => ?_)
              · refine g_iload_n C dX3_nextTask_74 0 rfl ?_
                refine g_aload_n C dX3_nextTask_75 1 rfl ?_
                refine g_get C dX3_nextTask_76 kcX3 18 q1481 (fun _ _ _ _ h9 => h9) M35.o (Nat.le_of_ble_eq_true rfl) rfl ?_
                refine g_iconst C dX3_nextTask_79 ?_
                refine g_iald C dX3_nextTask_80 (v := (ρ) 0) M35.a18 (by decide) (by decide) (by decide) (by show r33 0 = _; rw [er34, mBegR_n (by omega) (by omega) (by omega) (by omega)]) ?_
                refine g_icmp_ge C dX3_nextTask_81 (tgt := 88) (by decide) (gRo (by omega) (by omega)) (ho9.2.1 _) (fun c81 => ?_) (fun c81 => ?_)
                · refine g_iconst C dX3_nextTask_88 ?_
                  refine g_iret C E dX3_nextTask_89 rfl ?_
                  have e1 : mNx (g 6) (g 18) k = (mBegR (g 6) ρ q, q) := by rw [← hs9, mNL_hit (by omega) (by omega) c65]
                  subst er34
                  first | (exfalso; omega) | exact ⟨rI (by unfold mNxV; rw [e1]; first | rw [if_pos (by omega)] | rw [if_neg (by omega)]), by rw [e1]; exact M35⟩
                · refine g_iconst C dX3_nextTask_84 ?_
                  refine g_goto C dX3_nextTask_85 (tgt := 89) (by decide) ?_
                  refine g_iret C E dX3_nextTask_89 rfl ?_
                  have e1 : mNx (g 6) (g 18) k = (mBegR (g 6) ρ q, q) := by rw [← hs9, mNL_hit (by omega) (by omega) c65]
                  subst er34
                  first | (exfalso; omega) | exact ⟨rI (by unfold mNxV; rw [e1]; first | rw [if_pos (by omega)] | rw [if_neg (by omega)]), by rw [e1]; exact M35⟩
              · refine g_iinc C dX3_nextTask_68 (v := q + 1) (lv' := [(2, .int (iI (q + 1))), (0, .ref m), (1, .int (iI k))]) 0 rfl rfl (Nat.le_of_ble_eq_true rfl) rfl ?_
                refine g_goto C dX3_nextTask_71 (tgt := 37) (by decide) ?_
                have hb8 : r33 0 = mN0 (g 6) (g 18) k 0 := by rw [er34, mBegR_n (by omega) (by omega) (by omega) (by omega)]; exact hb9
                exact ih (q + 1) r33 h31 (M35) (by omega) (by omega) hO36 hb8 (by rw [er34, mNL_miss (by omega) (by omega) c65, hs9])
      exact L37 (mN0 (g 6) (g 18) k 0 - (k + 1) + 1).toNat (k + 1) r25 h23 (M27) (by omega) (by omega) (by rw [← e0]; exact ho8) (by rw [e0]) (by rw [← e0]; rfl)
theorem c_X3_ends {G : gG} {h : gH} {h0 : gH} {m : Nat} {ad : Nat → Nat} {f : Nat → Int} {g : Nat → Int → Int} (M : mSt G h0 h m ad f g) (s : Int) (t : Int) (hO : mOk (g 6) (g 18)) (hon : g 18 1 ≠ -2) (hs9 : 0 ≤ s ∧ s ≤ 4) (ht9 : -2 ≤ t ∧ t ≤ 25) (h29 : s = 2 → 0 ≤ t) : gC G yX3_ends (.code yX3_ends cX3_ends 4 (some .int)) 6 0 0 [.ref m, .int (iI s), .int (iI t)] h (fun r h' => r = some (.int (iI (mEndV (g 6) (g 18) s t))) ∧ mSt G h0 h' m ad (f) (va_up g 18 (mEndR (g 6) (g 18) s t))) := by
  refine gC.of (by decide) (Nat.le_of_ble_eq_true rfl) rfl ?_
  intro X C E hI
  have C : gCtx G X cX3_ends 4 RX3 6 (some .int) := C
  obtain ⟨hI_, hr, hn, hT, hS_⟩ := id hO
  obtain ⟨hi0, hi1, hi2, hi3, hi4, hi5, hiA, hiR⟩ := id hI_
  obtain ⟨hs1, hs3, hs4, hs5, hs6, hs7, hs8, hs11, hs2⟩ := id hS_
  refine g_aload_n C dX3_ends_0 0 rfl ?_
  refine g_get C dX3_ends_1 kcX3 18 q1481 (fun _ _ _ _ h9 => h9) M.o (Nat.le_of_ble_eq_true rfl) rfl ?_
  refine g_iconst C dX3_ends_4 ?_
  refine g_iald C dX3_ends_5 (v := g 18 1) M.a18 (by decide) (by decide) (by decide) rfl ?_
  refine g_istore_n C dX3_ends_6 (lv' := [(3, .int (iI (g 18 1))), (0, .ref m), (1, .int (iI s)), (2, .int (iI t))]) 3 rfl (Nat.le_of_ble_eq_true rfl) rfl ?_
  refine g_aload_n C dX3_ends_7 1 rfl ?_
  refine g_get C dX3_ends_8 kcX3 18 q1481 (fun _ _ _ _ h9 => h9) M.o (Nat.le_of_ble_eq_true rfl) rfl ?_
  refine g_iload_n C dX3_ends_11 0 rfl ?_
  refine g_iconst C dX3_ends_12 ?_
  refine g_callS C dX3_ends_13 lkX3_213 (As := [.int (iI (g 18 1)), .int (iI 4)]) (c_X3_at (g 18 1) 4) rfl rfl ⟨Nat.le_of_ble_eq_true rfl, Nat.le_of_ble_eq_true rfl⟩ (Nat.le_of_ble_eq_true rfl) ?_
  rintro _ _ ⟨rfl, rfl⟩
  refine g_iload_n C dX3_ends_16 2 rfl ?_
  obtain ⟨r1, er2⟩ : ∃ z, z = iUp (g 18) (112 + 11 * (g 18 1) + 4) s := ⟨_, rfl⟩
  refine g_iast C dX3_ends_17 M.a18 (by decide) (by omega) (by omega) er2.symm (fun h3 hh4 => ?_)
  have hr5 : mR0 r1 := by rw [er2]; exact mR0.up (hr) (gRo (by omega) (by omega))
  have M6 : mSt G h0 h3 m ad f (va_up g 18 r1) := mSt.u1 (M.st18 hh4) rfl
  refine g_aload_n C dX3_ends_18 1 rfl ?_
  refine g_get C dX3_ends_19 kcX3 18 q1481 (fun _ _ _ _ h9 => h9) M6.o (Nat.le_of_ble_eq_true rfl) rfl ?_
  refine g_iload_n C dX3_ends_22 0 rfl ?_
  refine g_iconst C dX3_ends_23 ?_
  refine g_callS C dX3_ends_24 lkX3_213 (As := [.int (iI (g 18 1)), .int (iI 5)]) (c_X3_at (g 18 1) 5) rfl rfl ⟨Nat.le_of_ble_eq_true rfl, Nat.le_of_ble_eq_true rfl⟩ (Nat.le_of_ble_eq_true rfl) ?_
  rintro _ _ ⟨rfl, rfl⟩
  refine g_iload_n C dX3_ends_27 3 rfl ?_
  obtain ⟨r7, er8⟩ : ∃ z, z = iUp r1 (112 + 11 * (g 18 1) + 5) t := ⟨_, rfl⟩
  refine g_iast C dX3_ends_28 M6.a18 (by decide) (by omega) (by omega) er8.symm (fun h9 hh10 => ?_)
  have hr11 : mR0 r7 := by rw [er8]; exact mR0.up (hr5) (gRo (by omega) (by omega))
  have M12 : mSt G h0 h9 m ad f (va_up g 18 r7) := mSt.uu (M6.st18 hh10) rfl
  have eE : r7 = mEnd0 (g 18) s t := by rw [er8, er2]; rfl
  have hE := mEnd0_ok hO hon hs9 ht9 h29
  rw [← eE] at hE
  have hO1 := hE.1
  have hk1 := hE.2
  refine g_aload_n C dX3_ends_29 1 rfl ?_
  refine g_iload_n C dX3_ends_30 0 rfl ?_
  refine g_callV C dX3_ends_31 lkX3_257 M12.o rfl (As := [.int (iI (g 18 1))]) (c_X3_nextTask M12 (g 18 1) hO1 (show 0 ≤ (g 18 1) ∧ (g 18 1) < r7 0 from by omega)) rfl rfl ⟨Nat.le_of_ble_eq_true rfl, Nat.le_of_ble_eq_true rfl⟩ (Nat.le_of_ble_eq_true rfl) ?_
  rintro _ h13 ⟨rfl, M14⟩
  obtain ⟨r15, er16⟩ : ∃ z, z = (mNx ((g 6)) (r7) (g 18 1)).1 := ⟨_, rfl⟩
  have M17 : mSt G h0 h13 m ad f (va_up g 18 r15) := mSt.uu M14 er16.symm
  have hO18 : mOk (g 6) r15 := by rw [er16]; exact (mNx_ok hO1 (by omega)).1
  have hn19 := hO18.2.2.1
  have hs20 := hO18.2.2.2.2.1
  show gW X h13 0 0 34 [(3, .int (iI (g 18 1))), (0, .ref m), (1, .int (iI s)), (2, .int (iI t))] [.int (iI (mNxV (g 6) (r7) (g 18 1)))]
  refine g_iret C E dX3_ends_34 rfl ?_
  subst er16
  subst er8
  subst er2
  exact ⟨rI rfl, M17⟩
