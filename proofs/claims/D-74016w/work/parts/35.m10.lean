/-! THE REFERENCE, walks 10 -/
set_option maxRecDepth 100000
theorem c_X3_beginsAll {G : gG} {h : gH} {h0 : gH} {m : Nat} {ad : Nat → Nat} {f : Nat → Int} {g : Nat → Int → Int} (M : mSt G h0 h m ad f g) (hI9 : mIOk (g 6)) : gC G yX3_beginsAll (.code yX3_beginsAll cX3_beginsAll 3 none) 4 0 0 [.ref m] h (fun r h' => r = none ∧ mSt G h0 h' m ad (f) (va_up g 18 (mBAR (g 6)))) := by
  refine gC.of (by decide) (Nat.le_of_ble_eq_true rfl) rfl ?_
  intro X C E hI
  have C : gCtx G X cX3_beginsAll 3 RX3 4 none := C
  obtain ⟨hi0, hi1, hi2, hi3, hi4, hi5, hiA, hiR⟩ := id hI9
  refine g_iconst C dX3_beginsAll_0 ?_
  refine g_istore_n C dX3_beginsAll_1 (lv' := [(1, .int (iI 0)), (0, .ref m)]) 1 rfl (Nat.le_of_ble_eq_true rfl) rfl ?_
  have L2 : ∀ (n : Nat) (k : Int) (ρ : Int → Int) (h1 : gH) (M1 : mSt G h0 h1 m ad f (va_up g 18 ρ)) (hk : 0 ≤ k ∧ k ≤ 1840) (hn9 : 1840 - k < n) (hz : ∀ j, ρ j = if 0 ≤ j ∧ j < k then 0 else (g 18) j), gW X h1 0 0 2 [(1, .int (iI k)), (0, .ref m)] [] := by
    intro n
    induction n with
    | zero => intro k ρ h1 M1 hk hn9 hz; exfalso; omega
    | succ n ih =>
      intro k ρ h1 M1 hk hn9 hz
      refine g_iload_n C dX3_beginsAll_2 0 rfl ?_
      refine g_sipush C dX3_beginsAll_3 (by decide) ?_
      refine g_icmp_ge C dX3_beginsAll_6 (tgt := 22) (by decide) (gRo (by omega) (by omega)) (gRo (by decide) (by decide)) (fun c6 => ?_) (fun c6 => ?_)
      · refine gW.arr C mRow0 M1.a18 (fun j a b => by show ρ j = 0; rw [hz j, if_pos (by omega)]) (fun h1 hh2 => ?_)
        have M3 : mSt G h0 h1 m ad f (va_up g 18 mRow0) := mSt.uu (M1.st18 hh2) rfl
        refine g_iconst C dX3_beginsAll_22 ?_
        refine g_istore_n C dX3_beginsAll_23 (lv' := [(1, .int (iI 0)), (0, .ref m)]) 1 rfl (Nat.le_of_ble_eq_true rfl) rfl ?_
        have L24 : ∀ (n1 : Nat) (route : Int) (ρ1 : Int → Int) (h1 : gH) (M1 : mSt G h0 h1 m ad f (va_up g 18 ρ1)) (hkroute : 0 ≤ route ∧ route ≤ 2) (hnroute : 2 - route < n1) (ha1 : mBAi (g 6) (2 * (g 6 0 * route)) ρ1) (hs1 : mFor (mBA2 (g 6)) (2 - route).toNat route ρ1 = mBA (g 6)), gW X h1 0 0 24 [(1, .int (iI route)), (0, .ref m)] [] := by
          intro n1
          induction n1 with
          | zero => intro route ρ1 h1 M1 hkroute hnroute ha1 hs1; exfalso; omega
          | succ n1 ih1 =>
            intro route ρ1 h1 M1 hkroute hnroute ha1 hs1
            have hcroute := ha1.2.1
            refine g_iload_n C dX3_beginsAll_24 0 rfl ?_
            refine g_iconst C dX3_beginsAll_25 ?_
            refine g_icmp_ge C dX3_beginsAll_26 (tgt := 69) (by decide) (gRo (by omega) (by omega)) (gRo (by decide) (by decide)) (fun c26 => ?_) (fun c26 => ?_)
            · have eA : ρ1 = mBA (g 6) := by rw [← hs1, mFor_end (b := 2) (k := route) (by omega)]
              have hO1 : mOk (g 6) ρ1 := by rw [eA]; exact mBA_ok hI9
              have hd1 := hO1.2.2.1
              refine g_aload_n C dX3_beginsAll_69 1 rfl ?_
              refine g_iconst C dX3_beginsAll_70 ?_
              refine g_callV C dX3_beginsAll_71 lkX3_223 M1.o rfl (As := [.int (iI 0)]) (c_X3_begins M1 0 hO1 (show 0 ≤ 0 ∧ 0 < ρ1 0 from by omega)) rfl rfl ⟨Nat.le_of_ble_eq_true rfl, Nat.le_of_ble_eq_true rfl⟩ (Nat.le_of_ble_eq_true rfl) ?_
              rintro _ h4 ⟨rfl, M5⟩
              obtain ⟨r6, er7⟩ : ∃ z, z = mBegR ((g 6)) ((ρ1)) 0 := ⟨_, rfl⟩
              have M8 : mSt G h0 h4 m ad f (va_up g 18 r6) := mSt.uu M5 er7.symm
              have hO9 : mOk (g 6) r6 := by rw [er7]; exact mBegR_ok hO1 (by omega) (by omega)
              have hn10 := hO9.2.2.1
              have hs11 := hO9.2.2.2.2.1
              show gW X h4 0 0 74 [(1, .int (iI route)), (0, .ref m)] [.int (iI (gb (mBegB (g 6) (ρ1) 0)))]
              refine g_pop C dX3_beginsAll_74 rfl ?_
              refine g_vret C E dX3_beginsAll_75 rfl ?_
              subst er7
              subst eA
              exact ⟨rfl, M8⟩
            · refine g_iconst C dX3_beginsAll_29 ?_
              refine g_istore_n C dX3_beginsAll_30 (lv' := [(2, .int (iI 0)), (1, .int (iI route)), (0, .ref m)]) 2 rfl (Nat.le_of_ble_eq_true rfl) rfl ?_
              have L31 : ∀ (n2 : Nat) (tone : Int) (ρ2 : Int → Int) (h2 : gH) (M2 : mSt G h0 h2 m ad f (va_up g 18 ρ2)) (hktone : 0 ≤ tone ∧ tone ≤ g 6 0) (hntone : g 6 0 - tone < n2) (ha2 : mBAi (g 6) (2 * (g 6 0 * route) + 2 * tone) ρ2) (hs2 : mFor (mBA2 (g 6)) (2 - (route + 1)).toNat (route + 1) (mFor (mBA1 route) (g 6 0 - tone).toNat tone ρ2) = mBA (g 6)), gW X h2 0 0 31 [(2, .int (iI tone)), (1, .int (iI route)), (0, .ref m)] [] := by
                intro n2
                induction n2 with
                | zero => intro tone ρ2 h2 M2 hktone hntone ha2 hs2; exfalso; omega
                | succ n2 ih2 =>
                  intro tone ρ2 h2 M2 hktone hntone ha2 hs2
                  have hctone := ha2.2.1
                  have hz9 : 0 ≤ g 6 0 * route ∧ 2 * (g 6 0 * route) + 2 * tone ≤ 24 ∧ (tone < g 6 0 → 2 * (g 6 0 * route) + 2 * tone ≤ 22 ∨ route = 2) := by (rcases (show route = 0 ∨ route = 1 by omega) with rfl | rfl <;> omega)
                  refine g_iload_n C dX3_beginsAll_31 0 rfl ?_
                  refine g_aload_n C dX3_beginsAll_32 2 rfl ?_
                  refine g_get C dX3_beginsAll_33 kcX3 6 q1469 (fun _ _ _ _ h9 => h9) M2.o (Nat.le_of_ble_eq_true rfl) rfl ?_
                  refine g_iconst C dX3_beginsAll_36 ?_
                  refine g_iald C dX3_beginsAll_37 (v := g 6 0) M2.a6 (by decide) (by decide) (by decide) rfl ?_
                  refine g_icmp_ge C dX3_beginsAll_38 (tgt := 63) (by decide) (gRo (by omega) (by omega)) (hiR _) (fun c38 => ?_) (fun c38 => ?_)
                  · refine g_iinc C dX3_beginsAll_63 (v := route + 1) (lv' := [(1, .int (iI (route + 1))), (2, .int (iI tone)), (0, .ref m)]) 1 rfl rfl (Nat.le_of_ble_eq_true rfl) rfl ?_
                    refine g_goto C dX3_beginsAll_66 (tgt := 24) (by decide) ?_
                    refine gW.loc [0, 2] (lv' := [(1, .int (iI (route + 1))), (0, .ref m)]) rfl ?_
                    exact ih1 (route + 1) (ρ2) h2 (M2) (by omega) (by omega) (by rw [show 2 * (g 6 0 * (route + 1)) = 2 * (g 6 0 * route) + 2 * tone by (rcases (show route = 0 ∨ route = 1 by omega) with rfl | rfl <;> omega)]; exact ha2) (by rw [← hs2, mFor_end (b := g 6 0) (k := tone) (by omega)])
                  · refine g_aload_n C dX3_beginsAll_41 2 rfl ?_
                    refine g_iload_n C dX3_beginsAll_42 1 rfl ?_
                    refine g_iconst C dX3_beginsAll_43 ?_
                    refine g_iload_n C dX3_beginsAll_44 0 rfl ?_
                    refine g_iconst C dX3_beginsAll_45 ?_
                    refine g_callV C dX3_beginsAll_46 lkX3_219 M2.o rfl (As := [.int (iI route), .int (iI 0), .int (iI tone), .int (iI 0)]) (c_X3_addsTask M2 route 0 tone 0 (show 0 ≤ ρ2 0 ∧ ρ2 0 < 48 from by omega)) rfl rfl ⟨Nat.le_of_ble_eq_true rfl, Nat.le_of_ble_eq_true rfl⟩ (Nat.le_of_ble_eq_true rfl) ?_
                    rintro _ h12 ⟨rfl, M13⟩
                    obtain ⟨r14, er15⟩ : ∃ z, z = mAdd ((ρ2)) route 0 tone 0 := ⟨_, rfl⟩
                    have M16 : mSt G h0 h12 m ad f (va_up g 18 r14) := mSt.uu M13 er15.symm
                    have h90 : r14 0 = ρ2 0 + 1 := by rw [er15]; exact mAdd_0 _ _ _ _ _
                    refine g_aload_n C dX3_beginsAll_49 2 rfl ?_
                    refine g_iload_n C dX3_beginsAll_50 1 rfl ?_
                    refine g_iconst C dX3_beginsAll_51 ?_
                    refine g_iload_n C dX3_beginsAll_52 0 rfl ?_
                    refine g_iconst C dX3_beginsAll_53 ?_
                    refine g_callV C dX3_beginsAll_54 lkX3_219 M16.o rfl (As := [.int (iI route), .int (iI 1), .int (iI tone), .int (iI 0)]) (c_X3_addsTask M16 route 1 tone 0 (show 0 ≤ r14 0 ∧ r14 0 < 48 from by omega)) rfl rfl ⟨Nat.le_of_ble_eq_true rfl, Nat.le_of_ble_eq_true rfl⟩ (Nat.le_of_ble_eq_true rfl) ?_
                    rintro _ h17 ⟨rfl, M18⟩
                    obtain ⟨r19, er20⟩ : ∃ z, z = mAdd (r14) route 1 tone 0 := ⟨_, rfl⟩
                    have M21 : mSt G h0 h17 m ad f (va_up g 18 r19) := mSt.uu M18 er20.symm
                    refine g_iinc C dX3_beginsAll_57 (v := tone + 1) (lv' := [(2, .int (iI (tone + 1))), (1, .int (iI route)), (0, .ref m)]) 0 rfl rfl (Nat.le_of_ble_eq_true rfl) rfl ?_
                    refine g_goto C dX3_beginsAll_60 (tgt := 31) (by decide) ?_
                    have e9 : r19 = mBA1 route tone ρ2 := by rw [er20, er15]; rfl
                    have e8 := mBA1_i hI9 ha2 (by omega) (by omega) rfl
                    rw [← e9] at e8
                    exact ih2 (tone + 1) r19 h17 (M21) (by omega) (by omega) (by rw [show 2 * (g 6 0 * route) + 2 * (tone + 1) = 2 * (g 6 0 * route) + 2 * tone + 1 + 1 by omega]; exact e8) (by rw [e9, ← mFor_step (k := tone) (by omega)]; exact hs2)
              exact L31 (g 6 0 - 0 + 1 : Int).toNat 0 (ρ1) h1 (M1) (by omega) (by omega) (by rw [show 2 * (g 6 0 * route) + 2 * 0 = 2 * (g 6 0 * route) by omega]; exact ha1) (by rw [← hs1, mFor_step (k := route) (by omega)]; rfl)
        exact L24 (2 + 1) 0 mRow0 h1 (M3) (by omega) (by omega) (by rw [show 2 * (g 6 0 * 0) = 0 by omega]; exact ⟨mRow0_R, rfl, fun k k0 k1 => by omega, fun j _ _ => rfl⟩) rfl
      · refine g_aload_n C dX3_beginsAll_9 1 rfl ?_
        refine g_get C dX3_beginsAll_10 kcX3 18 q1481 (fun _ _ _ _ h9 => h9) M1.o (Nat.le_of_ble_eq_true rfl) rfl ?_
        refine g_iload_n C dX3_beginsAll_13 0 rfl ?_
        refine g_iconst C dX3_beginsAll_14 ?_
        obtain ⟨r22, er23⟩ : ∃ z, z = iUp (ρ) k 0 := ⟨_, rfl⟩
        refine g_iast C dX3_beginsAll_15 M1.a18 (by decide) (by omega) (by omega) er23.symm (fun h24 hh25 => ?_)
        have M26 : mSt G h0 h24 m ad f (va_up g 18 r22) := mSt.uu (M1.st18 hh25) rfl
        refine g_iinc C dX3_beginsAll_16 (v := k + 1) (lv' := [(1, .int (iI (k + 1))), (0, .ref m)]) 0 rfl rfl (Nat.le_of_ble_eq_true rfl) rfl ?_
        refine g_goto C dX3_beginsAll_19 (tgt := 2) (by decide) ?_
        exact ih (k + 1) r22 h24 M26 (by omega) (by omega) (fun j => by rw [er23]; exact mZ_step hz (by omega) j)
  exact L2 (1840 - 0 + 1 : Int).toNat 0 (g 18) h (M.u0) (by omega) (by omega) (fun j => by rw [if_neg (by omega)])
