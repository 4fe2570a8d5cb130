/-! WALKS (printed by wip gen/all.py) -/
set_option maxRecDepth 100000
set_option maxHeartbeats 4000000
theorem mok_X7_forceOf : mOK yX7_forceOf 1 := ⟨⟨by decide +kernel, by decide +kernel⟩, by decide +kernel⟩
abbrev KX7_forceOf (l : Launch) (D : DD) (h0 : AH) (v : Int32) : KT := (l, yX7_forceOf, cX7_forceOf, 3, (some .int), RX7, 3, D, h0, h0, .inl (some (.int v)), false, [])
theorem metX7_forceOf (l : Launch) (D : DD) {a0 : Nat} {a1 : Int32} {h0 : AH} {v : Int32} (hr : fX7_forceOf a0 a1 h0 = some v) : AMet (KX7_forceOf l D h0 v) [.ref a0, .int a1] := by
  refine AMet.of (K := (KX7_forceOf l D h0 v)) rfl ⟨_, rfl⟩ rfl rfl rfl (Nat.le_of_ble_eq_true rfl) (fun ls hl => ?_)
  have hl : lv_has ls 3 [(0, .ref a0), (1, .int a1)] := hl
  suffices hsp : SP (fX7_forceOf a0 a1 h0) (fun z => z = v) (AW (KX7_forceOf l D h0 v) h0 0 ls []) from hsp _ hr rfl
  unfold fX7_forceOf
  refine sp_m (aw_aload_n (pc := 0) dX7_forceOf_0 rfl (lv_at hl 0 rfl)) ?_
  refine sp_m (aw_iload_n (pc := 1) dX7_forceOf_1 rfl (lv_at hl 1 rfl)) ?_
  refine sp_g fun s2 => ?_
  refine sp_b fun p1 ep1 => ?_
  refine sp_m (G' := AW (KX7_forceOf l D h0 v) h0 (5) ls (.int p1 :: [])) (fun kk => aw_callV (As := [.int a1]) (metX7_isDead _ _ ep1) (rcv_o okX7 s2) rfl mok_X7_isDead q1885 q1887 qs75 q125 q1888 (Nat.le_of_ble_eq_true rfl) (Nat.le_of_ble_eq_true rfl) rfl hl.1 rfl (Nat.le_of_ble_eq_true rfl) (pc := 2) dX7_forceOf_2 kk) ?_
  refine sp_if (fun c3 => ?_) (fun c3 => ?_)
  · refine sp_m (aw_if_eq_t (tgt := 10) (pc := 5) dX7_forceOf_5 (by decide) c3) ?_
    refine sp_m (aw_aload_n (pc := 10) dX7_forceOf_10 rfl (lv_at hl 0 rfl)) ?_
    refine sp_b fun x4 ex4 => ?_
    refine sp_m (aw_get (k := 3) okX7 s2 (by decide) q1505 (Or.inl rfl) (congrArg va_rf ex4) (pc := 11) dX7_forceOf_11) ?_
    refine sp_g fun s5 => ?_
    refine sp_b fun x6 ex6 => ?_
    refine sp_m (aw_getN (k := 10) okX20 s5 (by decide) nq1656 rfl (congrArg va_rf ex6) (pc := 14) dX7_forceOf_14) ?_
    refine sp_m (aw_iload_n (pc := 17) dX7_forceOf_17 rfl (lv_at hl 1 rfl)) ?_
    refine sp_g fun s7 => ?_
    refine sp_g fun i8 => ?_
    refine sp_m (aw_iald s7 i8 (pc := 18) dX7_forceOf_18) ?_
    refine sp_m (aw_iconst (v := 1) (pc := 19) dX7_forceOf_19 rfl) ?_
    have hj65_1 : ∀ j9 : Int32, ∀ ls : Array Slot, lv_has ls 3 [(0, .ref a0), (1, .int a1)] → SP (X7_forceOf_j65 a0 a1 h0 j9) (fun z => z = v) (AW (KX7_forceOf l D h0 v) h0 65 ls (.int j9 :: [])) := by
      intro j9 ls hl
      unfold X7_forceOf_j65
      refine sp_m (aw_aload_n (pc := 65) dX7_forceOf_65 rfl (lv_at hl 0 rfl)) ?_
      refine sp_b fun x10 ex10 => ?_
      refine sp_m (aw_get (k := 16) okX7 s2 (by decide) q1518 (Or.inl rfl) (congrArg va_rf ex10) (pc := 66) dX7_forceOf_66) ?_
      refine sp_m (aw_iconst (v := 5) (pc := 69) dX7_forceOf_69 rfl) ?_
      refine sp_m (aw_iload_n (pc := 70) dX7_forceOf_70 rfl (lv_at hl 1 rfl)) ?_
      refine sp_m (aw_iadd (pc := 71) dX7_forceOf_71) ?_
      refine sp_g fun s11 => ?_
      refine sp_g fun i12 => ?_
      refine sp_m (aw_iald s11 i12 (pc := 72) dX7_forceOf_72) ?_
      refine sp_m (aw_isub (pc := 73) dX7_forceOf_73) ?_
      refine sp_m (aw_istore_n (lv' := [(2, .int (j9 - (gI h0 x10 (ix (5 + a1))))), (0, .ref a0), (1, .int a1)]) (pc := 74) dX7_forceOf_74 rfl hl (by decide) rfl) (sp_all fun ls hl => ?_)
      refine sp_m (aw_iload_n (pc := 75) dX7_forceOf_75 rfl (lv_at hl 0 rfl)) ?_
      refine sp_if (fun c13 => ?_) (fun c13 => ?_)
      · refine sp_m (aw_if_le_t (tgt := 83) (pc := 76) dX7_forceOf_76 (by decide) c13) ?_
        refine sp_m (aw_iconst (v := 0) (pc := 83) dX7_forceOf_83 rfl) ?_
        exact sp_r fun hz => aw_iret (congrArg (fun z => (z, h0)) hz) rfl rfl rfl (pc := 84) dX7_forceOf_84
      · refine sp_m (aw_if_le_f (tgt := 83) (pc := 76) dX7_forceOf_76 (by decide) c13) ?_
        refine sp_m (aw_iload_n (pc := 79) dX7_forceOf_79 rfl (lv_at hl 0 rfl)) ?_
        refine sp_m (aw_goto (tgt := 84) (pc := 80) dX7_forceOf_80 (by decide)) ?_
        exact sp_r fun hz => aw_iret (congrArg (fun z => (z, h0)) hz) rfl rfl rfl (pc := 84) dX7_forceOf_84
    refine sp_if (fun c14 => ?_) (fun c14 => ?_)
    · refine sp_m (aw_icmp_ne_t (tgt := 27) (pc := 20) dX7_forceOf_20 (by decide) c14) ?_
      refine sp_m (aw_aload_n (pc := 27) dX7_forceOf_27 rfl (lv_at hl 0 rfl)) ?_
      refine sp_b fun x15 ex15 => ?_
      refine sp_m (aw_get (k := 3) okX7 s2 (by decide) q1505 (Or.inl rfl) (congrArg va_rf ex15) (pc := 28) dX7_forceOf_28) ?_
      refine sp_g fun s16 => ?_
      refine sp_b fun x17 ex17 => ?_
      refine sp_m (aw_getN (k := 10) okX20 s16 (by decide) nq1656 rfl (congrArg va_rf ex17) (pc := 31) dX7_forceOf_31) ?_
      refine sp_m (aw_iload_n (pc := 34) dX7_forceOf_34 rfl (lv_at hl 1 rfl)) ?_
      refine sp_g fun s18 => ?_
      refine sp_g fun i19 => ?_
      refine sp_m (aw_iald s18 i19 (pc := 35) dX7_forceOf_35) ?_
      refine sp_m (aw_iconst (v := 2) (pc := 36) dX7_forceOf_36 rfl) ?_
      refine sp_if (fun c20 => ?_) (fun c20 => ?_)
      · refine sp_m (aw_icmp_ne_t (tgt := 45) (pc := 37) dX7_forceOf_37 (by decide) c20) ?_
        refine sp_m (aw_aload_n (pc := 45) dX7_forceOf_45 rfl (lv_at hl 0 rfl)) ?_
        refine sp_b fun x21 ex21 => ?_
        refine sp_m (aw_get (k := 3) okX7 s2 (by decide) q1505 (Or.inl rfl) (congrArg va_rf ex21) (pc := 46) dX7_forceOf_46) ?_
        refine sp_g fun s22 => ?_
        refine sp_b fun x23 ex23 => ?_
        refine sp_m (aw_getN (k := 10) okX20 s22 (by decide) nq1656 rfl (congrArg va_rf ex23) (pc := 49) dX7_forceOf_49) ?_
        refine sp_m (aw_iload_n (pc := 52) dX7_forceOf_52 rfl (lv_at hl 1 rfl)) ?_
        refine sp_g fun s24 => ?_
        refine sp_g fun i25 => ?_
        refine sp_m (aw_iald s24 i25 (pc := 53) dX7_forceOf_53) ?_
        refine sp_m (aw_iconst (v := 3) (pc := 54) dX7_forceOf_54 rfl) ?_
        refine sp_if (fun c26 => ?_) (fun c26 => ?_)
        · refine sp_m (aw_icmp_ne_t (tgt := 63) (pc := 55) dX7_forceOf_55 (by decide) c26) ?_
          refine sp_m (aw_bipush (v := 20) (pc := 63) dX7_forceOf_63 rfl) ?_
          exact hj65_1 20 ls (lv_sub hl [0, 1] rfl)
        · refine sp_m (aw_icmp_ne_f (tgt := 63) (pc := 55) dX7_forceOf_55 (by decide) (Decidable.not_not.mp c26)) ?_
          refine sp_m (aw_bipush (v := 25) (pc := 58) dX7_forceOf_58 rfl) ?_
          refine sp_m (aw_goto (tgt := 65) (pc := 60) dX7_forceOf_60 (by decide)) ?_
          exact hj65_1 25 ls (lv_sub hl [0, 1] rfl)
      · refine sp_m (aw_icmp_ne_f (tgt := 45) (pc := 37) dX7_forceOf_37 (by decide) (Decidable.not_not.mp c20)) ?_
        refine sp_m (aw_bipush (v := 30) (pc := 40) dX7_forceOf_40 rfl) ?_
        refine sp_m (aw_goto (tgt := 65) (pc := 42) dX7_forceOf_42 (by decide)) ?_
        exact hj65_1 30 ls (lv_sub hl [0, 1] rfl)
    · refine sp_m (aw_icmp_ne_f (tgt := 27) (pc := 20) dX7_forceOf_20 (by decide) (Decidable.not_not.mp c14)) ?_
      refine sp_m (aw_iconst (v := 5) (pc := 23) dX7_forceOf_23 rfl) ?_
      refine sp_m (aw_goto (tgt := 65) (pc := 24) dX7_forceOf_24 (by decide)) ?_
      exact hj65_1 5 ls (lv_sub hl [0, 1] rfl)
  · refine sp_m (aw_if_eq_f (tgt := 10) (pc := 5) dX7_forceOf_5 (by decide) c3) ?_
    refine sp_m (aw_iconst (v := 0) (pc := 8) dX7_forceOf_8 rfl) ?_
    exact sp_r fun hz => aw_iret (congrArg (fun z => (z, h0)) hz) rfl rfl rfl (pc := 9) dX7_forceOf_9
theorem mok_X7_harmBy : mOK yX7_harmBy 4 := ⟨⟨by decide +kernel, by decide +kernel⟩, by decide +kernel⟩
abbrev KX7_harmBy (l : Launch) (D : DD) (h0 : AH) (v : Int32) : KT := (l, yX7_harmBy, cX7_harmBy, 6, (some .int), RX7, 4, D, h0, h0, .inl (some (.int v)), false, [])
theorem metX7_harmBy (l : Launch) (D : DD) {a0 : Nat} {a1 : Int32} {a2 : Int32} {a3 : Int32} {a4 : Int32} {h0 : AH} {v : Int32} (hr : fX7_harmBy a0 a1 a2 a3 a4 h0 = some v) : AMet (KX7_harmBy l D h0 v) [.ref a0, .int a1, .int a2, .int a3, .int a4] := by
  refine AMet.of (K := (KX7_harmBy l D h0 v)) rfl ⟨_, rfl⟩ rfl rfl rfl (Nat.le_of_ble_eq_true rfl) (fun ls hl => ?_)
  have hl : lv_has ls 6 [(0, .ref a0), (1, .int a1), (2, .int a2), (3, .int a3), (4, .int a4)] := hl
  suffices hsp : SP (fX7_harmBy a0 a1 a2 a3 a4 h0) (fun z => z = v) (AW (KX7_harmBy l D h0 v) h0 0 ls []) from hsp _ hr rfl
  unfold fX7_harmBy
  refine sp_m (aw_aload_n (pc := 0) dX7_harmBy_0 rfl (lv_at hl 0 rfl)) ?_
  refine sp_m (aw_iload_n (pc := 1) dX7_harmBy_1 rfl (lv_at hl 1 rfl)) ?_
  refine sp_g fun s2 => ?_
  refine sp_b fun p1 ep1 => ?_
  refine sp_m (G' := AW (KX7_harmBy l D h0 v) h0 (5) ls (.int p1 :: [])) (fun kk => aw_callV (As := [.int a1]) (metX7_forceOf _ _ ep1) (rcv_o okX7 s2) rfl mok_X7_forceOf q1897 q1899 qs77 q125 q1900 (Nat.le_of_ble_eq_true rfl) (Nat.le_of_ble_eq_true rfl) rfl hl.1 rfl (Nat.le_of_ble_eq_true rfl) (pc := 2) dX7_harmBy_2 kk) ?_
  refine sp_m (aw_istore (lv' := [(5, .int p1), (0, .ref a0), (1, .int a1), (2, .int a2), (3, .int a3), (4, .int a4)]) (pc := 5) dX7_harmBy_5 hl (by decide) rfl) (sp_all fun ls hl => ?_)
  refine sp_m (aw_aload_n (pc := 7) dX7_harmBy_7 rfl (lv_at hl 1 rfl)) ?_
  refine sp_m (aw_iload_n (pc := 8) dX7_harmBy_8 rfl (lv_at hl 2 rfl)) ?_
  refine sp_b fun p3 ep3 => ?_
  refine sp_m (G' := AW (KX7_harmBy l D h0 v) h0 (12) ls (.int p3 :: [])) (fun kk => aw_callV (As := [.int a1]) (metX7_isDead _ _ ep3) (rcv_o okX7 s2) rfl mok_X7_isDead q1885 q1887 qs75 q125 q1888 (Nat.le_of_ble_eq_true rfl) (Nat.le_of_ble_eq_true rfl) rfl hl.1 rfl (Nat.le_of_ble_eq_true rfl) (pc := 9) dX7_harmBy_9 kk) ?_
  refine sp_if (fun c4 => ?_) (fun c4 => ?_)
  · refine sp_m (aw_if_eq_t (tgt := 17) (pc := 12) dX7_harmBy_12 (by decide) c4) ?_
    refine sp_m (aw_iload_n (pc := 17) dX7_harmBy_17 rfl (lv_at hl 3 rfl)) ?_
    refine sp_if (fun c5 => ?_) (fun c5 => ?_)
    · refine sp_m (aw_tableOut (tgt := 146) (pc := 18) dX7_harmBy_18 (sw_out rfl rfl c5) (by decide)) ?_
      refine sp_m (aw_iconst (v := 0) (pc := 146) dX7_harmBy_146 rfl) ?_
      exact sp_r fun hz => aw_iret (congrArg (fun z => (z, h0)) hz) rfl rfl rfl (pc := 147) dX7_harmBy_147
    refine sp_if (fun c6 => ?_) (fun c6 => ?_)
    · refine sp_m (aw_tableIn (tgt := 44) (pc := 18) dX7_harmBy_18 (by rw [c6]; decide) (by rw [c6]; decide) (by rw [c6] <;> rfl) (by decide)) ?_
      refine sp_m (aw_aload_n (pc := 44) dX7_harmBy_44 rfl (lv_at hl 1 rfl)) ?_
      refine sp_b fun x7 ex7 => ?_
      refine sp_m (aw_get (k := 3) okX7 s2 (by decide) q1505 (Or.inl rfl) (congrArg va_rf ex7) (pc := 45) dX7_harmBy_45) ?_
      refine sp_g fun s8 => ?_
      refine sp_b fun x9 ex9 => ?_
      refine sp_m (aw_getN (k := 10) okX20 s8 (by decide) nq1656 rfl (congrArg va_rf ex9) (pc := 48) dX7_harmBy_48) ?_
      refine sp_m (aw_iload_n (pc := 51) dX7_harmBy_51 rfl (lv_at hl 2 rfl)) ?_
      refine sp_g fun s10 => ?_
      refine sp_g fun i11 => ?_
      refine sp_m (aw_iald s10 i11 (pc := 52) dX7_harmBy_52) ?_
      refine sp_m (aw_iconst (v := 2) (pc := 53) dX7_harmBy_53 rfl) ?_
      refine sp_if (fun c12 => ?_) (fun c12 => ?_)
      · refine sp_m (aw_icmp_ne_t (tgt := 69) (pc := 54) dX7_harmBy_54 (by decide) c12) ?_
        refine sp_m (aw_iload (pc := 69) dX7_harmBy_69 (lv_at hl 5 rfl)) ?_
        refine sp_if (fun c13 => ?_) (fun c13 => ?_)
        · refine sp_m (aw_if_eq_t (tgt := 79) (pc := 71) dX7_harmBy_71 (by decide) c13) ?_
          refine sp_m (aw_iconst (v := 0) (pc := 79) dX7_harmBy_79 rfl) ?_
          exact sp_r fun hz => aw_iret (congrArg (fun z => (z, h0)) hz) rfl rfl rfl (pc := 80) dX7_harmBy_80
        · refine sp_m (aw_if_eq_f (tgt := 79) (pc := 71) dX7_harmBy_71 (by decide) c13) ?_
          refine sp_m (aw_iload (pc := 74) dX7_harmBy_74 (lv_at hl 0 rfl)) ?_
          refine sp_m (aw_goto (tgt := 80) (pc := 76) dX7_harmBy_76 (by decide)) ?_
          exact sp_r fun hz => aw_iret (congrArg (fun z => (z, h0)) hz) rfl rfl rfl (pc := 80) dX7_harmBy_80
      · refine sp_m (aw_icmp_ne_f (tgt := 69) (pc := 54) dX7_harmBy_54 (by decide) (Decidable.not_not.mp c12)) ?_
        refine sp_m (aw_iload (pc := 57) dX7_harmBy_57 (lv_at hl 5 rfl)) ?_
        refine sp_if (fun c14 => ?_) (fun c14 => ?_)
        · refine sp_m (aw_if_eq_t (tgt := 66) (pc := 59) dX7_harmBy_59 (by decide) c14) ?_
          refine sp_m (aw_bipush (v := 10) (pc := 66) dX7_harmBy_66 rfl) ?_
          exact sp_r fun hz => aw_iret (congrArg (fun z => (z, h0)) hz) rfl rfl rfl (pc := 68) dX7_harmBy_68
        · refine sp_m (aw_if_eq_f (tgt := 66) (pc := 59) dX7_harmBy_59 (by decide) c14) ?_
          refine sp_m (aw_iconst (v := 0) (pc := 62) dX7_harmBy_62 rfl) ?_
          refine sp_m (aw_goto (tgt := 68) (pc := 63) dX7_harmBy_63 (by decide)) ?_
          exact sp_r fun hz => aw_iret (congrArg (fun z => (z, h0)) hz) rfl rfl rfl (pc := 68) dX7_harmBy_68
    refine sp_if (fun c15 => ?_) (fun c15 => ?_)
    · refine sp_m (aw_tableIn (tgt := 81) (pc := 18) dX7_harmBy_18 (by rw [c15]; decide) (by rw [c15]; decide) (by rw [c15] <;> rfl) (by decide)) ?_
      refine sp_m (aw_iload (pc := 81) dX7_harmBy_81 (lv_at hl 0 rfl)) ?_
      refine sp_m (aw_iload_n (pc := 83) dX7_harmBy_83 rfl (lv_at hl 4 rfl)) ?_
      refine sp_if (fun c16 => ?_) (fun c16 => ?_)
      · refine sp_m (aw_icmp_le_t (tgt := 98) (pc := 84) dX7_harmBy_84 (by decide) c16) ?_
        refine sp_m (aw_iload (pc := 98) dX7_harmBy_98 (lv_at hl 5 rfl)) ?_
        refine sp_if (fun c17 => ?_) (fun c17 => ?_)
        · refine sp_m (aw_if_eq_t (tgt := 108) (pc := 100) dX7_harmBy_100 (by decide) c17) ?_
          refine sp_m (aw_iload (pc := 108) dX7_harmBy_108 (lv_at hl 0 rfl)) ?_
          refine sp_m (aw_iconst (v := 2) (pc := 110) dX7_harmBy_110 rfl) ?_
          refine sp_m (aw_idiv (pc := 111) dX7_harmBy_111 (by decide)) ?_
          exact sp_r fun hz => aw_iret (congrArg (fun z => (z, h0)) hz) rfl rfl rfl (pc := 112) dX7_harmBy_112
        · refine sp_m (aw_if_eq_f (tgt := 108) (pc := 100) dX7_harmBy_100 (by decide) c17) ?_
          refine sp_m (aw_iload (pc := 103) dX7_harmBy_103 (lv_at hl 0 rfl)) ?_
          refine sp_m (aw_goto (tgt := 112) (pc := 105) dX7_harmBy_105 (by decide)) ?_
          exact sp_r fun hz => aw_iret (congrArg (fun z => (z, h0)) hz) rfl rfl rfl (pc := 112) dX7_harmBy_112
      · refine sp_m (aw_icmp_le_f (tgt := 98) (pc := 84) dX7_harmBy_84 (by decide) c16) ?_
        refine sp_m (aw_iload (pc := 87) dX7_harmBy_87 (lv_at hl 5 rfl)) ?_
        refine sp_if (fun c18 => ?_) (fun c18 => ?_)
        · refine sp_m (aw_if_eq_t (tgt := 96) (pc := 89) dX7_harmBy_89 (by decide) c18) ?_
          refine sp_m (aw_iload_n (pc := 96) dX7_harmBy_96 rfl (lv_at hl 4 rfl)) ?_
          exact sp_r fun hz => aw_iret (congrArg (fun z => (z, h0)) hz) rfl rfl rfl (pc := 97) dX7_harmBy_97
        · refine sp_m (aw_if_eq_f (tgt := 96) (pc := 89) dX7_harmBy_89 (by decide) c18) ?_
          refine sp_m (aw_iconst (v := 0) (pc := 92) dX7_harmBy_92 rfl) ?_
          refine sp_m (aw_goto (tgt := 97) (pc := 93) dX7_harmBy_93 (by decide)) ?_
          exact sp_r fun hz => aw_iret (congrArg (fun z => (z, h0)) hz) rfl rfl rfl (pc := 97) dX7_harmBy_97
    refine sp_if (fun c19 => ?_) (fun c19 => ?_)
    · refine sp_m (aw_tableIn (tgt := 113) (pc := 18) dX7_harmBy_18 (by rw [c19]; decide) (by rw [c19]; decide) (by rw [c19] <;> rfl) (by decide)) ?_
      refine sp_m (aw_iload (pc := 113) dX7_harmBy_113 (lv_at hl 5 rfl)) ?_
      refine sp_if (fun c20 => ?_) (fun c20 => ?_)
      · refine sp_m (aw_if_eq_t (tgt := 120) (pc := 115) dX7_harmBy_115 (by decide) c20) ?_
        refine sp_m (aw_iload_n (pc := 120) dX7_harmBy_120 rfl (lv_at hl 4 rfl)) ?_
        refine sp_m (aw_bipush (v := 8) (pc := 121) dX7_harmBy_121 rfl) ?_
        refine sp_if (fun c21 => ?_) (fun c21 => ?_)
        · refine sp_m (aw_icmp_ge_t (tgt := 131) (pc := 123) dX7_harmBy_123 (by decide) c21) ?_
          refine sp_m (aw_iload (pc := 131) dX7_harmBy_131 (lv_at hl 0 rfl)) ?_
          refine sp_m (aw_iload_n (pc := 133) dX7_harmBy_133 rfl (lv_at hl 4 rfl)) ?_
          refine sp_if (fun c22 => ?_) (fun c22 => ?_)
          · refine sp_m (aw_icmp_le_t (tgt := 144) (pc := 134) dX7_harmBy_134 (by decide) c22) ?_
            refine sp_m (aw_iconst (v := 0) (pc := 144) dX7_harmBy_144 rfl) ?_
            exact sp_r fun hz => aw_iret (congrArg (fun z => (z, h0)) hz) rfl rfl rfl (pc := 145) dX7_harmBy_145
          · refine sp_m (aw_icmp_le_f (tgt := 144) (pc := 134) dX7_harmBy_134 (by decide) c22) ?_
            refine sp_m (aw_iload (pc := 137) dX7_harmBy_137 (lv_at hl 0 rfl)) ?_
            refine sp_m (aw_iload_n (pc := 139) dX7_harmBy_139 rfl (lv_at hl 4 rfl)) ?_
            refine sp_m (aw_isub (pc := 140) dX7_harmBy_140) ?_
            refine sp_m (aw_goto (tgt := 145) (pc := 141) dX7_harmBy_141 (by decide)) ?_
            exact sp_r fun hz => aw_iret (congrArg (fun z => (z, h0)) hz) rfl rfl rfl (pc := 145) dX7_harmBy_145
        · refine sp_m (aw_icmp_ge_f (tgt := 131) (pc := 123) dX7_harmBy_123 (by decide) c21) ?_
          refine sp_m (aw_bipush (v := 15) (pc := 126) dX7_harmBy_126 rfl) ?_
          refine sp_m (aw_goto (tgt := 145) (pc := 128) dX7_harmBy_128 (by decide)) ?_
          exact sp_r fun hz => aw_iret (congrArg (fun z => (z, h0)) hz) rfl rfl rfl (pc := 145) dX7_harmBy_145
      · refine sp_m (aw_if_eq_f (tgt := 120) (pc := 115) dX7_harmBy_115 (by decide) c20) ?_
        refine sp_m (aw_iconst (v := 0) (pc := 118) dX7_harmBy_118 rfl) ?_
        exact sp_r fun hz => aw_iret (congrArg (fun z => (z, h0)) hz) rfl rfl rfl (pc := 119) dX7_harmBy_119
    exact sp_n
  · refine sp_m (aw_if_eq_f (tgt := 17) (pc := 12) dX7_harmBy_12 (by decide) c4) ?_
    refine sp_m (aw_iconst (v := 0) (pc := 15) dX7_harmBy_15 rfl) ?_
    exact sp_r fun hz => aw_iret (congrArg (fun z => (z, h0)) hz) rfl rfl rfl (pc := 16) dX7_harmBy_16
theorem mok_X7_holdsOn : mOK yX7_holdsOn 2 := ⟨⟨by decide +kernel, by decide +kernel⟩, by decide +kernel⟩
abbrev KX7_holdsOn (l : Launch) (D : DD) (h0 hE : AH) (v : Int32) : KT := (l, yX7_holdsOn, cX7_holdsOn, 4, (some .boolean), RX7, 3, D, h0, hE, .inl (some (.int v)), false, [])
theorem metX7_holdsOn (l : Launch) (D : DD) {a0 : Nat} {a1 : Nat} {a2 : Int32} {h0 : AH} {hE : AH} {v : Int32} (hr : fX7_holdsOn a0 a1 a2 h0 = some (v, hE)) : AMet (KX7_holdsOn l D h0 hE v) [.ref a0, .ref a1, .int a2] := by
  refine AMet.of (K := (KX7_holdsOn l D h0 hE v)) rfl ⟨_, rfl⟩ rfl rfl rfl (Nat.le_of_ble_eq_true rfl) (fun ls hl => ?_)
  have hl : lv_has ls 4 [(0, .ref a0), (1, .ref a1), (2, .int a2)] := hl
  suffices hsp : SP (fX7_holdsOn a0 a1 a2 h0) (fun z => z = (v, hE)) (AW (KX7_holdsOn l D h0 hE v) h0 0 ls []) from hsp _ hr rfl
  unfold fX7_holdsOn
  refine sp_m (aw_iconst (v := 0) (pc := 0) dX7_holdsOn_0 rfl) ?_
  refine sp_m (aw_istore_n (lv' := [(3, .int 0), (0, .ref a0), (1, .ref a1), (2, .int a2)]) (pc := 1) dX7_holdsOn_1 rfl hl (by decide) rfl) (sp_all fun ls hl => ?_)
  let P1 : Int32 × AH → Prop := aLP (KX7_holdsOn l D h0 hE v) 4 2 (fun s1v : Int32 × AH => [(0, .ref a0), (1, .ref a1), (2, .int a2), (3, .int s1v.1)]) (fun s1v => s1v.2)
  refine sp_loop (P := P1) (fun s1v => sp_all fun ls hl => ?_) (fun k => k ls (lv_sub hl [1, 2, 3, 0] rfl))
  have hl : lv_has ls 4 [(0, .ref a0), (1, .ref a1), (2, .int a2), (3, .int s1v.1)] := hl
  show SP _ _ (AW (KX7_holdsOn l D h0 hE v) s1v.2 2 ls [])
  unfold X7_holdsOn_L2
  refine sp_m (aw_iload_n (pc := 2) dX7_holdsOn_2 rfl (lv_at hl 3 rfl)) ?_
  refine sp_m (aw_aload_n (pc := 3) dX7_holdsOn_3 rfl (lv_at hl 0 rfl)) ?_
  refine sp_g fun s2 => ?_
  refine sp_b fun x3 ex3 => ?_
  refine sp_m (aw_get (k := 3) okX7 s2 (by decide) q1505 (Or.inl rfl) (congrArg va_rf ex3) (pc := 4) dX7_holdsOn_4) ?_
  refine sp_g fun s4 => ?_
  refine sp_m (aw_getN (k := 1) okX20 s4 (by decide) nq1643 rfl rfl (pc := 7) dX7_holdsOn_7) ?_
  refine sp_if (fun c5 => ?_) (fun c5 => ?_)
  · refine sp_m (aw_icmp_ge_t (tgt := 58) (pc := 10) dX7_holdsOn_10 (by decide) c5) ?_
    refine sp_m (aw_iconst (v := 1) (pc := 58) dX7_holdsOn_58 rfl) ?_
    exact sp_r fun hz => aw_zret (nar_b (Or.inr rfl)) hz rfl rfl rfl (pc := 59) dX7_holdsOn_59
  · refine sp_m (aw_icmp_ge_f (tgt := 58) (pc := 10) dX7_holdsOn_10 (by decide) c5) ?_
    refine sp_m (aw_aload_n (pc := 13) dX7_holdsOn_13 rfl (lv_at hl 1 rfl)) ?_
    refine sp_m (aw_bipush (v := 18) (pc := 14) dX7_holdsOn_14 rfl) ?_
    refine sp_m (aw_ldc2 q2172 (pc := 16) dX7_holdsOn_16) ?_
    refine sp_m (aw_aload_n (pc := 19) dX7_holdsOn_19 rfl (lv_at hl 1 rfl)) ?_
    refine sp_m (aw_bipush (v := 18) (pc := 20) dX7_holdsOn_20 rfl) ?_
    refine sp_g fun s6 => ?_
    refine sp_g fun i7 => ?_
    refine sp_m (aw_iald s6 i7 (pc := 22) dX7_holdsOn_22) ?_
    refine sp_m (aw_i2l (pc := 23) dX7_holdsOn_23) ?_
    refine sp_m (aw_lmul (pc := 24) dX7_holdsOn_24) ?_
    refine sp_m (aw_ldc2 q2173 (pc := 25) dX7_holdsOn_25) ?_
    refine sp_m (aw_ladd (pc := 28) dX7_holdsOn_28) ?_
    refine sp_m (aw_ldc2 q2174 (pc := 29) dX7_holdsOn_29) ?_
    refine sp_m (aw_lrem (pc := 32) dX7_holdsOn_32 (by decide)) ?_
    refine sp_m (aw_l2i (pc := 33) dX7_holdsOn_33) ?_
    refine sp_g fun i8 => ?_
    refine sp_t fun h9 eh90 => ?_
    have eh9 : gS h9 = gS s1v.2 := by rw [eh90]; rfl
    refine sp_m (fun kk => aw_iast s6 i8 (pc := 34) dX7_holdsOn_34 (AWe eh90 kk)) ?_
    refine sp_m (aw_aload_n (pc := 35) dX7_holdsOn_35 rfl (lv_at hl 1 rfl)) ?_
    refine sp_m (aw_bipush (v := 18) (pc := 36) dX7_holdsOn_36 rfl) ?_
    refine sp_g fun i10 => ?_
    refine sp_m (aw_iald (uS eh9 s6) i10 (pc := 38) dX7_holdsOn_38) ?_
    refine sp_m (aw_bipush (v := 100) (pc := 39) dX7_holdsOn_39 rfl) ?_
    refine sp_m (aw_irem (pc := 41) dX7_holdsOn_41 (by decide)) ?_
    refine sp_m (aw_aload_n (pc := 42) dX7_holdsOn_42 rfl (lv_at hl 0 rfl)) ?_
    refine sp_m (aw_iload_n (pc := 43) dX7_holdsOn_43 rfl (lv_at hl 2 rfl)) ?_
    refine sp_b fun p11 ep11 => ?_
    refine sp_m (G' := AW (KX7_holdsOn l D h0 hE v) h9 (47) ls (.int p11 :: .int ((gI h9 a1 (ix 18)) - (gI h9 a1 (ix 18)) / 100 * 100) :: [])) (fun kk => aw_callV (As := [.int a2]) (metX7_holdOf _ _ ep11) (rcv_o okX7 (uS eh9 s2)) rfl mok_X7_holdOf q1901 q1903 qs78 q125 q1904 (Nat.le_of_ble_eq_true rfl) (Nat.le_of_ble_eq_true rfl) rfl hl.1 rfl (Nat.le_of_ble_eq_true rfl) (pc := 44) dX7_holdsOn_44 kk) ?_
    refine sp_if (fun c12 => ?_) (fun c12 => ?_)
    · refine sp_m (aw_icmp_lt_t (tgt := 52) (pc := 47) dX7_holdsOn_47 (by decide) c12) ?_
      refine sp_m (aw_iinc (v := s1v.1 + 1) (lv' := [(3, .int (s1v.1 + 1)), (0, .ref a0), (1, .ref a1), (2, .int a2)]) (pc := 52) dX7_holdsOn_52 hl (k := 3) rfl rfl (by decide) rfl) (sp_all fun ls hl => ?_)
      refine sp_m (aw_goto (tgt := 2) (pc := 55) dX7_holdsOn_55 (by decide)) ?_
      exact sp_r fun hz => hz ls (lv_sub hl [1, 2, 3, 0] rfl)
    · refine sp_m (aw_icmp_lt_f (tgt := 52) (pc := 47) dX7_holdsOn_47 (by decide) c12) ?_
      refine sp_m (aw_iconst (v := 0) (pc := 50) dX7_holdsOn_50 rfl) ?_
      exact sp_r fun hz => aw_zret (nar_b (Or.inl rfl)) hz rfl rfl rfl (pc := 51) dX7_holdsOn_51
theorem mok_X7_fights : mOK yX7_fights 1 := ⟨⟨by decide +kernel, by decide +kernel⟩, by decide +kernel⟩
abbrev KX7_fights (l : Launch) (D : DD) (h0 hE : AH) : KT := (l, yX7_fights, cX7_fights, 5, none, RX7, 5, D, h0, hE, .inl (none), false, [])
theorem metX7_fights (l : Launch) (D : DD) {a0 : Nat} {a1 : Nat} {h0 : AH} {hE : AH} (hr : fX7_fights a0 a1 h0 = some hE) : AMet (KX7_fights l D h0 hE) [.ref a0, .ref a1] := by
  refine AMet.of (K := (KX7_fights l D h0 hE)) rfl ⟨_, rfl⟩ rfl rfl rfl (Nat.le_of_ble_eq_true rfl) (fun ls hl => ?_)
  have hl : lv_has ls 5 [(0, .ref a0), (1, .ref a1)] := hl
  suffices hsp : SP (fX7_fights a0 a1 h0) (fun z => z = hE) (AW (KX7_fights l D h0 hE) h0 0 ls []) from hsp _ hr rfl
  unfold fX7_fights
  refine sp_m (aw_aload_n (pc := 0) dX7_fights_0 rfl (lv_at hl 0 rfl)) ?_
  refine sp_m (aw_iconst (v := 0) (pc := 1) dX7_fights_1 rfl) ?_
  refine sp_g fun s1 => ?_
  refine sp_t fun h2 eh20 => ?_
  have eh2 : gS h2 = gS h0 := by rw [eh20]; rfl
  refine sp_m (aw_put (k := 32) okX7 opX7 s1 (by decide) q1534 (Or.inl rfl) (Or.inl rfl) (hasV_I' eh20) rfl rfl (pc := 2) dX7_fights_2) ?_
  refine sp_m (aw_aload_n (pc := 5) dX7_fights_5 rfl (lv_at hl 0 rfl)) ?_
  refine sp_m (aw_iconst (v := 0) (pc := 6) dX7_fights_6 rfl) ?_
  refine sp_t fun h3 eh30 => ?_
  have eh3 : gS h3 = gS h2 := by rw [eh30]; rfl
  refine sp_m (aw_put (k := 33) okX7 opX7 (uS eh2 s1) (by decide) q1535 (Or.inl rfl) (Or.inl rfl) (hasV_I' eh30) rfl rfl (pc := 7) dX7_fights_7) ?_
  refine sp_m (aw_aload_n (pc := 10) dX7_fights_10 rfl (lv_at hl 0 rfl)) ?_
  refine sp_m (aw_iconst (v := 0) (pc := 11) dX7_fights_11 rfl) ?_
  refine sp_t fun h4 eh40 => ?_
  have eh4 : gS h4 = gS h3 := by rw [eh40]; rfl
  refine sp_m (aw_put (k := 34) okX7 opX7 (uS eh3 (uS eh2 s1)) (by decide) q1536 (Or.inl rfl) (Or.inl rfl) (hasV_I' eh40) rfl rfl (pc := 12) dX7_fights_12) ?_
  refine sp_m (aw_iconst (v := 0) (pc := 15) dX7_fights_15 rfl) ?_
  refine sp_m (aw_istore_n (lv' := [(2, .int 0), (0, .ref a0), (1, .ref a1)]) (pc := 16) dX7_fights_16 rfl hl (by decide) rfl) (sp_all fun ls hl => ?_)
  let P5 : Int32 × AH → Prop := aLP (KX7_fights l D h0 hE) 5 17 (fun s5v : Int32 × AH => [(0, .ref a0), (1, .ref a1), (2, .int s5v.1)]) (fun s5v => s5v.2)
  let E5 : AH → Prop := aLP (KX7_fights l D h0 hE) 5 198 (fun r5v : AH => []) (fun r5v => r5v)
  refine sp_bl (P := P5) (E := E5) (fun s5v => sp_all fun ls hl => ?_) (fun k => k ls (lv_sub hl [1, 2, 0] rfl)) (fun r5v => sp_all fun ls hl => ?_)
  · have hl : lv_has ls 5 [(0, .ref a0), (1, .ref a1), (2, .int s5v.1)] := hl
    show SP _ _ (AW (KX7_fights l D h0 hE) s5v.2 17 ls [])
    unfold X7_fights_L17
    refine sp_m (aw_iload_n (pc := 17) dX7_fights_17 rfl (lv_at hl 2 rfl)) ?_
    refine sp_m (aw_aload_n (pc := 18) dX7_fights_18 rfl (lv_at hl 0 rfl)) ?_
    refine sp_g fun s6 => ?_
    refine sp_b fun x7 ex7 => ?_
    refine sp_m (aw_get (k := 3) okX7 s6 (by decide) q1505 (Or.inl rfl) (congrArg va_rf ex7) (pc := 19) dX7_fights_19) ?_
    refine sp_g fun s8 => ?_
    refine sp_m (aw_getN (k := 3) okX20 s8 (by decide) nq1645 rfl rfl (pc := 22) dX7_fights_22) ?_
    refine sp_if (fun c9 => ?_) (fun c9 => ?_)
    · refine sp_m (aw_icmp_ge_t (tgt := 198) (pc := 25) dX7_fights_25 (by decide) c9) ?_
      exact sp_r fun hz => hz ls (lv_sub hl [] rfl)
    · refine sp_m (aw_icmp_ge_f (tgt := 198) (pc := 25) dX7_fights_25 (by decide) c9) ?_
      refine sp_m (aw_aload_n (pc := 28) dX7_fights_28 rfl (lv_at hl 0 rfl)) ?_
      refine sp_m (aw_iload_n (pc := 29) dX7_fights_29 rfl (lv_at hl 2 rfl)) ?_
      refine sp_b fun p10 ep10 => ?_
      refine sp_m (G' := AW (KX7_fights l D h0 hE) s5v.2 (33) ls (.int p10 :: [])) (fun kk => aw_callV (As := [.int s5v.1]) (metX7_isDead _ _ ep10) (rcv_o okX7 s6) rfl mok_X7_isDead q1885 q1887 qs75 q125 q1888 (Nat.le_of_ble_eq_true rfl) (Nat.le_of_ble_eq_true rfl) rfl hl.1 rfl (Nat.le_of_ble_eq_true rfl) (pc := 30) dX7_fights_30 kk) ?_
      have hj192_1 : ∀ h11 : AH, ∀ ls : Array Slot, lv_has ls 5 [(0, .ref a0), (1, .ref a1), (2, .int s5v.1)] → SP (X7_fights_j192 s5v h11) (ZL P5 E5) (AW (KX7_fights l D h0 hE) h11 192 ls ([])) := by
        intro h11 ls hl
        unfold X7_fights_j192
        refine sp_m (aw_iinc (v := s5v.1 + 1) (lv' := [(2, .int (s5v.1 + 1)), (0, .ref a0), (1, .ref a1)]) (pc := 192) dX7_fights_192 hl (k := 2) rfl rfl (by decide) rfl) (sp_all fun ls hl => ?_)
        refine sp_m (aw_goto (tgt := 17) (pc := 195) dX7_fights_195 (by decide)) ?_
        exact sp_r fun hz => hz ls (lv_sub hl [1, 2, 0] rfl)
      refine sp_if (fun c12 => ?_) (fun c12 => ?_)
      · refine sp_m (aw_if_eq_t (tgt := 39) (pc := 33) dX7_fights_33 (by decide) c12) ?_
        refine sp_m (aw_aload_n (pc := 39) dX7_fights_39 rfl (lv_at hl 0 rfl)) ?_
        refine sp_m (aw_aload_n (pc := 40) dX7_fights_40 rfl (lv_at hl 1 rfl)) ?_
        refine sp_m (aw_iload_n (pc := 41) dX7_fights_41 rfl (lv_at hl 2 rfl)) ?_
        refine sp_b fun p13 ep13 => ?_
        refine sp_m (G' := AW (KX7_fights l D h0 hE) p13.2 (45) ls (.int p13.1 :: [])) (fun kk => aw_callV (As := [.ref a1, .int s5v.1]) (metX7_holdsOn _ _ ep13) (rcv_o okX7 s6) rfl mok_X7_holdsOn q2168 q2170 qs111 q125 q2171 (Nat.le_of_ble_eq_true rfl) (Nat.le_of_ble_eq_true rfl) rfl hl.1 rfl (Nat.le_of_ble_eq_true rfl) (pc := 42) dX7_fights_42 kk) ?_
        refine sp_if (fun c14 => ?_) (fun c14 => ?_)
        · refine sp_m (aw_if_ne_t (tgt := 67) (pc := 45) dX7_fights_45 (by decide) c14) ?_
          refine sp_m (aw_aload_n (pc := 67) dX7_fights_67 rfl (lv_at hl 1 rfl)) ?_
          refine sp_m (aw_iconst (v := 0) (pc := 68) dX7_fights_68 rfl) ?_
          refine sp_m (aw_iload_n (pc := 69) dX7_fights_69 rfl (lv_at hl 2 rfl)) ?_
          refine sp_m (aw_iadd (pc := 70) dX7_fights_70) ?_
          refine sp_g fun s15 => ?_
          refine sp_g fun i16 => ?_
          refine sp_m (aw_iald s15 i16 (pc := 71) dX7_fights_71) ?_
          refine sp_m (aw_istore_n (lv' := [(3, .int (gI p13.2 a1 (ix (0 + s5v.1)))), (0, .ref a0), (1, .ref a1), (2, .int s5v.1)]) (pc := 72) dX7_fights_72 rfl hl (by decide) rfl) (sp_all fun ls hl => ?_)
          refine sp_m (aw_aload_n (pc := 73) dX7_fights_73 rfl (lv_at hl 1 rfl)) ?_
          refine sp_m (aw_iload_n (pc := 74) dX7_fights_74 rfl (lv_at hl 3 rfl)) ?_
          refine sp_m (aw_aload_n (pc := 75) dX7_fights_75 rfl (lv_at hl 1 rfl)) ?_
          refine sp_g fun s17 => ?_
          refine sp_b fun x18 ex18 => ?_
          refine sp_m (aw_get (k := 3) okX7 s17 (by decide) q1505 (Or.inl rfl) (congrArg va_rf ex18) (pc := 76) dX7_fights_76) ?_
          refine sp_g fun s19 => ?_
          refine sp_b fun x20 ex20 => ?_
          refine sp_m (aw_getN (k := 8) okX20 s19 (by decide) nq1652 rfl (congrArg va_rf ex20) (pc := 79) dX7_fights_79) ?_
          refine sp_m (aw_iload_n (pc := 82) dX7_fights_82 rfl (lv_at hl 0 rfl)) ?_
          refine sp_g fun s21 => ?_
          refine sp_g fun i22 => ?_
          refine sp_m (aw_iald s21 i22 (pc := 83) dX7_fights_83) ?_
          refine sp_m (aw_aload_n (pc := 84) dX7_fights_84 rfl (lv_at hl 2 rfl)) ?_
          refine sp_m (aw_bipush (v := 11) (pc := 85) dX7_fights_85 rfl) ?_
          refine sp_m (aw_iload_n (pc := 87) dX7_fights_87 rfl (lv_at hl 0 rfl)) ?_
          refine sp_m (aw_iadd (pc := 88) dX7_fights_88) ?_
          refine sp_g fun i23 => ?_
          refine sp_m (aw_iald s15 i23 (pc := 89) dX7_fights_89) ?_
          refine sp_m (aw_iconst (v := 0) (pc := 90) dX7_fights_90 rfl) ?_
          refine sp_b fun p24 ep24 => ?_
          refine sp_m (G' := AW (KX7_fights l D h0 hE) p13.2 (94) ls (.int p24 :: [])) (fun kk => aw_callV (As := [.int s5v.1, .int (gI p13.2 x20 (ix (gI p13.2 a1 (ix (0 + s5v.1))))), .int (gI p13.2 a1 (ix (11 + (gI p13.2 a1 (ix (0 + s5v.1)))))), .int 0]) (metX7_harmBy _ _ ep24) (rcv_o okX7 s17) rfl mok_X7_harmBy q1940 q1942 qs84 q125 q1943 (Nat.le_of_ble_eq_true rfl) (Nat.le_of_ble_eq_true rfl) rfl hl.1 rfl (Nat.le_of_ble_eq_true rfl) (pc := 91) dX7_fights_91 kk) ?_
          refine sp_m (aw_istore (lv' := [(4, .int p24), (3, .int (gI p13.2 a1 (ix (0 + s5v.1)))), (0, .ref a0), (1, .ref a1), (2, .int s5v.1)]) (pc := 94) dX7_fights_94 hl (by decide) rfl) (sp_all fun ls hl => ?_)
          refine sp_m (aw_aload_n (pc := 96) dX7_fights_96 rfl (lv_at hl 2 rfl)) ?_
          refine sp_m (aw_dup (pc := 97) dX7_fights_97 rfl) ?_
          refine sp_m (aw_get (k := 33) okX7 s17 (by decide) q1535 (Or.inl rfl) rfl (pc := 98) dX7_fights_98) ?_
          refine sp_m (aw_aload_n (pc := 101) dX7_fights_101 rfl (lv_at hl 2 rfl)) ?_
          refine sp_m (aw_iload_n (pc := 102) dX7_fights_102 rfl (lv_at hl 4 rfl)) ?_
          refine sp_m (aw_aload_n (pc := 103) dX7_fights_103 rfl (lv_at hl 2 rfl)) ?_
          refine sp_b fun x25 ex25 => ?_
          refine sp_m (aw_get (k := 3) okX7 s17 (by decide) q1505 (Or.inl rfl) (congrArg va_rf ex25) (pc := 104) dX7_fights_104) ?_
          refine sp_g fun s26 => ?_
          refine sp_b fun x27 ex27 => ?_
          refine sp_m (aw_getN (k := 8) okX20 s26 (by decide) nq1652 rfl (congrArg va_rf ex27) (pc := 107) dX7_fights_107) ?_
          refine sp_m (aw_iload_n (pc := 110) dX7_fights_110 rfl (lv_at hl 1 rfl)) ?_
          refine sp_g fun s28 => ?_
          refine sp_g fun i29 => ?_
          refine sp_m (aw_iald s28 i29 (pc := 111) dX7_fights_111) ?_
          refine sp_m (aw_aload_n (pc := 112) dX7_fights_112 rfl (lv_at hl 3 rfl)) ?_
          refine sp_m (aw_bipush (v := 11) (pc := 113) dX7_fights_113 rfl) ?_
          refine sp_m (aw_iload_n (pc := 115) dX7_fights_115 rfl (lv_at hl 1 rfl)) ?_
          refine sp_m (aw_iadd (pc := 116) dX7_fights_116) ?_
          refine sp_g fun i30 => ?_
          refine sp_m (aw_iald s15 i30 (pc := 117) dX7_fights_117) ?_
          refine sp_m (aw_iconst (v := 1) (pc := 118) dX7_fights_118 rfl) ?_
          refine sp_b fun p31 ep31 => ?_
          refine sp_m (G' := AW (KX7_fights l D h0 hE) p13.2 (122) ls (.int p31 :: .int (gI p13.2 a0 33) :: .ref a0 :: [])) (fun kk => aw_callV (As := [.int s5v.1, .int (gI p13.2 x27 (ix (gI p13.2 a1 (ix (0 + s5v.1))))), .int (gI p13.2 a1 (ix (11 + (gI p13.2 a1 (ix (0 + s5v.1)))))), .int 1]) (metX7_harmBy _ _ ep31) (rcv_o okX7 s17) rfl mok_X7_harmBy q1940 q1942 qs84 q125 q1943 (Nat.le_of_ble_eq_true rfl) (Nat.le_of_ble_eq_true rfl) rfl hl.1 rfl (Nat.le_of_ble_eq_true rfl) (pc := 119) dX7_fights_119 kk) ?_
          refine sp_m (aw_iadd (pc := 122) dX7_fights_122) ?_
          refine sp_t fun h32 eh320 => ?_
          have eh32 : gS h32 = gS p13.2 := by rw [eh320]; rfl
          refine sp_m (aw_put (k := 33) okX7 opX7 s17 (by decide) q1535 (Or.inl rfl) (Or.inl rfl) (hasV_I' eh320) rfl rfl (pc := 123) dX7_fights_123) ?_
          refine sp_m (aw_aload_n (pc := 126) dX7_fights_126 rfl (lv_at hl 2 rfl)) ?_
          refine sp_m (aw_dup (pc := 127) dX7_fights_127 rfl) ?_
          refine sp_m (aw_get (k := 32) okX7 (uS eh32 s17) (by decide) q1534 (Or.inl rfl) rfl (pc := 128) dX7_fights_128) ?_
          refine sp_m (aw_iload (pc := 131) dX7_fights_131 (lv_at hl 0 rfl)) ?_
          refine sp_m (aw_iadd (pc := 133) dX7_fights_133) ?_
          refine sp_t fun h33 eh330 => ?_
          have eh33 : gS h33 = gS h32 := by rw [eh330]; rfl
          refine sp_m (aw_put (k := 32) okX7 opX7 (uS eh32 s17) (by decide) q1534 (Or.inl rfl) (Or.inl rfl) (hasV_I' eh330) rfl rfl (pc := 134) dX7_fights_134) ?_
          refine sp_m (aw_aload_n (pc := 137) dX7_fights_137 rfl (lv_at hl 2 rfl)) ?_
          refine sp_m (aw_dup (pc := 138) dX7_fights_138 rfl) ?_
          refine sp_m (aw_get (k := 34) okX7 (uS eh33 (uS eh32 s17)) (by decide) q1536 (Or.inl rfl) rfl (pc := 139) dX7_fights_139) ?_
          refine sp_m (aw_iconst (v := 1) (pc := 142) dX7_fights_142 rfl) ?_
          refine sp_m (aw_iload_n (pc := 143) dX7_fights_143 rfl (lv_at hl 4 rfl)) ?_
          refine sp_m (aw_ishl (pc := 144) dX7_fights_144) ?_
          refine sp_m (aw_ior (pc := 145) dX7_fights_145) ?_
          refine sp_t fun h34 eh340 => ?_
          have eh34 : gS h34 = gS h33 := by rw [eh340]; rfl
          refine sp_m (aw_put (k := 34) okX7 opX7 (uS eh33 (uS eh32 s17)) (by decide) q1536 (Or.inl rfl) (Or.inl rfl) (hasV_I' eh340) rfl rfl (pc := 146) dX7_fights_146) ?_
          refine sp_m (aw_aload_n (pc := 149) dX7_fights_149 rfl (lv_at hl 2 rfl)) ?_
          refine sp_b fun x35 ex35 => ?_
          refine sp_m (aw_get (k := 3) okX7 (uS eh34 (uS eh33 (uS eh32 s17))) (by decide) q1505 (Or.inl rfl) (congrArg va_rf ex35) (pc := 150) dX7_fights_150) ?_
          refine sp_g fun s36 => ?_
          refine sp_b fun x37 ex37 => ?_
          refine sp_m (aw_getN (k := 8) okX20 s36 (by decide) nq1652 rfl (congrArg va_rf ex37) (pc := 153) dX7_fights_153) ?_
          refine sp_m (aw_iload_n (pc := 156) dX7_fights_156 rfl (lv_at hl 1 rfl)) ?_
          refine sp_g fun s38 => ?_
          refine sp_g fun i39 => ?_
          refine sp_m (aw_iald s38 i39 (pc := 157) dX7_fights_157) ?_
          refine sp_m (aw_iconst (v := 2) (pc := 158) dX7_fights_158 rfl) ?_
          refine sp_if (fun c40 => ?_) (fun c40 => ?_)
          · refine sp_m (aw_icmp_ne_t (tgt := 192) (pc := 159) dX7_fights_159 (by decide) c40) ?_
            exact hj192_1 h34 ls (lv_sub hl [2, 3, 4] rfl)
          · refine sp_m (aw_icmp_ne_f (tgt := 192) (pc := 159) dX7_fights_159 (by decide) (Decidable.not_not.mp c40)) ?_
            refine sp_m (aw_aload_n (pc := 162) dX7_fights_162 rfl (lv_at hl 3 rfl)) ?_
            refine sp_m (aw_bipush (v := 11) (pc := 163) dX7_fights_163 rfl) ?_
            refine sp_m (aw_iload_n (pc := 165) dX7_fights_165 rfl (lv_at hl 1 rfl)) ?_
            refine sp_m (aw_iadd (pc := 166) dX7_fights_166) ?_
            refine sp_m (aw_aload_n (pc := 167) dX7_fights_167 rfl (lv_at hl 3 rfl)) ?_
            refine sp_m (aw_bipush (v := 11) (pc := 168) dX7_fights_168 rfl) ?_
            refine sp_m (aw_iload_n (pc := 170) dX7_fights_170 rfl (lv_at hl 1 rfl)) ?_
            refine sp_m (aw_iadd (pc := 171) dX7_fights_171) ?_
            refine sp_g fun i41 => ?_
            refine sp_m (aw_iald (uS eh34 (uS eh33 (uS eh32 s15))) i41 (pc := 172) dX7_fights_172) ?_
            refine sp_m (aw_iload (pc := 173) dX7_fights_173 (lv_at hl 0 rfl)) ?_
            have hj191_2 : ∀ j42 : Int32, ∀ ls : Array Slot, lv_has ls 5 [(0, .ref a0), (1, .ref a1), (2, .int s5v.1)] → SP (X7_fights_j191 a1 s5v p13 h34 j42) (ZL P5 E5) (AW (KX7_fights l D h0 hE) h34 191 ls (.int j42 :: .int (11 + (gI p13.2 a1 (ix (0 + s5v.1)))) :: .ref a1 :: [])) := by
              intro j42 ls hl
              unfold X7_fights_j191
              refine sp_g fun i43 => ?_
              refine sp_t fun h44 eh440 => ?_
              have eh44 : gS h44 = gS h34 := by rw [eh440]; rfl
              refine sp_m (fun kk => aw_iast (uS eh34 (uS eh33 (uS eh32 s15))) i43 (pc := 191) dX7_fights_191 (AWe eh440 kk)) ?_
              exact hj192_1 h44 ls (lv_sub hl [0, 1, 2] rfl)
            refine sp_if (fun c45 => ?_) (fun c45 => ?_)
            · refine sp_m (aw_icmp_le_t (tgt := 190) (pc := 175) dX7_fights_175 (by decide) c45) ?_
              refine sp_m (aw_iconst (v := 0) (pc := 190) dX7_fights_190 rfl) ?_
              exact hj191_2 0 ls (lv_sub hl [2, 3, 4] rfl)
            · refine sp_m (aw_icmp_le_f (tgt := 190) (pc := 175) dX7_fights_175 (by decide) c45) ?_
              refine sp_m (aw_aload_n (pc := 178) dX7_fights_178 rfl (lv_at hl 3 rfl)) ?_
              refine sp_m (aw_bipush (v := 11) (pc := 179) dX7_fights_179 rfl) ?_
              refine sp_m (aw_iload_n (pc := 181) dX7_fights_181 rfl (lv_at hl 1 rfl)) ?_
              refine sp_m (aw_iadd (pc := 182) dX7_fights_182) ?_
              refine sp_g fun i46 => ?_
              refine sp_m (aw_iald (uS eh34 (uS eh33 (uS eh32 s15))) i46 (pc := 183) dX7_fights_183) ?_
              refine sp_m (aw_iload (pc := 184) dX7_fights_184 (lv_at hl 0 rfl)) ?_
              refine sp_m (aw_isub (pc := 186) dX7_fights_186) ?_
              refine sp_m (aw_goto (tgt := 191) (pc := 187) dX7_fights_187 (by decide)) ?_
              exact hj191_2 ((gI h34 a1 (ix (11 + (gI p13.2 a1 (ix (0 + s5v.1)))))) - p24) ls (lv_sub hl [2, 3, 4] rfl)
        · refine sp_m (aw_if_ne_f (tgt := 67) (pc := 45) dX7_fights_45 (by decide) (Decidable.not_not.mp c14)) ?_
          refine sp_m (aw_aload_n (pc := 48) dX7_fights_48 rfl (lv_at hl 0 rfl)) ?_
          refine sp_m (aw_dup (pc := 49) dX7_fights_49 rfl) ?_
          refine sp_g fun s47 => ?_
          refine sp_m (aw_get (k := 33) okX7 s47 (by decide) q1535 (Or.inl rfl) rfl (pc := 50) dX7_fights_50) ?_
          refine sp_m (aw_aload_n (pc := 53) dX7_fights_53 rfl (lv_at hl 0 rfl)) ?_
          refine sp_m (aw_iload_n (pc := 54) dX7_fights_54 rfl (lv_at hl 2 rfl)) ?_
          refine sp_b fun p48 ep48 => ?_
          refine sp_m (G' := AW (KX7_fights l D h0 hE) p13.2 (58) ls (.int p48 :: .int (gI p13.2 a0 33) :: .ref a0 :: [])) (fun kk => aw_callV (As := [.int s5v.1]) (metX7_forceOf _ _ ep48) (rcv_o okX7 s47) rfl mok_X7_forceOf q1897 q1899 qs77 q125 q1900 (Nat.le_of_ble_eq_true rfl) (Nat.le_of_ble_eq_true rfl) rfl hl.1 rfl (Nat.le_of_ble_eq_true rfl) (pc := 55) dX7_fights_55 kk) ?_
          refine sp_m (aw_iconst (v := 2) (pc := 58) dX7_fights_58 rfl) ?_
          refine sp_m (aw_idiv (pc := 59) dX7_fights_59 (by decide)) ?_
          refine sp_m (aw_iadd (pc := 60) dX7_fights_60) ?_
          refine sp_t fun h49 eh490 => ?_
          have eh49 : gS h49 = gS p13.2 := by rw [eh490]; rfl
          refine sp_m (aw_put (k := 33) okX7 opX7 s47 (by decide) q1535 (Or.inl rfl) (Or.inl rfl) (hasV_I' eh490) rfl rfl (pc := 61) dX7_fights_61) ?_
          refine sp_m (aw_goto (tgt := 192) (pc := 64) dX7_fights_64 (by decide)) ?_
          exact hj192_1 h49 ls (lv_sub hl [0, 1, 2] rfl)
      · refine sp_m (aw_if_eq_f (tgt := 39) (pc := 33) dX7_fights_33 (by decide) c12) ?_
        refine sp_m (aw_goto (tgt := 192) (pc := 36) dX7_fights_36 (by decide)) ?_
        exact hj192_1 s5v.2 ls (lv_sub hl [0, 1, 2] rfl)
  · have hl : lv_has ls 5 [] := hl
    show SP _ _ (AW (KX7_fights l D h0 hE) r5v 198 ls [])
    exact sp_r fun hz => aw_vret hz rfl rfl rfl (pc := 198) dX7_fights_198
theorem mok_X7_tries : mOK yX7_tries 0 := ⟨⟨by decide +kernel, by decide +kernel⟩, by decide +kernel⟩
abbrev KX7_tries (l : Launch) (D : DD) (h0 hE : AH) : KT := (l, yX7_tries, cX7_tries, 2, none, RX7, 1, D, h0, hE, .inl (none), false, [])
theorem metX7_tries (l : Launch) (D : DD) {a0 : Nat} {h0 : AH} {hE : AH} (hr : fX7_tries a0 h0 = some hE) : AMet (KX7_tries l D h0 hE) [.ref a0] := by
  refine AMet.of (K := (KX7_tries l D h0 hE)) rfl ⟨_, rfl⟩ rfl rfl rfl (Nat.le_of_ble_eq_true rfl) (fun ls hl => ?_)
  have hl : lv_has ls 2 [(0, .ref a0)] := hl
  suffices hsp : SP (fX7_tries a0 h0) (fun z => z = hE) (AW (KX7_tries l D h0 hE) h0 0 ls []) from hsp _ hr rfl
  unfold fX7_tries
  refine sp_m (aw_iconst (v := 0) (pc := 0) dX7_tries_0 rfl) ?_
  refine sp_m (aw_istore_n (lv' := [(1, .int 0), (0, .ref a0)]) (pc := 1) dX7_tries_1 rfl hl (by decide) rfl) (sp_all fun ls hl => ?_)
  let P1 : Int32 × AH → Prop := aLP (KX7_tries l D h0 hE) 2 2 (fun s1v : Int32 × AH => [(0, .ref a0), (1, .int s1v.1)]) (fun s1v => s1v.2)
  let E1 : AH → Prop := aLP (KX7_tries l D h0 hE) 2 26 (fun r1v : AH => []) (fun r1v => r1v)
  refine sp_bl (P := P1) (E := E1) (fun s1v => sp_all fun ls hl => ?_) (fun k => k ls (lv_sub hl [1, 0] rfl)) (fun r1v => sp_all fun ls hl => ?_)
  · have hl : lv_has ls 2 [(0, .ref a0), (1, .int s1v.1)] := hl
    show SP _ _ (AW (KX7_tries l D h0 hE) s1v.2 2 ls [])
    unfold X7_tries_L2
    refine sp_m (aw_iload_n (pc := 2) dX7_tries_2 rfl (lv_at hl 1 rfl)) ?_
    refine sp_m (aw_bipush (v := 19) (pc := 3) dX7_tries_3 rfl) ?_
    refine sp_if (fun c2 => ?_) (fun c2 => ?_)
    · refine sp_m (aw_icmp_ge_t (tgt := 26) (pc := 5) dX7_tries_5 (by decide) c2) ?_
      exact sp_r fun hz => hz ls (lv_sub hl [] rfl)
    · refine sp_m (aw_icmp_ge_f (tgt := 26) (pc := 5) dX7_tries_5 (by decide) c2) ?_
      refine sp_m (aw_aload_n (pc := 8) dX7_tries_8 rfl (lv_at hl 0 rfl)) ?_
      refine sp_g fun s3 => ?_
      refine sp_b fun x4 ex4 => ?_
      refine sp_m (aw_get (k := 17) okX7 s3 (by decide) q1519 (Or.inl rfl) (congrArg va_rf ex4) (pc := 9) dX7_tries_9) ?_
      refine sp_m (aw_iload_n (pc := 12) dX7_tries_12 rfl (lv_at hl 1 rfl)) ?_
      refine sp_m (aw_aload_n (pc := 13) dX7_tries_13 rfl (lv_at hl 0 rfl)) ?_
      refine sp_b fun x5 ex5 => ?_
      refine sp_m (aw_get (k := 16) okX7 s3 (by decide) q1518 (Or.inl rfl) (congrArg va_rf ex5) (pc := 14) dX7_tries_14) ?_
      refine sp_m (aw_iload_n (pc := 17) dX7_tries_17 rfl (lv_at hl 1 rfl)) ?_
      refine sp_g fun s6 => ?_
      refine sp_g fun i7 => ?_
      refine sp_m (aw_iald s6 i7 (pc := 18) dX7_tries_18) ?_
      refine sp_g fun s8 => ?_
      refine sp_g fun i9 => ?_
      refine sp_t fun h10 eh100 => ?_
      have eh10 : gS h10 = gS s1v.2 := by rw [eh100]; rfl
      refine sp_m (fun kk => aw_iast s8 i9 (pc := 19) dX7_tries_19 (AWe eh100 kk)) ?_
      refine sp_m (aw_iinc (v := s1v.1 + 1) (lv' := [(1, .int (s1v.1 + 1)), (0, .ref a0)]) (pc := 20) dX7_tries_20 hl (k := 1) rfl rfl (by decide) rfl) (sp_all fun ls hl => ?_)
      refine sp_m (aw_goto (tgt := 2) (pc := 23) dX7_tries_23 (by decide)) ?_
      exact sp_r fun hz => hz ls (lv_sub hl [1, 0] rfl)
  · have hl : lv_has ls 2 [] := hl
    show SP _ _ (AW (KX7_tries l D h0 hE) r1v 26 ls [])
    exact sp_r fun hz => aw_vret hz rfl rfl rfl (pc := 26) dX7_tries_26
theorem mok_X7_fightsAll : mOK yX7_fightsAll 3 := ⟨⟨by decide +kernel, by decide +kernel⟩, by decide +kernel⟩
abbrev KX7_fightsAll (l : Launch) (D : DD) (h0 hE : AH) : KT := (l, yX7_fightsAll, cX7_fightsAll, 6, none, RX7, 6, D, h0, hE, .inl (none), false, [])
theorem metX7_fightsAll (l : Launch) (D : DD) {a0 : Nat} {a1 : Int32} {a2 : Int32} {a3 : Int32} {h0 : AH} {hE : AH} (hr : fX7_fightsAll a0 a1 a2 a3 h0 = some hE) : AMet (KX7_fightsAll l D h0 hE) [.ref a0, .int a1, .int a2, .int a3] := by
  refine AMet.of (K := (KX7_fightsAll l D h0 hE)) rfl ⟨_, rfl⟩ rfl rfl rfl (Nat.le_of_ble_eq_true rfl) (fun ls hl => ?_)
  have hl : lv_has ls 6 [(0, .ref a0), (1, .int a1), (2, .int a2), (3, .int a3)] := hl
  suffices hsp : SP (fX7_fightsAll a0 a1 a2 a3 h0) (fun z => z = hE) (AW (KX7_fightsAll l D h0 hE) h0 0 ls []) from hsp _ hr rfl
  unfold fX7_fightsAll
  refine sp_m (aw_iload_n (pc := 0) dX7_fightsAll_0 rfl (lv_at hl 1 rfl)) ?_
  refine sp_m (aw_istore (lv' := [(4, .int a1), (0, .ref a0), (1, .int a1), (2, .int a2), (3, .int a3)]) (pc := 1) dX7_fightsAll_1 hl (by decide) rfl) (sp_all fun ls hl => ?_)
  refine sp_m (aw_aload_n (pc := 3) dX7_fightsAll_3 rfl (lv_at hl 1 rfl)) ?_
  refine sp_m (aw_iconst (v := 0) (pc := 4) dX7_fightsAll_4 rfl) ?_
  refine sp_g fun s1 => ?_
  refine sp_t fun h2 eh20 => ?_
  have eh2 : gS h2 = gS h0 := by rw [eh20]; rfl
  refine sp_m (aw_put (k := 35) okX7 opX7 s1 (by decide) q1537 (Or.inl rfl) (Or.inl rfl) (hasV_I' eh20) rfl rfl (pc := 5) dX7_fightsAll_5) ?_
  refine sp_m (aw_aload_n (pc := 8) dX7_fightsAll_8 rfl (lv_at hl 1 rfl)) ?_
  refine sp_m (aw_iconst (v := 0) (pc := 9) dX7_fightsAll_9 rfl) ?_
  refine sp_t fun h3 eh30 => ?_
  have eh3 : gS h3 = gS h2 := by rw [eh30]; rfl
  refine sp_m (aw_put (k := 36) okX7 opX7 (uS eh2 s1) (by decide) q1538 (Or.inl rfl) (Or.inl rfl) (hasV_I' eh30) rfl rfl (pc := 10) dX7_fightsAll_10) ?_
  refine sp_m (aw_aload_n (pc := 13) dX7_fightsAll_13 rfl (lv_at hl 1 rfl)) ?_
  refine sp_m (aw_iconst (v := 0) (pc := 14) dX7_fightsAll_14 rfl) ?_
  refine sp_t fun h4 eh40 => ?_
  have eh4 : gS h4 = gS h3 := by rw [eh40]; rfl
  refine sp_m (aw_put (k := 37) okX7 opX7 (uS eh3 (uS eh2 s1)) (by decide) q1539 (Or.inl rfl) (Or.inl rfl) (hasV_I' eh40) rfl rfl (pc := 15) dX7_fightsAll_15) ?_
  refine sp_m (aw_aload_n (pc := 18) dX7_fightsAll_18 rfl (lv_at hl 1 rfl)) ?_
  refine sp_m (aw_iconst (v := 0) (pc := 19) dX7_fightsAll_19 rfl) ?_
  refine sp_t fun h5 eh50 => ?_
  have eh5 : gS h5 = gS h4 := by rw [eh50]; rfl
  refine sp_m (aw_put (k := 38) okX7 opX7 (uS eh4 (uS eh3 (uS eh2 s1))) (by decide) q1540 (Or.inl rfl) (Or.inl rfl) (hasV_I' eh50) rfl rfl (pc := 20) dX7_fightsAll_20) ?_
  refine sp_m (aw_iconst (v := 0) (pc := 23) dX7_fightsAll_23 rfl) ?_
  refine sp_m (aw_istore (lv' := [(5, .int 0), (4, .int a1), (0, .ref a0), (1, .int a1), (2, .int a2), (3, .int a3)]) (pc := 24) dX7_fightsAll_24 hl (by decide) rfl) (sp_all fun ls hl => ?_)
  let P6 : Int32 × Int32 × AH → Prop := aLP (KX7_fightsAll l D h0 hE) 6 26 (fun s6v : Int32 × Int32 × AH => [(0, .ref a0), (2, .int a2), (3, .int a3), (4, .int s6v.1), (5, .int s6v.2.1)]) (fun s6v => s6v.2.2)
  let E6 : AH → Prop := aLP (KX7_fightsAll l D h0 hE) 6 144 (fun r6v : AH => []) (fun r6v => r6v)
  refine sp_bl (P := P6) (E := E6) (fun s6v => sp_all fun ls hl => ?_) (fun k => k ls (lv_sub hl [2, 4, 5, 1, 0] rfl)) (fun r6v => sp_all fun ls hl => ?_)
  · have hl : lv_has ls 6 [(0, .ref a0), (2, .int a2), (3, .int a3), (4, .int s6v.1), (5, .int s6v.2.1)] := hl
    show SP _ _ (AW (KX7_fightsAll l D h0 hE) s6v.2.2 26 ls [])
    unfold X7_fightsAll_L26
    refine sp_m (aw_iload (pc := 26) dX7_fightsAll_26 (lv_at hl 4 rfl)) ?_
    refine sp_m (aw_iload_n (pc := 28) dX7_fightsAll_28 rfl (lv_at hl 1 rfl)) ?_
    refine sp_if (fun c7 => ?_) (fun c7 => ?_)
    · refine sp_m (aw_icmp_ge_t (tgt := 144) (pc := 29) dX7_fightsAll_29 (by decide) c7) ?_
      exact sp_r fun hz => hz ls (lv_sub hl [] rfl)
    · refine sp_m (aw_icmp_ge_f (tgt := 144) (pc := 29) dX7_fightsAll_29 (by decide) c7) ?_
      refine sp_m (aw_aload_n (pc := 32) dX7_fightsAll_32 rfl (lv_at hl 0 rfl)) ?_
      refine sp_g fun s9 => ?_
      refine sp_b fun p8 ep8 => ?_
      refine sp_m (G' := AW (KX7_fightsAll l D h0 hE) p8 (36) ls ([])) (fun kk => aw_callV (As := []) (metX7_tries _ _ ep8) (rcv_o okX7 s9) rfl mok_X7_tries q2160 q2162 qs109 q125 q2163 (Nat.le_of_ble_eq_true rfl) (Nat.le_of_ble_eq_true rfl) rfl hl.1 rfl (Nat.le_of_ble_eq_true rfl) (pc := 33) dX7_fightsAll_33 kk) ?_
      refine sp_m (aw_aload_n (pc := 36) dX7_fightsAll_36 rfl (lv_at hl 0 rfl)) ?_
      refine sp_g fun s10 => ?_
      refine sp_b fun x11 ex11 => ?_
      refine sp_m (aw_get (k := 17) okX7 s10 (by decide) q1519 (Or.inl rfl) (congrArg va_rf ex11) (pc := 37) dX7_fightsAll_37) ?_
      refine sp_m (aw_bipush (v := 18) (pc := 40) dX7_fightsAll_40 rfl) ?_
      refine sp_m (aw_iload (pc := 42) dX7_fightsAll_42 (lv_at hl 3 rfl)) ?_
      refine sp_g fun s12 => ?_
      refine sp_g fun i13 => ?_
      refine sp_t fun h14 eh140 => ?_
      have eh14 : gS h14 = gS p8 := by rw [eh140]; rfl
      refine sp_m (fun kk => aw_iast s12 i13 (pc := 44) dX7_fightsAll_44 (AWe eh140 kk)) ?_
      refine sp_m (aw_aload_n (pc := 45) dX7_fightsAll_45 rfl (lv_at hl 0 rfl)) ?_
      refine sp_m (aw_aload_n (pc := 46) dX7_fightsAll_46 rfl (lv_at hl 0 rfl)) ?_
      refine sp_b fun x15 ex15 => ?_
      refine sp_m (aw_get (k := 17) okX7 (uS eh14 s10) (by decide) q1519 (Or.inl rfl) (congrArg va_rf ex15) (pc := 47) dX7_fightsAll_47) ?_
      refine sp_b fun p16 ep16 => ?_
      refine sp_m (G' := AW (KX7_fightsAll l D h0 hE) p16 (53) ls ([])) (fun kk => aw_callV (As := [.ref x15]) (metX7_fights _ _ ep16) (rcv_o okX7 (uS eh14 s10)) rfl mok_X7_fights q2164 q2166 qs110 q125 q2167 (Nat.le_of_ble_eq_true rfl) (Nat.le_of_ble_eq_true rfl) rfl hl.1 rfl (Nat.le_of_ble_eq_true rfl) (pc := 50) dX7_fightsAll_50 kk) ?_
      refine sp_m (aw_aload_n (pc := 53) dX7_fightsAll_53 rfl (lv_at hl 0 rfl)) ?_
      refine sp_g fun s17 => ?_
      refine sp_b fun x18 ex18 => ?_
      refine sp_m (aw_get (k := 17) okX7 s17 (by decide) q1519 (Or.inl rfl) (congrArg va_rf ex18) (pc := 54) dX7_fightsAll_54) ?_
      refine sp_m (aw_bipush (v := 18) (pc := 57) dX7_fightsAll_57 rfl) ?_
      refine sp_g fun s19 => ?_
      refine sp_g fun i20 => ?_
      refine sp_m (aw_iald s19 i20 (pc := 59) dX7_fightsAll_59) ?_
      refine sp_m (aw_istore (lv' := [(4, .int (gI p16 x18 (ix 18))), (0, .ref a0), (2, .int a2), (3, .int a3), (5, .int s6v.2.1)]) (pc := 60) dX7_fightsAll_60 hl (by decide) rfl) (sp_all fun ls hl => ?_)
      refine sp_m (aw_aload_n (pc := 62) dX7_fightsAll_62 rfl (lv_at hl 1 rfl)) ?_
      refine sp_m (aw_dup (pc := 63) dX7_fightsAll_63 rfl) ?_
      refine sp_m (aw_get (k := 35) okX7 s17 (by decide) q1537 (Or.inl rfl) rfl (pc := 64) dX7_fightsAll_64) ?_
      refine sp_m (aw_aload_n (pc := 67) dX7_fightsAll_67 rfl (lv_at hl 1 rfl)) ?_
      refine sp_m (aw_get (k := 32) okX7 s17 (by decide) q1534 (Or.inl rfl) rfl (pc := 68) dX7_fightsAll_68) ?_
      refine sp_m (aw_iadd (pc := 71) dX7_fightsAll_71) ?_
      refine sp_t fun h21 eh210 => ?_
      have eh21 : gS h21 = gS p16 := by rw [eh210]; rfl
      refine sp_m (aw_put (k := 35) okX7 opX7 s17 (by decide) q1537 (Or.inl rfl) (Or.inl rfl) (hasV_I' eh210) rfl rfl (pc := 72) dX7_fightsAll_72) ?_
      refine sp_m (aw_aload_n (pc := 75) dX7_fightsAll_75 rfl (lv_at hl 1 rfl)) ?_
      refine sp_m (aw_dup (pc := 76) dX7_fightsAll_76 rfl) ?_
      refine sp_m (aw_get (k := 36) okX7 (uS eh21 s17) (by decide) q1538 (Or.inl rfl) rfl (pc := 77) dX7_fightsAll_77) ?_
      refine sp_m (aw_aload_n (pc := 80) dX7_fightsAll_80 rfl (lv_at hl 1 rfl)) ?_
      refine sp_m (aw_get (k := 33) okX7 (uS eh21 s17) (by decide) q1535 (Or.inl rfl) rfl (pc := 81) dX7_fightsAll_81) ?_
      refine sp_m (aw_iadd (pc := 84) dX7_fightsAll_84) ?_
      refine sp_t fun h22 eh220 => ?_
      have eh22 : gS h22 = gS h21 := by rw [eh220]; rfl
      refine sp_m (aw_put (k := 36) okX7 opX7 (uS eh21 s17) (by decide) q1538 (Or.inl rfl) (Or.inl rfl) (hasV_I' eh220) rfl rfl (pc := 85) dX7_fightsAll_85) ?_
      refine sp_m (aw_aload_n (pc := 88) dX7_fightsAll_88 rfl (lv_at hl 1 rfl)) ?_
      refine sp_m (aw_dup (pc := 89) dX7_fightsAll_89 rfl) ?_
      refine sp_m (aw_get (k := 37) okX7 (uS eh22 (uS eh21 s17)) (by decide) q1539 (Or.inl rfl) rfl (pc := 90) dX7_fightsAll_90) ?_
      refine sp_m (aw_aload_n (pc := 93) dX7_fightsAll_93 rfl (lv_at hl 1 rfl)) ?_
      refine sp_m (aw_get (k := 32) okX7 (uS eh22 (uS eh21 s17)) (by decide) q1534 (Or.inl rfl) rfl (pc := 94) dX7_fightsAll_94) ?_
      refine sp_m (aw_aload_n (pc := 97) dX7_fightsAll_97 rfl (lv_at hl 1 rfl)) ?_
      refine sp_m (aw_get (k := 33) okX7 (uS eh22 (uS eh21 s17)) (by decide) q1535 (Or.inl rfl) rfl (pc := 98) dX7_fightsAll_98) ?_
      have hj109_1 : ∀ j23 : Int32, ∀ ls : Array Slot, lv_has ls 6 [(0, .ref a0), (2, .int a2), (3, .int a3), (4, .int (gI p16 x18 (ix 18))), (5, .int s6v.2.1)] → SP (X7_fightsAll_j109 a0 a3 s6v p16 x18 h22 j23) (ZL P6 E6) (AW (KX7_fightsAll l D h0 hE) h22 109 ls (.int j23 :: .int (gI h22 a0 37) :: .ref a0 :: [])) := by
        intro j23 ls hl
        unfold X7_fightsAll_j109
        refine sp_m (aw_iadd (pc := 109) dX7_fightsAll_109) ?_
        refine sp_t fun h24 eh240 => ?_
        have eh24 : gS h24 = gS h22 := by rw [eh240]; rfl
        refine sp_m (aw_put (k := 37) okX7 opX7 (uS eh22 (uS eh21 s17)) (by decide) q1539 (Or.inl rfl) (Or.inl rfl) (hasV_I' eh240) rfl rfl (pc := 110) dX7_fightsAll_110) ?_
        refine sp_m (aw_aload_n (pc := 113) dX7_fightsAll_113 rfl (lv_at hl 0 rfl)) ?_
        refine sp_m (aw_dup (pc := 114) dX7_fightsAll_114 rfl) ?_
        refine sp_m (aw_get (k := 38) okX7 (uS eh24 (uS eh22 (uS eh21 s17))) (by decide) q1540 (Or.inl rfl) rfl (pc := 115) dX7_fightsAll_115) ?_
        refine sp_m (aw_aload_n (pc := 118) dX7_fightsAll_118 rfl (lv_at hl 0 rfl)) ?_
        refine sp_m (aw_get (k := 34) okX7 (uS eh24 (uS eh22 (uS eh21 s17))) (by decide) q1536 (Or.inl rfl) rfl (pc := 119) dX7_fightsAll_119) ?_
        refine sp_m (aw_iload_n (pc := 122) dX7_fightsAll_122 rfl (lv_at hl 2 rfl)) ?_
        refine sp_b fun p25 ep25 => ?_
        refine sp_m (G' := AW (KX7_fightsAll l D h0 hE) h24 (126) ls (.int p25 :: .int (gI h24 a0 38) :: .ref a0 :: [])) (fun kk => aw_callS (As := [.int (gI h24 a0 34), .int a3]) (metX7_bit _ _ ep25) mok_X7_bit q1806 q1807 q125 q1808 (Nat.le_of_ble_eq_true rfl) (Nat.le_of_ble_eq_true rfl) rfl hl.1 rfl (Nat.le_of_ble_eq_true rfl) (pc := 123) dX7_fightsAll_123 kk) ?_
        have hj134_2 : ∀ j26 : Int32, ∀ ls : Array Slot, lv_has ls 6 [(0, .ref a0), (2, .int a2), (3, .int a3), (4, .int (gI p16 x18 (ix 18))), (5, .int s6v.2.1)] → SP (X7_fightsAll_j134 a0 s6v p16 x18 h24 j26) (ZL P6 E6) (AW (KX7_fightsAll l D h0 hE) h24 134 ls (.int j26 :: .int (gI h24 a0 38) :: .ref a0 :: [])) := by
          intro j26 ls hl
          unfold X7_fightsAll_j134
          refine sp_m (aw_iadd (pc := 134) dX7_fightsAll_134) ?_
          refine sp_t fun h27 eh270 => ?_
          have eh27 : gS h27 = gS h24 := by rw [eh270]; rfl
          refine sp_m (aw_put (k := 38) okX7 opX7 (uS eh24 (uS eh22 (uS eh21 s17))) (by decide) q1540 (Or.inl rfl) (Or.inl rfl) (hasV_I' eh270) rfl rfl (pc := 135) dX7_fightsAll_135) ?_
          refine sp_m (aw_iinc (v := s6v.2.1 + 1) (lv' := [(5, .int (s6v.2.1 + 1)), (0, .ref a0), (2, .int a2), (3, .int a3), (4, .int (gI p16 x18 (ix 18)))]) (pc := 138) dX7_fightsAll_138 hl (k := 4) rfl rfl (by decide) rfl) (sp_all fun ls hl => ?_)
          refine sp_m (aw_goto (tgt := 26) (pc := 141) dX7_fightsAll_141 (by decide)) ?_
          exact sp_r fun hz => hz ls (lv_sub hl [1, 2, 3, 4, 0] rfl)
        refine sp_if (fun c28 => ?_) (fun c28 => ?_)
        · refine sp_m (aw_if_eq_t (tgt := 133) (pc := 126) dX7_fightsAll_126 (by decide) c28) ?_
          refine sp_m (aw_iconst (v := 0) (pc := 133) dX7_fightsAll_133 rfl) ?_
          exact hj134_2 0 ls (lv_sub hl [0, 1, 2, 3, 4] rfl)
        · refine sp_m (aw_if_eq_f (tgt := 133) (pc := 126) dX7_fightsAll_126 (by decide) c28) ?_
          refine sp_m (aw_iconst (v := 1) (pc := 129) dX7_fightsAll_129 rfl) ?_
          refine sp_m (aw_goto (tgt := 134) (pc := 130) dX7_fightsAll_130 (by decide)) ?_
          exact hj134_2 1 ls (lv_sub hl [0, 1, 2, 3, 4] rfl)
      refine sp_if (fun c29 => ?_) (fun c29 => ?_)
      · refine sp_m (aw_icmp_le_t (tgt := 108) (pc := 101) dX7_fightsAll_101 (by decide) c29) ?_
        refine sp_m (aw_iconst (v := 0) (pc := 108) dX7_fightsAll_108 rfl) ?_
        exact hj109_1 0 ls (lv_sub hl [1, 2, 3, 0, 4] rfl)
      · refine sp_m (aw_icmp_le_f (tgt := 108) (pc := 101) dX7_fightsAll_101 (by decide) c29) ?_
        refine sp_m (aw_iconst (v := 1) (pc := 104) dX7_fightsAll_104 rfl) ?_
        refine sp_m (aw_goto (tgt := 109) (pc := 105) dX7_fightsAll_105 (by decide)) ?_
        exact hj109_1 1 ls (lv_sub hl [1, 2, 3, 0, 4] rfl)
  · have hl : lv_has ls 6 [] := hl
    show SP _ _ (AW (KX7_fightsAll l D h0 hE) r6v 144 ls [])
    exact sp_r fun hz => aw_vret hz rfl rfl rfl (pc := 144) dX7_fightsAll_144
theorem mok_X7_in : mOK yX7_in 3 := ⟨⟨by decide +kernel, by decide +kernel⟩, by decide +kernel⟩
abbrev KX7_in (l : Launch) (D : DD) (h0 : AH) (v : Int32) : KT := (l, yX7_in, cX7_in, 3, (some .boolean), RX7, 1, D, h0, h0, .inl (some (.int v)), false, [])
theorem metX7_in (l : Launch) (D : DD) {a0 : Int32} {a1 : Int32} {a2 : Int32} {h0 : AH} {v : Int32} (hr : fX7_in a0 a1 a2 h0 = some v) : AMet (KX7_in l D h0 v) [.int a0, .int a1, .int a2] := by
  refine AMet.of (K := (KX7_in l D h0 v)) rfl ⟨_, rfl⟩ rfl rfl rfl (Nat.le_of_ble_eq_true rfl) (fun ls hl => ?_)
  have hl : lv_has ls 3 [(0, .int a0), (1, .int a1), (2, .int a2)] := hl
  suffices hsp : SP (fX7_in a0 a1 a2 h0) (fun z => z = v) (AW (KX7_in l D h0 v) h0 0 ls []) from hsp _ hr rfl
  unfold fX7_in
  refine sp_m (aw_iload_n (pc := 0) dX7_in_0 rfl (lv_at hl 0 rfl)) ?_
  refine sp_m (aw_iload_n (pc := 1) dX7_in_1 rfl (lv_at hl 1 rfl)) ?_
  refine sp_if (fun c1 => ?_) (fun c1 => ?_)
  · refine sp_m (aw_icmp_lt_t (tgt := 14) (pc := 2) dX7_in_2 (by decide) c1) ?_
    refine sp_m (aw_iconst (v := 0) (pc := 14) dX7_in_14 rfl) ?_
    exact sp_r fun hz => aw_zret (nar_b (Or.inl rfl)) (congrArg (fun z => (z, h0)) hz) rfl rfl rfl (pc := 15) dX7_in_15
  · refine sp_m (aw_icmp_lt_f (tgt := 14) (pc := 2) dX7_in_2 (by decide) c1) ?_
    refine sp_m (aw_iload_n (pc := 5) dX7_in_5 rfl (lv_at hl 0 rfl)) ?_
    refine sp_m (aw_iload_n (pc := 6) dX7_in_6 rfl (lv_at hl 2 rfl)) ?_
    refine sp_if (fun c2 => ?_) (fun c2 => ?_)
    · refine sp_m (aw_icmp_gt_t (tgt := 14) (pc := 7) dX7_in_7 (by decide) c2) ?_
      refine sp_m (aw_iconst (v := 0) (pc := 14) dX7_in_14 rfl) ?_
      exact sp_r fun hz => aw_zret (nar_b (Or.inl rfl)) (congrArg (fun z => (z, h0)) hz) rfl rfl rfl (pc := 15) dX7_in_15
    · refine sp_m (aw_icmp_gt_f (tgt := 14) (pc := 7) dX7_in_7 (by decide) c2) ?_
      refine sp_m (aw_iconst (v := 1) (pc := 10) dX7_in_10 rfl) ?_
      refine sp_m (aw_goto (tgt := 15) (pc := 11) dX7_in_11 (by decide)) ?_
      exact sp_r fun hz => aw_zret (nar_b (Or.inr rfl)) (congrArg (fun z => (z, h0)) hz) rfl rfl rfl (pc := 15) dX7_in_15
theorem mok_X7_refusesBattles : mOK yX7_refusesBattles 3 := ⟨⟨by decide +kernel, by decide +kernel⟩, by decide +kernel⟩
abbrev KX7_refusesBattles (l : Launch) (D : DD) (h0 : AH) (v : Int32) : KT := (l, yX7_refusesBattles, cX7_refusesBattles, 4, (some .int), RX7, 2, D, h0, h0, .inl (some (.int v)), false, [])
theorem metX7_refusesBattles (l : Launch) (D : DD) {a0 : Nat} {a1 : Int32} {a2 : Int32} {a3 : Int32} {h0 : AH} {v : Int32} (hr : fX7_refusesBattles a0 a1 a2 a3 h0 = some v) : AMet (KX7_refusesBattles l D h0 v) [.ref a0, .int a1, .int a2, .int a3] := by
  refine AMet.of (K := (KX7_refusesBattles l D h0 v)) rfl ⟨_, rfl⟩ rfl rfl rfl (Nat.le_of_ble_eq_true rfl) (fun ls hl => ?_)
  have hl : lv_has ls 4 [(0, .ref a0), (1, .int a1), (2, .int a2), (3, .int a3)] := hl
  suffices hsp : SP (fX7_refusesBattles a0 a1 a2 a3 h0) (fun z => z = v) (AW (KX7_refusesBattles l D h0 v) h0 0 ls []) from hsp _ hr rfl
  unfold fX7_refusesBattles
  refine sp_m (aw_iload_n (pc := 0) dX7_refusesBattles_0 rfl (lv_at hl 1 rfl)) ?_
  refine sp_if (fun c1 => ?_) (fun c1 => ?_)
  · refine sp_m (aw_if_ne_t (tgt := 8) (pc := 1) dX7_refusesBattles_1 (by decide) c1) ?_
    refine sp_m (aw_iload_n (pc := 8) dX7_refusesBattles_8 rfl (lv_at hl 2 rfl)) ?_
    refine sp_m (aw_iconst (v := 0) (pc := 9) dX7_refusesBattles_9 rfl) ?_
    refine sp_m (aw_ldcw q2155 (pc := 10) dX7_refusesBattles_10) ?_
    refine sp_b fun p2 ep2 => ?_
    refine sp_m (G' := AW (KX7_refusesBattles l D h0 v) h0 (16) ls (.int p2 :: [])) (fun kk => aw_callS (As := [.int a2, .int 0, .int 65536]) (metX7_in _ _ ep2) mok_X7_in q1793 q1794 q125 q1795 (Nat.le_of_ble_eq_true rfl) (Nat.le_of_ble_eq_true rfl) rfl hl.1 rfl (Nat.le_of_ble_eq_true rfl) (pc := 13) dX7_refusesBattles_13 kk) ?_
    refine sp_if (fun c3 => ?_) (fun c3 => ?_)
    · refine sp_m (aw_if_eq_t (tgt := 33) (pc := 16) dX7_refusesBattles_16 (by decide) c3) ?_
      refine sp_m (aw_iconst (v := 2) (pc := 33) dX7_refusesBattles_33 rfl) ?_
      exact sp_r fun hz => aw_iret (congrArg (fun z => (z, h0)) hz) rfl rfl rfl (pc := 34) dX7_refusesBattles_34
    · refine sp_m (aw_if_eq_f (tgt := 33) (pc := 16) dX7_refusesBattles_16 (by decide) c3) ?_
      refine sp_m (aw_iload_n (pc := 19) dX7_refusesBattles_19 rfl (lv_at hl 3 rfl)) ?_
      refine sp_m (aw_iconst (v := 1) (pc := 20) dX7_refusesBattles_20 rfl) ?_
      refine sp_m (aw_bipush (v := 90) (pc := 21) dX7_refusesBattles_21 rfl) ?_
      refine sp_b fun p4 ep4 => ?_
      refine sp_m (G' := AW (KX7_refusesBattles l D h0 v) h0 (26) ls (.int p4 :: [])) (fun kk => aw_callS (As := [.int a3, .int 1, .int 90]) (metX7_in _ _ ep4) mok_X7_in q1793 q1794 q125 q1795 (Nat.le_of_ble_eq_true rfl) (Nat.le_of_ble_eq_true rfl) rfl hl.1 rfl (Nat.le_of_ble_eq_true rfl) (pc := 23) dX7_refusesBattles_23 kk) ?_
      refine sp_if (fun c5 => ?_) (fun c5 => ?_)
      · refine sp_m (aw_if_eq_t (tgt := 33) (pc := 26) dX7_refusesBattles_26 (by decide) c5) ?_
        refine sp_m (aw_iconst (v := 2) (pc := 33) dX7_refusesBattles_33 rfl) ?_
        exact sp_r fun hz => aw_iret (congrArg (fun z => (z, h0)) hz) rfl rfl rfl (pc := 34) dX7_refusesBattles_34
      · refine sp_m (aw_if_eq_f (tgt := 33) (pc := 26) dX7_refusesBattles_26 (by decide) c5) ?_
        refine sp_m (aw_iconst (v := 0) (pc := 29) dX7_refusesBattles_29 rfl) ?_
        refine sp_m (aw_goto (tgt := 34) (pc := 30) dX7_refusesBattles_30 (by decide)) ?_
        exact sp_r fun hz => aw_iret (congrArg (fun z => (z, h0)) hz) rfl rfl rfl (pc := 34) dX7_refusesBattles_34
  · refine sp_m (aw_if_ne_f (tgt := 8) (pc := 1) dX7_refusesBattles_1 (by decide) (Decidable.not_not.mp c1)) ?_
    refine sp_m (aw_iconst (v := 1) (pc := 4) dX7_refusesBattles_4 rfl) ?_
    refine sp_m (aw_goto (tgt := 34) (pc := 5) dX7_refusesBattles_5 (by decide)) ?_
    exact sp_r fun hz => aw_iret (congrArg (fun z => (z, h0)) hz) rfl rfl rfl (pc := 34) dX7_refusesBattles_34
theorem mok_X7_acrossIn : mOK yX7_acrossIn 3 := ⟨⟨by decide +kernel, by decide +kernel⟩, by decide +kernel⟩
abbrev KX7_acrossIn (l : Launch) (D : DD) (h0 hE : AH) (v : Int32) : KT := (l, yX7_acrossIn, cX7_acrossIn, 5, (some .int), RX7, 7, D, h0, hE, .inl (some (.int v)), false, [])
theorem metX7_acrossIn (l : Launch) (D : DD) {a0 : Nat} {a1 : Int32} {a2 : Int32} {a3 : Int32} {h0 : AH} {hE : AH} {v : Int32} (hr : fX7_acrossIn a0 a1 a2 a3 h0 = some (v, hE)) : AMet (KX7_acrossIn l D h0 hE v) [.ref a0, .int a1, .int a2, .int a3] := by
  refine AMet.of (K := (KX7_acrossIn l D h0 hE v)) rfl ⟨_, rfl⟩ rfl rfl rfl (Nat.le_of_ble_eq_true rfl) (fun ls hl => ?_)
  have hl : lv_has ls 5 [(0, .ref a0), (1, .int a1), (2, .int a2), (3, .int a3)] := hl
  suffices hsp : SP (fX7_acrossIn a0 a1 a2 a3 h0) (fun z => z = (v, hE)) (AW (KX7_acrossIn l D h0 hE v) h0 0 ls []) from hsp _ hr rfl
  unfold fX7_acrossIn
  refine sp_m (aw_aload_n (pc := 0) dX7_acrossIn_0 rfl (lv_at hl 0 rfl)) ?_
  refine sp_m (aw_iconst (v := 0) (pc := 1) dX7_acrossIn_1 rfl) ?_
  refine sp_g fun s1 => ?_
  refine sp_t fun h2 eh20 => ?_
  have eh2 : gS h2 = gS h0 := by rw [eh20]; rfl
  refine sp_m (aw_put (k := 0) okX7 opX7 s1 (by decide) q1502 (Or.inl rfl) (Or.inl rfl) (hasV_I' eh20) rfl rfl (pc := 2) dX7_acrossIn_2) ?_
  refine sp_m (aw_aload_n (pc := 5) dX7_acrossIn_5 rfl (lv_at hl 0 rfl)) ?_
  refine sp_m (aw_aload_n (pc := 6) dX7_acrossIn_6 rfl (lv_at hl 0 rfl)) ?_
  refine sp_m (aw_iload_n (pc := 7) dX7_acrossIn_7 rfl (lv_at hl 1 rfl)) ?_
  refine sp_b fun p3 ep3 => ?_
  refine sp_m (G' := AW (KX7_acrossIn l D h0 hE v) h2 (11) ls (.int p3 :: .ref a0 :: [])) (fun kk => aw_callV (As := [.int a1]) (metX7_isBeast _ _ ep3) (rcv_o okX7 (uS eh2 s1)) rfl mok_X7_isBeast q1893 q1895 qs76 q125 q1896 (Nat.le_of_ble_eq_true rfl) (Nat.le_of_ble_eq_true rfl) rfl hl.1 rfl (Nat.le_of_ble_eq_true rfl) (pc := 8) dX7_acrossIn_8 kk) ?_
  refine sp_m (aw_iload_n (pc := 11) dX7_acrossIn_11 rfl (lv_at hl 2 rfl)) ?_
  refine sp_m (aw_iload_n (pc := 12) dX7_acrossIn_12 rfl (lv_at hl 3 rfl)) ?_
  refine sp_b fun p4 ep4 => ?_
  refine sp_m (G' := AW (KX7_acrossIn l D h0 hE v) h2 (16) ls (.int p4 :: [])) (fun kk => aw_callV (As := [.int p3, .int a2, .int a3]) (metX7_refusesBattles _ _ ep4) (rcv_o okX7 (uS eh2 s1)) rfl mok_X7_refusesBattles q2151 q2153 qs107 q125 q2154 (Nat.le_of_ble_eq_true rfl) (Nat.le_of_ble_eq_true rfl) rfl hl.1 rfl (Nat.le_of_ble_eq_true rfl) (pc := 13) dX7_acrossIn_13 kk) ?_
  refine sp_m (aw_istore (lv' := [(4, .int p4), (0, .ref a0), (1, .int a1), (2, .int a2), (3, .int a3)]) (pc := 16) dX7_acrossIn_16 hl (by decide) rfl) (sp_all fun ls hl => ?_)
  refine sp_m (aw_iload (pc := 18) dX7_acrossIn_18 (lv_at hl 0 rfl)) ?_
  refine sp_if (fun c5 => ?_) (fun c5 => ?_)
  · refine sp_m (aw_if_le_t (tgt := 30) (pc := 20) dX7_acrossIn_20 (by decide) c5) ?_
    refine sp_m (aw_aload_n (pc := 30) dX7_acrossIn_30 rfl (lv_at hl 1 rfl)) ?_
    refine sp_m (aw_iload_n (pc := 31) dX7_acrossIn_31 rfl (lv_at hl 3 rfl)) ?_
    refine sp_m (aw_iload_n (pc := 32) dX7_acrossIn_32 rfl (lv_at hl 4 rfl)) ?_
    refine sp_m (aw_iload_n (pc := 33) dX7_acrossIn_33 rfl (lv_at hl 2 rfl)) ?_
    refine sp_b fun p6 ep6 => ?_
    refine sp_m (G' := AW (KX7_acrossIn l D h0 hE v) p6 (37) ls ([])) (fun kk => aw_callV (As := [.int a2, .int a3, .int a1]) (metX7_fightsAll _ _ ep6) (rcv_o okX7 (uS eh2 s1)) rfl mok_X7_fightsAll q2156 q2158 qs108 q125 q2159 (Nat.le_of_ble_eq_true rfl) (Nat.le_of_ble_eq_true rfl) rfl hl.1 rfl (Nat.le_of_ble_eq_true rfl) (pc := 34) dX7_acrossIn_34 kk) ?_
    refine sp_m (aw_aload_n (pc := 37) dX7_acrossIn_37 rfl (lv_at hl 1 rfl)) ?_
    refine sp_m (aw_aload_n (pc := 38) dX7_acrossIn_38 rfl (lv_at hl 1 rfl)) ?_
    refine sp_g fun s7 => ?_
    refine sp_m (aw_get (k := 38) okX7 s7 (by decide) q1540 (Or.inl rfl) rfl (pc := 39) dX7_acrossIn_39) ?_
    refine sp_b fun p8 ep8 => ?_
    refine sp_m (G' := AW (KX7_acrossIn l D h0 hE v) p8.2 (45) ls (.int p8.1 :: [])) (fun kk => aw_callV (As := [.int (gI p6 a0 38)]) (metX7_good _ _ ep8) (rcv_o okX7 s7) rfl mok_X7_good q1865 q1867 qs73 q125 q1868 (Nat.le_of_ble_eq_true rfl) (Nat.le_of_ble_eq_true rfl) rfl hl.1 rfl (Nat.le_of_ble_eq_true rfl) (pc := 42) dX7_acrossIn_42 kk) ?_
    exact sp_r fun hz => aw_iret hz rfl rfl rfl (pc := 45) dX7_acrossIn_45
  · refine sp_m (aw_if_le_f (tgt := 30) (pc := 20) dX7_acrossIn_20 (by decide) c5) ?_
    refine sp_m (aw_aload_n (pc := 23) dX7_acrossIn_23 rfl (lv_at hl 1 rfl)) ?_
    refine sp_m (aw_iload (pc := 24) dX7_acrossIn_24 (lv_at hl 0 rfl)) ?_
    refine sp_b fun p9 ep9 => ?_
    refine sp_m (G' := AW (KX7_acrossIn l D h0 hE v) p9.2 (29) ls (.int p9.1 :: [])) (fun kk => aw_callV (As := [.int p4]) (metX7_refused _ _ ep9) (rcv_o okX7 (uS eh2 s1)) rfl mok_X7_refused q1632 q1634 qs50 q125 q1635 (Nat.le_of_ble_eq_true rfl) (Nat.le_of_ble_eq_true rfl) rfl hl.1 rfl (Nat.le_of_ble_eq_true rfl) (pc := 26) dX7_acrossIn_26 kk) ?_
    exact sp_r fun hz => aw_iret hz rfl rfl rfl (pc := 29) dX7_acrossIn_29
theorem mok_X7_meanBy : mOK yX7_meanBy 3 := ⟨⟨by decide +kernel, by decide +kernel⟩, by decide +kernel⟩
abbrev KX7_meanBy (l : Launch) (D : DD) (h0 : AH) (v : Int64) : KT := (l, yX7_meanBy, cX7_meanBy, 4, (some .long), RX7, 4, D, h0, h0, .inl (some (.long v)), false, [])
theorem metX7_meanBy (l : Launch) (D : DD) {a0 : Nat} {a1 : Int32} {a2 : Int32} {a3 : Int32} {h0 : AH} {v : Int64} (hr : fX7_meanBy a0 a1 a2 a3 h0 = some v) : AMet (KX7_meanBy l D h0 v) [.ref a0, .int a1, .int a2, .int a3] := by
  refine AMet.of (K := (KX7_meanBy l D h0 v)) rfl ⟨_, rfl⟩ rfl rfl rfl (Nat.le_of_ble_eq_true rfl) (fun ls hl => ?_)
  have hl : lv_has ls 4 [(0, .ref a0), (1, .int a1), (2, .int a2), (3, .int a3)] := hl
  suffices hsp : SP (fX7_meanBy a0 a1 a2 a3 h0) (fun z => z = v) (AW (KX7_meanBy l D h0 v) h0 0 ls []) from hsp _ hr rfl
  unfold fX7_meanBy
  refine sp_m (aw_aload_n (pc := 0) dX7_meanBy_0 rfl (lv_at hl 0 rfl)) ?_
  refine sp_m (aw_iload_n (pc := 1) dX7_meanBy_1 rfl (lv_at hl 1 rfl)) ?_
  refine sp_g fun s2 => ?_
  refine sp_b fun p1 ep1 => ?_
  refine sp_m (G' := AW (KX7_meanBy l D h0 v) h0 (5) ls (.long p1 :: [])) (fun kk => aw_callV (As := [.int a1]) (metX7_holds _ _ ep1) (rcv_o okX7 s2) rfl mok_X7_holds q1913 q1915 qs80 q125 q1916 (Nat.le_of_ble_eq_true rfl) (Nat.le_of_ble_eq_true rfl) rfl hl.1 rfl (Nat.le_of_ble_eq_true rfl) (pc := 2) dX7_meanBy_2 kk) ?_
  refine sp_m (aw_iload_n (pc := 5) dX7_meanBy_5 rfl (lv_at hl 2 rfl)) ?_
  refine sp_m (aw_i2l (pc := 6) dX7_meanBy_6) ?_
  refine sp_m (aw_lmul (pc := 7) dX7_meanBy_7) ?_
  refine sp_m (aw_iload_n (pc := 8) dX7_meanBy_8 rfl (lv_at hl 3 rfl)) ?_
  have hj35_1 : ∀ j3 : Int64, ∀ ls : Array Slot, lv_has ls 4 [] → SP (X7_meanBy_j35 a2 p1 j3) (fun z => z = v) (AW (KX7_meanBy l D h0 v) h0 35 ls (.long j3 :: .long (p1 * a2.toInt64) :: [])) := by
    intro j3 ls hl
    unfold X7_meanBy_j35
    refine sp_m (aw_ladd (pc := 35) dX7_meanBy_35) ?_
    exact sp_r fun hz => aw_lret (congrArg (fun z => (z, h0)) hz) rfl rfl rfl (pc := 36) dX7_meanBy_36
  refine sp_if (fun c4 => ?_) (fun c4 => ?_)
  · refine sp_m (aw_if_eq_t (tgt := 34) (pc := 9) dX7_meanBy_9 (by decide) c4) ?_
    refine sp_m (aw_lconst (v := 0) (pc := 34) dX7_meanBy_34 rfl) ?_
    exact hj35_1 0 ls (lv_sub hl [] rfl)
  · refine sp_m (aw_if_eq_f (tgt := 34) (pc := 9) dX7_meanBy_9 (by decide) c4) ?_
    refine sp_m (aw_aload_n (pc := 12) dX7_meanBy_12 rfl (lv_at hl 0 rfl)) ?_
    refine sp_b fun p5 ep5 => ?_
    refine sp_m (G' := AW (KX7_meanBy l D h0 v) h0 (16) ls (.long p5 :: .long (p1 * a2.toInt64) :: [])) (fun kk => aw_callV (As := []) (metX7_whole _ _ ep5) (rcv_o okX7 s2) rfl mok_X7_whole q1920 q1922 qs81 q125 q1923 (Nat.le_of_ble_eq_true rfl) (Nat.le_of_ble_eq_true rfl) rfl hl.1 rfl (Nat.le_of_ble_eq_true rfl) (pc := 13) dX7_meanBy_13 kk) ?_
    refine sp_m (aw_aload_n (pc := 16) dX7_meanBy_16 rfl (lv_at hl 0 rfl)) ?_
    refine sp_m (aw_iload_n (pc := 17) dX7_meanBy_17 rfl (lv_at hl 1 rfl)) ?_
    refine sp_b fun p6 ep6 => ?_
    refine sp_m (G' := AW (KX7_meanBy l D h0 v) h0 (21) ls (.long p6 :: .long p5 :: .long (p1 * a2.toInt64) :: [])) (fun kk => aw_callV (As := [.int a1]) (metX7_holds _ _ ep6) (rcv_o okX7 s2) rfl mok_X7_holds q1913 q1915 qs80 q125 q1916 (Nat.le_of_ble_eq_true rfl) (Nat.le_of_ble_eq_true rfl) rfl hl.1 rfl (Nat.le_of_ble_eq_true rfl) (pc := 18) dX7_meanBy_18 kk) ?_
    refine sp_m (aw_lsub (pc := 21) dX7_meanBy_21) ?_
    refine sp_m (aw_aload_n (pc := 22) dX7_meanBy_22 rfl (lv_at hl 0 rfl)) ?_
    refine sp_m (aw_iload_n (pc := 23) dX7_meanBy_23 rfl (lv_at hl 1 rfl)) ?_
    refine sp_b fun p7 ep7 => ?_
    refine sp_m (G' := AW (KX7_meanBy l D h0 v) h0 (27) ls (.int p7 :: .long (p5 - p6) :: .long (p1 * a2.toInt64) :: [])) (fun kk => aw_callV (As := [.int a1]) (metX7_forceOf _ _ ep7) (rcv_o okX7 s2) rfl mok_X7_forceOf q1897 q1899 qs77 q125 q1900 (Nat.le_of_ble_eq_true rfl) (Nat.le_of_ble_eq_true rfl) rfl hl.1 rfl (Nat.le_of_ble_eq_true rfl) (pc := 24) dX7_meanBy_24 kk) ?_
    refine sp_m (aw_iconst (v := 2) (pc := 27) dX7_meanBy_27 rfl) ?_
    refine sp_m (aw_idiv (pc := 28) dX7_meanBy_28 (by decide)) ?_
    refine sp_m (aw_i2l (pc := 29) dX7_meanBy_29) ?_
    refine sp_m (aw_lmul (pc := 30) dX7_meanBy_30) ?_
    refine sp_m (aw_goto (tgt := 35) (pc := 31) dX7_meanBy_31 (by decide)) ?_
    exact hj35_1 ((p5 - p6) * ((p7 / 2).toInt64)) ls (lv_sub hl [] rfl)
theorem mok_X7_meetsIn : mOK yX7_meetsIn 3 := ⟨⟨by decide +kernel, by decide +kernel⟩, by decide +kernel⟩
abbrev KX7_meetsIn (l : Launch) (D : DD) (h0 : AH) (v : Int32) : KT := (l, yX7_meetsIn, cX7_meetsIn, 4, (some .int), RX7, 5, D, h0, h0, .inl (some (.int v)), false, [])
theorem metX7_meetsIn (l : Launch) (D : DD) {a0 : Nat} {a1 : Int32} {a2 : Int32} {a3 : Int32} {h0 : AH} {v : Int32} (hr : fX7_meetsIn a0 a1 a2 a3 h0 = some v) : AMet (KX7_meetsIn l D h0 v) [.ref a0, .int a1, .int a2, .int a3] := by
  refine AMet.of (K := (KX7_meetsIn l D h0 v)) rfl ⟨_, rfl⟩ rfl rfl rfl (Nat.le_of_ble_eq_true rfl) (fun ls hl => ?_)
  have hl : lv_has ls 4 [(0, .ref a0), (1, .int a1), (2, .int a2), (3, .int a3)] := hl
  suffices hsp : SP (fX7_meetsIn a0 a1 a2 a3 h0) (fun z => z = v) (AW (KX7_meetsIn l D h0 v) h0 0 ls []) from hsp _ hr rfl
  unfold fX7_meetsIn
  refine sp_m (aw_aload_n (pc := 0) dX7_meetsIn_0 rfl (lv_at hl 0 rfl)) ?_
  refine sp_m (aw_iload_n (pc := 1) dX7_meetsIn_1 rfl (lv_at hl 1 rfl)) ?_
  refine sp_m (aw_aload_n (pc := 2) dX7_meetsIn_2 rfl (lv_at hl 0 rfl)) ?_
  refine sp_g fun s1 => ?_
  refine sp_b fun x2 ex2 => ?_
  refine sp_m (aw_get (k := 3) okX7 s1 (by decide) q1505 (Or.inl rfl) (congrArg va_rf ex2) (pc := 3) dX7_meetsIn_3) ?_
  refine sp_g fun s3 => ?_
  refine sp_b fun x4 ex4 => ?_
  refine sp_m (aw_getN (k := 8) okX20 s3 (by decide) nq1652 rfl (congrArg va_rf ex4) (pc := 6) dX7_meetsIn_6) ?_
  refine sp_m (aw_iload_n (pc := 9) dX7_meetsIn_9 rfl (lv_at hl 2 rfl)) ?_
  refine sp_g fun s5 => ?_
  refine sp_g fun i6 => ?_
  refine sp_m (aw_iald s5 i6 (pc := 10) dX7_meetsIn_10) ?_
  refine sp_m (aw_aload_n (pc := 11) dX7_meetsIn_11 rfl (lv_at hl 0 rfl)) ?_
  refine sp_b fun x7 ex7 => ?_
  refine sp_m (aw_get (k := 16) okX7 s1 (by decide) q1518 (Or.inl rfl) (congrArg va_rf ex7) (pc := 12) dX7_meetsIn_12) ?_
  refine sp_m (aw_bipush (v := 11) (pc := 15) dX7_meetsIn_15 rfl) ?_
  refine sp_m (aw_iload_n (pc := 17) dX7_meetsIn_17 rfl (lv_at hl 2 rfl)) ?_
  refine sp_m (aw_iadd (pc := 18) dX7_meetsIn_18) ?_
  refine sp_g fun s8 => ?_
  refine sp_g fun i9 => ?_
  refine sp_m (aw_iald s8 i9 (pc := 19) dX7_meetsIn_19) ?_
  refine sp_m (aw_iload_n (pc := 20) dX7_meetsIn_20 rfl (lv_at hl 3 rfl)) ?_
  refine sp_b fun p10 ep10 => ?_
  refine sp_m (G' := AW (KX7_meetsIn l D h0 v) h0 (24) ls (.int p10 :: [])) (fun kk => aw_callV (As := [.int a1, .int (gI h0 x4 (ix a2)), .int (gI h0 x7 (ix (11 + a2))), .int a3]) (metX7_harmBy _ _ ep10) (rcv_o okX7 s1) rfl mok_X7_harmBy q1940 q1942 qs84 q125 q1943 (Nat.le_of_ble_eq_true rfl) (Nat.le_of_ble_eq_true rfl) rfl hl.1 rfl (Nat.le_of_ble_eq_true rfl) (pc := 21) dX7_meetsIn_21 kk) ?_
  exact sp_r fun hz => aw_iret (congrArg (fun z => (z, h0)) hz) rfl rfl rfl (pc := 24) dX7_meetsIn_24
theorem mok_X7_meanNow : mOK yX7_meanNow 2 := ⟨⟨by decide +kernel, by decide +kernel⟩, by decide +kernel⟩
abbrev KX7_meanNow (l : Launch) (D : DD) (h0 : AH) (v : Int64) : KT := (l, yX7_meanNow, cX7_meanNow, 3, (some .long), RX7, 6, D, h0, h0, .inl (some (.long v)), false, [])
theorem metX7_meanNow (l : Launch) (D : DD) {a0 : Nat} {a1 : Int32} {a2 : Int32} {h0 : AH} {v : Int64} (hr : fX7_meanNow a0 a1 a2 h0 = some v) : AMet (KX7_meanNow l D h0 v) [.ref a0, .int a1, .int a2] := by
  refine AMet.of (K := (KX7_meanNow l D h0 v)) rfl ⟨_, rfl⟩ rfl rfl rfl (Nat.le_of_ble_eq_true rfl) (fun ls hl => ?_)
  have hl : lv_has ls 3 [(0, .ref a0), (1, .int a1), (2, .int a2)] := hl
  suffices hsp : SP (fX7_meanNow a0 a1 a2 h0) (fun z => z = v) (AW (KX7_meanNow l D h0 v) h0 0 ls []) from hsp _ hr rfl
  unfold fX7_meanNow
  refine sp_m (aw_aload_n (pc := 0) dX7_meanNow_0 rfl (lv_at hl 0 rfl)) ?_
  refine sp_m (aw_iload_n (pc := 1) dX7_meanNow_1 rfl (lv_at hl 1 rfl)) ?_
  refine sp_m (aw_aload_n (pc := 2) dX7_meanNow_2 rfl (lv_at hl 0 rfl)) ?_
  refine sp_m (aw_iload_n (pc := 3) dX7_meanNow_3 rfl (lv_at hl 1 rfl)) ?_
  refine sp_m (aw_aload_n (pc := 4) dX7_meanNow_4 rfl (lv_at hl 0 rfl)) ?_
  refine sp_g fun s1 => ?_
  refine sp_b fun x2 ex2 => ?_
  refine sp_m (aw_get (k := 16) okX7 s1 (by decide) q1518 (Or.inl rfl) (congrArg va_rf ex2) (pc := 5) dX7_meanNow_5) ?_
  refine sp_m (aw_iconst (v := 0) (pc := 8) dX7_meanNow_8 rfl) ?_
  refine sp_m (aw_iload_n (pc := 9) dX7_meanNow_9 rfl (lv_at hl 1 rfl)) ?_
  refine sp_m (aw_iadd (pc := 10) dX7_meanNow_10) ?_
  refine sp_g fun s3 => ?_
  refine sp_g fun i4 => ?_
  refine sp_m (aw_iald s3 i4 (pc := 11) dX7_meanNow_11) ?_
  refine sp_m (aw_iload_n (pc := 12) dX7_meanNow_12 rfl (lv_at hl 2 rfl)) ?_
  refine sp_b fun p5 ep5 => ?_
  refine sp_m (G' := AW (KX7_meanNow l D h0 v) h0 (16) ls (.int p5 :: .int a1 :: .ref a0 :: [])) (fun kk => aw_callV (As := [.int a1, .int (gI h0 x2 (ix (0 + a1))), .int a2]) (metX7_meetsIn _ _ ep5) (rcv_o okX7 s1) rfl mok_X7_meetsIn q1936 q1938 qs83 q125 q1939 (Nat.le_of_ble_eq_true rfl) (Nat.le_of_ble_eq_true rfl) rfl hl.1 rfl (Nat.le_of_ble_eq_true rfl) (pc := 13) dX7_meanNow_13 kk) ?_
  refine sp_m (aw_iload_n (pc := 16) dX7_meanNow_16 rfl (lv_at hl 2 rfl)) ?_
  refine sp_b fun p6 ep6 => ?_
  refine sp_m (G' := AW (KX7_meanNow l D h0 v) h0 (20) ls (.long p6 :: [])) (fun kk => aw_callV (As := [.int a1, .int p5, .int a2]) (metX7_meanBy _ _ ep6) (rcv_o okX7 s1) rfl mok_X7_meanBy q1948 q1950 qs85 q125 q1951 (Nat.le_of_ble_eq_true rfl) (Nat.le_of_ble_eq_true rfl) rfl hl.1 rfl (Nat.le_of_ble_eq_true rfl) (pc := 17) dX7_meanNow_17 kk) ?_
  exact sp_r fun hz => aw_lret (congrArg (fun z => (z, h0)) hz) rfl rfl rfl (pc := 20) dX7_meanNow_20
theorem mok_X7_all : mOK yX7_all 2 := ⟨⟨by decide +kernel, by decide +kernel⟩, by decide +kernel⟩
abbrev KX7_all (l : Launch) (D : DD) (h0 hE : AH) (v : Int64) : KT := (l, yX7_all, cX7_all, 6, (some .long), RX7, 7, D, h0, hE, .inl (some (.long v)), false, [])
theorem metX7_all (l : Launch) (D : DD) {a0 : Nat} {a1 : Int32} {a2 : Int32} {h0 : AH} {hE : AH} {v : Int64} (hr : fX7_all a0 a1 a2 h0 = some (v, hE)) : AMet (KX7_all l D h0 hE v) [.ref a0, .int a1, .int a2] := by
  refine AMet.of (K := (KX7_all l D h0 hE v)) rfl ⟨_, rfl⟩ rfl rfl rfl (Nat.le_of_ble_eq_true rfl) (fun ls hl => ?_)
  have hl : lv_has ls 6 [(0, .ref a0), (1, .int a1), (2, .int a2)] := hl
  suffices hsp : SP (fX7_all a0 a1 a2 h0) (fun z => z = (v, hE)) (AW (KX7_all l D h0 hE v) h0 0 ls []) from hsp _ hr rfl
  unfold fX7_all
  refine sp_m (aw_aload_n (pc := 0) dX7_all_0 rfl (lv_at hl 0 rfl)) ?_
  refine sp_m (aw_iconst (v := 0) (pc := 1) dX7_all_1 rfl) ?_
  refine sp_g fun s1 => ?_
  refine sp_t fun h2 eh20 => ?_
  have eh2 : gS h2 = gS h0 := by rw [eh20]; rfl
  refine sp_m (aw_put (k := 0) okX7 opX7 s1 (by decide) q1502 (Or.inl rfl) (Or.inl rfl) (hasV_I' eh20) rfl rfl (pc := 2) dX7_all_2) ?_
  refine sp_m (aw_aload_n (pc := 5) dX7_all_5 rfl (lv_at hl 0 rfl)) ?_
  refine sp_o (fun ex3 => ?_) (fun x3 ex3 => ?_)
  · refine sp_m (aw_get (k := 3) okX7 (uS eh2 s1) (by decide) q1505 (Or.inl rfl) (congrArg va_rf ex3) (pc := 6) dX7_all_6) ?_
    refine sp_m (aw_ifnonnullN (pc := 9) dX7_all_9) ?_
    refine sp_m (aw_aload_n (pc := 12) dX7_all_12 rfl (lv_at hl 0 rfl)) ?_
    refine sp_m (aw_iconst (v := 1) (pc := 13) dX7_all_13 rfl) ?_
    refine sp_b fun p11 ep11 => ?_
    refine sp_m (G' := AW (KX7_all l D h0 hE v) p11.2 (17) ls (.int p11.1 :: [])) (fun kk => aw_callV (As := [.int 1]) (metX7_refused _ _ ep11) (rcv_o okX7 (uS eh2 s1)) rfl mok_X7_refused q1632 q1634 qs50 q125 q1635 (Nat.le_of_ble_eq_true rfl) (Nat.le_of_ble_eq_true rfl) rfl hl.1 rfl (Nat.le_of_ble_eq_true rfl) (pc := 14) dX7_all_14 kk) ?_
    refine sp_m (aw_i2l (pc := 17) dX7_all_17) ?_
    exact sp_r fun hz => aw_lret hz rfl rfl rfl (pc := 18) dX7_all_18
  · refine sp_m (aw_get (k := 3) okX7 (uS eh2 s1) (by decide) q1505 (Or.inl rfl) (congrArg va_rf ex3) (pc := 6) dX7_all_6) ?_
    refine sp_m (aw_ifnonnull (tgt := 19) (pc := 9) dX7_all_9 (by decide)) ?_
    refine sp_m (aw_lconst (v := 0) (pc := 19) dX7_all_19 rfl) ?_
    refine sp_m (aw_lstore_n (lv' := [(3, .long 0), (0, .ref a0), (1, .int a1), (2, .int a2)]) (pc := 20) dX7_all_20 rfl hl (by decide) rfl) (sp_all fun ls hl => ?_)
    refine sp_m (aw_iconst (v := 0) (pc := 21) dX7_all_21 rfl) ?_
    refine sp_m (aw_istore (lv' := [(5, .int 0), (3, .long 0), (0, .ref a0), (1, .int a1), (2, .int a2)]) (pc := 22) dX7_all_22 hl (by decide) rfl) (sp_all fun ls hl => ?_)
    let P4 : Int64 × Int32 → Prop := aLP (KX7_all l D h0 hE v) 6 24 (fun s4v : Int64 × Int32 => [(0, .ref a0), (1, .int a1), (2, .int a2), (3, .long s4v.1), (5, .int s4v.2)]) (fun s4v => h2)
    let E4 : Int64 → Prop := aLP (KX7_all l D h0 hE v) 6 52 (fun r4v : Int64 => [(0, .ref a0), (2, .int a2), (3, .long r4v)]) (fun r4v => h2)
    refine sp_bl (P := P4) (E := E4) (fun s4v => sp_all fun ls hl => ?_) (fun k => k ls (lv_sub hl [2, 3, 4, 1, 0] rfl)) (fun r4v => sp_all fun ls hl => ?_)
    · have hl : lv_has ls 6 [(0, .ref a0), (1, .int a1), (2, .int a2), (3, .long s4v.1), (5, .int s4v.2)] := hl
      show SP _ _ (AW (KX7_all l D h0 hE v) h2 24 ls [])
      unfold X7_all_L24
      refine sp_m (aw_iload (pc := 24) dX7_all_24 (lv_at hl 4 rfl)) ?_
      refine sp_m (aw_aload_n (pc := 26) dX7_all_26 rfl (lv_at hl 0 rfl)) ?_
      refine sp_b fun x5 ex5 => ?_
      refine sp_m (aw_get (k := 3) okX7 (uS eh2 s1) (by decide) q1505 (Or.inl rfl) (congrArg va_rf ex5) (pc := 27) dX7_all_27) ?_
      refine sp_g fun s6 => ?_
      refine sp_m (aw_getN (k := 3) okX20 s6 (by decide) nq1645 rfl rfl (pc := 30) dX7_all_30) ?_
      refine sp_if (fun c7 => ?_) (fun c7 => ?_)
      · refine sp_m (aw_icmp_ge_t (tgt := 52) (pc := 33) dX7_all_33 (by decide) c7) ?_
        exact sp_r fun hz => hz ls (lv_sub hl [0, 2, 3] rfl)
      · refine sp_m (aw_icmp_ge_f (tgt := 52) (pc := 33) dX7_all_33 (by decide) c7) ?_
        refine sp_m (aw_lload_n (pc := 36) dX7_all_36 rfl (lv_at hl 3 rfl)) ?_
        refine sp_m (aw_aload_n (pc := 37) dX7_all_37 rfl (lv_at hl 0 rfl)) ?_
        refine sp_m (aw_iload (pc := 38) dX7_all_38 (lv_at hl 4 rfl)) ?_
        refine sp_m (aw_iload_n (pc := 40) dX7_all_40 rfl (lv_at hl 1 rfl)) ?_
        refine sp_b fun p8 ep8 => ?_
        refine sp_m (G' := AW (KX7_all l D h0 hE v) h2 (44) ls (.long p8 :: .long s4v.1 :: [])) (fun kk => aw_callV (As := [.int s4v.2, .int a1]) (metX7_meanNow _ _ ep8) (rcv_o okX7 (uS eh2 s1)) rfl mok_X7_meanNow q1993 q1995 qs90 q125 q1996 (Nat.le_of_ble_eq_true rfl) (Nat.le_of_ble_eq_true rfl) rfl hl.1 rfl (Nat.le_of_ble_eq_true rfl) (pc := 41) dX7_all_41 kk) ?_
        refine sp_m (aw_ladd (pc := 44) dX7_all_44) ?_
        refine sp_m (aw_lstore_n (lv' := [(3, .long (s4v.1 + p8)), (0, .ref a0), (1, .int a1), (2, .int a2), (5, .int s4v.2)]) (pc := 45) dX7_all_45 rfl hl (by decide) rfl) (sp_all fun ls hl => ?_)
        refine sp_m (aw_iinc (v := s4v.2 + 1) (lv' := [(5, .int (s4v.2 + 1)), (3, .long (s4v.1 + p8)), (0, .ref a0), (1, .int a1), (2, .int a2)]) (pc := 46) dX7_all_46 hl (k := 4) rfl rfl (by decide) rfl) (sp_all fun ls hl => ?_)
        refine sp_m (aw_goto (tgt := 24) (pc := 49) dX7_all_49 (by decide)) ?_
        exact sp_r fun hz => hz ls (lv_sub hl [2, 3, 4, 1, 0] rfl)
    · have hl : lv_has ls 6 [(0, .ref a0), (2, .int a2), (3, .long r4v)] := hl
      show SP _ _ (AW (KX7_all l D h0 hE v) h2 52 ls [])
      refine sp_m (aw_aload_n (pc := 52) dX7_all_52 rfl (lv_at hl 0 rfl)) ?_
      refine sp_m (aw_lload_n (pc := 53) dX7_all_53 rfl (lv_at hl 2 rfl)) ?_
      refine sp_m (aw_aload_n (pc := 54) dX7_all_54 rfl (lv_at hl 0 rfl)) ?_
      refine sp_b fun p9 ep9 => ?_
      refine sp_m (G' := AW (KX7_all l D h0 hE v) h2 (58) ls (.long p9 :: .long r4v :: .ref a0 :: [])) (fun kk => aw_callV (As := []) (metX7_whole _ _ ep9) (rcv_o okX7 (uS eh2 s1)) rfl mok_X7_whole q1920 q1922 qs81 q125 q1923 (Nat.le_of_ble_eq_true rfl) (Nat.le_of_ble_eq_true rfl) rfl hl.1 rfl (Nat.le_of_ble_eq_true rfl) (pc := 55) dX7_all_55 kk) ?_
      refine sp_m (aw_iload_n (pc := 58) dX7_all_58 rfl (lv_at hl 1 rfl)) ?_
      refine sp_b fun p10 ep10 => ?_
      refine sp_m (G' := AW (KX7_all l D h0 hE v) p10.2 (62) ls (.long p10.1 :: [])) (fun kk => aw_callV (As := [.long r4v, .long p9, .int a2]) (metX7_fraction _ _ ep10) (rcv_o okX7 (uS eh2 s1)) rfl mok_X7_fraction q1925 q1927 qs82 q125 q1928 (Nat.le_of_ble_eq_true rfl) (Nat.le_of_ble_eq_true rfl) rfl hl.1 rfl (Nat.le_of_ble_eq_true rfl) (pc := 59) dX7_all_59 kk) ?_
      exact sp_r fun hz => aw_lret hz rfl rfl rfl (pc := 62) dX7_all_62
theorem mok_X7_leaves : mOK yX7_leaves 1 := ⟨⟨by decide +kernel, by decide +kernel⟩, by decide +kernel⟩
abbrev KX7_leaves (l : Launch) (D : DD) (h0 : AH) (v : Int32) : KT := (l, yX7_leaves, cX7_leaves, 2, (some .int), RX7, 1, D, h0, h0, .inl (some (.int v)), false, [])
theorem metX7_leaves (l : Launch) (D : DD) {a0 : Nat} {a1 : Int32} {h0 : AH} {v : Int32} (hr : fX7_leaves a0 a1 h0 = some v) : AMet (KX7_leaves l D h0 v) [.ref a0, .int a1] := by
  refine AMet.of (K := (KX7_leaves l D h0 v)) rfl ⟨_, rfl⟩ rfl rfl rfl (Nat.le_of_ble_eq_true rfl) (fun ls hl => ?_)
  have hl : lv_has ls 2 [(0, .ref a0), (1, .int a1)] := hl
  suffices hsp : SP (fX7_leaves a0 a1 h0) (fun z => z = v) (AW (KX7_leaves l D h0 v) h0 0 ls []) from hsp _ hr rfl
  unfold fX7_leaves
  refine sp_m (aw_aload_n (pc := 0) dX7_leaves_0 rfl (lv_at hl 0 rfl)) ?_
  refine sp_g fun s1 => ?_
  refine sp_b fun x2 ex2 => ?_
  refine sp_m (aw_get (k := 30) okX7 s1 (by decide) q1532 (Or.inl rfl) (congrArg va_rf ex2) (pc := 1) dX7_leaves_1) ?_
  refine sp_m (aw_iload_n (pc := 4) dX7_leaves_4 rfl (lv_at hl 1 rfl)) ?_
  refine sp_g fun s3 => ?_
  refine sp_g fun i4 => ?_
  refine sp_m (aw_iald s3 i4 (pc := 5) dX7_leaves_5) ?_
  refine sp_m (aw_aload_n (pc := 6) dX7_leaves_6 rfl (lv_at hl 0 rfl)) ?_
  refine sp_m (aw_get (k := 31) okX7 s1 (by decide) q1533 (Or.inl rfl) rfl (pc := 7) dX7_leaves_7) ?_
  refine sp_m (aw_aload_n (pc := 10) dX7_leaves_10 rfl (lv_at hl 0 rfl)) ?_
  refine sp_b fun x5 ex5 => ?_
  refine sp_m (aw_get (k := 30) okX7 s1 (by decide) q1532 (Or.inl rfl) (congrArg va_rf ex5) (pc := 11) dX7_leaves_11) ?_
  refine sp_m (aw_iload_n (pc := 14) dX7_leaves_14 rfl (lv_at hl 1 rfl)) ?_
  refine sp_g fun s6 => ?_
  refine sp_g fun i7 => ?_
  refine sp_m (aw_iald s6 i7 (pc := 15) dX7_leaves_15) ?_
  refine sp_m (aw_isub (pc := 16) dX7_leaves_16) ?_
  refine sp_if (fun c8 => ?_) (fun c8 => ?_)
  · refine sp_m (aw_icmp_le_t (tgt := 29) (pc := 17) dX7_leaves_17 (by decide) c8) ?_
    refine sp_m (aw_aload_n (pc := 29) dX7_leaves_29 rfl (lv_at hl 0 rfl)) ?_
    refine sp_m (aw_get (k := 31) okX7 s1 (by decide) q1533 (Or.inl rfl) rfl (pc := 30) dX7_leaves_30) ?_
    refine sp_m (aw_aload_n (pc := 33) dX7_leaves_33 rfl (lv_at hl 0 rfl)) ?_
    refine sp_b fun x9 ex9 => ?_
    refine sp_m (aw_get (k := 30) okX7 s1 (by decide) q1532 (Or.inl rfl) (congrArg va_rf ex9) (pc := 34) dX7_leaves_34) ?_
    refine sp_m (aw_iload_n (pc := 37) dX7_leaves_37 rfl (lv_at hl 1 rfl)) ?_
    refine sp_g fun s10 => ?_
    refine sp_g fun i11 => ?_
    refine sp_m (aw_iald s10 i11 (pc := 38) dX7_leaves_38) ?_
    refine sp_m (aw_isub (pc := 39) dX7_leaves_39) ?_
    exact sp_r fun hz => aw_iret (congrArg (fun z => (z, h0)) hz) rfl rfl rfl (pc := 40) dX7_leaves_40
  · refine sp_m (aw_icmp_le_f (tgt := 29) (pc := 17) dX7_leaves_17 (by decide) c8) ?_
    refine sp_m (aw_aload_n (pc := 20) dX7_leaves_20 rfl (lv_at hl 0 rfl)) ?_
    refine sp_b fun x12 ex12 => ?_
    refine sp_m (aw_get (k := 30) okX7 s1 (by decide) q1532 (Or.inl rfl) (congrArg va_rf ex12) (pc := 21) dX7_leaves_21) ?_
    refine sp_m (aw_iload_n (pc := 24) dX7_leaves_24 rfl (lv_at hl 1 rfl)) ?_
    refine sp_g fun s13 => ?_
    refine sp_g fun i14 => ?_
    refine sp_m (aw_iald s13 i14 (pc := 25) dX7_leaves_25) ?_
    refine sp_m (aw_goto (tgt := 40) (pc := 26) dX7_leaves_26 (by decide)) ?_
    exact sp_r fun hz => aw_iret (congrArg (fun z => (z, h0)) hz) rfl rfl rfl (pc := 40) dX7_leaves_40
theorem mok_X7_turnedOf : mOK yX7_turnedOf 1 := ⟨⟨by decide +kernel, by decide +kernel⟩, by decide +kernel⟩
abbrev KX7_turnedOf (l : Launch) (D : DD) (h0 : AH) (v : Int32) : KT := (l, yX7_turnedOf, cX7_turnedOf, 5, (some .int), RX7, 3, D, h0, h0, .inl (some (.int v)), false, [])
theorem metX7_turnedOf (l : Launch) (D : DD) {a0 : Nat} {a1 : Int32} {h0 : AH} {v : Int32} (hr : fX7_turnedOf a0 a1 h0 = some v) : AMet (KX7_turnedOf l D h0 v) [.ref a0, .int a1] := by
  refine AMet.of (K := (KX7_turnedOf l D h0 v)) rfl ⟨_, rfl⟩ rfl rfl rfl (Nat.le_of_ble_eq_true rfl) (fun ls hl => ?_)
  have hl : lv_has ls 5 [(0, .ref a0), (1, .int a1)] := hl
  suffices hsp : SP (fX7_turnedOf a0 a1 h0) (fun z => z = v) (AW (KX7_turnedOf l D h0 v) h0 0 ls []) from hsp _ hr rfl
  unfold fX7_turnedOf
  refine sp_m (aw_iconst (v := 0) (pc := 0) dX7_turnedOf_0 rfl) ?_
  refine sp_m (aw_istore_n (lv' := [(2, .int 0), (0, .ref a0), (1, .int a1)]) (pc := 1) dX7_turnedOf_1 rfl hl (by decide) rfl) (sp_all fun ls hl => ?_)
  refine sp_m (aw_iconst (v := 0) (pc := 2) dX7_turnedOf_2 rfl) ?_
  refine sp_m (aw_istore_n (lv' := [(3, .int 0), (2, .int 0), (0, .ref a0), (1, .int a1)]) (pc := 3) dX7_turnedOf_3 rfl hl (by decide) rfl) (sp_all fun ls hl => ?_)
  let P1 : Int32 × Int32 → Prop := aLP (KX7_turnedOf l D h0 v) 5 4 (fun s1v : Int32 × Int32 => [(0, .ref a0), (1, .int a1), (2, .int s1v.1), (3, .int s1v.2)]) (fun s1v => h0)
  let E1 : Int32 → Prop := aLP (KX7_turnedOf l D h0 v) 5 84 (fun r1v : Int32 => [(2, .int r1v)]) (fun r1v => h0)
  refine sp_bl (P := P1) (E := E1) (fun s1v => sp_all fun ls hl => ?_) (fun k => k ls (lv_sub hl [2, 3, 1, 0] rfl)) (fun r1v => sp_all fun ls hl => ?_)
  · have hl : lv_has ls 5 [(0, .ref a0), (1, .int a1), (2, .int s1v.1), (3, .int s1v.2)] := hl
    show SP _ _ (AW (KX7_turnedOf l D h0 v) h0 4 ls [])
    unfold X7_turnedOf_L4
    refine sp_m (aw_iload_n (pc := 4) dX7_turnedOf_4 rfl (lv_at hl 3 rfl)) ?_
    refine sp_m (aw_aload_n (pc := 5) dX7_turnedOf_5 rfl (lv_at hl 0 rfl)) ?_
    refine sp_g fun s2 => ?_
    refine sp_b fun x3 ex3 => ?_
    refine sp_m (aw_get (k := 3) okX7 s2 (by decide) q1505 (Or.inl rfl) (congrArg va_rf ex3) (pc := 6) dX7_turnedOf_6) ?_
    refine sp_g fun s4 => ?_
    refine sp_m (aw_getN (k := 3) okX20 s4 (by decide) nq1645 rfl rfl (pc := 9) dX7_turnedOf_9) ?_
    refine sp_if (fun c5 => ?_) (fun c5 => ?_)
    · refine sp_m (aw_icmp_ge_t (tgt := 84) (pc := 12) dX7_turnedOf_12 (by decide) c5) ?_
      exact sp_r fun hz => hz ls (lv_sub hl [2] rfl)
    · refine sp_m (aw_icmp_ge_f (tgt := 84) (pc := 12) dX7_turnedOf_12 (by decide) c5) ?_
      refine sp_m (aw_aload_n (pc := 15) dX7_turnedOf_15 rfl (lv_at hl 0 rfl)) ?_
      refine sp_b fun x6 ex6 => ?_
      refine sp_m (aw_get (k := 16) okX7 s2 (by decide) q1518 (Or.inl rfl) (congrArg va_rf ex6) (pc := 16) dX7_turnedOf_16) ?_
      refine sp_m (aw_iconst (v := 0) (pc := 19) dX7_turnedOf_19 rfl) ?_
      refine sp_m (aw_iload_n (pc := 20) dX7_turnedOf_20 rfl (lv_at hl 3 rfl)) ?_
      refine sp_m (aw_iadd (pc := 21) dX7_turnedOf_21) ?_
      refine sp_g fun s7 => ?_
      refine sp_g fun i8 => ?_
      refine sp_m (aw_iald s7 i8 (pc := 22) dX7_turnedOf_22) ?_
      refine sp_m (aw_aload_n (pc := 23) dX7_turnedOf_23 rfl (lv_at hl 0 rfl)) ?_
      refine sp_b fun x9 ex9 => ?_
      refine sp_m (aw_get (k := 16) okX7 s2 (by decide) q1518 (Or.inl rfl) (congrArg va_rf ex9) (pc := 24) dX7_turnedOf_24) ?_
      refine sp_m (aw_iconst (v := 0) (pc := 27) dX7_turnedOf_27 rfl) ?_
      refine sp_m (aw_iload_n (pc := 28) dX7_turnedOf_28 rfl (lv_at hl 1 rfl)) ?_
      refine sp_m (aw_iadd (pc := 29) dX7_turnedOf_29) ?_
      refine sp_g fun s10 => ?_
      refine sp_g fun i11 => ?_
      refine sp_m (aw_iald s10 i11 (pc := 30) dX7_turnedOf_30) ?_
      refine sp_m (aw_isub (pc := 31) dX7_turnedOf_31) ?_
      refine sp_m (aw_istore (lv' := [(4, .int ((gI h0 x6 (ix (0 + s1v.2))) - (gI h0 x9 (ix (0 + a1))))), (0, .ref a0), (1, .int a1), (2, .int s1v.1), (3, .int s1v.2)]) (pc := 32) dX7_turnedOf_32 hl (by decide) rfl) (sp_all fun ls hl => ?_)
      refine sp_m (aw_aload_n (pc := 34) dX7_turnedOf_34 rfl (lv_at hl 1 rfl)) ?_
      refine sp_m (aw_iload_n (pc := 35) dX7_turnedOf_35 rfl (lv_at hl 2 rfl)) ?_
      refine sp_b fun p12 ep12 => ?_
      refine sp_m (G' := AW (KX7_turnedOf l D h0 v) h0 (39) ls (.int p12 :: [])) (fun kk => aw_callV (As := [.int a1]) (metX7_isDead _ _ ep12) (rcv_o okX7 s2) rfl mok_X7_isDead q1885 q1887 qs75 q125 q1888 (Nat.le_of_ble_eq_true rfl) (Nat.le_of_ble_eq_true rfl) rfl hl.1 rfl (Nat.le_of_ble_eq_true rfl) (pc := 36) dX7_turnedOf_36 kk) ?_
      have hj78_1 : ∀ j13 : Int32, ∀ ls : Array Slot, lv_has ls 5 [(0, .ref a0), (1, .int a1), (2, .int j13), (3, .int s1v.2)] → SP (X7_turnedOf_j78 s1v j13) (ZL P1 E1) (AW (KX7_turnedOf l D h0 v) h0 78 ls ([])) := by
        intro j13 ls hl
        unfold X7_turnedOf_j78
        refine sp_m (aw_iinc (v := s1v.2 + 1) (lv' := [(3, .int (s1v.2 + 1)), (0, .ref a0), (1, .int a1), (2, .int j13)]) (pc := 78) dX7_turnedOf_78 hl (k := 3) rfl rfl (by decide) rfl) (sp_all fun ls hl => ?_)
        refine sp_m (aw_goto (tgt := 4) (pc := 81) dX7_turnedOf_81 (by decide)) ?_
        exact sp_r fun hz => hz ls (lv_sub hl [1, 2, 3, 0] rfl)
      refine sp_if (fun c14 => ?_) (fun c14 => ?_)
      · refine sp_m (aw_if_ne_t (tgt := 78) (pc := 39) dX7_turnedOf_39 (by decide) c14) ?_
        exact hj78_1 s1v.1 ls (lv_sub hl [1, 2, 3, 4] rfl)
      · refine sp_m (aw_if_ne_f (tgt := 78) (pc := 39) dX7_turnedOf_39 (by decide) (Decidable.not_not.mp c14)) ?_
        refine sp_m (aw_aload_n (pc := 42) dX7_turnedOf_42 rfl (lv_at hl 1 rfl)) ?_
        refine sp_m (aw_iload_n (pc := 43) dX7_turnedOf_43 rfl (lv_at hl 4 rfl)) ?_
        refine sp_b fun p15 ep15 => ?_
        refine sp_m (G' := AW (KX7_turnedOf l D h0 v) h0 (47) ls (.int p15 :: [])) (fun kk => aw_callV (As := [.int s1v.2]) (metX7_isDead _ _ ep15) (rcv_o okX7 s2) rfl mok_X7_isDead q1885 q1887 qs75 q125 q1888 (Nat.le_of_ble_eq_true rfl) (Nat.le_of_ble_eq_true rfl) rfl hl.1 rfl (Nat.le_of_ble_eq_true rfl) (pc := 44) dX7_turnedOf_44 kk) ?_
        refine sp_if (fun c16 => ?_) (fun c16 => ?_)
        · refine sp_m (aw_if_ne_t (tgt := 78) (pc := 47) dX7_turnedOf_47 (by decide) c16) ?_
          exact hj78_1 s1v.1 ls (lv_sub hl [1, 2, 3, 4] rfl)
        · refine sp_m (aw_if_ne_f (tgt := 78) (pc := 47) dX7_turnedOf_47 (by decide) (Decidable.not_not.mp c16)) ?_
          refine sp_m (aw_iload (pc := 50) dX7_turnedOf_50 (lv_at hl 0 rfl)) ?_
          refine sp_m (aw_iconst (v := (-1)) (pc := 52) dX7_turnedOf_52 rfl) ?_
          refine sp_if (fun c17 => ?_) (fun c17 => ?_)
          · refine sp_m (aw_icmp_lt_t (tgt := 78) (pc := 53) dX7_turnedOf_53 (by decide) c17) ?_
            exact hj78_1 s1v.1 ls (lv_sub hl [1, 2, 3, 4] rfl)
          · refine sp_m (aw_icmp_lt_f (tgt := 78) (pc := 53) dX7_turnedOf_53 (by decide) c17) ?_
            refine sp_m (aw_iload (pc := 56) dX7_turnedOf_56 (lv_at hl 0 rfl)) ?_
            refine sp_m (aw_iconst (v := 1) (pc := 58) dX7_turnedOf_58 rfl) ?_
            refine sp_if (fun c18 => ?_) (fun c18 => ?_)
            · refine sp_m (aw_icmp_gt_t (tgt := 78) (pc := 59) dX7_turnedOf_59 (by decide) c18) ?_
              exact hj78_1 s1v.1 ls (lv_sub hl [1, 2, 3, 4] rfl)
            · refine sp_m (aw_icmp_gt_f (tgt := 78) (pc := 59) dX7_turnedOf_59 (by decide) c18) ?_
              refine sp_m (aw_aload_n (pc := 62) dX7_turnedOf_62 rfl (lv_at hl 1 rfl)) ?_
              refine sp_m (aw_iload_n (pc := 63) dX7_turnedOf_63 rfl (lv_at hl 4 rfl)) ?_
              refine sp_b fun p19 ep19 => ?_
              refine sp_m (G' := AW (KX7_turnedOf l D h0 v) h0 (67) ls (.int p19 :: [])) (fun kk => aw_callV (As := [.int s1v.2]) (metX7_holdOf _ _ ep19) (rcv_o okX7 s2) rfl mok_X7_holdOf q1901 q1903 qs78 q125 q1904 (Nat.le_of_ble_eq_true rfl) (Nat.le_of_ble_eq_true rfl) rfl hl.1 rfl (Nat.le_of_ble_eq_true rfl) (pc := 64) dX7_turnedOf_64 kk) ?_
              refine sp_m (aw_bipush (v := 50) (pc := 67) dX7_turnedOf_67 rfl) ?_
              refine sp_if (fun c20 => ?_) (fun c20 => ?_)
              · refine sp_m (aw_icmp_ge_t (tgt := 78) (pc := 69) dX7_turnedOf_69 (by decide) c20) ?_
                exact hj78_1 s1v.1 ls (lv_sub hl [1, 2, 3, 4] rfl)
              · refine sp_m (aw_icmp_ge_f (tgt := 78) (pc := 69) dX7_turnedOf_69 (by decide) c20) ?_
                refine sp_m (aw_iload_n (pc := 72) dX7_turnedOf_72 rfl (lv_at hl 3 rfl)) ?_
                refine sp_m (aw_iconst (v := 1) (pc := 73) dX7_turnedOf_73 rfl) ?_
                refine sp_m (aw_iload_n (pc := 74) dX7_turnedOf_74 rfl (lv_at hl 4 rfl)) ?_
                refine sp_m (aw_ishl (pc := 75) dX7_turnedOf_75) ?_
                refine sp_m (aw_ior (pc := 76) dX7_turnedOf_76) ?_
                refine sp_m (aw_istore_n (lv' := [(2, .int (s1v.1 ||| (1 <<< (s1v.2 &&& 31)))), (4, .int ((gI h0 x6 (ix (0 + s1v.2))) - (gI h0 x9 (ix (0 + a1))))), (0, .ref a0), (1, .int a1), (3, .int s1v.2)]) (pc := 77) dX7_turnedOf_77 rfl hl (by decide) rfl) (sp_all fun ls hl => ?_)
                exact hj78_1 (s1v.1 ||| (1 <<< (s1v.2 &&& 31))) ls (lv_sub hl [2, 3, 0, 4] rfl)
  · have hl : lv_has ls 5 [(2, .int r1v)] := hl
    show SP _ _ (AW (KX7_turnedOf l D h0 v) h0 84 ls [])
    refine sp_m (aw_iload_n (pc := 84) dX7_turnedOf_84 rfl (lv_at hl 0 rfl)) ?_
    exact sp_r fun hz => aw_iret (congrArg (fun z => (z, h0)) hz) rfl rfl rfl (pc := 85) dX7_turnedOf_85
theorem mok_X7_trumpets : mOK yX7_trumpets 0 := ⟨⟨by decide +kernel, by decide +kernel⟩, by decide +kernel⟩
abbrev KX7_trumpets (l : Launch) (D : DD) (h0 hE : AH) : KT := (l, yX7_trumpets, cX7_trumpets, 4, none, RX7, 4, D, h0, hE, .inl (none), false, [])
theorem metX7_trumpets (l : Launch) (D : DD) {a0 : Nat} {h0 : AH} {hE : AH} (hr : fX7_trumpets a0 h0 = some hE) : AMet (KX7_trumpets l D h0 hE) [.ref a0] := by
  refine AMet.of (K := (KX7_trumpets l D h0 hE)) rfl ⟨_, rfl⟩ rfl rfl rfl (Nat.le_of_ble_eq_true rfl) (fun ls hl => ?_)
  have hl : lv_has ls 4 [(0, .ref a0)] := hl
  suffices hsp : SP (fX7_trumpets a0 h0) (fun z => z = hE) (AW (KX7_trumpets l D h0 hE) h0 0 ls []) from hsp _ hr rfl
  unfold fX7_trumpets
  refine sp_m (aw_aload_n (pc := 0) dX7_trumpets_0 rfl (lv_at hl 0 rfl)) ?_
  refine sp_m (aw_iconst (v := 0) (pc := 1) dX7_trumpets_1 rfl) ?_
  refine sp_g fun s1 => ?_
  refine sp_t fun h2 eh20 => ?_
  have eh2 : gS h2 = gS h0 := by rw [eh20]; rfl
  refine sp_m (aw_put (k := 31) okX7 opX7 s1 (by decide) q1533 (Or.inl rfl) (Or.inl rfl) (hasV_I' eh20) rfl rfl (pc := 2) dX7_trumpets_2) ?_
  refine sp_m (aw_iconst (v := 0) (pc := 5) dX7_trumpets_5 rfl) ?_
  refine sp_m (aw_istore_n (lv' := [(1, .int 0), (0, .ref a0)]) (pc := 6) dX7_trumpets_6 rfl hl (by decide) rfl) (sp_all fun ls hl => ?_)
  let P3 : Int32 × AH → Prop := aLP (KX7_trumpets l D h0 hE) 4 7 (fun s3v : Int32 × AH => [(0, .ref a0), (1, .int s3v.1)]) (fun s3v => s3v.2)
  let E3 : AH → Prop := aLP (KX7_trumpets l D h0 hE) 4 25 (fun r3v : AH => [(0, .ref a0)]) (fun r3v => r3v)
  refine sp_bl (P := P3) (E := E3) (fun s3v => sp_all fun ls hl => ?_) (fun k => k ls (lv_sub hl [1, 0] rfl)) (fun r3v => sp_all fun ls hl => ?_)
  · have hl : lv_has ls 4 [(0, .ref a0), (1, .int s3v.1)] := hl
    show SP _ _ (AW (KX7_trumpets l D h0 hE) s3v.2 7 ls [])
    unfold X7_trumpets_L7
    refine sp_m (aw_iload_n (pc := 7) dX7_trumpets_7 rfl (lv_at hl 1 rfl)) ?_
    refine sp_m (aw_iconst (v := 5) (pc := 8) dX7_trumpets_8 rfl) ?_
    refine sp_if (fun c4 => ?_) (fun c4 => ?_)
    · refine sp_m (aw_icmp_ge_t (tgt := 25) (pc := 9) dX7_trumpets_9 (by decide) c4) ?_
      exact sp_r fun hz => hz ls (lv_sub hl [0] rfl)
    · refine sp_m (aw_icmp_ge_f (tgt := 25) (pc := 9) dX7_trumpets_9 (by decide) c4) ?_
      refine sp_m (aw_aload_n (pc := 12) dX7_trumpets_12 rfl (lv_at hl 0 rfl)) ?_
      refine sp_g fun s5 => ?_
      refine sp_b fun x6 ex6 => ?_
      refine sp_m (aw_get (k := 30) okX7 s5 (by decide) q1532 (Or.inl rfl) (congrArg va_rf ex6) (pc := 13) dX7_trumpets_13) ?_
      refine sp_m (aw_iload_n (pc := 16) dX7_trumpets_16 rfl (lv_at hl 1 rfl)) ?_
      refine sp_m (aw_iconst (v := 0) (pc := 17) dX7_trumpets_17 rfl) ?_
      refine sp_g fun s7 => ?_
      refine sp_g fun i8 => ?_
      refine sp_t fun h9 eh90 => ?_
      have eh9 : gS h9 = gS s3v.2 := by rw [eh90]; rfl
      refine sp_m (fun kk => aw_iast s7 i8 (pc := 18) dX7_trumpets_18 (AWe eh90 kk)) ?_
      refine sp_m (aw_iinc (v := s3v.1 + 1) (lv' := [(1, .int (s3v.1 + 1)), (0, .ref a0)]) (pc := 19) dX7_trumpets_19 hl (k := 1) rfl rfl (by decide) rfl) (sp_all fun ls hl => ?_)
      refine sp_m (aw_goto (tgt := 7) (pc := 22) dX7_trumpets_22 (by decide)) ?_
      exact sp_r fun hz => hz ls (lv_sub hl [1, 0] rfl)
  · have hl : lv_has ls 4 [(0, .ref a0)] := hl
    show SP _ _ (AW (KX7_trumpets l D h0 hE) r3v 25 ls [])
    refine sp_m (aw_iconst (v := 1) (pc := 25) dX7_trumpets_25 rfl) ?_
    refine sp_m (aw_istore_n (lv' := [(1, .int 1), (0, .ref a0)]) (pc := 26) dX7_trumpets_26 rfl hl (by decide) rfl) (sp_all fun ls hl => ?_)
    let P10 : Int32 × AH → Prop := aLP (KX7_trumpets l D h0 hE) 4 27 (fun s10v : Int32 × AH => [(0, .ref a0), (1, .int s10v.1)]) (fun s10v => s10v.2)
    let E10 : AH → Prop := aLP (KX7_trumpets l D h0 hE) 4 164 (fun r10v : AH => []) (fun r10v => r10v)
    refine sp_bl (P := P10) (E := E10) (fun s10v => sp_all fun ls hl => ?_) (fun k => k ls (lv_sub hl [1, 0] rfl)) (fun r10v => sp_all fun ls hl => ?_)
    · have hl : lv_has ls 4 [(0, .ref a0), (1, .int s10v.1)] := hl
      show SP _ _ (AW (KX7_trumpets l D h0 hE) s10v.2 27 ls [])
      unfold X7_trumpets_L27
      refine sp_m (aw_iload_n (pc := 27) dX7_trumpets_27 rfl (lv_at hl 1 rfl)) ?_
      refine sp_m (aw_iconst (v := 1) (pc := 28) dX7_trumpets_28 rfl) ?_
      refine sp_m (aw_aload_n (pc := 29) dX7_trumpets_29 rfl (lv_at hl 0 rfl)) ?_
      refine sp_g fun s11 => ?_
      refine sp_b fun x12 ex12 => ?_
      refine sp_m (aw_get (k := 3) okX7 s11 (by decide) q1505 (Or.inl rfl) (congrArg va_rf ex12) (pc := 30) dX7_trumpets_30) ?_
      refine sp_g fun s13 => ?_
      refine sp_m (aw_getN (k := 3) okX20 s13 (by decide) nq1645 rfl rfl (pc := 33) dX7_trumpets_33) ?_
      refine sp_m (aw_ishl (pc := 36) dX7_trumpets_36) ?_
      refine sp_if (fun c14 => ?_) (fun c14 => ?_)
      · refine sp_m (aw_icmp_ge_t (tgt := 164) (pc := 37) dX7_trumpets_37 (by decide) c14) ?_
        exact sp_r fun hz => hz ls (lv_sub hl [] rfl)
      · refine sp_m (aw_icmp_ge_f (tgt := 164) (pc := 37) dX7_trumpets_37 (by decide) c14) ?_
        refine sp_m (aw_iconst (v := 0) (pc := 40) dX7_trumpets_40 rfl) ?_
        refine sp_m (aw_istore_n (lv' := [(2, .int 0), (0, .ref a0), (1, .int s10v.1)]) (pc := 41) dX7_trumpets_41 rfl hl (by decide) rfl) (sp_all fun ls hl => ?_)
        refine sp_m (aw_iconst (v := 0) (pc := 42) dX7_trumpets_42 rfl) ?_
        refine sp_m (aw_istore_n (lv' := [(3, .int 0), (2, .int 0), (0, .ref a0), (1, .int s10v.1)]) (pc := 43) dX7_trumpets_43 rfl hl (by decide) rfl) (sp_all fun ls hl => ?_)
        let P15 : Int32 × Int32 → Prop := aLP (KX7_trumpets l D h0 hE) 4 44 (fun s15v : Int32 × Int32 => [(0, .ref a0), (1, .int s10v.1), (2, .int s15v.1), (3, .int s15v.2)]) (fun s15v => s10v.2)
        let E15 : Int32 → Prop := aLP (KX7_trumpets l D h0 hE) 4 81 (fun r15v : Int32 => [(0, .ref a0), (1, .int s10v.1), (2, .int r15v)]) (fun r15v => s10v.2)
        refine sp_bl (P := P15) (E := E15) (fun s15v => sp_all fun ls hl => ?_) (fun k => k ls (lv_sub hl [2, 3, 1, 0] rfl)) (fun r15v => sp_all fun ls hl => ?_)
        · have hl : lv_has ls 4 [(0, .ref a0), (1, .int s10v.1), (2, .int s15v.1), (3, .int s15v.2)] := hl
          show SP _ _ (AW (KX7_trumpets l D h0 hE) s10v.2 44 ls [])
          unfold X7_trumpets_L44
          refine sp_m (aw_iload_n (pc := 44) dX7_trumpets_44 rfl (lv_at hl 3 rfl)) ?_
          refine sp_m (aw_aload_n (pc := 45) dX7_trumpets_45 rfl (lv_at hl 0 rfl)) ?_
          refine sp_b fun x16 ex16 => ?_
          refine sp_m (aw_get (k := 3) okX7 s11 (by decide) q1505 (Or.inl rfl) (congrArg va_rf ex16) (pc := 46) dX7_trumpets_46) ?_
          refine sp_g fun s17 => ?_
          refine sp_m (aw_getN (k := 3) okX20 s17 (by decide) nq1645 rfl rfl (pc := 49) dX7_trumpets_49) ?_
          refine sp_if (fun c18 => ?_) (fun c18 => ?_)
          · refine sp_m (aw_icmp_ge_t (tgt := 81) (pc := 52) dX7_trumpets_52 (by decide) c18) ?_
            exact sp_r fun hz => hz ls (lv_sub hl [0, 1, 2] rfl)
          · refine sp_m (aw_icmp_ge_f (tgt := 81) (pc := 52) dX7_trumpets_52 (by decide) c18) ?_
            refine sp_m (aw_iload_n (pc := 55) dX7_trumpets_55 rfl (lv_at hl 2 rfl)) ?_
            refine sp_m (aw_iload_n (pc := 56) dX7_trumpets_56 rfl (lv_at hl 1 rfl)) ?_
            refine sp_m (aw_iload_n (pc := 57) dX7_trumpets_57 rfl (lv_at hl 3 rfl)) ?_
            refine sp_b fun p19 ep19 => ?_
            refine sp_m (G' := AW (KX7_trumpets l D h0 hE) s10v.2 (61) ls (.int p19 :: .int s15v.1 :: [])) (fun kk => aw_callS (As := [.int s10v.1, .int s15v.2]) (metX7_bit _ _ ep19) mok_X7_bit q1806 q1807 q125 q1808 (Nat.le_of_ble_eq_true rfl) (Nat.le_of_ble_eq_true rfl) rfl hl.1 rfl (Nat.le_of_ble_eq_true rfl) (pc := 58) dX7_trumpets_58 kk) ?_
            have hj73_2 : ∀ j20 : Int32, ∀ ls : Array Slot, lv_has ls 4 [(0, .ref a0), (1, .int s10v.1), (3, .int s15v.2)] → SP (X7_trumpets_j73 s15v j20) (ZL P15 E15) (AW (KX7_trumpets l D h0 hE) s10v.2 73 ls (.int j20 :: .int s15v.1 :: [])) := by
              intro j20 ls hl
              unfold X7_trumpets_j73
              refine sp_m (aw_ior (pc := 73) dX7_trumpets_73) ?_
              refine sp_m (aw_istore_n (lv' := [(2, .int (s15v.1 ||| j20)), (0, .ref a0), (1, .int s10v.1), (3, .int s15v.2)]) (pc := 74) dX7_trumpets_74 rfl hl (by decide) rfl) (sp_all fun ls hl => ?_)
              refine sp_m (aw_iinc (v := s15v.2 + 1) (lv' := [(3, .int (s15v.2 + 1)), (2, .int (s15v.1 ||| j20)), (0, .ref a0), (1, .int s10v.1)]) (pc := 75) dX7_trumpets_75 hl (k := 3) rfl rfl (by decide) rfl) (sp_all fun ls hl => ?_)
              refine sp_m (aw_goto (tgt := 44) (pc := 78) dX7_trumpets_78 (by decide)) ?_
              exact sp_r fun hz => hz ls (lv_sub hl [2, 3, 1, 0] rfl)
            refine sp_if (fun c21 => ?_) (fun c21 => ?_)
            · refine sp_m (aw_if_eq_t (tgt := 72) (pc := 61) dX7_trumpets_61 (by decide) c21) ?_
              refine sp_m (aw_iconst (v := 0) (pc := 72) dX7_trumpets_72 rfl) ?_
              exact hj73_2 0 ls (lv_sub hl [0, 1, 3] rfl)
            · refine sp_m (aw_if_eq_f (tgt := 72) (pc := 61) dX7_trumpets_61 (by decide) c21) ?_
              refine sp_m (aw_aload_n (pc := 64) dX7_trumpets_64 rfl (lv_at hl 0 rfl)) ?_
              refine sp_m (aw_iload_n (pc := 65) dX7_trumpets_65 rfl (lv_at hl 3 rfl)) ?_
              refine sp_b fun p22 ep22 => ?_
              refine sp_m (G' := AW (KX7_trumpets l D h0 hE) s10v.2 (69) ls (.int p22 :: .int s15v.1 :: [])) (fun kk => aw_callV (As := [.int s15v.2]) (metX7_turnedOf _ _ ep22) (rcv_o okX7 s11) rfl mok_X7_turnedOf q2123 q2125 qs105 q125 q2126 (Nat.le_of_ble_eq_true rfl) (Nat.le_of_ble_eq_true rfl) rfl hl.1 rfl (Nat.le_of_ble_eq_true rfl) (pc := 66) dX7_trumpets_66 kk) ?_
              refine sp_m (aw_goto (tgt := 73) (pc := 69) dX7_trumpets_69 (by decide)) ?_
              exact hj73_2 p22 ls (lv_sub hl [0, 1, 3] rfl)
        · have hl : lv_has ls 4 [(0, .ref a0), (1, .int s10v.1), (2, .int r15v)] := hl
          show SP _ _ (AW (KX7_trumpets l D h0 hE) s10v.2 81 ls [])
          refine sp_m (aw_iload_n (pc := 81) dX7_trumpets_81 rfl (lv_at hl 1 rfl)) ?_
          refine sp_m (aw_aload_n (pc := 82) dX7_trumpets_82 rfl (lv_at hl 0 rfl)) ?_
          refine sp_b fun x23 ex23 => ?_
          refine sp_m (aw_get (k := 16) okX7 s11 (by decide) q1518 (Or.inl rfl) (congrArg va_rf ex23) (pc := 83) dX7_trumpets_83) ?_
          refine sp_m (aw_bipush (v := 10) (pc := 86) dX7_trumpets_86 rfl) ?_
          refine sp_g fun s24 => ?_
          refine sp_g fun i25 => ?_
          refine sp_m (aw_iald s24 i25 (pc := 88) dX7_trumpets_88) ?_
          refine sp_m (aw_iand (pc := 89) dX7_trumpets_89) ?_
          have hj158_4 : ∀ h26 : AH, ∀ ls : Array Slot, lv_has ls 4 [(0, .ref a0), (1, .int s10v.1)] → SP (X7_trumpets_j158 s10v h26) (ZL P10 E10) (AW (KX7_trumpets l D h0 hE) h26 158 ls ([])) := by
            intro h26 ls hl
            unfold X7_trumpets_j158
            refine sp_m (aw_iinc (v := s10v.1 + 1) (lv' := [(1, .int (s10v.1 + 1)), (0, .ref a0)]) (pc := 158) dX7_trumpets_158 hl (k := 1) rfl rfl (by decide) rfl) (sp_all fun ls hl => ?_)
            refine sp_m (aw_goto (tgt := 27) (pc := 161) dX7_trumpets_161 (by decide)) ?_
            exact sp_r fun hz => hz ls (lv_sub hl [1, 0] rfl)
          refine sp_if (fun c27 => ?_) (fun c27 => ?_)
          · refine sp_m (aw_if_ne_t (tgt := 158) (pc := 90) dX7_trumpets_90 (by decide) c27) ?_
            exact hj158_4 s10v.2 ls (lv_sub hl [0, 1] rfl)
          · refine sp_m (aw_if_ne_f (tgt := 158) (pc := 90) dX7_trumpets_90 (by decide) (Decidable.not_not.mp c27)) ?_
            refine sp_m (aw_iload_n (pc := 93) dX7_trumpets_93 rfl (lv_at hl 2 rfl)) ?_
            refine sp_m (aw_aload_n (pc := 94) dX7_trumpets_94 rfl (lv_at hl 0 rfl)) ?_
            refine sp_b fun x28 ex28 => ?_
            refine sp_m (aw_get (k := 3) okX7 s11 (by decide) q1505 (Or.inl rfl) (congrArg va_rf ex28) (pc := 95) dX7_trumpets_95) ?_
            refine sp_g fun s29 => ?_
            refine sp_m (aw_getN (k := 6) okX20 s29 (by decide) nq1648 rfl rfl (pc := 98) dX7_trumpets_98) ?_
            refine sp_if (fun c30 => ?_) (fun c30 => ?_)
            · refine sp_m (aw_icmp_eq_t (tgt := 107) (pc := 101) dX7_trumpets_101 (by decide) c30) ?_
              refine sp_m (aw_aload_n (pc := 107) dX7_trumpets_107 rfl (lv_at hl 0 rfl)) ?_
              refine sp_m (aw_dup (pc := 108) dX7_trumpets_108 rfl) ?_
              refine sp_m (aw_get (k := 31) okX7 s11 (by decide) q1533 (Or.inl rfl) rfl (pc := 109) dX7_trumpets_109) ?_
              refine sp_m (aw_iconst (v := 1) (pc := 112) dX7_trumpets_112 rfl) ?_
              refine sp_m (aw_iadd (pc := 113) dX7_trumpets_113) ?_
              refine sp_t fun h31 eh310 => ?_
              have eh31 : gS h31 = gS s10v.2 := by rw [eh310]; rfl
              refine sp_m (aw_put (k := 31) okX7 opX7 s11 (by decide) q1533 (Or.inl rfl) (Or.inl rfl) (hasV_I' eh310) rfl rfl (pc := 114) dX7_trumpets_114) ?_
              refine sp_m (aw_iconst (v := 0) (pc := 117) dX7_trumpets_117 rfl) ?_
              refine sp_m (aw_istore_n (lv' := [(3, .int 0), (0, .ref a0), (1, .int s10v.1), (2, .int r15v)]) (pc := 118) dX7_trumpets_118 rfl hl (by decide) rfl) (sp_all fun ls hl => ?_)
              let P32 : Int32 × AH → Prop := aLP (KX7_trumpets l D h0 hE) 4 119 (fun s32v : Int32 × AH => [(0, .ref a0), (1, .int s10v.1), (3, .int s32v.1)]) (fun s32v => s32v.2)
              let E32 : AH → Prop := aLP (KX7_trumpets l D h0 hE) 4 158 (fun r32v : AH => [(0, .ref a0), (1, .int s10v.1)]) (fun r32v => r32v)
              refine sp_bl (P := P32) (E := E32) (fun s32v => sp_all fun ls hl => ?_) (fun k => k ls (lv_sub hl [1, 2, 0] rfl)) (fun r32v => sp_all fun ls hl => ?_)
              · have hl : lv_has ls 4 [(0, .ref a0), (1, .int s10v.1), (3, .int s32v.1)] := hl
                show SP _ _ (AW (KX7_trumpets l D h0 hE) s32v.2 119 ls [])
                unfold X7_trumpets_L119
                refine sp_m (aw_iload_n (pc := 119) dX7_trumpets_119 rfl (lv_at hl 2 rfl)) ?_
                refine sp_m (aw_aload_n (pc := 120) dX7_trumpets_120 rfl (lv_at hl 0 rfl)) ?_
                refine sp_g fun s33 => ?_
                refine sp_b fun x34 ex34 => ?_
                refine sp_m (aw_get (k := 3) okX7 s33 (by decide) q1505 (Or.inl rfl) (congrArg va_rf ex34) (pc := 121) dX7_trumpets_121) ?_
                refine sp_g fun s35 => ?_
                refine sp_m (aw_getN (k := 3) okX20 s35 (by decide) nq1645 rfl rfl (pc := 124) dX7_trumpets_124) ?_
                refine sp_if (fun c36 => ?_) (fun c36 => ?_)
                · refine sp_m (aw_icmp_ge_t (tgt := 158) (pc := 127) dX7_trumpets_127 (by decide) c36) ?_
                  exact sp_r fun hz => hz ls (lv_sub hl [0, 1] rfl)
                · refine sp_m (aw_icmp_ge_f (tgt := 158) (pc := 127) dX7_trumpets_127 (by decide) c36) ?_
                  refine sp_m (aw_aload_n (pc := 130) dX7_trumpets_130 rfl (lv_at hl 0 rfl)) ?_
                  refine sp_b fun x37 ex37 => ?_
                  refine sp_m (aw_get (k := 30) okX7 s33 (by decide) q1532 (Or.inl rfl) (congrArg va_rf ex37) (pc := 131) dX7_trumpets_131) ?_
                  refine sp_m (aw_iload_n (pc := 134) dX7_trumpets_134 rfl (lv_at hl 2 rfl)) ?_
                  refine sp_m (aw_dup2 (pc := 135) dX7_trumpets_135 rfl rfl) ?_
                  refine sp_g fun s38 => ?_
                  refine sp_g fun i39 => ?_
                  refine sp_m (aw_iald s38 i39 (pc := 136) dX7_trumpets_136) ?_
                  refine sp_m (aw_iload_n (pc := 137) dX7_trumpets_137 rfl (lv_at hl 1 rfl)) ?_
                  refine sp_m (aw_iload_n (pc := 138) dX7_trumpets_138 rfl (lv_at hl 2 rfl)) ?_
                  refine sp_b fun p40 ep40 => ?_
                  refine sp_m (G' := AW (KX7_trumpets l D h0 hE) s32v.2 (142) ls (.int p40 :: .int (gI s32v.2 x37 (ix s32v.1)) :: .int s32v.1 :: .ref x37 :: [])) (fun kk => aw_callS (As := [.int s10v.1, .int s32v.1]) (metX7_bit _ _ ep40) mok_X7_bit q1806 q1807 q125 q1808 (Nat.le_of_ble_eq_true rfl) (Nat.le_of_ble_eq_true rfl) rfl hl.1 rfl (Nat.le_of_ble_eq_true rfl) (pc := 139) dX7_trumpets_139 kk) ?_
                  have hj150_5 : ∀ j41 : Int32, ∀ ls : Array Slot, lv_has ls 4 [(0, .ref a0), (1, .int s10v.1), (3, .int s32v.1)] → SP (X7_trumpets_j150 s32v x37 j41) (ZL P32 E32) (AW (KX7_trumpets l D h0 hE) s32v.2 150 ls (.int j41 :: .int (gI s32v.2 x37 (ix s32v.1)) :: .int s32v.1 :: .ref x37 :: [])) := by
                    intro j41 ls hl
                    unfold X7_trumpets_j150
                    refine sp_m (aw_iadd (pc := 150) dX7_trumpets_150) ?_
                    refine sp_g fun i42 => ?_
                    refine sp_t fun h43 eh430 => ?_
                    have eh43 : gS h43 = gS s32v.2 := by rw [eh430]; rfl
                    refine sp_m (fun kk => aw_iast s38 i42 (pc := 151) dX7_trumpets_151 (AWe eh430 kk)) ?_
                    refine sp_m (aw_iinc (v := s32v.1 + 1) (lv' := [(3, .int (s32v.1 + 1)), (0, .ref a0), (1, .int s10v.1)]) (pc := 152) dX7_trumpets_152 hl (k := 2) rfl rfl (by decide) rfl) (sp_all fun ls hl => ?_)
                    refine sp_m (aw_goto (tgt := 119) (pc := 155) dX7_trumpets_155 (by decide)) ?_
                    exact sp_r fun hz => hz ls (lv_sub hl [1, 2, 0] rfl)
                  refine sp_if (fun c44 => ?_) (fun c44 => ?_)
                  · refine sp_m (aw_if_eq_t (tgt := 149) (pc := 142) dX7_trumpets_142 (by decide) c44) ?_
                    refine sp_m (aw_iconst (v := 0) (pc := 149) dX7_trumpets_149 rfl) ?_
                    exact hj150_5 0 ls (lv_sub hl [0, 1, 2] rfl)
                  · refine sp_m (aw_if_eq_f (tgt := 149) (pc := 142) dX7_trumpets_142 (by decide) c44) ?_
                    refine sp_m (aw_iconst (v := 1) (pc := 145) dX7_trumpets_145 rfl) ?_
                    refine sp_m (aw_goto (tgt := 150) (pc := 146) dX7_trumpets_146 (by decide)) ?_
                    exact hj150_5 1 ls (lv_sub hl [0, 1, 2] rfl)
              · have hl : lv_has ls 4 [(0, .ref a0), (1, .int s10v.1)] := hl
                show SP _ _ (AW (KX7_trumpets l D h0 hE) r32v 158 ls [])
                exact hj158_4 r32v ls (lv_sub hl [0, 1] rfl)
            · refine sp_m (aw_icmp_eq_f (tgt := 107) (pc := 101) dX7_trumpets_101 (by decide) c30) ?_
              refine sp_m (aw_goto (tgt := 158) (pc := 104) dX7_trumpets_104 (by decide)) ?_
              exact hj158_4 s10v.2 ls (lv_sub hl [0, 1] rfl)
    · have hl : lv_has ls 4 [] := hl
      show SP _ _ (AW (KX7_trumpets l D h0 hE) r10v 164 ls [])
      exact sp_r fun hz => aw_vret hz rfl rfl rfl (pc := 164) dX7_trumpets_164
theorem mok_X7_ask : mOK yX7_ask 0 := ⟨⟨by decide +kernel, by decide +kernel⟩, by decide +kernel⟩
abbrev KX7_ask (l : Launch) (D : DD) (h0 hE : AH) (v : Int32) : KT := (l, yX7_ask, cX7_ask, 3, (some .int), RX7, 5, D, h0, hE, .inl (some (.int v)), false, [])
theorem metX7_ask (l : Launch) (D : DD) {a0 : Nat} {h0 : AH} {hE : AH} {v : Int32} (hr : fX7_ask a0 h0 = some (v, hE)) : AMet (KX7_ask l D h0 hE v) [.ref a0] := by
  refine AMet.of (K := (KX7_ask l D h0 hE v)) rfl ⟨_, rfl⟩ rfl rfl rfl (Nat.le_of_ble_eq_true rfl) (fun ls hl => ?_)
  have hl : lv_has ls 3 [(0, .ref a0)] := hl
  suffices hsp : SP (fX7_ask a0 h0) (fun z => z = (v, hE)) (AW (KX7_ask l D h0 hE v) h0 0 ls []) from hsp _ hr rfl
  unfold fX7_ask
  refine sp_m (aw_aload_n (pc := 0) dX7_ask_0 rfl (lv_at hl 0 rfl)) ?_
  refine sp_m (aw_iconst (v := 0) (pc := 1) dX7_ask_1 rfl) ?_
  refine sp_g fun s1 => ?_
  refine sp_t fun h2 eh20 => ?_
  have eh2 : gS h2 = gS h0 := by rw [eh20]; rfl
  refine sp_m (aw_put (k := 0) okX7 opX7 s1 (by decide) q1502 (Or.inl rfl) (Or.inl rfl) (hasV_I' eh20) rfl rfl (pc := 2) dX7_ask_2) ?_
  refine sp_m (aw_aload_n (pc := 5) dX7_ask_5 rfl (lv_at hl 0 rfl)) ?_
  refine sp_o (fun ex3 => ?_) (fun x3 ex3 => ?_)
  · refine sp_m (aw_get (k := 3) okX7 (uS eh2 s1) (by decide) q1505 (Or.inl rfl) (congrArg va_rf ex3) (pc := 6) dX7_ask_6) ?_
    refine sp_m (aw_ifnonnullN (pc := 9) dX7_ask_9) ?_
    refine sp_m (aw_aload_n (pc := 12) dX7_ask_12 rfl (lv_at hl 0 rfl)) ?_
    refine sp_m (aw_iconst (v := 1) (pc := 13) dX7_ask_13 rfl) ?_
    refine sp_b fun p17 ep17 => ?_
    refine sp_m (G' := AW (KX7_ask l D h0 hE v) p17.2 (17) ls (.int p17.1 :: [])) (fun kk => aw_callV (As := [.int 1]) (metX7_refused _ _ ep17) (rcv_o okX7 (uS eh2 s1)) rfl mok_X7_refused q1632 q1634 qs50 q125 q1635 (Nat.le_of_ble_eq_true rfl) (Nat.le_of_ble_eq_true rfl) rfl hl.1 rfl (Nat.le_of_ble_eq_true rfl) (pc := 14) dX7_ask_14 kk) ?_
    exact sp_r fun hz => aw_iret hz rfl rfl rfl (pc := 17) dX7_ask_17
  · refine sp_m (aw_get (k := 3) okX7 (uS eh2 s1) (by decide) q1505 (Or.inl rfl) (congrArg va_rf ex3) (pc := 6) dX7_ask_6) ?_
    refine sp_m (aw_ifnonnull (tgt := 18) (pc := 9) dX7_ask_9 (by decide)) ?_
    refine sp_m (aw_aload_n (pc := 18) dX7_ask_18 rfl (lv_at hl 0 rfl)) ?_
    refine sp_b fun p4 ep4 => ?_
    refine sp_m (G' := AW (KX7_ask l D h0 hE v) p4 (22) ls ([])) (fun kk => aw_callV (As := []) (metX7_trumpets _ _ ep4) (rcv_o okX7 (uS eh2 s1)) rfl mok_X7_trumpets q2119 q2121 qs104 q125 q2122 (Nat.le_of_ble_eq_true rfl) (Nat.le_of_ble_eq_true rfl) rfl hl.1 rfl (Nat.le_of_ble_eq_true rfl) (pc := 19) dX7_ask_19 kk) ?_
    refine sp_m (aw_aload_n (pc := 22) dX7_ask_22 rfl (lv_at hl 0 rfl)) ?_
    refine sp_g fun s5 => ?_
    refine sp_m (aw_get (k := 31) okX7 s5 (by decide) q1533 (Or.inl rfl) rfl (pc := 23) dX7_ask_23) ?_
    refine sp_if (fun c6 => ?_) (fun c6 => ?_)
    · refine sp_m (aw_if_ne_t (tgt := 36) (pc := 26) dX7_ask_26 (by decide) c6) ?_
      refine sp_m (aw_iconst (v := 0) (pc := 36) dX7_ask_36 rfl) ?_
      refine sp_m (aw_istore_n (lv' := [(1, .int 0), (0, .ref a0)]) (pc := 37) dX7_ask_37 rfl hl (by decide) rfl) (sp_all fun ls hl => ?_)
      refine sp_m (aw_iconst (v := 1) (pc := 38) dX7_ask_38 rfl) ?_
      refine sp_m (aw_istore_n (lv' := [(2, .int 1), (1, .int 0), (0, .ref a0)]) (pc := 39) dX7_ask_39 rfl hl (by decide) rfl) (sp_all fun ls hl => ?_)
      let P7 : Int32 × Int32 → Prop := aLP (KX7_ask l D h0 hE v) 3 40 (fun s7v : Int32 × Int32 => [(0, .ref a0), (1, .int s7v.1), (2, .int s7v.2)]) (fun s7v => p4)
      let E7 : Int32 → Prop := aLP (KX7_ask l D h0 hE v) 3 72 (fun r7v : Int32 => [(0, .ref a0), (1, .int r7v)]) (fun r7v => p4)
      refine sp_bl (P := P7) (E := E7) (fun s7v => sp_all fun ls hl => ?_) (fun k => k ls (lv_sub hl [2, 1, 0] rfl)) (fun r7v => sp_all fun ls hl => ?_)
      · have hl : lv_has ls 3 [(0, .ref a0), (1, .int s7v.1), (2, .int s7v.2)] := hl
        show SP _ _ (AW (KX7_ask l D h0 hE v) p4 40 ls [])
        unfold X7_ask_L40
        refine sp_m (aw_iload_n (pc := 40) dX7_ask_40 rfl (lv_at hl 2 rfl)) ?_
        refine sp_m (aw_aload_n (pc := 41) dX7_ask_41 rfl (lv_at hl 0 rfl)) ?_
        refine sp_b fun x8 ex8 => ?_
        refine sp_m (aw_get (k := 3) okX7 s5 (by decide) q1505 (Or.inl rfl) (congrArg va_rf ex8) (pc := 42) dX7_ask_42) ?_
        refine sp_g fun s9 => ?_
        refine sp_m (aw_getN (k := 3) okX20 s9 (by decide) nq1645 rfl rfl (pc := 45) dX7_ask_45) ?_
        refine sp_if (fun c10 => ?_) (fun c10 => ?_)
        · refine sp_m (aw_icmp_ge_t (tgt := 72) (pc := 48) dX7_ask_48 (by decide) c10) ?_
          exact sp_r fun hz => hz ls (lv_sub hl [0, 1] rfl)
        · refine sp_m (aw_icmp_ge_f (tgt := 72) (pc := 48) dX7_ask_48 (by decide) c10) ?_
          refine sp_m (aw_aload_n (pc := 51) dX7_ask_51 rfl (lv_at hl 0 rfl)) ?_
          refine sp_m (aw_iload_n (pc := 52) dX7_ask_52 rfl (lv_at hl 2 rfl)) ?_
          refine sp_b fun p11 ep11 => ?_
          refine sp_m (G' := AW (KX7_ask l D h0 hE v) p4 (56) ls (.int p11 :: [])) (fun kk => aw_callV (As := [.int s7v.2]) (metX7_leaves _ _ ep11) (rcv_o okX7 s5) rfl mok_X7_leaves q2139 q2141 qs106 q125 q2142 (Nat.le_of_ble_eq_true rfl) (Nat.le_of_ble_eq_true rfl) rfl hl.1 rfl (Nat.le_of_ble_eq_true rfl) (pc := 53) dX7_ask_53 kk) ?_
          refine sp_m (aw_aload_n (pc := 56) dX7_ask_56 rfl (lv_at hl 0 rfl)) ?_
          refine sp_m (aw_iload_n (pc := 57) dX7_ask_57 rfl (lv_at hl 1 rfl)) ?_
          refine sp_b fun p12 ep12 => ?_
          refine sp_m (G' := AW (KX7_ask l D h0 hE v) p4 (61) ls (.int p12 :: .int p11 :: [])) (fun kk => aw_callV (As := [.int s7v.1]) (metX7_leaves _ _ ep12) (rcv_o okX7 s5) rfl mok_X7_leaves q2139 q2141 qs106 q125 q2142 (Nat.le_of_ble_eq_true rfl) (Nat.le_of_ble_eq_true rfl) rfl hl.1 rfl (Nat.le_of_ble_eq_true rfl) (pc := 58) dX7_ask_58 kk) ?_
          have hj66_1 : ∀ j13 : Int32, ∀ ls : Array Slot, lv_has ls 3 [(0, .ref a0), (1, .int j13), (2, .int s7v.2)] → SP (X7_ask_j66 s7v j13) (ZL P7 E7) (AW (KX7_ask l D h0 hE v) p4 66 ls ([])) := by
            intro j13 ls hl
            unfold X7_ask_j66
            refine sp_m (aw_iinc (v := s7v.2 + 1) (lv' := [(2, .int (s7v.2 + 1)), (0, .ref a0), (1, .int j13)]) (pc := 66) dX7_ask_66 hl (k := 2) rfl rfl (by decide) rfl) (sp_all fun ls hl => ?_)
            refine sp_m (aw_goto (tgt := 40) (pc := 69) dX7_ask_69 (by decide)) ?_
            exact sp_r fun hz => hz ls (lv_sub hl [1, 2, 0] rfl)
          refine sp_if (fun c14 => ?_) (fun c14 => ?_)
          · refine sp_m (aw_icmp_ge_t (tgt := 66) (pc := 61) dX7_ask_61 (by decide) c14) ?_
            exact hj66_1 s7v.1 ls (lv_sub hl [0, 1, 2] rfl)
          · refine sp_m (aw_icmp_ge_f (tgt := 66) (pc := 61) dX7_ask_61 (by decide) c14) ?_
            refine sp_m (aw_iload_n (pc := 64) dX7_ask_64 rfl (lv_at hl 2 rfl)) ?_
            refine sp_m (aw_istore_n (lv' := [(1, .int s7v.2), (0, .ref a0), (2, .int s7v.2)]) (pc := 65) dX7_ask_65 rfl hl (by decide) rfl) (sp_all fun ls hl => ?_)
            exact hj66_1 s7v.2 ls (lv_sub hl [1, 0, 2] rfl)
      · have hl : lv_has ls 3 [(0, .ref a0), (1, .int r7v)] := hl
        show SP _ _ (AW (KX7_ask l D h0 hE v) p4 72 ls [])
        refine sp_m (aw_aload_n (pc := 72) dX7_ask_72 rfl (lv_at hl 0 rfl)) ?_
        refine sp_m (aw_iload_n (pc := 73) dX7_ask_73 rfl (lv_at hl 1 rfl)) ?_
        refine sp_b fun p15 ep15 => ?_
        refine sp_m (G' := AW (KX7_ask l D h0 hE v) p15.2 (77) ls (.int p15.1 :: [])) (fun kk => aw_callV (As := [.int r7v]) (metX7_good _ _ ep15) (rcv_o okX7 s5) rfl mok_X7_good q1865 q1867 qs73 q125 q1868 (Nat.le_of_ble_eq_true rfl) (Nat.le_of_ble_eq_true rfl) rfl hl.1 rfl (Nat.le_of_ble_eq_true rfl) (pc := 74) dX7_ask_74 kk) ?_
        exact sp_r fun hz => aw_iret hz rfl rfl rfl (pc := 77) dX7_ask_77
    · refine sp_m (aw_if_ne_f (tgt := 36) (pc := 26) dX7_ask_26 (by decide) (Decidable.not_not.mp c6)) ?_
      refine sp_m (aw_aload_n (pc := 29) dX7_ask_29 rfl (lv_at hl 0 rfl)) ?_
      refine sp_m (aw_bipush (v := (-2)) (pc := 30) dX7_ask_30 rfl) ?_
      refine sp_b fun p16 ep16 => ?_
      refine sp_m (G' := AW (KX7_ask l D h0 hE v) p16.2 (35) ls (.int p16.1 :: [])) (fun kk => aw_callV (As := [.int (-2)]) (metX7_good _ _ ep16) (rcv_o okX7 s5) rfl mok_X7_good q1865 q1867 qs73 q125 q1868 (Nat.le_of_ble_eq_true rfl) (Nat.le_of_ble_eq_true rfl) rfl hl.1 rfl (Nat.le_of_ble_eq_true rfl) (pc := 32) dX7_ask_32 kk) ?_
      exact sp_r fun hz => aw_iret hz rfl rfl rfl (pc := 35) dX7_ask_35
theorem mok_X7_denied : mOK yX7_denied 1 := ⟨⟨by decide +kernel, by decide +kernel⟩, by decide +kernel⟩
abbrev KX7_denied (l : Launch) (D : DD) (h0 hE : AH) (v : Int32) : KT := (l, yX7_denied, cX7_denied, 2, (some .boolean), RX7, 2, D, h0, hE, .inl (some (.int v)), false, [])
theorem metX7_denied (l : Launch) (D : DD) {a0 : Nat} {a1 : Int32} {h0 : AH} {hE : AH} {v : Int32} (hr : fX7_denied a0 a1 h0 = some (v, hE)) : AMet (KX7_denied l D h0 hE v) [.ref a0, .int a1] := by
  refine AMet.of (K := (KX7_denied l D h0 hE v)) rfl ⟨_, rfl⟩ rfl rfl rfl (Nat.le_of_ble_eq_true rfl) (fun ls hl => ?_)
  have hl : lv_has ls 2 [(0, .ref a0), (1, .int a1)] := hl
  suffices hsp : SP (fX7_denied a0 a1 h0) (fun z => z = (v, hE)) (AW (KX7_denied l D h0 hE v) h0 0 ls []) from hsp _ hr rfl
  unfold fX7_denied
  refine sp_m (aw_aload_n (pc := 0) dX7_denied_0 rfl (lv_at hl 0 rfl)) ?_
  refine sp_m (aw_iload_n (pc := 1) dX7_denied_1 rfl (lv_at hl 1 rfl)) ?_
  refine sp_g fun s2 => ?_
  refine sp_b fun p1 ep1 => ?_
  refine sp_m (G' := AW (KX7_denied l D h0 hE v) p1.2 (5) ls (.int p1.1 :: [])) (fun kk => aw_callV (As := [.int a1]) (metX7_refused _ _ ep1) (rcv_o okX7 s2) rfl mok_X7_refused q1632 q1634 qs50 q125 q1635 (Nat.le_of_ble_eq_true rfl) (Nat.le_of_ble_eq_true rfl) rfl hl.1 rfl (Nat.le_of_ble_eq_true rfl) (pc := 2) dX7_denied_2 kk) ?_
  refine sp_m (aw_pop (pc := 5) dX7_denied_5 rfl) ?_
  refine sp_m (aw_iconst (v := 0) (pc := 6) dX7_denied_6 rfl) ?_
  exact sp_r fun hz => aw_zret (nar_b (Or.inl rfl)) hz rfl rfl rfl (pc := 7) dX7_denied_7
theorem mok_X7_granted : mOK yX7_granted 0 := ⟨⟨by decide +kernel, by decide +kernel⟩, by decide +kernel⟩
abbrev KX7_granted (l : Launch) (D : DD) (h0 hE : AH) (v : Int32) : KT := (l, yX7_granted, cX7_granted, 1, (some .boolean), RX7, 2, D, h0, hE, .inl (some (.int v)), false, [])
theorem metX7_granted (l : Launch) (D : DD) {a0 : Nat} {h0 : AH} {hE : AH} {v : Int32} (hr : fX7_granted a0 h0 = some (v, hE)) : AMet (KX7_granted l D h0 hE v) [.ref a0] := by
  refine AMet.of (K := (KX7_granted l D h0 hE v)) rfl ⟨_, rfl⟩ rfl rfl rfl (Nat.le_of_ble_eq_true rfl) (fun ls hl => ?_)
  have hl : lv_has ls 1 [(0, .ref a0)] := hl
  suffices hsp : SP (fX7_granted a0 h0) (fun z => z = (v, hE)) (AW (KX7_granted l D h0 hE v) h0 0 ls []) from hsp _ hr rfl
  unfold fX7_granted
  refine sp_m (aw_aload_n (pc := 0) dX7_granted_0 rfl (lv_at hl 0 rfl)) ?_
  refine sp_m (aw_iconst (v := 0) (pc := 1) dX7_granted_1 rfl) ?_
  refine sp_g fun s2 => ?_
  refine sp_b fun p1 ep1 => ?_
  refine sp_m (G' := AW (KX7_granted l D h0 hE v) p1.2 (5) ls (.int p1.1 :: [])) (fun kk => aw_callV (As := [.int 0]) (metX7_good _ _ ep1) (rcv_o okX7 s2) rfl mok_X7_good q1865 q1867 qs73 q125 q1868 (Nat.le_of_ble_eq_true rfl) (Nat.le_of_ble_eq_true rfl) rfl hl.1 rfl (Nat.le_of_ble_eq_true rfl) (pc := 2) dX7_granted_2 kk) ?_
  refine sp_m (aw_pop (pc := 5) dX7_granted_5 rfl) ?_
  refine sp_m (aw_iconst (v := 1) (pc := 6) dX7_granted_6 rfl) ?_
  exact sp_r fun hz => aw_zret (nar_b (Or.inr rfl)) hz rfl rfl rfl (pc := 7) dX7_granted_7
theorem mok_X7_back : mOK yX7_back 1 := ⟨⟨by decide +kernel, by decide +kernel⟩, by decide +kernel⟩
abbrev KX7_back (l : Launch) (D : DD) (h0 hE : AH) (v : Int32) : KT := (l, yX7_back, cX7_back, 3, (some .boolean), RX7, 3, D, h0, hE, .inl (some (.int v)), false, [])
theorem metX7_back (l : Launch) (D : DD) {a0 : Nat} {a1 : Int32} {h0 : AH} {hE : AH} {v : Int32} (hr : fX7_back a0 a1 h0 = some (v, hE)) : AMet (KX7_back l D h0 hE v) [.ref a0, .int a1] := by
  refine AMet.of (K := (KX7_back l D h0 hE v)) rfl ⟨_, rfl⟩ rfl rfl rfl (Nat.le_of_ble_eq_true rfl) (fun ls hl => ?_)
  have hl : lv_has ls 3 [(0, .ref a0), (1, .int a1)] := hl
  suffices hsp : SP (fX7_back a0 a1 h0) (fun z => z = (v, hE)) (AW (KX7_back l D h0 hE v) h0 0 ls []) from hsp _ hr rfl
  unfold fX7_back
  refine sp_m (aw_aload_n (pc := 0) dX7_back_0 rfl (lv_at hl 0 rfl)) ?_
  refine sp_m (aw_iconst (v := 0) (pc := 1) dX7_back_1 rfl) ?_
  refine sp_g fun s1 => ?_
  refine sp_t fun h2 eh20 => ?_
  have eh2 : gS h2 = gS h0 := by rw [eh20]; rfl
  refine sp_m (aw_put (k := 0) okX7 opX7 s1 (by decide) q1502 (Or.inl rfl) (Or.inl rfl) (hasV_I' eh20) rfl rfl (pc := 2) dX7_back_2) ?_
  refine sp_m (aw_aload_n (pc := 5) dX7_back_5 rfl (lv_at hl 0 rfl)) ?_
  refine sp_o (fun ex3 => ?_) (fun x3 ex3 => ?_)
  · refine sp_m (aw_get (k := 3) okX7 (uS eh2 s1) (by decide) q1505 (Or.inl rfl) (congrArg va_rf ex3) (pc := 6) dX7_back_6) ?_
    refine sp_m (aw_ifnullN (tgt := 24) (pc := 9) dX7_back_9 (by decide)) ?_
    refine sp_m (aw_aload_n (pc := 24) dX7_back_24 rfl (lv_at hl 0 rfl)) ?_
    refine sp_m (aw_iconst (v := 1) (pc := 25) dX7_back_25 rfl) ?_
    refine sp_b fun p24 ep24 => ?_
    refine sp_m (G' := AW (KX7_back l D h0 hE v) p24.2 (29) ls (.int p24.1 :: [])) (fun kk => aw_callV (As := [.int 1]) (metX7_denied _ _ ep24) (rcv_o okX7 (uS eh2 s1)) rfl mok_X7_denied q2187 q2189 qs112 q125 q2190 (Nat.le_of_ble_eq_true rfl) (Nat.le_of_ble_eq_true rfl) rfl hl.1 rfl (Nat.le_of_ble_eq_true rfl) (pc := 26) dX7_back_26 kk) ?_
    refine sp_g fun g25 => ?_
    exact sp_r fun hz => aw_zret (nar_b g25) hz rfl rfl rfl (pc := 29) dX7_back_29
  · refine sp_m (aw_get (k := 3) okX7 (uS eh2 s1) (by decide) q1505 (Or.inl rfl) (congrArg va_rf ex3) (pc := 6) dX7_back_6) ?_
    refine sp_m (aw_ifnull (pc := 9) dX7_back_9) ?_
    refine sp_m (aw_iload_n (pc := 12) dX7_back_12 rfl (lv_at hl 1 rfl)) ?_
    refine sp_if (fun c4 => ?_) (fun c4 => ?_)
    · refine sp_m (aw_if_lt_t (tgt := 24) (pc := 13) dX7_back_13 (by decide) c4) ?_
      refine sp_m (aw_aload_n (pc := 24) dX7_back_24 rfl (lv_at hl 0 rfl)) ?_
      refine sp_m (aw_iconst (v := 1) (pc := 25) dX7_back_25 rfl) ?_
      refine sp_b fun p5 ep5 => ?_
      refine sp_m (G' := AW (KX7_back l D h0 hE v) p5.2 (29) ls (.int p5.1 :: [])) (fun kk => aw_callV (As := [.int 1]) (metX7_denied _ _ ep5) (rcv_o okX7 (uS eh2 s1)) rfl mok_X7_denied q2187 q2189 qs112 q125 q2190 (Nat.le_of_ble_eq_true rfl) (Nat.le_of_ble_eq_true rfl) rfl hl.1 rfl (Nat.le_of_ble_eq_true rfl) (pc := 26) dX7_back_26 kk) ?_
      refine sp_g fun g6 => ?_
      exact sp_r fun hz => aw_zret (nar_b g6) hz rfl rfl rfl (pc := 29) dX7_back_29
    · refine sp_m (aw_if_lt_f (tgt := 24) (pc := 13) dX7_back_13 (by decide) c4) ?_
      refine sp_m (aw_iload_n (pc := 16) dX7_back_16 rfl (lv_at hl 1 rfl)) ?_
      refine sp_m (aw_aload_n (pc := 17) dX7_back_17 rfl (lv_at hl 0 rfl)) ?_
      refine sp_m (aw_get (k := 21) okX7 (uS eh2 s1) (by decide) q1523 (Or.inl rfl) rfl (pc := 18) dX7_back_18) ?_
      refine sp_if (fun c7 => ?_) (fun c7 => ?_)
      · refine sp_m (aw_icmp_lt_t (tgt := 30) (pc := 21) dX7_back_21 (by decide) c7) ?_
        refine sp_m (aw_iconst (v := 0) (pc := 30) dX7_back_30 rfl) ?_
        refine sp_m (aw_istore_n (lv' := [(2, .int 0), (0, .ref a0), (1, .int a1)]) (pc := 31) dX7_back_31 rfl hl (by decide) rfl) (sp_all fun ls hl => ?_)
        let P8 : Int32 × AH → Prop := aLP (KX7_back l D h0 hE v) 3 32 (fun s8v : Int32 × AH => [(0, .ref a0), (1, .int a1), (2, .int s8v.1)]) (fun s8v => s8v.2)
        let E8 : AH → Prop := aLP (KX7_back l D h0 hE v) 3 61 (fun r8v : AH => [(0, .ref a0)]) (fun r8v => r8v)
        refine sp_bl (P := P8) (E := E8) (fun s8v => sp_all fun ls hl => ?_) (fun k => k ls (lv_sub hl [1, 2, 0] rfl)) (fun r8v => sp_all fun ls hl => ?_)
        · have hl : lv_has ls 3 [(0, .ref a0), (1, .int a1), (2, .int s8v.1)] := hl
          show SP _ _ (AW (KX7_back l D h0 hE v) s8v.2 32 ls [])
          unfold X7_back_L32
          refine sp_m (aw_iload_n (pc := 32) dX7_back_32 rfl (lv_at hl 2 rfl)) ?_
          refine sp_m (aw_bipush (v := 19) (pc := 33) dX7_back_33 rfl) ?_
          refine sp_if (fun c9 => ?_) (fun c9 => ?_)
          · refine sp_m (aw_icmp_ge_t (tgt := 61) (pc := 35) dX7_back_35 (by decide) c9) ?_
            exact sp_r fun hz => hz ls (lv_sub hl [0] rfl)
          · refine sp_m (aw_icmp_ge_f (tgt := 61) (pc := 35) dX7_back_35 (by decide) c9) ?_
            refine sp_m (aw_aload_n (pc := 38) dX7_back_38 rfl (lv_at hl 0 rfl)) ?_
            refine sp_g fun s10 => ?_
            refine sp_b fun x11 ex11 => ?_
            refine sp_m (aw_get (k := 16) okX7 s10 (by decide) q1518 (Or.inl rfl) (congrArg va_rf ex11) (pc := 39) dX7_back_39) ?_
            refine sp_m (aw_iload_n (pc := 42) dX7_back_42 rfl (lv_at hl 2 rfl)) ?_
            refine sp_m (aw_aload_n (pc := 43) dX7_back_43 rfl (lv_at hl 0 rfl)) ?_
            refine sp_b fun x12 ex12 => ?_
            refine sp_m (aw_get (k := 19) okX7 s10 (by decide) q1521 (Or.inl rfl) (congrArg va_rf ex12) (pc := 44) dX7_back_44) ?_
            refine sp_m (aw_bipush (v := 19) (pc := 47) dX7_back_47 rfl) ?_
            refine sp_m (aw_iload_n (pc := 49) dX7_back_49 rfl (lv_at hl 1 rfl)) ?_
            refine sp_m (aw_imul (pc := 50) dX7_back_50) ?_
            refine sp_m (aw_iload_n (pc := 51) dX7_back_51 rfl (lv_at hl 2 rfl)) ?_
            refine sp_m (aw_iadd (pc := 52) dX7_back_52) ?_
            refine sp_g fun s13 => ?_
            refine sp_g fun i14 => ?_
            refine sp_m (aw_iald s13 i14 (pc := 53) dX7_back_53) ?_
            refine sp_g fun s15 => ?_
            refine sp_g fun i16 => ?_
            refine sp_t fun h17 eh170 => ?_
            have eh17 : gS h17 = gS s8v.2 := by rw [eh170]; rfl
            refine sp_m (fun kk => aw_iast s15 i16 (pc := 54) dX7_back_54 (AWe eh170 kk)) ?_
            refine sp_m (aw_iinc (v := s8v.1 + 1) (lv' := [(2, .int (s8v.1 + 1)), (0, .ref a0), (1, .int a1)]) (pc := 55) dX7_back_55 hl (k := 2) rfl rfl (by decide) rfl) (sp_all fun ls hl => ?_)
            refine sp_m (aw_goto (tgt := 32) (pc := 58) dX7_back_58 (by decide)) ?_
            exact sp_r fun hz => hz ls (lv_sub hl [1, 2, 0] rfl)
        · have hl : lv_has ls 3 [(0, .ref a0)] := hl
          show SP _ _ (AW (KX7_back l D h0 hE v) r8v 61 ls [])
          refine sp_m (aw_aload_n (pc := 61) dX7_back_61 rfl (lv_at hl 0 rfl)) ?_
          refine sp_m (aw_iconst (v := 0) (pc := 62) dX7_back_62 rfl) ?_
          refine sp_g fun s18 => ?_
          refine sp_t fun h19 eh190 => ?_
          have eh19 : gS h19 = gS r8v := by rw [eh190]; rfl
          refine sp_m (aw_put (k := 20) okX7 opX7 s18 (by decide) q1522 (Or.inl rfl) (Or.inl rfl) (hasV_I' eh190) rfl rfl (pc := 63) dX7_back_63) ?_
          refine sp_m (aw_aload_n (pc := 66) dX7_back_66 rfl (lv_at hl 0 rfl)) ?_
          refine sp_b fun p20 ep20 => ?_
          refine sp_m (G' := AW (KX7_back l D h0 hE v) p20.2 (70) ls (.int p20.1 :: [])) (fun kk => aw_callV (As := []) (metX7_granted _ _ ep20) (rcv_o okX7 (uS eh19 s18)) rfl mok_X7_granted q2195 q2197 qs114 q125 q2198 (Nat.le_of_ble_eq_true rfl) (Nat.le_of_ble_eq_true rfl) rfl hl.1 rfl (Nat.le_of_ble_eq_true rfl) (pc := 67) dX7_back_67 kk) ?_
          refine sp_g fun g21 => ?_
          exact sp_r fun hz => aw_zret (nar_b g21) hz rfl rfl rfl (pc := 70) dX7_back_70
      · refine sp_m (aw_icmp_lt_f (tgt := 30) (pc := 21) dX7_back_21 (by decide) c7) ?_
        refine sp_m (aw_aload_n (pc := 24) dX7_back_24 rfl (lv_at hl 0 rfl)) ?_
        refine sp_m (aw_iconst (v := 1) (pc := 25) dX7_back_25 rfl) ?_
        refine sp_b fun p22 ep22 => ?_
        refine sp_m (G' := AW (KX7_back l D h0 hE v) p22.2 (29) ls (.int p22.1 :: [])) (fun kk => aw_callV (As := [.int 1]) (metX7_denied _ _ ep22) (rcv_o okX7 (uS eh2 s1)) rfl mok_X7_denied q2187 q2189 qs112 q125 q2190 (Nat.le_of_ble_eq_true rfl) (Nat.le_of_ble_eq_true rfl) rfl hl.1 rfl (Nat.le_of_ble_eq_true rfl) (pc := 26) dX7_back_26 kk) ?_
        refine sp_g fun g23 => ?_
        exact sp_r fun hz => aw_zret (nar_b g23) hz rfl rfl rfl (pc := 29) dX7_back_29
theorem mok_X7_remembers : mOK yX7_remembers 0 := ⟨⟨by decide +kernel, by decide +kernel⟩, by decide +kernel⟩
abbrev KX7_remembers (l : Launch) (D : DD) (h0 hE : AH) : KT := (l, yX7_remembers, cX7_remembers, 2, none, RX7, 1, D, h0, hE, .inl (none), false, [])
theorem metX7_remembers (l : Launch) (D : DD) {a0 : Nat} {h0 : AH} {hE : AH} (hr : fX7_remembers a0 h0 = some hE) : AMet (KX7_remembers l D h0 hE) [.ref a0] := by
  refine AMet.of (K := (KX7_remembers l D h0 hE)) rfl ⟨_, rfl⟩ rfl rfl rfl (Nat.le_of_ble_eq_true rfl) (fun ls hl => ?_)
  have hl : lv_has ls 2 [(0, .ref a0)] := hl
  suffices hsp : SP (fX7_remembers a0 h0) (fun z => z = hE) (AW (KX7_remembers l D h0 hE) h0 0 ls []) from hsp _ hr rfl
  unfold fX7_remembers
  refine sp_m (aw_aload_n (pc := 0) dX7_remembers_0 rfl (lv_at hl 0 rfl)) ?_
  refine sp_g fun s1 => ?_
  refine sp_m (aw_get (k := 20) okX7 s1 (by decide) q1522 (Or.inl rfl) rfl (pc := 1) dX7_remembers_1) ?_
  refine sp_m (aw_bipush (v := 16) (pc := 4) dX7_remembers_4 rfl) ?_
  have hj49_1 : ∀ h2 : AH, ∀ ls : Array Slot, lv_has ls 2 [(0, .ref a0)] → SP (X7_remembers_j49 a0 h2) (fun z => z = hE) (AW (KX7_remembers l D h0 hE) h2 49 ls ([])) := by
    intro h2 ls hl
    unfold X7_remembers_j49
    refine sp_m (aw_iconst (v := 0) (pc := 49) dX7_remembers_49 rfl) ?_
    refine sp_m (aw_istore_n (lv' := [(1, .int 0), (0, .ref a0)]) (pc := 50) dX7_remembers_50 rfl hl (by decide) rfl) (sp_all fun ls hl => ?_)
    let P3 : Int32 × AH → Prop := aLP (KX7_remembers l D h0 hE) 2 51 (fun s3v : Int32 × AH => [(0, .ref a0), (1, .int s3v.1)]) (fun s3v => s3v.2)
    let E3 : AH → Prop := aLP (KX7_remembers l D h0 hE) 2 83 (fun r3v : AH => [(0, .ref a0)]) (fun r3v => r3v)
    refine sp_bl (P := P3) (E := E3) (fun s3v => sp_all fun ls hl => ?_) (fun k => k ls (lv_sub hl [1, 0] rfl)) (fun r3v => sp_all fun ls hl => ?_)
    · have hl : lv_has ls 2 [(0, .ref a0), (1, .int s3v.1)] := hl
      show SP _ _ (AW (KX7_remembers l D h0 hE) s3v.2 51 ls [])
      unfold X7_remembers_L51
      refine sp_m (aw_iload_n (pc := 51) dX7_remembers_51 rfl (lv_at hl 1 rfl)) ?_
      refine sp_m (aw_bipush (v := 19) (pc := 52) dX7_remembers_52 rfl) ?_
      refine sp_if (fun c4 => ?_) (fun c4 => ?_)
      · refine sp_m (aw_icmp_ge_t (tgt := 83) (pc := 54) dX7_remembers_54 (by decide) c4) ?_
        exact sp_r fun hz => hz ls (lv_sub hl [0] rfl)
      · refine sp_m (aw_icmp_ge_f (tgt := 83) (pc := 54) dX7_remembers_54 (by decide) c4) ?_
        refine sp_m (aw_aload_n (pc := 57) dX7_remembers_57 rfl (lv_at hl 0 rfl)) ?_
        refine sp_g fun s5 => ?_
        refine sp_b fun x6 ex6 => ?_
        refine sp_m (aw_get (k := 18) okX7 s5 (by decide) q1520 (Or.inl rfl) (congrArg va_rf ex6) (pc := 58) dX7_remembers_58) ?_
        refine sp_m (aw_bipush (v := 19) (pc := 61) dX7_remembers_61 rfl) ?_
        refine sp_m (aw_aload_n (pc := 63) dX7_remembers_63 rfl (lv_at hl 0 rfl)) ?_
        refine sp_m (aw_get (k := 20) okX7 s5 (by decide) q1522 (Or.inl rfl) rfl (pc := 64) dX7_remembers_64) ?_
        refine sp_m (aw_imul (pc := 67) dX7_remembers_67) ?_
        refine sp_m (aw_iload_n (pc := 68) dX7_remembers_68 rfl (lv_at hl 1 rfl)) ?_
        refine sp_m (aw_iadd (pc := 69) dX7_remembers_69) ?_
        refine sp_m (aw_aload_n (pc := 70) dX7_remembers_70 rfl (lv_at hl 0 rfl)) ?_
        refine sp_b fun x7 ex7 => ?_
        refine sp_m (aw_get (k := 16) okX7 s5 (by decide) q1518 (Or.inl rfl) (congrArg va_rf ex7) (pc := 71) dX7_remembers_71) ?_
        refine sp_m (aw_iload_n (pc := 74) dX7_remembers_74 rfl (lv_at hl 1 rfl)) ?_
        refine sp_g fun s8 => ?_
        refine sp_g fun i9 => ?_
        refine sp_m (aw_iald s8 i9 (pc := 75) dX7_remembers_75) ?_
        refine sp_g fun s10 => ?_
        refine sp_g fun i11 => ?_
        refine sp_t fun h12 eh120 => ?_
        have eh12 : gS h12 = gS s3v.2 := by rw [eh120]; rfl
        refine sp_m (fun kk => aw_iast s10 i11 (pc := 76) dX7_remembers_76 (AWe eh120 kk)) ?_
        refine sp_m (aw_iinc (v := s3v.1 + 1) (lv' := [(1, .int (s3v.1 + 1)), (0, .ref a0)]) (pc := 77) dX7_remembers_77 hl (k := 1) rfl rfl (by decide) rfl) (sp_all fun ls hl => ?_)
        refine sp_m (aw_goto (tgt := 51) (pc := 80) dX7_remembers_80 (by decide)) ?_
        exact sp_r fun hz => hz ls (lv_sub hl [1, 0] rfl)
    · have hl : lv_has ls 2 [(0, .ref a0)] := hl
      show SP _ _ (AW (KX7_remembers l D h0 hE) r3v 83 ls [])
      refine sp_m (aw_aload_n (pc := 83) dX7_remembers_83 rfl (lv_at hl 0 rfl)) ?_
      refine sp_m (aw_dup (pc := 84) dX7_remembers_84 rfl) ?_
      refine sp_g fun s13 => ?_
      refine sp_m (aw_get (k := 20) okX7 s13 (by decide) q1522 (Or.inl rfl) rfl (pc := 85) dX7_remembers_85) ?_
      refine sp_m (aw_iconst (v := 1) (pc := 88) dX7_remembers_88 rfl) ?_
      refine sp_m (aw_iadd (pc := 89) dX7_remembers_89) ?_
      refine sp_t fun h14 eh140 => ?_
      have eh14 : gS h14 = gS r3v := by rw [eh140]; rfl
      refine sp_m (aw_put (k := 20) okX7 opX7 s13 (by decide) q1522 (Or.inl rfl) (Or.inl rfl) (hasV_I' eh140) rfl rfl (pc := 90) dX7_remembers_90) ?_
      exact sp_r fun hz => aw_vret hz rfl rfl rfl (pc := 93) dX7_remembers_93
  refine sp_if (fun c15 => ?_) (fun c15 => ?_)
  · refine sp_m (aw_icmp_ne_t (tgt := 49) (pc := 6) dX7_remembers_6 (by decide) c15) ?_
    exact hj49_1 h0 ls (lv_sub hl [0] rfl)
  · refine sp_m (aw_icmp_ne_f (tgt := 49) (pc := 6) dX7_remembers_6 (by decide) (Decidable.not_not.mp c15)) ?_
    refine sp_m (aw_iconst (v := 0) (pc := 9) dX7_remembers_9 rfl) ?_
    refine sp_m (aw_istore_n (lv' := [(1, .int 0), (0, .ref a0)]) (pc := 10) dX7_remembers_10 rfl hl (by decide) rfl) (sp_all fun ls hl => ?_)
    let P16 : Int32 × AH → Prop := aLP (KX7_remembers l D h0 hE) 2 11 (fun s16v : Int32 × AH => [(0, .ref a0), (1, .int s16v.1)]) (fun s16v => s16v.2)
    let E16 : AH → Prop := aLP (KX7_remembers l D h0 hE) 2 39 (fun r16v : AH => [(0, .ref a0)]) (fun r16v => r16v)
    refine sp_bl (P := P16) (E := E16) (fun s16v => sp_all fun ls hl => ?_) (fun k => k ls (lv_sub hl [1, 0] rfl)) (fun r16v => sp_all fun ls hl => ?_)
    · have hl : lv_has ls 2 [(0, .ref a0), (1, .int s16v.1)] := hl
      show SP _ _ (AW (KX7_remembers l D h0 hE) s16v.2 11 ls [])
      unfold X7_remembers_L11
      refine sp_m (aw_iload_n (pc := 11) dX7_remembers_11 rfl (lv_at hl 1 rfl)) ?_
      refine sp_m (aw_sipush (v := 285) (pc := 12) dX7_remembers_12 rfl) ?_
      refine sp_if (fun c17 => ?_) (fun c17 => ?_)
      · refine sp_m (aw_icmp_ge_t (tgt := 39) (pc := 15) dX7_remembers_15 (by decide) c17) ?_
        exact sp_r fun hz => hz ls (lv_sub hl [0] rfl)
      · refine sp_m (aw_icmp_ge_f (tgt := 39) (pc := 15) dX7_remembers_15 (by decide) c17) ?_
        refine sp_m (aw_aload_n (pc := 18) dX7_remembers_18 rfl (lv_at hl 0 rfl)) ?_
        refine sp_g fun s18 => ?_
        refine sp_b fun x19 ex19 => ?_
        refine sp_m (aw_get (k := 18) okX7 s18 (by decide) q1520 (Or.inl rfl) (congrArg va_rf ex19) (pc := 19) dX7_remembers_19) ?_
        refine sp_m (aw_iload_n (pc := 22) dX7_remembers_22 rfl (lv_at hl 1 rfl)) ?_
        refine sp_m (aw_aload_n (pc := 23) dX7_remembers_23 rfl (lv_at hl 0 rfl)) ?_
        refine sp_b fun x20 ex20 => ?_
        refine sp_m (aw_get (k := 18) okX7 s18 (by decide) q1520 (Or.inl rfl) (congrArg va_rf ex20) (pc := 24) dX7_remembers_24) ?_
        refine sp_m (aw_iload_n (pc := 27) dX7_remembers_27 rfl (lv_at hl 1 rfl)) ?_
        refine sp_m (aw_bipush (v := 19) (pc := 28) dX7_remembers_28 rfl) ?_
        refine sp_m (aw_iadd (pc := 30) dX7_remembers_30) ?_
        refine sp_g fun s21 => ?_
        refine sp_g fun i22 => ?_
        refine sp_m (aw_iald s21 i22 (pc := 31) dX7_remembers_31) ?_
        refine sp_g fun s23 => ?_
        refine sp_g fun i24 => ?_
        refine sp_t fun h25 eh250 => ?_
        have eh25 : gS h25 = gS s16v.2 := by rw [eh250]; rfl
        refine sp_m (fun kk => aw_iast s23 i24 (pc := 32) dX7_remembers_32 (AWe eh250 kk)) ?_
        refine sp_m (aw_iinc (v := s16v.1 + 1) (lv' := [(1, .int (s16v.1 + 1)), (0, .ref a0)]) (pc := 33) dX7_remembers_33 hl (k := 1) rfl rfl (by decide) rfl) (sp_all fun ls hl => ?_)
        refine sp_m (aw_goto (tgt := 11) (pc := 36) dX7_remembers_36 (by decide)) ?_
        exact sp_r fun hz => hz ls (lv_sub hl [1, 0] rfl)
    · have hl : lv_has ls 2 [(0, .ref a0)] := hl
      show SP _ _ (AW (KX7_remembers l D h0 hE) r16v 39 ls [])
      refine sp_m (aw_aload_n (pc := 39) dX7_remembers_39 rfl (lv_at hl 0 rfl)) ?_
      refine sp_m (aw_dup (pc := 40) dX7_remembers_40 rfl) ?_
      refine sp_g fun s26 => ?_
      refine sp_m (aw_get (k := 20) okX7 s26 (by decide) q1522 (Or.inl rfl) rfl (pc := 41) dX7_remembers_41) ?_
      refine sp_m (aw_iconst (v := 1) (pc := 44) dX7_remembers_44 rfl) ?_
      refine sp_m (aw_isub (pc := 45) dX7_remembers_45) ?_
      refine sp_t fun h27 eh270 => ?_
      have eh27 : gS h27 = gS r16v := by rw [eh270]; rfl
      refine sp_m (aw_put (k := 20) okX7 opX7 s26 (by decide) q1522 (Or.inl rfl) (Or.inl rfl) (hasV_I' eh270) rfl rfl (pc := 46) dX7_remembers_46) ?_
      exact hj49_1 h27 ls (lv_sub hl [0] rfl)
theorem mok_X7_battle : mOK yX7_battle 0 := ⟨⟨by decide +kernel, by decide +kernel⟩, by decide +kernel⟩
abbrev KX7_battle (l : Launch) (D : DD) (h0 hE : AH) (v : Int32) : KT := (l, yX7_battle, cX7_battle, 1, (some .int), RX7, 6, D, h0, hE, .inl (some (.int v)), false, [])
theorem metX7_battle (l : Launch) (D : DD) {a0 : Nat} {h0 : AH} {hE : AH} {v : Int32} (hr : fX7_battle a0 h0 = some (v, hE)) : AMet (KX7_battle l D h0 hE v) [.ref a0] := by
  refine AMet.of (K := (KX7_battle l D h0 hE v)) rfl ⟨_, rfl⟩ rfl rfl rfl (Nat.le_of_ble_eq_true rfl) (fun ls hl => ?_)
  have hl : lv_has ls 1 [(0, .ref a0)] := hl
  suffices hsp : SP (fX7_battle a0 h0) (fun z => z = (v, hE)) (AW (KX7_battle l D h0 hE v) h0 0 ls []) from hsp _ hr rfl
  unfold fX7_battle
  refine sp_m (aw_aload_n (pc := 0) dX7_battle_0 rfl (lv_at hl 0 rfl)) ?_
  refine sp_m (aw_iconst (v := 0) (pc := 1) dX7_battle_1 rfl) ?_
  refine sp_g fun s1 => ?_
  refine sp_t fun h2 eh20 => ?_
  have eh2 : gS h2 = gS h0 := by rw [eh20]; rfl
  refine sp_m (aw_put (k := 0) okX7 opX7 s1 (by decide) q1502 (Or.inl rfl) (Or.inl rfl) (hasV_I' eh20) rfl rfl (pc := 2) dX7_battle_2) ?_
  refine sp_m (aw_aload_n (pc := 5) dX7_battle_5 rfl (lv_at hl 0 rfl)) ?_
  refine sp_o (fun ex3 => ?_) (fun x3 ex3 => ?_)
  · refine sp_m (aw_get (k := 3) okX7 (uS eh2 s1) (by decide) q1505 (Or.inl rfl) (congrArg va_rf ex3) (pc := 6) dX7_battle_6) ?_
    refine sp_m (aw_ifnonnullN (pc := 9) dX7_battle_9) ?_
    refine sp_m (aw_aload_n (pc := 12) dX7_battle_12 rfl (lv_at hl 0 rfl)) ?_
    refine sp_m (aw_iconst (v := 1) (pc := 13) dX7_battle_13 rfl) ?_
    refine sp_b fun p10 ep10 => ?_
    refine sp_m (G' := AW (KX7_battle l D h0 hE v) p10.2 (17) ls (.int p10.1 :: [])) (fun kk => aw_callV (As := [.int 1]) (metX7_refused _ _ ep10) (rcv_o okX7 (uS eh2 s1)) rfl mok_X7_refused q1632 q1634 qs50 q125 q1635 (Nat.le_of_ble_eq_true rfl) (Nat.le_of_ble_eq_true rfl) rfl hl.1 rfl (Nat.le_of_ble_eq_true rfl) (pc := 14) dX7_battle_14 kk) ?_
    exact sp_r fun hz => aw_iret hz rfl rfl rfl (pc := 17) dX7_battle_17
  · refine sp_m (aw_get (k := 3) okX7 (uS eh2 s1) (by decide) q1505 (Or.inl rfl) (congrArg va_rf ex3) (pc := 6) dX7_battle_6) ?_
    refine sp_m (aw_ifnonnull (tgt := 18) (pc := 9) dX7_battle_9 (by decide)) ?_
    refine sp_m (aw_aload_n (pc := 18) dX7_battle_18 rfl (lv_at hl 0 rfl)) ?_
    refine sp_b fun p4 ep4 => ?_
    refine sp_m (G' := AW (KX7_battle l D h0 hE v) p4 (22) ls ([])) (fun kk => aw_callV (As := []) (metX7_remembers _ _ ep4) (rcv_o okX7 (uS eh2 s1)) rfl mok_X7_remembers q2191 q2193 qs113 q125 q2194 (Nat.le_of_ble_eq_true rfl) (Nat.le_of_ble_eq_true rfl) rfl hl.1 rfl (Nat.le_of_ble_eq_true rfl) (pc := 19) dX7_battle_19 kk) ?_
    refine sp_m (aw_aload_n (pc := 22) dX7_battle_22 rfl (lv_at hl 0 rfl)) ?_
    refine sp_m (aw_aload_n (pc := 23) dX7_battle_23 rfl (lv_at hl 0 rfl)) ?_
    refine sp_g fun s5 => ?_
    refine sp_b fun x6 ex6 => ?_
    refine sp_m (aw_get (k := 16) okX7 s5 (by decide) q1518 (Or.inl rfl) (congrArg va_rf ex6) (pc := 24) dX7_battle_24) ?_
    refine sp_b fun p7 ep7 => ?_
    refine sp_m (G' := AW (KX7_battle l D h0 hE v) p7 (30) ls ([])) (fun kk => aw_callV (As := [.ref x6]) (metX7_fights _ _ ep7) (rcv_o okX7 s5) rfl mok_X7_fights q2164 q2166 qs110 q125 q2167 (Nat.le_of_ble_eq_true rfl) (Nat.le_of_ble_eq_true rfl) rfl hl.1 rfl (Nat.le_of_ble_eq_true rfl) (pc := 27) dX7_battle_27 kk) ?_
    refine sp_m (aw_aload_n (pc := 30) dX7_battle_30 rfl (lv_at hl 0 rfl)) ?_
    refine sp_m (aw_aload_n (pc := 31) dX7_battle_31 rfl (lv_at hl 0 rfl)) ?_
    refine sp_g fun s8 => ?_
    refine sp_m (aw_get (k := 32) okX7 s8 (by decide) q1534 (Or.inl rfl) rfl (pc := 32) dX7_battle_32) ?_
    refine sp_b fun p9 ep9 => ?_
    refine sp_m (G' := AW (KX7_battle l D h0 hE v) p9.2 (38) ls (.int p9.1 :: [])) (fun kk => aw_callV (As := [.int (gI p7 a0 32)]) (metX7_good _ _ ep9) (rcv_o okX7 s8) rfl mok_X7_good q1865 q1867 qs73 q125 q1868 (Nat.le_of_ble_eq_true rfl) (Nat.le_of_ble_eq_true rfl) rfl hl.1 rfl (Nat.le_of_ble_eq_true rfl) (pc := 35) dX7_battle_35 kk) ?_
    exact sp_r fun hz => aw_iret hz rfl rfl rfl (pc := 38) dX7_battle_38
theorem mok_X7_battles : mOK yX7_battles 3 := ⟨⟨by decide +kernel, by decide +kernel⟩, by decide +kernel⟩
abbrev KX7_battles (l : Launch) (D : DD) (h0 hE : AH) (v : Int32) : KT := (l, yX7_battles, cX7_battles, 5, (some .int), RX7, 7, D, h0, hE, .inl (some (.int v)), false, [])
theorem metX7_battles (l : Launch) (D : DD) {a0 : Nat} {a1 : Int32} {a2 : Int32} {a3 : Int32} {h0 : AH} {hE : AH} {v : Int32} (hr : fX7_battles a0 a1 a2 a3 h0 = some (v, hE)) : AMet (KX7_battles l D h0 hE v) [.ref a0, .int a1, .int a2, .int a3] := by
  refine AMet.of (K := (KX7_battles l D h0 hE v)) rfl ⟨_, rfl⟩ rfl rfl rfl (Nat.le_of_ble_eq_true rfl) (fun ls hl => ?_)
  have hl : lv_has ls 5 [(0, .ref a0), (1, .int a1), (2, .int a2), (3, .int a3)] := hl
  suffices hsp : SP (fX7_battles a0 a1 a2 a3 h0) (fun z => z = (v, hE)) (AW (KX7_battles l D h0 hE v) h0 0 ls []) from hsp _ hr rfl
  unfold fX7_battles
  refine sp_m (aw_aload_n (pc := 0) dX7_battles_0 rfl (lv_at hl 0 rfl)) ?_
  refine sp_m (aw_iconst (v := 0) (pc := 1) dX7_battles_1 rfl) ?_
  refine sp_g fun s1 => ?_
  refine sp_t fun h2 eh20 => ?_
  have eh2 : gS h2 = gS h0 := by rw [eh20]; rfl
  refine sp_m (aw_put (k := 0) okX7 opX7 s1 (by decide) q1502 (Or.inl rfl) (Or.inl rfl) (hasV_I' eh20) rfl rfl (pc := 2) dX7_battles_2) ?_
  refine sp_m (aw_aload_n (pc := 5) dX7_battles_5 rfl (lv_at hl 0 rfl)) ?_
  refine sp_m (aw_aload_n (pc := 6) dX7_battles_6 rfl (lv_at hl 0 rfl)) ?_
  refine sp_o (fun ex3 => ?_) (fun x3 ex3 => ?_)
  · refine sp_m (aw_get (k := 3) okX7 (uS eh2 s1) (by decide) q1505 (Or.inl rfl) (congrArg va_rf ex3) (pc := 7) dX7_battles_7) ?_
    refine sp_m (aw_ifnullN (tgt := 17) (pc := 10) dX7_battles_10 (by decide)) ?_
    refine sp_m (aw_iconst (v := 0) (pc := 17) dX7_battles_17 rfl) ?_
    refine sp_m (aw_iload_n (pc := 18) dX7_battles_18 rfl (lv_at hl 1 rfl)) ?_
    refine sp_m (aw_iload_n (pc := 19) dX7_battles_19 rfl (lv_at hl 2 rfl)) ?_
    refine sp_b fun p14 ep14 => ?_
    refine sp_m (G' := AW (KX7_battles l D h0 hE v) h2 (23) ls (.int p14 :: [])) (fun kk => aw_callV (As := [.int 0, .int a1, .int a2]) (metX7_refusesBattles _ _ ep14) (rcv_o okX7 (uS eh2 s1)) rfl mok_X7_refusesBattles q2151 q2153 qs107 q125 q2154 (Nat.le_of_ble_eq_true rfl) (Nat.le_of_ble_eq_true rfl) rfl hl.1 rfl (Nat.le_of_ble_eq_true rfl) (pc := 20) dX7_battles_20 kk) ?_
    refine sp_m (aw_istore (lv' := [(4, .int p14), (0, .ref a0), (1, .int a1), (2, .int a2), (3, .int a3)]) (pc := 23) dX7_battles_23 hl (by decide) rfl) (sp_all fun ls hl => ?_)
    refine sp_m (aw_iload (pc := 25) dX7_battles_25 (lv_at hl 0 rfl)) ?_
    refine sp_if (fun c15 => ?_) (fun c15 => ?_)
    · refine sp_m (aw_if_le_t (tgt := 37) (pc := 27) dX7_battles_27 (by decide) c15) ?_
      refine sp_m (aw_aload_n (pc := 37) dX7_battles_37 rfl (lv_at hl 1 rfl)) ?_
      refine sp_m (aw_iload_n (pc := 38) dX7_battles_38 rfl (lv_at hl 2 rfl)) ?_
      refine sp_m (aw_iload_n (pc := 39) dX7_battles_39 rfl (lv_at hl 3 rfl)) ?_
      refine sp_m (aw_iconst (v := 0) (pc := 40) dX7_battles_40 rfl) ?_
      refine sp_b fun p16 ep16 => ?_
      refine sp_m (G' := AW (KX7_battles l D h0 hE v) p16 (44) ls ([])) (fun kk => aw_callV (As := [.int a1, .int a2, .int 0]) (metX7_fightsAll _ _ ep16) (rcv_o okX7 (uS eh2 s1)) rfl mok_X7_fightsAll q2156 q2158 qs108 q125 q2159 (Nat.le_of_ble_eq_true rfl) (Nat.le_of_ble_eq_true rfl) rfl hl.1 rfl (Nat.le_of_ble_eq_true rfl) (pc := 41) dX7_battles_41 kk) ?_
      refine sp_m (aw_aload_n (pc := 44) dX7_battles_44 rfl (lv_at hl 1 rfl)) ?_
      refine sp_m (aw_iload_n (pc := 45) dX7_battles_45 rfl (lv_at hl 4 rfl)) ?_
      have hj60_2 : ∀ j17 : Int32, ∀ ls : Array Slot, lv_has ls 5 [] → SP (X7_battles_j60_18 a0 p16 j17) (fun z => z = (v, hE)) (AW (KX7_battles l D h0 hE v) p16 60 ls (.int j17 :: .ref a0 :: [])) := by
        intro j17 ls hl
        unfold X7_battles_j60_18
        refine sp_g fun s20 => ?_
        refine sp_b fun p19 ep19 => ?_
        refine sp_m (G' := AW (KX7_battles l D h0 hE v) p19.2 (63) ls (.int p19.1 :: [])) (fun kk => aw_callV (As := [.int j17]) (metX7_good _ _ ep19) (rcv_o okX7 s20) rfl mok_X7_good q1865 q1867 qs73 q125 q1868 (Nat.le_of_ble_eq_true rfl) (Nat.le_of_ble_eq_true rfl) rfl hl.1 rfl (Nat.le_of_ble_eq_true rfl) (pc := 60) dX7_battles_60 kk) ?_
        exact sp_r fun hz => aw_iret hz rfl rfl rfl (pc := 63) dX7_battles_63
      refine sp_if (fun c21 => ?_) (fun c21 => ?_)
      · refine sp_m (aw_if_eq_t (tgt := 56) (pc := 46) dX7_battles_46 (by decide) c21) ?_
        refine sp_m (aw_aload_n (pc := 56) dX7_battles_56 rfl (lv_at hl 1 rfl)) ?_
        refine sp_g fun s22 => ?_
        refine sp_m (aw_get (k := 35) okX7 s22 (by decide) q1537 (Or.inl rfl) rfl (pc := 57) dX7_battles_57) ?_
        exact hj60_2 (gI p16 a0 35) ls (lv_sub hl [] rfl)
      · refine sp_m (aw_if_eq_f (tgt := 56) (pc := 46) dX7_battles_46 (by decide) c21) ?_
        refine sp_m (aw_aload_n (pc := 49) dX7_battles_49 rfl (lv_at hl 1 rfl)) ?_
        refine sp_g fun s23 => ?_
        refine sp_m (aw_get (k := 36) okX7 s23 (by decide) q1538 (Or.inl rfl) rfl (pc := 50) dX7_battles_50) ?_
        refine sp_m (aw_goto (tgt := 60) (pc := 53) dX7_battles_53 (by decide)) ?_
        exact hj60_2 (gI p16 a0 36) ls (lv_sub hl [] rfl)
    · refine sp_m (aw_if_le_f (tgt := 37) (pc := 27) dX7_battles_27 (by decide) c15) ?_
      refine sp_m (aw_aload_n (pc := 30) dX7_battles_30 rfl (lv_at hl 1 rfl)) ?_
      refine sp_m (aw_iload (pc := 31) dX7_battles_31 (lv_at hl 0 rfl)) ?_
      refine sp_b fun p24 ep24 => ?_
      refine sp_m (G' := AW (KX7_battles l D h0 hE v) p24.2 (36) ls (.int p24.1 :: [])) (fun kk => aw_callV (As := [.int p14]) (metX7_refused _ _ ep24) (rcv_o okX7 (uS eh2 s1)) rfl mok_X7_refused q1632 q1634 qs50 q125 q1635 (Nat.le_of_ble_eq_true rfl) (Nat.le_of_ble_eq_true rfl) rfl hl.1 rfl (Nat.le_of_ble_eq_true rfl) (pc := 33) dX7_battles_33 kk) ?_
      exact sp_r fun hz => aw_iret hz rfl rfl rfl (pc := 36) dX7_battles_36
  · refine sp_m (aw_get (k := 3) okX7 (uS eh2 s1) (by decide) q1505 (Or.inl rfl) (congrArg va_rf ex3) (pc := 7) dX7_battles_7) ?_
    refine sp_m (aw_ifnull (pc := 10) dX7_battles_10) ?_
    refine sp_m (aw_iconst (v := 1) (pc := 13) dX7_battles_13 rfl) ?_
    refine sp_m (aw_goto (tgt := 18) (pc := 14) dX7_battles_14 (by decide)) ?_
    refine sp_m (aw_iload_n (pc := 18) dX7_battles_18 rfl (lv_at hl 1 rfl)) ?_
    refine sp_m (aw_iload_n (pc := 19) dX7_battles_19 rfl (lv_at hl 2 rfl)) ?_
    refine sp_b fun p4 ep4 => ?_
    refine sp_m (G' := AW (KX7_battles l D h0 hE v) h2 (23) ls (.int p4 :: [])) (fun kk => aw_callV (As := [.int 1, .int a1, .int a2]) (metX7_refusesBattles _ _ ep4) (rcv_o okX7 (uS eh2 s1)) rfl mok_X7_refusesBattles q2151 q2153 qs107 q125 q2154 (Nat.le_of_ble_eq_true rfl) (Nat.le_of_ble_eq_true rfl) rfl hl.1 rfl (Nat.le_of_ble_eq_true rfl) (pc := 20) dX7_battles_20 kk) ?_
    refine sp_m (aw_istore (lv' := [(4, .int p4), (0, .ref a0), (1, .int a1), (2, .int a2), (3, .int a3)]) (pc := 23) dX7_battles_23 hl (by decide) rfl) (sp_all fun ls hl => ?_)
    refine sp_m (aw_iload (pc := 25) dX7_battles_25 (lv_at hl 0 rfl)) ?_
    refine sp_if (fun c5 => ?_) (fun c5 => ?_)
    · refine sp_m (aw_if_le_t (tgt := 37) (pc := 27) dX7_battles_27 (by decide) c5) ?_
      refine sp_m (aw_aload_n (pc := 37) dX7_battles_37 rfl (lv_at hl 1 rfl)) ?_
      refine sp_m (aw_iload_n (pc := 38) dX7_battles_38 rfl (lv_at hl 2 rfl)) ?_
      refine sp_m (aw_iload_n (pc := 39) dX7_battles_39 rfl (lv_at hl 3 rfl)) ?_
      refine sp_m (aw_iconst (v := 0) (pc := 40) dX7_battles_40 rfl) ?_
      refine sp_b fun p6 ep6 => ?_
      refine sp_m (G' := AW (KX7_battles l D h0 hE v) p6 (44) ls ([])) (fun kk => aw_callV (As := [.int a1, .int a2, .int 0]) (metX7_fightsAll _ _ ep6) (rcv_o okX7 (uS eh2 s1)) rfl mok_X7_fightsAll q2156 q2158 qs108 q125 q2159 (Nat.le_of_ble_eq_true rfl) (Nat.le_of_ble_eq_true rfl) rfl hl.1 rfl (Nat.le_of_ble_eq_true rfl) (pc := 41) dX7_battles_41 kk) ?_
      refine sp_m (aw_aload_n (pc := 44) dX7_battles_44 rfl (lv_at hl 1 rfl)) ?_
      refine sp_m (aw_iload_n (pc := 45) dX7_battles_45 rfl (lv_at hl 4 rfl)) ?_
      have hj60_1 : ∀ j7 : Int32, ∀ ls : Array Slot, lv_has ls 5 [] → SP (X7_battles_j60 a0 p6 j7) (fun z => z = (v, hE)) (AW (KX7_battles l D h0 hE v) p6 60 ls (.int j7 :: .ref a0 :: [])) := by
        intro j7 ls hl
        unfold X7_battles_j60
        refine sp_g fun s9 => ?_
        refine sp_b fun p8 ep8 => ?_
        refine sp_m (G' := AW (KX7_battles l D h0 hE v) p8.2 (63) ls (.int p8.1 :: [])) (fun kk => aw_callV (As := [.int j7]) (metX7_good _ _ ep8) (rcv_o okX7 s9) rfl mok_X7_good q1865 q1867 qs73 q125 q1868 (Nat.le_of_ble_eq_true rfl) (Nat.le_of_ble_eq_true rfl) rfl hl.1 rfl (Nat.le_of_ble_eq_true rfl) (pc := 60) dX7_battles_60 kk) ?_
        exact sp_r fun hz => aw_iret hz rfl rfl rfl (pc := 63) dX7_battles_63
      refine sp_if (fun c10 => ?_) (fun c10 => ?_)
      · refine sp_m (aw_if_eq_t (tgt := 56) (pc := 46) dX7_battles_46 (by decide) c10) ?_
        refine sp_m (aw_aload_n (pc := 56) dX7_battles_56 rfl (lv_at hl 1 rfl)) ?_
        refine sp_g fun s11 => ?_
        refine sp_m (aw_get (k := 35) okX7 s11 (by decide) q1537 (Or.inl rfl) rfl (pc := 57) dX7_battles_57) ?_
        exact hj60_1 (gI p6 a0 35) ls (lv_sub hl [] rfl)
      · refine sp_m (aw_if_eq_f (tgt := 56) (pc := 46) dX7_battles_46 (by decide) c10) ?_
        refine sp_m (aw_aload_n (pc := 49) dX7_battles_49 rfl (lv_at hl 1 rfl)) ?_
        refine sp_g fun s12 => ?_
        refine sp_m (aw_get (k := 36) okX7 s12 (by decide) q1538 (Or.inl rfl) rfl (pc := 50) dX7_battles_50) ?_
        refine sp_m (aw_goto (tgt := 60) (pc := 53) dX7_battles_53 (by decide)) ?_
        exact hj60_1 (gI p6 a0 36) ls (lv_sub hl [] rfl)
    · refine sp_m (aw_if_le_f (tgt := 37) (pc := 27) dX7_battles_27 (by decide) c5) ?_
      refine sp_m (aw_aload_n (pc := 30) dX7_battles_30 rfl (lv_at hl 1 rfl)) ?_
      refine sp_m (aw_iload (pc := 31) dX7_battles_31 (lv_at hl 0 rfl)) ?_
      refine sp_b fun p13 ep13 => ?_
      refine sp_m (G' := AW (KX7_battles l D h0 hE v) p13.2 (36) ls (.int p13.1 :: [])) (fun kk => aw_callV (As := [.int p4]) (metX7_refused _ _ ep13) (rcv_o okX7 (uS eh2 s1)) rfl mok_X7_refused q1632 q1634 qs50 q125 q1635 (Nat.le_of_ble_eq_true rfl) (Nat.le_of_ble_eq_true rfl) rfl hl.1 rfl (Nat.le_of_ble_eq_true rfl) (pc := 33) dX7_battles_33 kk) ?_
      exact sp_r fun hz => aw_iret hz rfl rfl rfl (pc := 36) dX7_battles_36
theorem mok_X7_beast : mOK yX7_beast 2 := ⟨⟨by decide +kernel, by decide +kernel⟩, by decide +kernel⟩
abbrev KX7_beast (l : Launch) (D : DD) (h0 hE : AH) (v : Int32) : KT := (l, yX7_beast, cX7_beast, 3, (some .int), RX7, 4, D, h0, hE, .inl (some (.int v)), false, [])
theorem metX7_beast (l : Launch) (D : DD) {a0 : Nat} {a1 : Int32} {a2 : Int32} {h0 : AH} {hE : AH} {v : Int32} (hr : fX7_beast a0 a1 a2 h0 = some (v, hE)) : AMet (KX7_beast l D h0 hE v) [.ref a0, .int a1, .int a2] := by
  refine AMet.of (K := (KX7_beast l D h0 hE v)) rfl ⟨_, rfl⟩ rfl rfl rfl (Nat.le_of_ble_eq_true rfl) (fun ls hl => ?_)
  have hl : lv_has ls 3 [(0, .ref a0), (1, .int a1), (2, .int a2)] := hl
  suffices hsp : SP (fX7_beast a0 a1 a2 h0) (fun z => z = (v, hE)) (AW (KX7_beast l D h0 hE v) h0 0 ls []) from hsp _ hr rfl
  unfold fX7_beast
  refine sp_m (aw_aload_n (pc := 0) dX7_beast_0 rfl (lv_at hl 0 rfl)) ?_
  refine sp_m (aw_iconst (v := 0) (pc := 1) dX7_beast_1 rfl) ?_
  refine sp_g fun s1 => ?_
  refine sp_t fun h2 eh20 => ?_
  have eh2 : gS h2 = gS h0 := by rw [eh20]; rfl
  refine sp_m (aw_put (k := 0) okX7 opX7 s1 (by decide) q1502 (Or.inl rfl) (Or.inl rfl) (hasV_I' eh20) rfl rfl (pc := 2) dX7_beast_2) ?_
  refine sp_m (aw_aload_n (pc := 5) dX7_beast_5 rfl (lv_at hl 0 rfl)) ?_
  refine sp_m (aw_iload_n (pc := 6) dX7_beast_6 rfl (lv_at hl 1 rfl)) ?_
  refine sp_b fun p3 ep3 => ?_
  refine sp_m (G' := AW (KX7_beast l D h0 hE v) h2 (10) ls (.int p3 :: [])) (fun kk => aw_callV (As := [.int a1]) (metX7_isBeast _ _ ep3) (rcv_o okX7 (uS eh2 s1)) rfl mok_X7_isBeast q1893 q1895 qs76 q125 q1896 (Nat.le_of_ble_eq_true rfl) (Nat.le_of_ble_eq_true rfl) rfl hl.1 rfl (Nat.le_of_ble_eq_true rfl) (pc := 7) dX7_beast_7 kk) ?_
  have hj23_1 : ∀ ls : Array Slot, lv_has ls 3 [(0, .ref a0)] → SP (X7_beast_j23 a0 h2) (fun z => z = (v, hE)) (AW (KX7_beast l D h0 hE v) h2 23 ls ([])) := by
    intro ls hl
    unfold X7_beast_j23
    refine sp_m (aw_aload_n (pc := 23) dX7_beast_23 rfl (lv_at hl 0 rfl)) ?_
    refine sp_m (aw_iconst (v := 1) (pc := 24) dX7_beast_24 rfl) ?_
    refine sp_b fun p4 ep4 => ?_
    refine sp_m (G' := AW (KX7_beast l D h0 hE v) p4.2 (28) ls (.int p4.1 :: [])) (fun kk => aw_callV (As := [.int 1]) (metX7_refused _ _ ep4) (rcv_o okX7 (uS eh2 s1)) rfl mok_X7_refused q1632 q1634 qs50 q125 q1635 (Nat.le_of_ble_eq_true rfl) (Nat.le_of_ble_eq_true rfl) rfl hl.1 rfl (Nat.le_of_ble_eq_true rfl) (pc := 25) dX7_beast_25 kk) ?_
    exact sp_r fun hz => aw_iret hz rfl rfl rfl (pc := 28) dX7_beast_28
  refine sp_if (fun c5 => ?_) (fun c5 => ?_)
  · refine sp_m (aw_if_eq_t (tgt := 23) (pc := 10) dX7_beast_10 (by decide) c5) ?_
    exact hj23_1 ls (lv_sub hl [0] rfl)
  · refine sp_m (aw_if_eq_f (tgt := 23) (pc := 10) dX7_beast_10 (by decide) c5) ?_
    refine sp_m (aw_iload_n (pc := 13) dX7_beast_13 rfl (lv_at hl 2 rfl)) ?_
    refine sp_m (aw_iconst (v := 0) (pc := 14) dX7_beast_14 rfl) ?_
    refine sp_m (aw_bipush (v := 7) (pc := 15) dX7_beast_15 rfl) ?_
    refine sp_b fun p6 ep6 => ?_
    refine sp_m (G' := AW (KX7_beast l D h0 hE v) h2 (20) ls (.int p6 :: [])) (fun kk => aw_callS (As := [.int a2, .int 0, .int 7]) (metX7_in _ _ ep6) mok_X7_in q1793 q1794 q125 q1795 (Nat.le_of_ble_eq_true rfl) (Nat.le_of_ble_eq_true rfl) rfl hl.1 rfl (Nat.le_of_ble_eq_true rfl) (pc := 17) dX7_beast_17 kk) ?_
    refine sp_if (fun c7 => ?_) (fun c7 => ?_)
    · refine sp_m (aw_if_ne_t (tgt := 29) (pc := 20) dX7_beast_20 (by decide) c7) ?_
      refine sp_m (aw_iload_n (pc := 29) dX7_beast_29 rfl (lv_at hl 2 rfl)) ?_
      refine sp_if (fun c8 => ?_) (fun c8 => ?_)
      · refine sp_m (aw_tableOut (tgt := 160) (pc := 30) dX7_beast_30 (sw_out rfl rfl c8) (by decide)) ?_
        refine sp_m (aw_aload_n (pc := 160) dX7_beast_160 rfl (lv_at hl 0 rfl)) ?_
        refine sp_m (aw_aload_n (pc := 161) dX7_beast_161 rfl (lv_at hl 0 rfl)) ?_
        refine sp_m (aw_iload_n (pc := 162) dX7_beast_162 rfl (lv_at hl 1 rfl)) ?_
        refine sp_b fun p9 ep9 => ?_
        refine sp_m (G' := AW (KX7_beast l D h0 hE v) h2 (166) ls (.int p9 :: .ref a0 :: [])) (fun kk => aw_callV (As := [.int a1]) (metX7_isDead _ _ ep9) (rcv_o okX7 (uS eh2 s1)) rfl mok_X7_isDead q1885 q1887 qs75 q125 q1888 (Nat.le_of_ble_eq_true rfl) (Nat.le_of_ble_eq_true rfl) rfl hl.1 rfl (Nat.le_of_ble_eq_true rfl) (pc := 163) dX7_beast_163 kk) ?_
        have hj174_2 : ∀ j10 : Int32, ∀ ls : Array Slot, lv_has ls 3 [] → SP (X7_beast_j174 a0 h2 j10) (fun z => z = (v, hE)) (AW (KX7_beast l D h0 hE v) h2 174 ls (.int j10 :: .ref a0 :: [])) := by
          intro j10 ls hl
          unfold X7_beast_j174
          refine sp_b fun p11 ep11 => ?_
          refine sp_m (G' := AW (KX7_beast l D h0 hE v) p11.2 (177) ls (.int p11.1 :: [])) (fun kk => aw_callV (As := [.int j10]) (metX7_good _ _ ep11) (rcv_o okX7 (uS eh2 s1)) rfl mok_X7_good q1865 q1867 qs73 q125 q1868 (Nat.le_of_ble_eq_true rfl) (Nat.le_of_ble_eq_true rfl) rfl hl.1 rfl (Nat.le_of_ble_eq_true rfl) (pc := 174) dX7_beast_174 kk) ?_
          exact sp_r fun hz => aw_iret hz rfl rfl rfl (pc := 177) dX7_beast_177
        refine sp_if (fun c12 => ?_) (fun c12 => ?_)
        · refine sp_m (aw_if_eq_t (tgt := 173) (pc := 166) dX7_beast_166 (by decide) c12) ?_
          refine sp_m (aw_iconst (v := 0) (pc := 173) dX7_beast_173 rfl) ?_
          exact hj174_2 0 ls (lv_sub hl [] rfl)
        · refine sp_m (aw_if_eq_f (tgt := 173) (pc := 166) dX7_beast_166 (by decide) c12) ?_
          refine sp_m (aw_iconst (v := 1) (pc := 169) dX7_beast_169 rfl) ?_
          refine sp_m (aw_goto (tgt := 174) (pc := 170) dX7_beast_170 (by decide)) ?_
          exact hj174_2 1 ls (lv_sub hl [] rfl)
      refine sp_if (fun c13 => ?_) (fun c13 => ?_)
      · refine sp_m (aw_tableIn (tgt := 72) (pc := 30) dX7_beast_30 (by rw [c13]; decide) (by rw [c13]; decide) (by rw [c13] <;> rfl) (by decide)) ?_
        refine sp_m (aw_aload_n (pc := 72) dX7_beast_72 rfl (lv_at hl 0 rfl)) ?_
        refine sp_m (aw_aload_n (pc := 73) dX7_beast_73 rfl (lv_at hl 0 rfl)) ?_
        refine sp_b fun x14 ex14 => ?_
        refine sp_m (aw_get (k := 3) okX7 (uS eh2 s1) (by decide) q1505 (Or.inl rfl) (congrArg va_rf ex14) (pc := 74) dX7_beast_74) ?_
        refine sp_g fun s15 => ?_
        refine sp_b fun x16 ex16 => ?_
        refine sp_m (aw_getN (k := 10) okX20 s15 (by decide) nq1656 rfl (congrArg va_rf ex16) (pc := 77) dX7_beast_77) ?_
        refine sp_m (aw_iload_n (pc := 80) dX7_beast_80 rfl (lv_at hl 1 rfl)) ?_
        refine sp_g fun s17 => ?_
        refine sp_g fun i18 => ?_
        refine sp_m (aw_iald s17 i18 (pc := 81) dX7_beast_81) ?_
        refine sp_b fun p19 ep19 => ?_
        refine sp_m (G' := AW (KX7_beast l D h0 hE v) p19.2 (85) ls (.int p19.1 :: [])) (fun kk => aw_callV (As := [.int (gI h2 x16 (ix a1))]) (metX7_good _ _ ep19) (rcv_o okX7 (uS eh2 s1)) rfl mok_X7_good q1865 q1867 qs73 q125 q1868 (Nat.le_of_ble_eq_true rfl) (Nat.le_of_ble_eq_true rfl) rfl hl.1 rfl (Nat.le_of_ble_eq_true rfl) (pc := 82) dX7_beast_82 kk) ?_
        exact sp_r fun hz => aw_iret hz rfl rfl rfl (pc := 85) dX7_beast_85
      refine sp_if (fun c20 => ?_) (fun c20 => ?_)
      · refine sp_m (aw_tableIn (tgt := 86) (pc := 30) dX7_beast_30 (by rw [c20]; decide) (by rw [c20]; decide) (by rw [c20] <;> rfl) (by decide)) ?_
        refine sp_m (aw_aload_n (pc := 86) dX7_beast_86 rfl (lv_at hl 0 rfl)) ?_
        refine sp_m (aw_aload_n (pc := 87) dX7_beast_87 rfl (lv_at hl 0 rfl)) ?_
        refine sp_b fun x21 ex21 => ?_
        refine sp_m (aw_get (k := 16) okX7 (uS eh2 s1) (by decide) q1518 (Or.inl rfl) (congrArg va_rf ex21) (pc := 88) dX7_beast_88) ?_
        refine sp_m (aw_iconst (v := 0) (pc := 91) dX7_beast_91 rfl) ?_
        refine sp_m (aw_iload_n (pc := 92) dX7_beast_92 rfl (lv_at hl 1 rfl)) ?_
        refine sp_m (aw_iadd (pc := 93) dX7_beast_93) ?_
        refine sp_g fun s22 => ?_
        refine sp_g fun i23 => ?_
        refine sp_m (aw_iald s22 i23 (pc := 94) dX7_beast_94) ?_
        refine sp_b fun p24 ep24 => ?_
        refine sp_m (G' := AW (KX7_beast l D h0 hE v) p24.2 (98) ls (.int p24.1 :: [])) (fun kk => aw_callV (As := [.int (gI h2 x21 (ix (0 + a1)))]) (metX7_good _ _ ep24) (rcv_o okX7 (uS eh2 s1)) rfl mok_X7_good q1865 q1867 qs73 q125 q1868 (Nat.le_of_ble_eq_true rfl) (Nat.le_of_ble_eq_true rfl) rfl hl.1 rfl (Nat.le_of_ble_eq_true rfl) (pc := 95) dX7_beast_95 kk) ?_
        exact sp_r fun hz => aw_iret hz rfl rfl rfl (pc := 98) dX7_beast_98
      refine sp_if (fun c25 => ?_) (fun c25 => ?_)
      · refine sp_m (aw_tableIn (tgt := 99) (pc := 30) dX7_beast_30 (by rw [c25]; decide) (by rw [c25]; decide) (by rw [c25] <;> rfl) (by decide)) ?_
        refine sp_m (aw_aload_n (pc := 99) dX7_beast_99 rfl (lv_at hl 0 rfl)) ?_
        refine sp_m (aw_aload_n (pc := 100) dX7_beast_100 rfl (lv_at hl 0 rfl)) ?_
        refine sp_b fun x26 ex26 => ?_
        refine sp_m (aw_get (k := 3) okX7 (uS eh2 s1) (by decide) q1505 (Or.inl rfl) (congrArg va_rf ex26) (pc := 101) dX7_beast_101) ?_
        refine sp_g fun s27 => ?_
        refine sp_b fun x28 ex28 => ?_
        refine sp_m (aw_getN (k := 12) okX20 s27 (by decide) nq1660 rfl (congrArg va_rf ex28) (pc := 104) dX7_beast_104) ?_
        refine sp_m (aw_iload_n (pc := 107) dX7_beast_107 rfl (lv_at hl 1 rfl)) ?_
        refine sp_g fun s29 => ?_
        refine sp_g fun i30 => ?_
        refine sp_m (aw_iald s29 i30 (pc := 108) dX7_beast_108) ?_
        refine sp_b fun p31 ep31 => ?_
        refine sp_m (G' := AW (KX7_beast l D h0 hE v) p31.2 (112) ls (.int p31.1 :: [])) (fun kk => aw_callV (As := [.int (gI h2 x28 (ix a1))]) (metX7_good _ _ ep31) (rcv_o okX7 (uS eh2 s1)) rfl mok_X7_good q1865 q1867 qs73 q125 q1868 (Nat.le_of_ble_eq_true rfl) (Nat.le_of_ble_eq_true rfl) rfl hl.1 rfl (Nat.le_of_ble_eq_true rfl) (pc := 109) dX7_beast_109 kk) ?_
        exact sp_r fun hz => aw_iret hz rfl rfl rfl (pc := 112) dX7_beast_112
      refine sp_if (fun c32 => ?_) (fun c32 => ?_)
      · refine sp_m (aw_tableIn (tgt := 113) (pc := 30) dX7_beast_30 (by rw [c32]; decide) (by rw [c32]; decide) (by rw [c32] <;> rfl) (by decide)) ?_
        refine sp_m (aw_aload_n (pc := 113) dX7_beast_113 rfl (lv_at hl 0 rfl)) ?_
        refine sp_m (aw_aload_n (pc := 114) dX7_beast_114 rfl (lv_at hl 0 rfl)) ?_
        refine sp_b fun x33 ex33 => ?_
        refine sp_m (aw_get (k := 3) okX7 (uS eh2 s1) (by decide) q1505 (Or.inl rfl) (congrArg va_rf ex33) (pc := 115) dX7_beast_115) ?_
        refine sp_g fun s34 => ?_
        refine sp_b fun x35 ex35 => ?_
        refine sp_m (aw_getN (k := 13) okX20 s34 (by decide) nq1662 rfl (congrArg va_rf ex35) (pc := 118) dX7_beast_118) ?_
        refine sp_m (aw_iload_n (pc := 121) dX7_beast_121 rfl (lv_at hl 1 rfl)) ?_
        refine sp_g fun s36 => ?_
        refine sp_g fun i37 => ?_
        refine sp_m (aw_iald s36 i37 (pc := 122) dX7_beast_122) ?_
        refine sp_b fun p38 ep38 => ?_
        refine sp_m (G' := AW (KX7_beast l D h0 hE v) p38.2 (126) ls (.int p38.1 :: [])) (fun kk => aw_callV (As := [.int (gI h2 x35 (ix a1))]) (metX7_good _ _ ep38) (rcv_o okX7 (uS eh2 s1)) rfl mok_X7_good q1865 q1867 qs73 q125 q1868 (Nat.le_of_ble_eq_true rfl) (Nat.le_of_ble_eq_true rfl) rfl hl.1 rfl (Nat.le_of_ble_eq_true rfl) (pc := 123) dX7_beast_123 kk) ?_
        exact sp_r fun hz => aw_iret hz rfl rfl rfl (pc := 126) dX7_beast_126
      refine sp_if (fun c39 => ?_) (fun c39 => ?_)
      · refine sp_m (aw_tableIn (tgt := 127) (pc := 30) dX7_beast_30 (by rw [c39]; decide) (by rw [c39]; decide) (by rw [c39] <;> rfl) (by decide)) ?_
        refine sp_m (aw_aload_n (pc := 127) dX7_beast_127 rfl (lv_at hl 0 rfl)) ?_
        refine sp_m (aw_aload_n (pc := 128) dX7_beast_128 rfl (lv_at hl 0 rfl)) ?_
        refine sp_m (aw_iload_n (pc := 129) dX7_beast_129 rfl (lv_at hl 1 rfl)) ?_
        refine sp_b fun p40 ep40 => ?_
        refine sp_m (G' := AW (KX7_beast l D h0 hE v) h2 (133) ls (.int p40 :: .ref a0 :: [])) (fun kk => aw_callV (As := [.int a1]) (metX7_forceOf _ _ ep40) (rcv_o okX7 (uS eh2 s1)) rfl mok_X7_forceOf q1897 q1899 qs77 q125 q1900 (Nat.le_of_ble_eq_true rfl) (Nat.le_of_ble_eq_true rfl) rfl hl.1 rfl (Nat.le_of_ble_eq_true rfl) (pc := 130) dX7_beast_130 kk) ?_
        refine sp_b fun p41 ep41 => ?_
        refine sp_m (G' := AW (KX7_beast l D h0 hE v) p41.2 (136) ls (.int p41.1 :: [])) (fun kk => aw_callV (As := [.int p40]) (metX7_good _ _ ep41) (rcv_o okX7 (uS eh2 s1)) rfl mok_X7_good q1865 q1867 qs73 q125 q1868 (Nat.le_of_ble_eq_true rfl) (Nat.le_of_ble_eq_true rfl) rfl hl.1 rfl (Nat.le_of_ble_eq_true rfl) (pc := 133) dX7_beast_133 kk) ?_
        exact sp_r fun hz => aw_iret hz rfl rfl rfl (pc := 136) dX7_beast_136
      refine sp_if (fun c42 => ?_) (fun c42 => ?_)
      · refine sp_m (aw_tableIn (tgt := 137) (pc := 30) dX7_beast_30 (by rw [c42]; decide) (by rw [c42]; decide) (by rw [c42] <;> rfl) (by decide)) ?_
        refine sp_m (aw_aload_n (pc := 137) dX7_beast_137 rfl (lv_at hl 0 rfl)) ?_
        refine sp_m (aw_aload_n (pc := 138) dX7_beast_138 rfl (lv_at hl 0 rfl)) ?_
        refine sp_m (aw_iload_n (pc := 139) dX7_beast_139 rfl (lv_at hl 1 rfl)) ?_
        refine sp_b fun p43 ep43 => ?_
        refine sp_m (G' := AW (KX7_beast l D h0 hE v) h2 (143) ls (.int p43 :: .ref a0 :: [])) (fun kk => aw_callV (As := [.int a1]) (metX7_holdOf _ _ ep43) (rcv_o okX7 (uS eh2 s1)) rfl mok_X7_holdOf q1901 q1903 qs78 q125 q1904 (Nat.le_of_ble_eq_true rfl) (Nat.le_of_ble_eq_true rfl) rfl hl.1 rfl (Nat.le_of_ble_eq_true rfl) (pc := 140) dX7_beast_140 kk) ?_
        refine sp_b fun p44 ep44 => ?_
        refine sp_m (G' := AW (KX7_beast l D h0 hE v) p44.2 (146) ls (.int p44.1 :: [])) (fun kk => aw_callV (As := [.int p43]) (metX7_good _ _ ep44) (rcv_o okX7 (uS eh2 s1)) rfl mok_X7_good q1865 q1867 qs73 q125 q1868 (Nat.le_of_ble_eq_true rfl) (Nat.le_of_ble_eq_true rfl) rfl hl.1 rfl (Nat.le_of_ble_eq_true rfl) (pc := 143) dX7_beast_143 kk) ?_
        exact sp_r fun hz => aw_iret hz rfl rfl rfl (pc := 146) dX7_beast_146
      refine sp_if (fun c45 => ?_) (fun c45 => ?_)
      · refine sp_m (aw_tableIn (tgt := 147) (pc := 30) dX7_beast_30 (by rw [c45]; decide) (by rw [c45]; decide) (by rw [c45] <;> rfl) (by decide)) ?_
        refine sp_m (aw_aload_n (pc := 147) dX7_beast_147 rfl (lv_at hl 0 rfl)) ?_
        refine sp_m (aw_aload_n (pc := 148) dX7_beast_148 rfl (lv_at hl 0 rfl)) ?_
        refine sp_b fun x46 ex46 => ?_
        refine sp_m (aw_get (k := 16) okX7 (uS eh2 s1) (by decide) q1518 (Or.inl rfl) (congrArg va_rf ex46) (pc := 149) dX7_beast_149) ?_
        refine sp_m (aw_iconst (v := 5) (pc := 152) dX7_beast_152 rfl) ?_
        refine sp_m (aw_iload_n (pc := 153) dX7_beast_153 rfl (lv_at hl 1 rfl)) ?_
        refine sp_m (aw_iadd (pc := 154) dX7_beast_154) ?_
        refine sp_g fun s47 => ?_
        refine sp_g fun i48 => ?_
        refine sp_m (aw_iald s47 i48 (pc := 155) dX7_beast_155) ?_
        refine sp_b fun p49 ep49 => ?_
        refine sp_m (G' := AW (KX7_beast l D h0 hE v) p49.2 (159) ls (.int p49.1 :: [])) (fun kk => aw_callV (As := [.int (gI h2 x46 (ix (5 + a1)))]) (metX7_good _ _ ep49) (rcv_o okX7 (uS eh2 s1)) rfl mok_X7_good q1865 q1867 qs73 q125 q1868 (Nat.le_of_ble_eq_true rfl) (Nat.le_of_ble_eq_true rfl) rfl hl.1 rfl (Nat.le_of_ble_eq_true rfl) (pc := 156) dX7_beast_156 kk) ?_
        exact sp_r fun hz => aw_iret hz rfl rfl rfl (pc := 159) dX7_beast_159
      exact sp_n
    · refine sp_m (aw_if_ne_f (tgt := 29) (pc := 20) dX7_beast_20 (by decide) (Decidable.not_not.mp c7)) ?_
      exact hj23_1 ls (lv_sub hl [0] rfl)
theorem mok_X7_worthBy : mOK yX7_worthBy 3 := ⟨⟨by decide +kernel, by decide +kernel⟩, by decide +kernel⟩
abbrev KX7_worthBy (l : Launch) (D : DD) (h0 : AH) (v : Int64) : KT := (l, yX7_worthBy, cX7_worthBy, 4, (some .long), RX7, 5, D, h0, h0, .inl (some (.long v)), false, [])
theorem metX7_worthBy (l : Launch) (D : DD) {a0 : Nat} {a1 : Int32} {a2 : Int32} {a3 : Int32} {h0 : AH} {v : Int64} (hr : fX7_worthBy a0 a1 a2 a3 h0 = some v) : AMet (KX7_worthBy l D h0 v) [.ref a0, .int a1, .int a2, .int a3] := by
  refine AMet.of (K := (KX7_worthBy l D h0 v)) rfl ⟨_, rfl⟩ rfl rfl rfl (Nat.le_of_ble_eq_true rfl) (fun ls hl => ?_)
  have hl : lv_has ls 4 [(0, .ref a0), (1, .int a1), (2, .int a2), (3, .int a3)] := hl
  suffices hsp : SP (fX7_worthBy a0 a1 a2 a3 h0) (fun z => z = v) (AW (KX7_worthBy l D h0 v) h0 0 ls []) from hsp _ hr rfl
  unfold fX7_worthBy
  refine sp_m (aw_aload_n (pc := 0) dX7_worthBy_0 rfl (lv_at hl 0 rfl)) ?_
  refine sp_m (aw_iload_n (pc := 1) dX7_worthBy_1 rfl (lv_at hl 1 rfl)) ?_
  refine sp_m (aw_aload_n (pc := 2) dX7_worthBy_2 rfl (lv_at hl 0 rfl)) ?_
  refine sp_m (aw_iload_n (pc := 3) dX7_worthBy_3 rfl (lv_at hl 1 rfl)) ?_
  refine sp_m (aw_iload_n (pc := 4) dX7_worthBy_4 rfl (lv_at hl 2 rfl)) ?_
  refine sp_m (aw_iload_n (pc := 5) dX7_worthBy_5 rfl (lv_at hl 3 rfl)) ?_
  refine sp_m (aw_iconst (v := 0) (pc := 6) dX7_worthBy_6 rfl) ?_
  refine sp_g fun s2 => ?_
  refine sp_b fun p1 ep1 => ?_
  refine sp_m (G' := AW (KX7_worthBy l D h0 v) h0 (10) ls (.int p1 :: .int a1 :: .ref a0 :: [])) (fun kk => aw_callV (As := [.int a1, .int a2, .int a3, .int 0]) (metX7_harmBy _ _ ep1) (rcv_o okX7 s2) rfl mok_X7_harmBy q1940 q1942 qs84 q125 q1943 (Nat.le_of_ble_eq_true rfl) (Nat.le_of_ble_eq_true rfl) rfl hl.1 rfl (Nat.le_of_ble_eq_true rfl) (pc := 7) dX7_worthBy_7 kk) ?_
  refine sp_m (aw_iconst (v := 0) (pc := 10) dX7_worthBy_10 rfl) ?_
  refine sp_b fun p3 ep3 => ?_
  refine sp_m (G' := AW (KX7_worthBy l D h0 v) h0 (14) ls (.long p3 :: [])) (fun kk => aw_callV (As := [.int a1, .int p1, .int 0]) (metX7_meanBy _ _ ep3) (rcv_o okX7 s2) rfl mok_X7_meanBy q1948 q1950 qs85 q125 q1951 (Nat.le_of_ble_eq_true rfl) (Nat.le_of_ble_eq_true rfl) rfl hl.1 rfl (Nat.le_of_ble_eq_true rfl) (pc := 11) dX7_worthBy_11 kk) ?_
  refine sp_m (aw_aload_n (pc := 14) dX7_worthBy_14 rfl (lv_at hl 0 rfl)) ?_
  refine sp_m (aw_iload_n (pc := 15) dX7_worthBy_15 rfl (lv_at hl 1 rfl)) ?_
  refine sp_m (aw_aload_n (pc := 16) dX7_worthBy_16 rfl (lv_at hl 0 rfl)) ?_
  refine sp_m (aw_iload_n (pc := 17) dX7_worthBy_17 rfl (lv_at hl 1 rfl)) ?_
  refine sp_m (aw_iload_n (pc := 18) dX7_worthBy_18 rfl (lv_at hl 2 rfl)) ?_
  refine sp_m (aw_iload_n (pc := 19) dX7_worthBy_19 rfl (lv_at hl 3 rfl)) ?_
  refine sp_m (aw_iconst (v := 1) (pc := 20) dX7_worthBy_20 rfl) ?_
  refine sp_b fun p4 ep4 => ?_
  refine sp_m (G' := AW (KX7_worthBy l D h0 v) h0 (24) ls (.int p4 :: .int a1 :: .ref a0 :: .long p3 :: [])) (fun kk => aw_callV (As := [.int a1, .int a2, .int a3, .int 1]) (metX7_harmBy _ _ ep4) (rcv_o okX7 s2) rfl mok_X7_harmBy q1940 q1942 qs84 q125 q1943 (Nat.le_of_ble_eq_true rfl) (Nat.le_of_ble_eq_true rfl) rfl hl.1 rfl (Nat.le_of_ble_eq_true rfl) (pc := 21) dX7_worthBy_21 kk) ?_
  refine sp_m (aw_iconst (v := 1) (pc := 24) dX7_worthBy_24 rfl) ?_
  refine sp_b fun p5 ep5 => ?_
  refine sp_m (G' := AW (KX7_worthBy l D h0 v) h0 (28) ls (.long p5 :: .long p3 :: [])) (fun kk => aw_callV (As := [.int a1, .int p4, .int 1]) (metX7_meanBy _ _ ep5) (rcv_o okX7 s2) rfl mok_X7_meanBy q1948 q1950 qs85 q125 q1951 (Nat.le_of_ble_eq_true rfl) (Nat.le_of_ble_eq_true rfl) rfl hl.1 rfl (Nat.le_of_ble_eq_true rfl) (pc := 25) dX7_worthBy_25 kk) ?_
  refine sp_m (aw_lsub (pc := 28) dX7_worthBy_28) ?_
  exact sp_r fun hz => aw_lret (congrArg (fun z => (z, h0)) hz) rfl rfl rfl (pc := 29) dX7_worthBy_29
theorem mok_X7_worthIn : mOK yX7_worthIn 2 := ⟨⟨by decide +kernel, by decide +kernel⟩, by decide +kernel⟩
abbrev KX7_worthIn (l : Launch) (D : DD) (h0 : AH) (v : Int64) : KT := (l, yX7_worthIn, cX7_worthIn, 3, (some .long), RX7, 6, D, h0, h0, .inl (some (.long v)), false, [])
theorem metX7_worthIn (l : Launch) (D : DD) {a0 : Nat} {a1 : Int32} {a2 : Int32} {h0 : AH} {v : Int64} (hr : fX7_worthIn a0 a1 a2 h0 = some v) : AMet (KX7_worthIn l D h0 v) [.ref a0, .int a1, .int a2] := by
  refine AMet.of (K := (KX7_worthIn l D h0 v)) rfl ⟨_, rfl⟩ rfl rfl rfl (Nat.le_of_ble_eq_true rfl) (fun ls hl => ?_)
  have hl : lv_has ls 3 [(0, .ref a0), (1, .int a1), (2, .int a2)] := hl
  suffices hsp : SP (fX7_worthIn a0 a1 a2 h0) (fun z => z = v) (AW (KX7_worthIn l D h0 v) h0 0 ls []) from hsp _ hr rfl
  unfold fX7_worthIn
  refine sp_m (aw_aload_n (pc := 0) dX7_worthIn_0 rfl (lv_at hl 0 rfl)) ?_
  refine sp_m (aw_iload_n (pc := 1) dX7_worthIn_1 rfl (lv_at hl 1 rfl)) ?_
  refine sp_m (aw_aload_n (pc := 2) dX7_worthIn_2 rfl (lv_at hl 0 rfl)) ?_
  refine sp_g fun s1 => ?_
  refine sp_b fun x2 ex2 => ?_
  refine sp_m (aw_get (k := 3) okX7 s1 (by decide) q1505 (Or.inl rfl) (congrArg va_rf ex2) (pc := 3) dX7_worthIn_3) ?_
  refine sp_g fun s3 => ?_
  refine sp_b fun x4 ex4 => ?_
  refine sp_m (aw_getN (k := 8) okX20 s3 (by decide) nq1652 rfl (congrArg va_rf ex4) (pc := 6) dX7_worthIn_6) ?_
  refine sp_m (aw_iload_n (pc := 9) dX7_worthIn_9 rfl (lv_at hl 2 rfl)) ?_
  refine sp_g fun s5 => ?_
  refine sp_g fun i6 => ?_
  refine sp_m (aw_iald s5 i6 (pc := 10) dX7_worthIn_10) ?_
  refine sp_m (aw_aload_n (pc := 11) dX7_worthIn_11 rfl (lv_at hl 0 rfl)) ?_
  refine sp_b fun x7 ex7 => ?_
  refine sp_m (aw_get (k := 16) okX7 s1 (by decide) q1518 (Or.inl rfl) (congrArg va_rf ex7) (pc := 12) dX7_worthIn_12) ?_
  refine sp_m (aw_bipush (v := 11) (pc := 15) dX7_worthIn_15 rfl) ?_
  refine sp_m (aw_iload_n (pc := 17) dX7_worthIn_17 rfl (lv_at hl 2 rfl)) ?_
  refine sp_m (aw_iadd (pc := 18) dX7_worthIn_18) ?_
  refine sp_g fun s8 => ?_
  refine sp_g fun i9 => ?_
  refine sp_m (aw_iald s8 i9 (pc := 19) dX7_worthIn_19) ?_
  refine sp_b fun p10 ep10 => ?_
  refine sp_m (G' := AW (KX7_worthIn l D h0 v) h0 (23) ls (.long p10 :: [])) (fun kk => aw_callV (As := [.int a1, .int (gI h0 x4 (ix a2)), .int (gI h0 x7 (ix (11 + a2)))]) (metX7_worthBy _ _ ep10) (rcv_o okX7 s1) rfl mok_X7_worthBy q1960 q1962 qs87 q125 q1963 (Nat.le_of_ble_eq_true rfl) (Nat.le_of_ble_eq_true rfl) rfl hl.1 rfl (Nat.le_of_ble_eq_true rfl) (pc := 20) dX7_worthIn_20 kk) ?_
  exact sp_r fun hz => aw_lret (congrArg (fun z => (z, h0)) hz) rfl rfl rfl (pc := 23) dX7_worthIn_23
theorem mok_X7_bestLane : mOK yX7_bestLane 1 := ⟨⟨by decide +kernel, by decide +kernel⟩, by decide +kernel⟩
abbrev KX7_bestLane (l : Launch) (D : DD) (h0 hE : AH) (v : Int32) : KT := (l, yX7_bestLane, cX7_bestLane, 4, (some .int), RX7, 7, D, h0, hE, .inl (some (.int v)), false, [])
theorem metX7_bestLane (l : Launch) (D : DD) {a0 : Nat} {a1 : Int32} {h0 : AH} {hE : AH} {v : Int32} (hr : fX7_bestLane a0 a1 h0 = some (v, hE)) : AMet (KX7_bestLane l D h0 hE v) [.ref a0, .int a1] := by
  refine AMet.of (K := (KX7_bestLane l D h0 hE v)) rfl ⟨_, rfl⟩ rfl rfl rfl (Nat.le_of_ble_eq_true rfl) (fun ls hl => ?_)
  have hl : lv_has ls 4 [(0, .ref a0), (1, .int a1)] := hl
  suffices hsp : SP (fX7_bestLane a0 a1 h0) (fun z => z = (v, hE)) (AW (KX7_bestLane l D h0 hE v) h0 0 ls []) from hsp _ hr rfl
  unfold fX7_bestLane
  refine sp_m (aw_aload_n (pc := 0) dX7_bestLane_0 rfl (lv_at hl 0 rfl)) ?_
  refine sp_m (aw_iconst (v := 0) (pc := 1) dX7_bestLane_1 rfl) ?_
  refine sp_g fun s1 => ?_
  refine sp_t fun h2 eh20 => ?_
  have eh2 : gS h2 = gS h0 := by rw [eh20]; rfl
  refine sp_m (aw_put (k := 0) okX7 opX7 s1 (by decide) q1502 (Or.inl rfl) (Or.inl rfl) (hasV_I' eh20) rfl rfl (pc := 2) dX7_bestLane_2) ?_
  refine sp_m (aw_aload_n (pc := 5) dX7_bestLane_5 rfl (lv_at hl 0 rfl)) ?_
  refine sp_m (aw_iload_n (pc := 6) dX7_bestLane_6 rfl (lv_at hl 1 rfl)) ?_
  refine sp_b fun p3 ep3 => ?_
  refine sp_m (G' := AW (KX7_bestLane l D h0 hE v) h2 (10) ls (.int p3 :: [])) (fun kk => aw_callV (As := [.int a1]) (metX7_isBeast _ _ ep3) (rcv_o okX7 (uS eh2 s1)) rfl mok_X7_isBeast q1893 q1895 qs76 q125 q1896 (Nat.le_of_ble_eq_true rfl) (Nat.le_of_ble_eq_true rfl) rfl hl.1 rfl (Nat.le_of_ble_eq_true rfl) (pc := 7) dX7_bestLane_7 kk) ?_
  refine sp_if (fun c4 => ?_) (fun c4 => ?_)
  · refine sp_m (aw_if_ne_t (tgt := 19) (pc := 10) dX7_bestLane_10 (by decide) c4) ?_
    refine sp_m (aw_iconst (v := 0) (pc := 19) dX7_bestLane_19 rfl) ?_
    refine sp_m (aw_istore_n (lv' := [(2, .int 0), (0, .ref a0), (1, .int a1)]) (pc := 20) dX7_bestLane_20 rfl hl (by decide) rfl) (sp_all fun ls hl => ?_)
    refine sp_m (aw_iconst (v := 1) (pc := 21) dX7_bestLane_21 rfl) ?_
    refine sp_m (aw_istore_n (lv' := [(3, .int 1), (2, .int 0), (0, .ref a0), (1, .int a1)]) (pc := 22) dX7_bestLane_22 rfl hl (by decide) rfl) (sp_all fun ls hl => ?_)
    let P5 : Int32 × Int32 → Prop := aLP (KX7_bestLane l D h0 hE v) 4 23 (fun s5v : Int32 × Int32 => [(0, .ref a0), (1, .int a1), (2, .int s5v.1), (3, .int s5v.2)]) (fun s5v => h2)
    let E5 : Int32 → Prop := aLP (KX7_bestLane l D h0 hE v) 4 58 (fun r5v : Int32 => [(0, .ref a0), (2, .int r5v)]) (fun r5v => h2)
    refine sp_bl (P := P5) (E := E5) (fun s5v => sp_all fun ls hl => ?_) (fun k => k ls (lv_sub hl [2, 3, 1, 0] rfl)) (fun r5v => sp_all fun ls hl => ?_)
    · have hl : lv_has ls 4 [(0, .ref a0), (1, .int a1), (2, .int s5v.1), (3, .int s5v.2)] := hl
      show SP _ _ (AW (KX7_bestLane l D h0 hE v) h2 23 ls [])
      unfold X7_bestLane_L23
      refine sp_m (aw_iload_n (pc := 23) dX7_bestLane_23 rfl (lv_at hl 3 rfl)) ?_
      refine sp_m (aw_aload_n (pc := 24) dX7_bestLane_24 rfl (lv_at hl 0 rfl)) ?_
      refine sp_b fun x6 ex6 => ?_
      refine sp_m (aw_get (k := 3) okX7 (uS eh2 s1) (by decide) q1505 (Or.inl rfl) (congrArg va_rf ex6) (pc := 25) dX7_bestLane_25) ?_
      refine sp_g fun s7 => ?_
      refine sp_m (aw_getN (k := 0) okX20 s7 (by decide) nq1642 rfl rfl (pc := 28) dX7_bestLane_28) ?_
      refine sp_if (fun c8 => ?_) (fun c8 => ?_)
      · refine sp_m (aw_icmp_ge_t (tgt := 58) (pc := 31) dX7_bestLane_31 (by decide) c8) ?_
        exact sp_r fun hz => hz ls (lv_sub hl [0, 2] rfl)
      · refine sp_m (aw_icmp_ge_f (tgt := 58) (pc := 31) dX7_bestLane_31 (by decide) c8) ?_
        refine sp_m (aw_aload_n (pc := 34) dX7_bestLane_34 rfl (lv_at hl 0 rfl)) ?_
        refine sp_m (aw_iload_n (pc := 35) dX7_bestLane_35 rfl (lv_at hl 1 rfl)) ?_
        refine sp_m (aw_iload_n (pc := 36) dX7_bestLane_36 rfl (lv_at hl 3 rfl)) ?_
        refine sp_b fun p9 ep9 => ?_
        refine sp_m (G' := AW (KX7_bestLane l D h0 hE v) h2 (40) ls (.long p9 :: [])) (fun kk => aw_callV (As := [.int a1, .int s5v.2]) (metX7_worthIn _ _ ep9) (rcv_o okX7 (uS eh2 s1)) rfl mok_X7_worthIn q1956 q1958 qs86 q125 q1959 (Nat.le_of_ble_eq_true rfl) (Nat.le_of_ble_eq_true rfl) rfl hl.1 rfl (Nat.le_of_ble_eq_true rfl) (pc := 37) dX7_bestLane_37 kk) ?_
        refine sp_m (aw_aload_n (pc := 40) dX7_bestLane_40 rfl (lv_at hl 0 rfl)) ?_
        refine sp_m (aw_iload_n (pc := 41) dX7_bestLane_41 rfl (lv_at hl 1 rfl)) ?_
        refine sp_m (aw_iload_n (pc := 42) dX7_bestLane_42 rfl (lv_at hl 2 rfl)) ?_
        refine sp_b fun p10 ep10 => ?_
        refine sp_m (G' := AW (KX7_bestLane l D h0 hE v) h2 (46) ls (.long p10 :: .long p9 :: [])) (fun kk => aw_callV (As := [.int a1, .int s5v.1]) (metX7_worthIn _ _ ep10) (rcv_o okX7 (uS eh2 s1)) rfl mok_X7_worthIn q1956 q1958 qs86 q125 q1959 (Nat.le_of_ble_eq_true rfl) (Nat.le_of_ble_eq_true rfl) rfl hl.1 rfl (Nat.le_of_ble_eq_true rfl) (pc := 43) dX7_bestLane_43 kk) ?_
        refine sp_m (aw_lcmp (pc := 46) dX7_bestLane_46) ?_
        have hj52_1 : ∀ j11 : Int32, ∀ ls : Array Slot, lv_has ls 4 [(0, .ref a0), (1, .int a1), (2, .int j11), (3, .int s5v.2)] → SP (X7_bestLane_j52 s5v j11) (ZL P5 E5) (AW (KX7_bestLane l D h0 hE v) h2 52 ls ([])) := by
          intro j11 ls hl
          unfold X7_bestLane_j52
          refine sp_m (aw_iinc (v := s5v.2 + 1) (lv' := [(3, .int (s5v.2 + 1)), (0, .ref a0), (1, .int a1), (2, .int j11)]) (pc := 52) dX7_bestLane_52 hl (k := 3) rfl rfl (by decide) rfl) (sp_all fun ls hl => ?_)
          refine sp_m (aw_goto (tgt := 23) (pc := 55) dX7_bestLane_55 (by decide)) ?_
          exact sp_r fun hz => hz ls (lv_sub hl [1, 2, 3, 0] rfl)
        refine sp_if (fun c12 => ?_) (fun c12 => ?_)
        · refine sp_m (aw_if_le_t (tgt := 52) (pc := 47) dX7_bestLane_47 (by decide) ((lg_cmp_le _ _).mpr c12)) ?_
          exact hj52_1 s5v.1 ls (lv_sub hl [0, 1, 2, 3] rfl)
        · refine sp_m (aw_if_le_f (tgt := 52) (pc := 47) dX7_bestLane_47 (by decide) (fun z => c12 ((lg_cmp_le _ _).mp z))) ?_
          refine sp_m (aw_iload_n (pc := 50) dX7_bestLane_50 rfl (lv_at hl 3 rfl)) ?_
          refine sp_m (aw_istore_n (lv' := [(2, .int s5v.2), (0, .ref a0), (1, .int a1), (3, .int s5v.2)]) (pc := 51) dX7_bestLane_51 rfl hl (by decide) rfl) (sp_all fun ls hl => ?_)
          exact hj52_1 s5v.2 ls (lv_sub hl [1, 2, 0, 3] rfl)
    · have hl : lv_has ls 4 [(0, .ref a0), (2, .int r5v)] := hl
      show SP _ _ (AW (KX7_bestLane l D h0 hE v) h2 58 ls [])
      refine sp_m (aw_aload_n (pc := 58) dX7_bestLane_58 rfl (lv_at hl 0 rfl)) ?_
      refine sp_m (aw_iload_n (pc := 59) dX7_bestLane_59 rfl (lv_at hl 1 rfl)) ?_
      refine sp_b fun p13 ep13 => ?_
      refine sp_m (G' := AW (KX7_bestLane l D h0 hE v) p13.2 (63) ls (.int p13.1 :: [])) (fun kk => aw_callV (As := [.int r5v]) (metX7_good _ _ ep13) (rcv_o okX7 (uS eh2 s1)) rfl mok_X7_good q1865 q1867 qs73 q125 q1868 (Nat.le_of_ble_eq_true rfl) (Nat.le_of_ble_eq_true rfl) rfl hl.1 rfl (Nat.le_of_ble_eq_true rfl) (pc := 60) dX7_bestLane_60 kk) ?_
      exact sp_r fun hz => aw_iret hz rfl rfl rfl (pc := 63) dX7_bestLane_63
  · refine sp_m (aw_if_ne_f (tgt := 19) (pc := 10) dX7_bestLane_10 (by decide) (Decidable.not_not.mp c4)) ?_
    refine sp_m (aw_aload_n (pc := 13) dX7_bestLane_13 rfl (lv_at hl 0 rfl)) ?_
    refine sp_m (aw_iconst (v := 1) (pc := 14) dX7_bestLane_14 rfl) ?_
    refine sp_b fun p14 ep14 => ?_
    refine sp_m (G' := AW (KX7_bestLane l D h0 hE v) p14.2 (18) ls (.int p14.1 :: [])) (fun kk => aw_callV (As := [.int 1]) (metX7_refused _ _ ep14) (rcv_o okX7 (uS eh2 s1)) rfl mok_X7_refused q1632 q1634 qs50 q125 q1635 (Nat.le_of_ble_eq_true rfl) (Nat.le_of_ble_eq_true rfl) rfl hl.1 rfl (Nat.le_of_ble_eq_true rfl) (pc := 15) dX7_bestLane_15 kk) ?_
    exact sp_r fun hz => aw_iret hz rfl rfl rfl (pc := 18) dX7_bestLane_18
theorem mok_X7_could : mOK yX7_could 0 := ⟨⟨by decide +kernel, by decide +kernel⟩, by decide +kernel⟩
abbrev KX7_could (l : Launch) (D : DD) (h0 hE : AH) (v : Int32) : KT := (l, yX7_could, cX7_could, 3, (some .int), RX7, 5, D, h0, hE, .inl (some (.int v)), false, [])
theorem metX7_could (l : Launch) (D : DD) {a0 : Nat} {h0 : AH} {hE : AH} {v : Int32} (hr : fX7_could a0 h0 = some (v, hE)) : AMet (KX7_could l D h0 hE v) [.ref a0] := by
  refine AMet.of (K := (KX7_could l D h0 hE v)) rfl ⟨_, rfl⟩ rfl rfl rfl (Nat.le_of_ble_eq_true rfl) (fun ls hl => ?_)
  have hl : lv_has ls 3 [(0, .ref a0)] := hl
  suffices hsp : SP (fX7_could a0 h0) (fun z => z = (v, hE)) (AW (KX7_could l D h0 hE v) h0 0 ls []) from hsp _ hr rfl
  unfold fX7_could
  refine sp_m (aw_aload_n (pc := 0) dX7_could_0 rfl (lv_at hl 0 rfl)) ?_
  refine sp_m (aw_iconst (v := 0) (pc := 1) dX7_could_1 rfl) ?_
  refine sp_g fun s1 => ?_
  refine sp_t fun h2 eh20 => ?_
  have eh2 : gS h2 = gS h0 := by rw [eh20]; rfl
  refine sp_m (aw_put (k := 0) okX7 opX7 s1 (by decide) q1502 (Or.inl rfl) (Or.inl rfl) (hasV_I' eh20) rfl rfl (pc := 2) dX7_could_2) ?_
  refine sp_m (aw_aload_n (pc := 5) dX7_could_5 rfl (lv_at hl 0 rfl)) ?_
  refine sp_o (fun ex3 => ?_) (fun x3 ex3 => ?_)
  · refine sp_m (aw_get (k := 3) okX7 (uS eh2 s1) (by decide) q1505 (Or.inl rfl) (congrArg va_rf ex3) (pc := 6) dX7_could_6) ?_
    refine sp_m (aw_ifnonnullN (pc := 9) dX7_could_9) ?_
    refine sp_m (aw_aload_n (pc := 12) dX7_could_12 rfl (lv_at hl 0 rfl)) ?_
    refine sp_m (aw_iconst (v := 1) (pc := 13) dX7_could_13 rfl) ?_
    refine sp_b fun p17 ep17 => ?_
    refine sp_m (G' := AW (KX7_could l D h0 hE v) p17.2 (17) ls (.int p17.1 :: [])) (fun kk => aw_callV (As := [.int 1]) (metX7_refused _ _ ep17) (rcv_o okX7 (uS eh2 s1)) rfl mok_X7_refused q1632 q1634 qs50 q125 q1635 (Nat.le_of_ble_eq_true rfl) (Nat.le_of_ble_eq_true rfl) rfl hl.1 rfl (Nat.le_of_ble_eq_true rfl) (pc := 14) dX7_could_14 kk) ?_
    exact sp_r fun hz => aw_iret hz rfl rfl rfl (pc := 17) dX7_could_17
  · refine sp_m (aw_get (k := 3) okX7 (uS eh2 s1) (by decide) q1505 (Or.inl rfl) (congrArg va_rf ex3) (pc := 6) dX7_could_6) ?_
    refine sp_m (aw_ifnonnull (tgt := 18) (pc := 9) dX7_could_9 (by decide)) ?_
    refine sp_m (aw_aload_n (pc := 18) dX7_could_18 rfl (lv_at hl 0 rfl)) ?_
    refine sp_b fun p4 ep4 => ?_
    refine sp_m (G' := AW (KX7_could l D h0 hE v) p4 (22) ls ([])) (fun kk => aw_callV (As := []) (metX7_trumpets _ _ ep4) (rcv_o okX7 (uS eh2 s1)) rfl mok_X7_trumpets q2119 q2121 qs104 q125 q2122 (Nat.le_of_ble_eq_true rfl) (Nat.le_of_ble_eq_true rfl) rfl hl.1 rfl (Nat.le_of_ble_eq_true rfl) (pc := 19) dX7_could_19 kk) ?_
    refine sp_m (aw_iconst (v := 0) (pc := 22) dX7_could_22 rfl) ?_
    refine sp_m (aw_istore_n (lv' := [(1, .int 0), (0, .ref a0)]) (pc := 23) dX7_could_23 rfl hl (by decide) rfl) (sp_all fun ls hl => ?_)
    refine sp_m (aw_iconst (v := 0) (pc := 24) dX7_could_24 rfl) ?_
    refine sp_m (aw_istore_n (lv' := [(2, .int 0), (1, .int 0), (0, .ref a0)]) (pc := 25) dX7_could_25 rfl hl (by decide) rfl) (sp_all fun ls hl => ?_)
    let P5 : Int32 × Int32 → Prop := aLP (KX7_could l D h0 hE v) 3 26 (fun s5v : Int32 × Int32 => [(0, .ref a0), (1, .int s5v.1), (2, .int s5v.2)]) (fun s5v => p4)
    let E5 : Int32 → Prop := aLP (KX7_could l D h0 hE v) 3 62 (fun r5v : Int32 => [(0, .ref a0), (1, .int r5v)]) (fun r5v => p4)
    refine sp_bl (P := P5) (E := E5) (fun s5v => sp_all fun ls hl => ?_) (fun k => k ls (lv_sub hl [2, 1, 0] rfl)) (fun r5v => sp_all fun ls hl => ?_)
    · have hl : lv_has ls 3 [(0, .ref a0), (1, .int s5v.1), (2, .int s5v.2)] := hl
      show SP _ _ (AW (KX7_could l D h0 hE v) p4 26 ls [])
      unfold X7_could_L26
      refine sp_m (aw_iload_n (pc := 26) dX7_could_26 rfl (lv_at hl 2 rfl)) ?_
      refine sp_m (aw_aload_n (pc := 27) dX7_could_27 rfl (lv_at hl 0 rfl)) ?_
      refine sp_g fun s6 => ?_
      refine sp_b fun x7 ex7 => ?_
      refine sp_m (aw_get (k := 3) okX7 s6 (by decide) q1505 (Or.inl rfl) (congrArg va_rf ex7) (pc := 28) dX7_could_28) ?_
      refine sp_g fun s8 => ?_
      refine sp_m (aw_getN (k := 3) okX20 s8 (by decide) nq1645 rfl rfl (pc := 31) dX7_could_31) ?_
      refine sp_if (fun c9 => ?_) (fun c9 => ?_)
      · refine sp_m (aw_icmp_ge_t (tgt := 62) (pc := 34) dX7_could_34 (by decide) c9) ?_
        exact sp_r fun hz => hz ls (lv_sub hl [0, 1] rfl)
      · refine sp_m (aw_icmp_ge_f (tgt := 62) (pc := 34) dX7_could_34 (by decide) c9) ?_
        refine sp_m (aw_iload_n (pc := 37) dX7_could_37 rfl (lv_at hl 1 rfl)) ?_
        refine sp_m (aw_aload_n (pc := 38) dX7_could_38 rfl (lv_at hl 0 rfl)) ?_
        refine sp_b fun x10 ex10 => ?_
        refine sp_m (aw_get (k := 30) okX7 s6 (by decide) q1532 (Or.inl rfl) (congrArg va_rf ex10) (pc := 39) dX7_could_39) ?_
        refine sp_m (aw_iload_n (pc := 42) dX7_could_42 rfl (lv_at hl 2 rfl)) ?_
        refine sp_g fun s11 => ?_
        refine sp_g fun i12 => ?_
        refine sp_m (aw_iald s11 i12 (pc := 43) dX7_could_43) ?_
        have hj54_1 : ∀ j13 : Int32, ∀ ls : Array Slot, lv_has ls 3 [(0, .ref a0), (2, .int s5v.2)] → SP (X7_could_j54 s5v j13) (ZL P5 E5) (AW (KX7_could l D h0 hE v) p4 54 ls (.int j13 :: .int s5v.1 :: [])) := by
          intro j13 ls hl
          unfold X7_could_j54
          refine sp_m (aw_ior (pc := 54) dX7_could_54) ?_
          refine sp_m (aw_istore_n (lv' := [(1, .int (s5v.1 ||| j13)), (0, .ref a0), (2, .int s5v.2)]) (pc := 55) dX7_could_55 rfl hl (by decide) rfl) (sp_all fun ls hl => ?_)
          refine sp_m (aw_iinc (v := s5v.2 + 1) (lv' := [(2, .int (s5v.2 + 1)), (1, .int (s5v.1 ||| j13)), (0, .ref a0)]) (pc := 56) dX7_could_56 hl (k := 2) rfl rfl (by decide) rfl) (sp_all fun ls hl => ?_)
          refine sp_m (aw_goto (tgt := 26) (pc := 59) dX7_could_59 (by decide)) ?_
          exact sp_r fun hz => hz ls (lv_sub hl [2, 1, 0] rfl)
        refine sp_if (fun c14 => ?_) (fun c14 => ?_)
        · refine sp_m (aw_if_le_t (tgt := 53) (pc := 44) dX7_could_44 (by decide) c14) ?_
          refine sp_m (aw_iconst (v := 0) (pc := 53) dX7_could_53 rfl) ?_
          exact hj54_1 0 ls (lv_sub hl [0, 2] rfl)
        · refine sp_m (aw_if_le_f (tgt := 53) (pc := 44) dX7_could_44 (by decide) c14) ?_
          refine sp_m (aw_iconst (v := 1) (pc := 47) dX7_could_47 rfl) ?_
          refine sp_m (aw_iload_n (pc := 48) dX7_could_48 rfl (lv_at hl 2 rfl)) ?_
          refine sp_m (aw_ishl (pc := 49) dX7_could_49) ?_
          refine sp_m (aw_goto (tgt := 54) (pc := 50) dX7_could_50 (by decide)) ?_
          exact hj54_1 (1 <<< (s5v.2 &&& 31)) ls (lv_sub hl [0, 2] rfl)
    · have hl : lv_has ls 3 [(0, .ref a0), (1, .int r5v)] := hl
      show SP _ _ (AW (KX7_could l D h0 hE v) p4 62 ls [])
      refine sp_m (aw_aload_n (pc := 62) dX7_could_62 rfl (lv_at hl 0 rfl)) ?_
      refine sp_m (aw_iload_n (pc := 63) dX7_could_63 rfl (lv_at hl 1 rfl)) ?_
      refine sp_g fun s16 => ?_
      refine sp_b fun p15 ep15 => ?_
      refine sp_m (G' := AW (KX7_could l D h0 hE v) p15.2 (67) ls (.int p15.1 :: [])) (fun kk => aw_callV (As := [.int r5v]) (metX7_good _ _ ep15) (rcv_o okX7 s16) rfl mok_X7_good q1865 q1867 qs73 q125 q1868 (Nat.le_of_ble_eq_true rfl) (Nat.le_of_ble_eq_true rfl) rfl hl.1 rfl (Nat.le_of_ble_eq_true rfl) (pc := 64) dX7_could_64 kk) ?_
      exact sp_r fun hz => aw_iret hz rfl rfl rfl (pc := 67) dX7_could_67
theorem mok_X7_fault : mOK yX7_fault 0 := ⟨⟨by decide +kernel, by decide +kernel⟩, by decide +kernel⟩
abbrev KX7_fault (l : Launch) (D : DD) (h0 hE : AH) (v : Int32) : KT := (l, yX7_fault, cX7_fault, 1, (some .int), RX7, 1, D, h0, hE, .inl (some (.int v)), false, [])
theorem metX7_fault (l : Launch) (D : DD) {a0 : Nat} {h0 : AH} {hE : AH} {v : Int32} (hr : fX7_fault a0 h0 = some (v, hE)) : AMet (KX7_fault l D h0 hE v) [.ref a0] := by
  refine AMet.of (K := (KX7_fault l D h0 hE v)) rfl ⟨_, rfl⟩ rfl rfl rfl (Nat.le_of_ble_eq_true rfl) (fun ls hl => ?_)
  have hl : lv_has ls 1 [(0, .ref a0)] := hl
  suffices hsp : SP (fX7_fault a0 h0) (fun z => z = (v, hE)) (AW (KX7_fault l D h0 hE v) h0 0 ls []) from hsp _ hr rfl
  unfold fX7_fault
  refine sp_m (aw_aload_n (pc := 0) dX7_fault_0 rfl (lv_at hl 0 rfl)) ?_
  refine sp_m (aw_iconst (v := 0) (pc := 1) dX7_fault_1 rfl) ?_
  refine sp_g fun s1 => ?_
  refine sp_t fun h2 eh20 => ?_
  have eh2 : gS h2 = gS h0 := by rw [eh20]; rfl
  refine sp_m (aw_put (k := 0) okX7 opX7 s1 (by decide) q1502 (Or.inl rfl) (Or.inl rfl) (hasV_I' eh20) rfl rfl (pc := 2) dX7_fault_2) ?_
  refine sp_m (aw_aload_n (pc := 5) dX7_fault_5 rfl (lv_at hl 0 rfl)) ?_
  refine sp_m (aw_get (k := 12) okX7 (uS eh2 s1) (by decide) q1514 (Or.inl rfl) rfl (pc := 6) dX7_fault_6) ?_
  exact sp_r fun hz => aw_iret hz rfl rfl rfl (pc := 9) dX7_fault_9
theorem mok_X7_feed : mOK yX7_feed 5 := ⟨⟨by decide +kernel, by decide +kernel⟩, by decide +kernel⟩
abbrev KX7_feed (l : Launch) (D : DD) (h0 hE : AH) (v : Int32) : KT := (l, yX7_feed, cX7_feed, 8, (some .int), RX7, 1, D, h0, hE, .inl (some (.int v)), false, [])
theorem metX7_feed (l : Launch) (D : DD) {a0 : Nat} {a1 : Int32} {a2 : Int32} {a3 : Int32} {a4 : Int32} {a5 : Int32} {h0 : AH} {hE : AH} {v : Int32} (hr : fX7_feed a0 a1 a2 a3 a4 a5 h0 = some (v, hE)) : AMet (KX7_feed l D h0 hE v) [.ref a0, .int a1, .int a2, .int a3, .int a4, .int a5] := by
  refine AMet.of (K := (KX7_feed l D h0 hE v)) rfl ⟨_, rfl⟩ rfl rfl rfl (Nat.le_of_ble_eq_true rfl) (fun ls hl => ?_)
  have hl : lv_has ls 8 [(0, .ref a0), (1, .int a1), (2, .int a2), (3, .int a3), (4, .int a4), (5, .int a5)] := hl
  suffices hsp : SP (fX7_feed a0 a1 a2 a3 a4 a5 h0) (fun z => z = (v, hE)) (AW (KX7_feed l D h0 hE v) h0 0 ls []) from hsp _ hr rfl
  unfold fX7_feed
  refine sp_m (aw_aload_n (pc := 0) dX7_feed_0 rfl (lv_at hl 0 rfl)) ?_
  refine sp_m (aw_iconst (v := 0) (pc := 1) dX7_feed_1 rfl) ?_
  refine sp_g fun s1 => ?_
  refine sp_t fun h2 eh20 => ?_
  have eh2 : gS h2 = gS h0 := by rw [eh20]; rfl
  refine sp_m (aw_put (k := 0) okX7 opX7 s1 (by decide) q1502 (Or.inl rfl) (Or.inl rfl) (hasV_I' eh20) rfl rfl (pc := 2) dX7_feed_2) ?_
  refine sp_m (aw_aload_n (pc := 5) dX7_feed_5 rfl (lv_at hl 0 rfl)) ?_
  refine sp_m (aw_get (k := 6) okX7 (uS eh2 s1) (by decide) q1508 (Or.inl rfl) rfl (pc := 6) dX7_feed_6) ?_
  refine sp_m (aw_bipush (v := 20) (pc := 9) dX7_feed_9 rfl) ?_
  refine sp_m (aw_iadd (pc := 11) dX7_feed_11) ?_
  refine sp_m (aw_sipush (v := 900) (pc := 12) dX7_feed_12 rfl) ?_
  refine sp_if (fun c3 => ?_) (fun c3 => ?_)
  · refine sp_m (aw_icmp_le_t (tgt := 20) (pc := 15) dX7_feed_15 (by decide) c3) ?_
    refine sp_m (aw_iconst (v := 0) (pc := 20) dX7_feed_20 rfl) ?_
    refine sp_m (aw_istore (lv' := [(6, .int 0), (0, .ref a0), (1, .int a1), (2, .int a2), (3, .int a3), (4, .int a4), (5, .int a5)]) (pc := 21) dX7_feed_21 hl (by decide) rfl) (sp_all fun ls hl => ?_)
    let P4 : Int32 × AH → Prop := aLP (KX7_feed l D h0 hE v) 8 23 (fun s4v : Int32 × AH => [(0, .ref a0), (1, .int a1), (2, .int a2), (3, .int a3), (4, .int a4), (5, .int a5), (6, .int s4v.1)]) (fun s4v => s4v.2)
    let E4 : AH → Prop := aLP (KX7_feed l D h0 hE v) 8 117 (fun r4v : AH => [(0, .ref a0)]) (fun r4v => r4v)
    refine sp_bl (P := P4) (E := E4) (fun s4v => sp_all fun ls hl => ?_) (fun k => k ls (lv_sub hl [1, 2, 3, 4, 5, 6, 0] rfl)) (fun r4v => sp_all fun ls hl => ?_)
    · have hl : lv_has ls 8 [(0, .ref a0), (1, .int a1), (2, .int a2), (3, .int a3), (4, .int a4), (5, .int a5), (6, .int s4v.1)] := hl
      show SP _ _ (AW (KX7_feed l D h0 hE v) s4v.2 23 ls [])
      unfold X7_feed_L23
      refine sp_m (aw_iload (pc := 23) dX7_feed_23 (lv_at hl 6 rfl)) ?_
      refine sp_m (aw_bipush (v := 20) (pc := 25) dX7_feed_25 rfl) ?_
      refine sp_if (fun c5 => ?_) (fun c5 => ?_)
      · refine sp_m (aw_icmp_ge_t (tgt := 117) (pc := 27) dX7_feed_27 (by decide) c5) ?_
        exact sp_r fun hz => hz ls (lv_sub hl [0] rfl)
      · refine sp_m (aw_icmp_ge_f (tgt := 117) (pc := 27) dX7_feed_27 (by decide) c5) ?_
        refine sp_m (aw_iload (pc := 30) dX7_feed_30 (lv_at hl 6 rfl)) ?_
        refine sp_m (aw_iconst (v := 4) (pc := 32) dX7_feed_32 rfl) ?_
        have hj76_1 : ∀ j6 : Int32, ∀ ls : Array Slot, lv_has ls 8 [(0, .ref a0), (1, .int a1), (2, .int a2), (3, .int a3), (4, .int a4), (5, .int a5), (6, .int s4v.1)] → SP (X7_feed_j76 a0 s4v j6) (ZL P4 E4) (AW (KX7_feed l D h0 hE v) s4v.2 76 ls (.int j6 :: [])) := by
          intro j6 ls hl
          unfold X7_feed_j76
          refine sp_m (aw_istore (lv' := [(7, .int j6), (0, .ref a0), (1, .int a1), (2, .int a2), (3, .int a3), (4, .int a4), (5, .int a5), (6, .int s4v.1)]) (pc := 76) dX7_feed_76 hl (by decide) rfl) (sp_all fun ls hl => ?_)
          refine sp_m (aw_aload_n (pc := 78) dX7_feed_78 rfl (lv_at hl 1 rfl)) ?_
          refine sp_g fun s7 => ?_
          refine sp_b fun x8 ex8 => ?_
          refine sp_m (aw_get (k := 5) okX7 s7 (by decide) q1507 (Or.inl rfl) (congrArg va_rf ex8) (pc := 79) dX7_feed_79) ?_
          refine sp_m (aw_aload_n (pc := 82) dX7_feed_82 rfl (lv_at hl 1 rfl)) ?_
          refine sp_m (aw_get (k := 6) okX7 s7 (by decide) q1508 (Or.inl rfl) rfl (pc := 83) dX7_feed_83) ?_
          refine sp_m (aw_iload (pc := 86) dX7_feed_86 (lv_at hl 0 rfl)) ?_
          refine sp_m (aw_bipush (v := 24) (pc := 88) dX7_feed_88 rfl) ?_
          refine sp_m (aw_bipush (v := 8) (pc := 90) dX7_feed_90 rfl) ?_
          refine sp_m (aw_iload (pc := 92) dX7_feed_92 (lv_at hl 7 rfl)) ?_
          refine sp_m (aw_iconst (v := 4) (pc := 94) dX7_feed_94 rfl) ?_
          refine sp_m (aw_irem (pc := 95) dX7_feed_95 (by decide)) ?_
          refine sp_m (aw_imul (pc := 96) dX7_feed_96) ?_
          refine sp_m (aw_isub (pc := 97) dX7_feed_97) ?_
          refine sp_m (aw_ishr (pc := 98) dX7_feed_98) ?_
          refine sp_m (aw_i2b (pc := 99) dX7_feed_99) ?_
          refine sp_g fun s9 => ?_
          refine sp_g fun i10 => ?_
          refine sp_t fun h11 eh110 => ?_
          have eh11 : gS h11 = gS s4v.2 := by rw [eh110]; rfl
          refine sp_m (fun kk => aw_bast s9 i10 (pc := 100) dX7_feed_100 (AWe eh110 kk)) ?_
          refine sp_m (aw_aload_n (pc := 101) dX7_feed_101 rfl (lv_at hl 1 rfl)) ?_
          refine sp_m (aw_dup (pc := 102) dX7_feed_102 rfl) ?_
          refine sp_m (aw_get (k := 6) okX7 (uS eh11 s7) (by decide) q1508 (Or.inl rfl) rfl (pc := 103) dX7_feed_103) ?_
          refine sp_m (aw_iconst (v := 1) (pc := 106) dX7_feed_106 rfl) ?_
          refine sp_m (aw_iadd (pc := 107) dX7_feed_107) ?_
          refine sp_t fun h12 eh120 => ?_
          have eh12 : gS h12 = gS h11 := by rw [eh120]; rfl
          refine sp_m (aw_put (k := 6) okX7 opX7 (uS eh11 s7) (by decide) q1508 (Or.inl rfl) (Or.inl rfl) (hasV_I' eh120) rfl rfl (pc := 108) dX7_feed_108) ?_
          refine sp_m (aw_iinc (v := s4v.1 + 1) (lv' := [(6, .int (s4v.1 + 1)), (7, .int j6), (0, .ref a0), (1, .int a1), (2, .int a2), (3, .int a3), (4, .int a4), (5, .int a5)]) (pc := 111) dX7_feed_111 hl (k := 7) rfl rfl (by decide) rfl) (sp_all fun ls hl => ?_)
          refine sp_m (aw_goto (tgt := 23) (pc := 114) dX7_feed_114 (by decide)) ?_
          exact sp_r fun hz => hz ls (lv_sub hl [2, 3, 4, 5, 6, 7, 0] rfl)
        refine sp_if (fun c13 => ?_) (fun c13 => ?_)
        · refine sp_m (aw_icmp_ge_t (tgt := 40) (pc := 33) dX7_feed_33 (by decide) c13) ?_
          refine sp_m (aw_iload (pc := 40) dX7_feed_40 (lv_at hl 6 rfl)) ?_
          refine sp_m (aw_bipush (v := 8) (pc := 42) dX7_feed_42 rfl) ?_
          refine sp_if (fun c14 => ?_) (fun c14 => ?_)
          · refine sp_m (aw_icmp_ge_t (tgt := 51) (pc := 44) dX7_feed_44 (by decide) c14) ?_
            refine sp_m (aw_iload (pc := 51) dX7_feed_51 (lv_at hl 6 rfl)) ?_
            refine sp_m (aw_bipush (v := 12) (pc := 53) dX7_feed_53 rfl) ?_
            refine sp_if (fun c15 => ?_) (fun c15 => ?_)
            · refine sp_m (aw_icmp_ge_t (tgt := 62) (pc := 55) dX7_feed_55 (by decide) c15) ?_
              refine sp_m (aw_iload (pc := 62) dX7_feed_62 (lv_at hl 6 rfl)) ?_
              refine sp_m (aw_bipush (v := 16) (pc := 64) dX7_feed_64 rfl) ?_
              refine sp_if (fun c16 => ?_) (fun c16 => ?_)
              · refine sp_m (aw_icmp_ge_t (tgt := 74) (pc := 66) dX7_feed_66 (by decide) c16) ?_
                refine sp_m (aw_iload (pc := 74) dX7_feed_74 (lv_at hl 5 rfl)) ?_
                exact hj76_1 a5 ls (lv_sub hl [0, 1, 2, 3, 4, 5, 6] rfl)
              · refine sp_m (aw_icmp_ge_f (tgt := 74) (pc := 66) dX7_feed_66 (by decide) c16) ?_
                refine sp_m (aw_iload (pc := 69) dX7_feed_69 (lv_at hl 4 rfl)) ?_
                refine sp_m (aw_goto (tgt := 76) (pc := 71) dX7_feed_71 (by decide)) ?_
                exact hj76_1 a4 ls (lv_sub hl [0, 1, 2, 3, 4, 5, 6] rfl)
            · refine sp_m (aw_icmp_ge_f (tgt := 62) (pc := 55) dX7_feed_55 (by decide) c15) ?_
              refine sp_m (aw_iload_n (pc := 58) dX7_feed_58 rfl (lv_at hl 3 rfl)) ?_
              refine sp_m (aw_goto (tgt := 76) (pc := 59) dX7_feed_59 (by decide)) ?_
              exact hj76_1 a3 ls (lv_sub hl [0, 1, 2, 3, 4, 5, 6] rfl)
          · refine sp_m (aw_icmp_ge_f (tgt := 51) (pc := 44) dX7_feed_44 (by decide) c14) ?_
            refine sp_m (aw_iload_n (pc := 47) dX7_feed_47 rfl (lv_at hl 2 rfl)) ?_
            refine sp_m (aw_goto (tgt := 76) (pc := 48) dX7_feed_48 (by decide)) ?_
            exact hj76_1 a2 ls (lv_sub hl [0, 1, 2, 3, 4, 5, 6] rfl)
        · refine sp_m (aw_icmp_ge_f (tgt := 40) (pc := 33) dX7_feed_33 (by decide) c13) ?_
          refine sp_m (aw_iload_n (pc := 36) dX7_feed_36 rfl (lv_at hl 1 rfl)) ?_
          refine sp_m (aw_goto (tgt := 76) (pc := 37) dX7_feed_37 (by decide)) ?_
          exact hj76_1 a1 ls (lv_sub hl [0, 1, 2, 3, 4, 5, 6] rfl)
    · have hl : lv_has ls 8 [(0, .ref a0)] := hl
      show SP _ _ (AW (KX7_feed l D h0 hE v) r4v 117 ls [])
      refine sp_m (aw_aload_n (pc := 117) dX7_feed_117 rfl (lv_at hl 0 rfl)) ?_
      refine sp_g fun s17 => ?_
      refine sp_m (aw_get (k := 6) okX7 s17 (by decide) q1508 (Or.inl rfl) rfl (pc := 118) dX7_feed_118) ?_
      exact sp_r fun hz => aw_iret hz rfl rfl rfl (pc := 121) dX7_feed_121
  · refine sp_m (aw_icmp_le_f (tgt := 20) (pc := 15) dX7_feed_15 (by decide) c3) ?_
    refine sp_m (aw_iconst (v := (-1)) (pc := 18) dX7_feed_18 rfl) ?_
    exact sp_r fun hz => aw_iret hz rfl rfl rfl (pc := 19) dX7_feed_19
theorem mok_X7_fits : mOK yX7_fits 0 := ⟨⟨by decide +kernel, by decide +kernel⟩, by decide +kernel⟩
abbrev KX7_fits (l : Launch) (D : DD) (h0 hE : AH) (v : Int32) : KT := (l, yX7_fits, cX7_fits, 1, (some .int), RX7, 5, D, h0, hE, .inl (some (.int v)), false, [])
theorem metX7_fits (l : Launch) (D : DD) {a0 : Nat} {h0 : AH} {hE : AH} {v : Int32} (hr : fX7_fits a0 h0 = some (v, hE)) : AMet (KX7_fits l D h0 hE v) [.ref a0] := by
  refine AMet.of (K := (KX7_fits l D h0 hE v)) rfl ⟨_, rfl⟩ rfl rfl rfl (Nat.le_of_ble_eq_true rfl) (fun ls hl => ?_)
  have hl : lv_has ls 1 [(0, .ref a0)] := hl
  suffices hsp : SP (fX7_fits a0 h0) (fun z => z = (v, hE)) (AW (KX7_fits l D h0 hE v) h0 0 ls []) from hsp _ hr rfl
  unfold fX7_fits
  refine sp_m (aw_aload_n (pc := 0) dX7_fits_0 rfl (lv_at hl 0 rfl)) ?_
  refine sp_m (aw_iconst (v := 0) (pc := 1) dX7_fits_1 rfl) ?_
  refine sp_g fun s1 => ?_
  refine sp_t fun h2 eh20 => ?_
  have eh2 : gS h2 = gS h0 := by rw [eh20]; rfl
  refine sp_m (aw_put (k := 0) okX7 opX7 s1 (by decide) q1502 (Or.inl rfl) (Or.inl rfl) (hasV_I' eh20) rfl rfl (pc := 2) dX7_fits_2) ?_
  refine sp_m (aw_aload_n (pc := 5) dX7_fits_5 rfl (lv_at hl 0 rfl)) ?_
  refine sp_o (fun ex3 => ?_) (fun x3 ex3 => ?_)
  · refine sp_m (aw_get (k := 3) okX7 (uS eh2 s1) (by decide) q1505 (Or.inl rfl) (congrArg va_rf ex3) (pc := 6) dX7_fits_6) ?_
    refine sp_m (aw_ifnonnullN (pc := 9) dX7_fits_9) ?_
    refine sp_m (aw_aload_n (pc := 12) dX7_fits_12 rfl (lv_at hl 0 rfl)) ?_
    refine sp_m (aw_iconst (v := 1) (pc := 13) dX7_fits_13 rfl) ?_
    refine sp_b fun p7 ep7 => ?_
    refine sp_m (G' := AW (KX7_fits l D h0 hE v) p7.2 (17) ls (.int p7.1 :: [])) (fun kk => aw_callV (As := [.int 1]) (metX7_refused _ _ ep7) (rcv_o okX7 (uS eh2 s1)) rfl mok_X7_refused q1632 q1634 qs50 q125 q1635 (Nat.le_of_ble_eq_true rfl) (Nat.le_of_ble_eq_true rfl) rfl hl.1 rfl (Nat.le_of_ble_eq_true rfl) (pc := 14) dX7_fits_14 kk) ?_
    exact sp_r fun hz => aw_iret hz rfl rfl rfl (pc := 17) dX7_fits_17
  · refine sp_m (aw_get (k := 3) okX7 (uS eh2 s1) (by decide) q1505 (Or.inl rfl) (congrArg va_rf ex3) (pc := 6) dX7_fits_6) ?_
    refine sp_m (aw_ifnonnull (tgt := 18) (pc := 9) dX7_fits_9 (by decide)) ?_
    refine sp_m (aw_aload_n (pc := 18) dX7_fits_18 rfl (lv_at hl 0 rfl)) ?_
    refine sp_b fun p4 ep4 => ?_
    refine sp_m (G' := AW (KX7_fits l D h0 hE v) p4 (22) ls ([])) (fun kk => aw_callV (As := []) (metX7_trumpets _ _ ep4) (rcv_o okX7 (uS eh2 s1)) rfl mok_X7_trumpets q2119 q2121 qs104 q125 q2122 (Nat.le_of_ble_eq_true rfl) (Nat.le_of_ble_eq_true rfl) rfl hl.1 rfl (Nat.le_of_ble_eq_true rfl) (pc := 19) dX7_fits_19 kk) ?_
    refine sp_m (aw_aload_n (pc := 22) dX7_fits_22 rfl (lv_at hl 0 rfl)) ?_
    refine sp_m (aw_aload_n (pc := 23) dX7_fits_23 rfl (lv_at hl 0 rfl)) ?_
    refine sp_g fun s5 => ?_
    refine sp_m (aw_get (k := 31) okX7 s5 (by decide) q1533 (Or.inl rfl) rfl (pc := 24) dX7_fits_24) ?_
    refine sp_b fun p6 ep6 => ?_
    refine sp_m (G' := AW (KX7_fits l D h0 hE v) p6.2 (30) ls (.int p6.1 :: [])) (fun kk => aw_callV (As := [.int (gI p4 a0 31)]) (metX7_good _ _ ep6) (rcv_o okX7 s5) rfl mok_X7_good q1865 q1867 qs73 q125 q1868 (Nat.le_of_ble_eq_true rfl) (Nat.le_of_ble_eq_true rfl) rfl hl.1 rfl (Nat.le_of_ble_eq_true rfl) (pc := 27) dX7_fits_27 kk) ?_
    exact sp_r fun hz => aw_iret hz rfl rfl rfl (pc := 30) dX7_fits_30
theorem mok_X7_hammer : mOK yX7_hammer 1 := ⟨⟨by decide +kernel, by decide +kernel⟩, by decide +kernel⟩
abbrev KX7_hammer (l : Launch) (D : DD) (h0 hE : AH) (v : Int32) : KT := (l, yX7_hammer, cX7_hammer, 2, (some .boolean), RX7, 3, D, h0, hE, .inl (some (.int v)), false, [])
theorem metX7_hammer (l : Launch) (D : DD) {a0 : Nat} {a1 : Int32} {h0 : AH} {hE : AH} {v : Int32} (hr : fX7_hammer a0 a1 h0 = some (v, hE)) : AMet (KX7_hammer l D h0 hE v) [.ref a0, .int a1] := by
  refine AMet.of (K := (KX7_hammer l D h0 hE v)) rfl ⟨_, rfl⟩ rfl rfl rfl (Nat.le_of_ble_eq_true rfl) (fun ls hl => ?_)
  have hl : lv_has ls 2 [(0, .ref a0), (1, .int a1)] := hl
  suffices hsp : SP (fX7_hammer a0 a1 h0) (fun z => z = (v, hE)) (AW (KX7_hammer l D h0 hE v) h0 0 ls []) from hsp _ hr rfl
  unfold fX7_hammer
  refine sp_m (aw_aload_n (pc := 0) dX7_hammer_0 rfl (lv_at hl 0 rfl)) ?_
  refine sp_m (aw_iconst (v := 0) (pc := 1) dX7_hammer_1 rfl) ?_
  refine sp_g fun s1 => ?_
  refine sp_t fun h2 eh20 => ?_
  have eh2 : gS h2 = gS h0 := by rw [eh20]; rfl
  refine sp_m (aw_put (k := 0) okX7 opX7 s1 (by decide) q1502 (Or.inl rfl) (Or.inl rfl) (hasV_I' eh20) rfl rfl (pc := 2) dX7_hammer_2) ?_
  refine sp_m (aw_aload_n (pc := 5) dX7_hammer_5 rfl (lv_at hl 0 rfl)) ?_
  refine sp_m (aw_iload_n (pc := 6) dX7_hammer_6 rfl (lv_at hl 1 rfl)) ?_
  refine sp_b fun p3 ep3 => ?_
  refine sp_m (G' := AW (KX7_hammer l D h0 hE v) h2 (10) ls (.int p3 :: [])) (fun kk => aw_callV (As := [.int a1]) (metX7_isBeast _ _ ep3) (rcv_o okX7 (uS eh2 s1)) rfl mok_X7_isBeast q1893 q1895 qs76 q125 q1896 (Nat.le_of_ble_eq_true rfl) (Nat.le_of_ble_eq_true rfl) rfl hl.1 rfl (Nat.le_of_ble_eq_true rfl) (pc := 7) dX7_hammer_7 kk) ?_
  refine sp_if (fun c4 => ?_) (fun c4 => ?_)
  · refine sp_m (aw_if_ne_t (tgt := 19) (pc := 10) dX7_hammer_10 (by decide) c4) ?_
    refine sp_m (aw_aload_n (pc := 19) dX7_hammer_19 rfl (lv_at hl 0 rfl)) ?_
    refine sp_m (aw_iload_n (pc := 20) dX7_hammer_20 rfl (lv_at hl 1 rfl)) ?_
    refine sp_b fun p5 ep5 => ?_
    refine sp_m (G' := AW (KX7_hammer l D h0 hE v) h2 (24) ls (.int p5 :: [])) (fun kk => aw_callV (As := [.int a1]) (metX7_isDead _ _ ep5) (rcv_o okX7 (uS eh2 s1)) rfl mok_X7_isDead q1885 q1887 qs75 q125 q1888 (Nat.le_of_ble_eq_true rfl) (Nat.le_of_ble_eq_true rfl) rfl hl.1 rfl (Nat.le_of_ble_eq_true rfl) (pc := 21) dX7_hammer_21 kk) ?_
    refine sp_if (fun c6 => ?_) (fun c6 => ?_)
    · refine sp_m (aw_if_eq_t (tgt := 33) (pc := 24) dX7_hammer_24 (by decide) c6) ?_
      refine sp_m (aw_aload_n (pc := 33) dX7_hammer_33 rfl (lv_at hl 0 rfl)) ?_
      refine sp_b fun p7 ep7 => ?_
      refine sp_m (G' := AW (KX7_hammer l D h0 hE v) p7 (37) ls ([])) (fun kk => aw_callV (As := []) (metX7_remembers _ _ ep7) (rcv_o okX7 (uS eh2 s1)) rfl mok_X7_remembers q2191 q2193 qs113 q125 q2194 (Nat.le_of_ble_eq_true rfl) (Nat.le_of_ble_eq_true rfl) rfl hl.1 rfl (Nat.le_of_ble_eq_true rfl) (pc := 34) dX7_hammer_34 kk) ?_
      refine sp_m (aw_aload_n (pc := 37) dX7_hammer_37 rfl (lv_at hl 0 rfl)) ?_
      refine sp_g fun s8 => ?_
      refine sp_b fun x9 ex9 => ?_
      refine sp_m (aw_get (k := 16) okX7 s8 (by decide) q1518 (Or.inl rfl) (congrArg va_rf ex9) (pc := 38) dX7_hammer_38) ?_
      refine sp_m (aw_bipush (v := 10) (pc := 41) dX7_hammer_41 rfl) ?_
      refine sp_m (aw_dup2 (pc := 43) dX7_hammer_43 rfl rfl) ?_
      refine sp_g fun s10 => ?_
      refine sp_g fun i11 => ?_
      refine sp_m (aw_iald s10 i11 (pc := 44) dX7_hammer_44) ?_
      refine sp_m (aw_iconst (v := 1) (pc := 45) dX7_hammer_45 rfl) ?_
      refine sp_m (aw_iload_n (pc := 46) dX7_hammer_46 rfl (lv_at hl 1 rfl)) ?_
      refine sp_m (aw_ishl (pc := 47) dX7_hammer_47) ?_
      refine sp_m (aw_ior (pc := 48) dX7_hammer_48) ?_
      refine sp_g fun i12 => ?_
      refine sp_t fun h13 eh130 => ?_
      have eh13 : gS h13 = gS p7 := by rw [eh130]; rfl
      refine sp_m (fun kk => aw_iast s10 i12 (pc := 49) dX7_hammer_49 (AWe eh130 kk)) ?_
      refine sp_m (aw_aload_n (pc := 50) dX7_hammer_50 rfl (lv_at hl 0 rfl)) ?_
      refine sp_b fun p14 ep14 => ?_
      refine sp_m (G' := AW (KX7_hammer l D h0 hE v) p14.2 (54) ls (.int p14.1 :: [])) (fun kk => aw_callV (As := []) (metX7_granted _ _ ep14) (rcv_o okX7 (uS eh13 s8)) rfl mok_X7_granted q2195 q2197 qs114 q125 q2198 (Nat.le_of_ble_eq_true rfl) (Nat.le_of_ble_eq_true rfl) rfl hl.1 rfl (Nat.le_of_ble_eq_true rfl) (pc := 51) dX7_hammer_51 kk) ?_
      refine sp_g fun g15 => ?_
      exact sp_r fun hz => aw_zret (nar_b g15) hz rfl rfl rfl (pc := 54) dX7_hammer_54
    · refine sp_m (aw_if_eq_f (tgt := 33) (pc := 24) dX7_hammer_24 (by decide) c6) ?_
      refine sp_m (aw_aload_n (pc := 27) dX7_hammer_27 rfl (lv_at hl 0 rfl)) ?_
      refine sp_m (aw_iconst (v := 5) (pc := 28) dX7_hammer_28 rfl) ?_
      refine sp_b fun p16 ep16 => ?_
      refine sp_m (G' := AW (KX7_hammer l D h0 hE v) p16.2 (32) ls (.int p16.1 :: [])) (fun kk => aw_callV (As := [.int 5]) (metX7_denied _ _ ep16) (rcv_o okX7 (uS eh2 s1)) rfl mok_X7_denied q2187 q2189 qs112 q125 q2190 (Nat.le_of_ble_eq_true rfl) (Nat.le_of_ble_eq_true rfl) rfl hl.1 rfl (Nat.le_of_ble_eq_true rfl) (pc := 29) dX7_hammer_29 kk) ?_
      refine sp_g fun g17 => ?_
      exact sp_r fun hz => aw_zret (nar_b g17) hz rfl rfl rfl (pc := 32) dX7_hammer_32
  · refine sp_m (aw_if_ne_f (tgt := 19) (pc := 10) dX7_hammer_10 (by decide) (Decidable.not_not.mp c4)) ?_
    refine sp_m (aw_aload_n (pc := 13) dX7_hammer_13 rfl (lv_at hl 0 rfl)) ?_
    refine sp_m (aw_iconst (v := 1) (pc := 14) dX7_hammer_14 rfl) ?_
    refine sp_b fun p18 ep18 => ?_
    refine sp_m (G' := AW (KX7_hammer l D h0 hE v) p18.2 (18) ls (.int p18.1 :: [])) (fun kk => aw_callV (As := [.int 1]) (metX7_denied _ _ ep18) (rcv_o okX7 (uS eh2 s1)) rfl mok_X7_denied q2187 q2189 qs112 q125 q2190 (Nat.le_of_ble_eq_true rfl) (Nat.le_of_ble_eq_true rfl) rfl hl.1 rfl (Nat.le_of_ble_eq_true rfl) (pc := 15) dX7_hammer_15 kk) ?_
    refine sp_g fun g19 => ?_
    exact sp_r fun hz => aw_zret (nar_b g19) hz rfl rfl rfl (pc := 18) dX7_hammer_18
theorem mok_X7_isLane : mOK yX7_isLane 1 := ⟨⟨by decide +kernel, by decide +kernel⟩, by decide +kernel⟩
abbrev KX7_isLane (l : Launch) (D : DD) (h0 : AH) (v : Int32) : KT := (l, yX7_isLane, cX7_isLane, 2, (some .boolean), RX7, 1, D, h0, h0, .inl (some (.int v)), false, [])
theorem metX7_isLane (l : Launch) (D : DD) {a0 : Nat} {a1 : Int32} {h0 : AH} {v : Int32} (hr : fX7_isLane a0 a1 h0 = some v) : AMet (KX7_isLane l D h0 v) [.ref a0, .int a1] := by
  refine AMet.of (K := (KX7_isLane l D h0 v)) rfl ⟨_, rfl⟩ rfl rfl rfl (Nat.le_of_ble_eq_true rfl) (fun ls hl => ?_)
  have hl : lv_has ls 2 [(0, .ref a0), (1, .int a1)] := hl
  suffices hsp : SP (fX7_isLane a0 a1 h0) (fun z => z = v) (AW (KX7_isLane l D h0 v) h0 0 ls []) from hsp _ hr rfl
  unfold fX7_isLane
  refine sp_m (aw_aload_n (pc := 0) dX7_isLane_0 rfl (lv_at hl 0 rfl)) ?_
  refine sp_g fun s1 => ?_
  refine sp_o (fun ex2 => ?_) (fun x2 ex2 => ?_)
  · refine sp_m (aw_get (k := 3) okX7 s1 (by decide) q1505 (Or.inl rfl) (congrArg va_rf ex2) (pc := 1) dX7_isLane_1) ?_
    refine sp_m (aw_ifnullN (tgt := 26) (pc := 4) dX7_isLane_4 (by decide)) ?_
    refine sp_m (aw_iconst (v := 0) (pc := 26) dX7_isLane_26 rfl) ?_
    exact sp_r fun hz => aw_zret (nar_b (Or.inl rfl)) (congrArg (fun z => (z, h0)) hz) rfl rfl rfl (pc := 27) dX7_isLane_27
  · refine sp_m (aw_get (k := 3) okX7 s1 (by decide) q1505 (Or.inl rfl) (congrArg va_rf ex2) (pc := 1) dX7_isLane_1) ?_
    refine sp_m (aw_ifnull (pc := 4) dX7_isLane_4) ?_
    refine sp_m (aw_iload_n (pc := 7) dX7_isLane_7 rfl (lv_at hl 1 rfl)) ?_
    refine sp_if (fun c3 => ?_) (fun c3 => ?_)
    · refine sp_m (aw_if_lt_t (tgt := 26) (pc := 8) dX7_isLane_8 (by decide) c3) ?_
      refine sp_m (aw_iconst (v := 0) (pc := 26) dX7_isLane_26 rfl) ?_
      exact sp_r fun hz => aw_zret (nar_b (Or.inl rfl)) (congrArg (fun z => (z, h0)) hz) rfl rfl rfl (pc := 27) dX7_isLane_27
    · refine sp_m (aw_if_lt_f (tgt := 26) (pc := 8) dX7_isLane_8 (by decide) c3) ?_
      refine sp_m (aw_iload_n (pc := 11) dX7_isLane_11 rfl (lv_at hl 1 rfl)) ?_
      refine sp_m (aw_aload_n (pc := 12) dX7_isLane_12 rfl (lv_at hl 0 rfl)) ?_
      refine sp_b fun x4 ex4 => ?_
      refine sp_m (aw_get (k := 3) okX7 s1 (by decide) q1505 (Or.inl rfl) (congrArg va_rf ex4) (pc := 13) dX7_isLane_13) ?_
      refine sp_g fun s5 => ?_
      refine sp_m (aw_getN (k := 0) okX20 s5 (by decide) nq1642 rfl rfl (pc := 16) dX7_isLane_16) ?_
      refine sp_if (fun c6 => ?_) (fun c6 => ?_)
      · refine sp_m (aw_icmp_ge_t (tgt := 26) (pc := 19) dX7_isLane_19 (by decide) c6) ?_
        refine sp_m (aw_iconst (v := 0) (pc := 26) dX7_isLane_26 rfl) ?_
        exact sp_r fun hz => aw_zret (nar_b (Or.inl rfl)) (congrArg (fun z => (z, h0)) hz) rfl rfl rfl (pc := 27) dX7_isLane_27
      · refine sp_m (aw_icmp_ge_f (tgt := 26) (pc := 19) dX7_isLane_19 (by decide) c6) ?_
        refine sp_m (aw_iconst (v := 1) (pc := 22) dX7_isLane_22 rfl) ?_
        refine sp_m (aw_goto (tgt := 27) (pc := 23) dX7_isLane_23 (by decide)) ?_
        exact sp_r fun hz => aw_zret (nar_b (Or.inr rfl)) (congrArg (fun z => (z, h0)) hz) rfl rfl rfl (pc := 27) dX7_isLane_27
theorem mok_X7_lane : mOK yX7_lane 2 := ⟨⟨by decide +kernel, by decide +kernel⟩, by decide +kernel⟩
abbrev KX7_lane (l : Launch) (D : DD) (h0 hE : AH) (v : Int32) : KT := (l, yX7_lane, cX7_lane, 5, (some .int), RX7, 3, D, h0, hE, .inl (some (.int v)), false, [])
theorem metX7_lane (l : Launch) (D : DD) {a0 : Nat} {a1 : Int32} {a2 : Int32} {h0 : AH} {hE : AH} {v : Int32} (hr : fX7_lane a0 a1 a2 h0 = some (v, hE)) : AMet (KX7_lane l D h0 hE v) [.ref a0, .int a1, .int a2] := by
  refine AMet.of (K := (KX7_lane l D h0 hE v)) rfl ⟨_, rfl⟩ rfl rfl rfl (Nat.le_of_ble_eq_true rfl) (fun ls hl => ?_)
  have hl : lv_has ls 5 [(0, .ref a0), (1, .int a1), (2, .int a2)] := hl
  suffices hsp : SP (fX7_lane a0 a1 a2 h0) (fun z => z = (v, hE)) (AW (KX7_lane l D h0 hE v) h0 0 ls []) from hsp _ hr rfl
  unfold fX7_lane
  refine sp_m (aw_aload_n (pc := 0) dX7_lane_0 rfl (lv_at hl 0 rfl)) ?_
  refine sp_m (aw_iconst (v := 0) (pc := 1) dX7_lane_1 rfl) ?_
  refine sp_g fun s1 => ?_
  refine sp_t fun h2 eh20 => ?_
  have eh2 : gS h2 = gS h0 := by rw [eh20]; rfl
  refine sp_m (aw_put (k := 0) okX7 opX7 s1 (by decide) q1502 (Or.inl rfl) (Or.inl rfl) (hasV_I' eh20) rfl rfl (pc := 2) dX7_lane_2) ?_
  refine sp_m (aw_aload_n (pc := 5) dX7_lane_5 rfl (lv_at hl 0 rfl)) ?_
  refine sp_m (aw_iload_n (pc := 6) dX7_lane_6 rfl (lv_at hl 1 rfl)) ?_
  refine sp_b fun p3 ep3 => ?_
  refine sp_m (G' := AW (KX7_lane l D h0 hE v) h2 (10) ls (.int p3 :: [])) (fun kk => aw_callV (As := [.int a1]) (metX7_isLane _ _ ep3) (rcv_o okX7 (uS eh2 s1)) rfl mok_X7_isLane q1881 q1883 qs74 q125 q1884 (Nat.le_of_ble_eq_true rfl) (Nat.le_of_ble_eq_true rfl) rfl hl.1 rfl (Nat.le_of_ble_eq_true rfl) (pc := 7) dX7_lane_7 kk) ?_
  have hj22_1 : ∀ ls : Array Slot, lv_has ls 5 [(0, .ref a0)] → SP (X7_lane_j22 a0 h2) (fun z => z = (v, hE)) (AW (KX7_lane l D h0 hE v) h2 22 ls ([])) := by
    intro ls hl
    unfold X7_lane_j22
    refine sp_m (aw_aload_n (pc := 22) dX7_lane_22 rfl (lv_at hl 0 rfl)) ?_
    refine sp_m (aw_iconst (v := 1) (pc := 23) dX7_lane_23 rfl) ?_
    refine sp_b fun p4 ep4 => ?_
    refine sp_m (G' := AW (KX7_lane l D h0 hE v) p4.2 (27) ls (.int p4.1 :: [])) (fun kk => aw_callV (As := [.int 1]) (metX7_refused _ _ ep4) (rcv_o okX7 (uS eh2 s1)) rfl mok_X7_refused q1632 q1634 qs50 q125 q1635 (Nat.le_of_ble_eq_true rfl) (Nat.le_of_ble_eq_true rfl) rfl hl.1 rfl (Nat.le_of_ble_eq_true rfl) (pc := 24) dX7_lane_24 kk) ?_
    exact sp_r fun hz => aw_iret hz rfl rfl rfl (pc := 27) dX7_lane_27
  refine sp_if (fun c5 => ?_) (fun c5 => ?_)
  · refine sp_m (aw_if_eq_t (tgt := 22) (pc := 10) dX7_lane_10 (by decide) c5) ?_
    exact hj22_1 ls (lv_sub hl [0] rfl)
  · refine sp_m (aw_if_eq_f (tgt := 22) (pc := 10) dX7_lane_10 (by decide) c5) ?_
    refine sp_m (aw_iload_n (pc := 13) dX7_lane_13 rfl (lv_at hl 2 rfl)) ?_
    refine sp_m (aw_iconst (v := 0) (pc := 14) dX7_lane_14 rfl) ?_
    refine sp_m (aw_iconst (v := 2) (pc := 15) dX7_lane_15 rfl) ?_
    refine sp_b fun p6 ep6 => ?_
    refine sp_m (G' := AW (KX7_lane l D h0 hE v) h2 (19) ls (.int p6 :: [])) (fun kk => aw_callS (As := [.int a2, .int 0, .int 2]) (metX7_in _ _ ep6) mok_X7_in q1793 q1794 q125 q1795 (Nat.le_of_ble_eq_true rfl) (Nat.le_of_ble_eq_true rfl) rfl hl.1 rfl (Nat.le_of_ble_eq_true rfl) (pc := 16) dX7_lane_16 kk) ?_
    refine sp_if (fun c7 => ?_) (fun c7 => ?_)
    · refine sp_m (aw_if_ne_t (tgt := 28) (pc := 19) dX7_lane_19 (by decide) c7) ?_
      refine sp_m (aw_iload_n (pc := 28) dX7_lane_28 rfl (lv_at hl 2 rfl)) ?_
      refine sp_m (aw_iconst (v := 2) (pc := 29) dX7_lane_29 rfl) ?_
      refine sp_if (fun c8 => ?_) (fun c8 => ?_)
      · refine sp_m (aw_icmp_ge_t (tgt := 63) (pc := 30) dX7_lane_30 (by decide) c8) ?_
        refine sp_m (aw_iconst (v := 0) (pc := 63) dX7_lane_63 rfl) ?_
        refine sp_m (aw_istore_n (lv' := [(3, .int 0), (0, .ref a0), (1, .int a1), (2, .int a2)]) (pc := 64) dX7_lane_64 rfl hl (by decide) rfl) (sp_all fun ls hl => ?_)
        refine sp_m (aw_iconst (v := 0) (pc := 65) dX7_lane_65 rfl) ?_
        refine sp_m (aw_istore (lv' := [(4, .int 0), (3, .int 0), (0, .ref a0), (1, .int a1), (2, .int a2)]) (pc := 66) dX7_lane_66 hl (by decide) rfl) (sp_all fun ls hl => ?_)
        let P9 : Int32 × Int32 → Prop := aLP (KX7_lane l D h0 hE v) 5 68 (fun s9v : Int32 × Int32 => [(0, .ref a0), (1, .int a1), (3, .int s9v.1), (4, .int s9v.2)]) (fun s9v => h2)
        let E9 : Int32 → Prop := aLP (KX7_lane l D h0 hE v) 5 119 (fun r9v : Int32 => [(0, .ref a0), (3, .int r9v)]) (fun r9v => h2)
        refine sp_bl (P := P9) (E := E9) (fun s9v => sp_all fun ls hl => ?_) (fun k => k ls (lv_sub hl [2, 3, 1, 0] rfl)) (fun r9v => sp_all fun ls hl => ?_)
        · have hl : lv_has ls 5 [(0, .ref a0), (1, .int a1), (3, .int s9v.1), (4, .int s9v.2)] := hl
          show SP _ _ (AW (KX7_lane l D h0 hE v) h2 68 ls [])
          unfold X7_lane_L68
          refine sp_m (aw_iload (pc := 68) dX7_lane_68 (lv_at hl 3 rfl)) ?_
          refine sp_m (aw_aload_n (pc := 70) dX7_lane_70 rfl (lv_at hl 0 rfl)) ?_
          refine sp_b fun x10 ex10 => ?_
          refine sp_m (aw_get (k := 3) okX7 (uS eh2 s1) (by decide) q1505 (Or.inl rfl) (congrArg va_rf ex10) (pc := 71) dX7_lane_71) ?_
          refine sp_g fun s11 => ?_
          refine sp_m (aw_getN (k := 3) okX20 s11 (by decide) nq1645 rfl rfl (pc := 74) dX7_lane_74) ?_
          refine sp_if (fun c12 => ?_) (fun c12 => ?_)
          · refine sp_m (aw_icmp_ge_t (tgt := 119) (pc := 77) dX7_lane_77 (by decide) c12) ?_
            exact sp_r fun hz => hz ls (lv_sub hl [0, 2] rfl)
          · refine sp_m (aw_icmp_ge_f (tgt := 119) (pc := 77) dX7_lane_77 (by decide) c12) ?_
            refine sp_m (aw_iload_n (pc := 80) dX7_lane_80 rfl (lv_at hl 2 rfl)) ?_
            refine sp_m (aw_aload_n (pc := 81) dX7_lane_81 rfl (lv_at hl 0 rfl)) ?_
            refine sp_b fun x13 ex13 => ?_
            refine sp_m (aw_get (k := 16) okX7 (uS eh2 s1) (by decide) q1518 (Or.inl rfl) (congrArg va_rf ex13) (pc := 82) dX7_lane_82) ?_
            refine sp_m (aw_iconst (v := 0) (pc := 85) dX7_lane_85 rfl) ?_
            refine sp_m (aw_iload (pc := 86) dX7_lane_86 (lv_at hl 3 rfl)) ?_
            refine sp_m (aw_iadd (pc := 88) dX7_lane_88) ?_
            refine sp_g fun s14 => ?_
            refine sp_g fun i15 => ?_
            refine sp_m (aw_iald s14 i15 (pc := 89) dX7_lane_89) ?_
            refine sp_m (aw_iload_n (pc := 90) dX7_lane_90 rfl (lv_at hl 1 rfl)) ?_
            have hj111_2 : ∀ j16 : Int32, ∀ ls : Array Slot, lv_has ls 5 [(0, .ref a0), (1, .int a1), (4, .int s9v.2)] → SP (X7_lane_j111 s9v j16) (ZL P9 E9) (AW (KX7_lane l D h0 hE v) h2 111 ls (.int j16 :: .int s9v.1 :: [])) := by
              intro j16 ls hl
              unfold X7_lane_j111
              refine sp_m (aw_ior (pc := 111) dX7_lane_111) ?_
              refine sp_m (aw_istore_n (lv' := [(3, .int (s9v.1 ||| j16)), (0, .ref a0), (1, .int a1), (4, .int s9v.2)]) (pc := 112) dX7_lane_112 rfl hl (by decide) rfl) (sp_all fun ls hl => ?_)
              refine sp_m (aw_iinc (v := s9v.2 + 1) (lv' := [(4, .int (s9v.2 + 1)), (3, .int (s9v.1 ||| j16)), (0, .ref a0), (1, .int a1)]) (pc := 113) dX7_lane_113 hl (k := 3) rfl rfl (by decide) rfl) (sp_all fun ls hl => ?_)
              refine sp_m (aw_goto (tgt := 68) (pc := 116) dX7_lane_116 (by decide)) ?_
              exact sp_r fun hz => hz ls (lv_sub hl [2, 3, 1, 0] rfl)
            have hj110_3 : ∀ ls : Array Slot, lv_has ls 5 [(0, .ref a0), (1, .int a1), (4, .int s9v.2)] → SP (X7_lane_j110 s9v) (ZL P9 E9) (AW (KX7_lane l D h0 hE v) h2 110 ls (.int s9v.1 :: [])) := by
              intro ls hl
              unfold X7_lane_j110
              refine sp_m (aw_iconst (v := 0) (pc := 110) dX7_lane_110 rfl) ?_
              exact hj111_2 0 ls (lv_sub hl [0, 1, 2] rfl)
            refine sp_if (fun c17 => ?_) (fun c17 => ?_)
            · refine sp_m (aw_icmp_ne_t (tgt := 110) (pc := 91) dX7_lane_91 (by decide) c17) ?_
              exact hj110_3 ls (lv_sub hl [0, 1, 3] rfl)
            · refine sp_m (aw_icmp_ne_f (tgt := 110) (pc := 91) dX7_lane_91 (by decide) (Decidable.not_not.mp c17)) ?_
              refine sp_m (aw_aload_n (pc := 94) dX7_lane_94 rfl (lv_at hl 0 rfl)) ?_
              refine sp_m (aw_iload (pc := 95) dX7_lane_95 (lv_at hl 3 rfl)) ?_
              refine sp_b fun p18 ep18 => ?_
              refine sp_m (G' := AW (KX7_lane l D h0 hE v) h2 (100) ls (.int p18 :: .int s9v.1 :: [])) (fun kk => aw_callV (As := [.int s9v.2]) (metX7_isDead _ _ ep18) (rcv_o okX7 (uS eh2 s1)) rfl mok_X7_isDead q1885 q1887 qs75 q125 q1888 (Nat.le_of_ble_eq_true rfl) (Nat.le_of_ble_eq_true rfl) rfl hl.1 rfl (Nat.le_of_ble_eq_true rfl) (pc := 97) dX7_lane_97 kk) ?_
              refine sp_if (fun c19 => ?_) (fun c19 => ?_)
              · refine sp_m (aw_if_ne_t (tgt := 110) (pc := 100) dX7_lane_100 (by decide) c19) ?_
                exact hj110_3 ls (lv_sub hl [0, 1, 3] rfl)
              · refine sp_m (aw_if_ne_f (tgt := 110) (pc := 100) dX7_lane_100 (by decide) (Decidable.not_not.mp c19)) ?_
                refine sp_m (aw_iconst (v := 1) (pc := 103) dX7_lane_103 rfl) ?_
                refine sp_m (aw_iload (pc := 104) dX7_lane_104 (lv_at hl 3 rfl)) ?_
                refine sp_m (aw_ishl (pc := 106) dX7_lane_106) ?_
                refine sp_m (aw_goto (tgt := 111) (pc := 107) dX7_lane_107 (by decide)) ?_
                exact hj111_2 (1 <<< (s9v.2 &&& 31)) ls (lv_sub hl [0, 1, 3] rfl)
        · have hl : lv_has ls 5 [(0, .ref a0), (3, .int r9v)] := hl
          show SP _ _ (AW (KX7_lane l D h0 hE v) h2 119 ls [])
          refine sp_m (aw_aload_n (pc := 119) dX7_lane_119 rfl (lv_at hl 0 rfl)) ?_
          refine sp_m (aw_iload_n (pc := 120) dX7_lane_120 rfl (lv_at hl 1 rfl)) ?_
          refine sp_b fun p20 ep20 => ?_
          refine sp_m (G' := AW (KX7_lane l D h0 hE v) p20.2 (124) ls (.int p20.1 :: [])) (fun kk => aw_callV (As := [.int r9v]) (metX7_good _ _ ep20) (rcv_o okX7 (uS eh2 s1)) rfl mok_X7_good q1865 q1867 qs73 q125 q1868 (Nat.le_of_ble_eq_true rfl) (Nat.le_of_ble_eq_true rfl) rfl hl.1 rfl (Nat.le_of_ble_eq_true rfl) (pc := 121) dX7_lane_121 kk) ?_
          exact sp_r fun hz => aw_iret hz rfl rfl rfl (pc := 124) dX7_lane_124
      · refine sp_m (aw_icmp_ge_f (tgt := 63) (pc := 30) dX7_lane_30 (by decide) c8) ?_
        refine sp_m (aw_aload_n (pc := 33) dX7_lane_33 rfl (lv_at hl 0 rfl)) ?_
        refine sp_m (aw_iload_n (pc := 34) dX7_lane_34 rfl (lv_at hl 2 rfl)) ?_
        have hj59_5 : ∀ j21 : Int32, ∀ ls : Array Slot, lv_has ls 5 [] → SP (X7_lane_j59 a0 h2 j21) (fun z => z = (v, hE)) (AW (KX7_lane l D h0 hE v) h2 59 ls (.int j21 :: .ref a0 :: [])) := by
          intro j21 ls hl
          unfold X7_lane_j59
          refine sp_b fun p22 ep22 => ?_
          refine sp_m (G' := AW (KX7_lane l D h0 hE v) p22.2 (62) ls (.int p22.1 :: [])) (fun kk => aw_callV (As := [.int j21]) (metX7_good _ _ ep22) (rcv_o okX7 (uS eh2 s1)) rfl mok_X7_good q1865 q1867 qs73 q125 q1868 (Nat.le_of_ble_eq_true rfl) (Nat.le_of_ble_eq_true rfl) rfl hl.1 rfl (Nat.le_of_ble_eq_true rfl) (pc := 59) dX7_lane_59 kk) ?_
          exact sp_r fun hz => aw_iret hz rfl rfl rfl (pc := 62) dX7_lane_62
        refine sp_if (fun c23 => ?_) (fun c23 => ?_)
        · refine sp_m (aw_if_ne_t (tgt := 50) (pc := 35) dX7_lane_35 (by decide) c23) ?_
          refine sp_m (aw_aload_n (pc := 50) dX7_lane_50 rfl (lv_at hl 0 rfl)) ?_
          refine sp_b fun x24 ex24 => ?_
          refine sp_m (aw_get (k := 16) okX7 (uS eh2 s1) (by decide) q1518 (Or.inl rfl) (congrArg va_rf ex24) (pc := 51) dX7_lane_51) ?_
          refine sp_m (aw_bipush (v := 11) (pc := 54) dX7_lane_54 rfl) ?_
          refine sp_m (aw_iload_n (pc := 56) dX7_lane_56 rfl (lv_at hl 1 rfl)) ?_
          refine sp_m (aw_iadd (pc := 57) dX7_lane_57) ?_
          refine sp_g fun s25 => ?_
          refine sp_g fun i26 => ?_
          refine sp_m (aw_iald s25 i26 (pc := 58) dX7_lane_58) ?_
          exact hj59_5 (gI h2 x24 (ix (11 + a1))) ls (lv_sub hl [] rfl)
        · refine sp_m (aw_if_ne_f (tgt := 50) (pc := 35) dX7_lane_35 (by decide) (Decidable.not_not.mp c23)) ?_
          refine sp_m (aw_aload_n (pc := 38) dX7_lane_38 rfl (lv_at hl 0 rfl)) ?_
          refine sp_b fun x27 ex27 => ?_
          refine sp_m (aw_get (k := 3) okX7 (uS eh2 s1) (by decide) q1505 (Or.inl rfl) (congrArg va_rf ex27) (pc := 39) dX7_lane_39) ?_
          refine sp_g fun s28 => ?_
          refine sp_b fun x29 ex29 => ?_
          refine sp_m (aw_getN (k := 8) okX20 s28 (by decide) nq1652 rfl (congrArg va_rf ex29) (pc := 42) dX7_lane_42) ?_
          refine sp_m (aw_iload_n (pc := 45) dX7_lane_45 rfl (lv_at hl 1 rfl)) ?_
          refine sp_g fun s30 => ?_
          refine sp_g fun i31 => ?_
          refine sp_m (aw_iald s30 i31 (pc := 46) dX7_lane_46) ?_
          refine sp_m (aw_goto (tgt := 59) (pc := 47) dX7_lane_47 (by decide)) ?_
          exact hj59_5 (gI h2 x29 (ix a1)) ls (lv_sub hl [] rfl)
    · refine sp_m (aw_if_ne_f (tgt := 28) (pc := 19) dX7_lane_19 (by decide) (Decidable.not_not.mp c7)) ?_
      exact hj22_1 ls (lv_sub hl [0] rfl)
theorem mok_X7_led : mOK yX7_led 1 := ⟨⟨by decide +kernel, by decide +kernel⟩, by decide +kernel⟩
abbrev KX7_led (l : Launch) (D : DD) (h0 hE : AH) (v : Int32) : KT := (l, yX7_led, cX7_led, 4, (some .int), RX7, 3, D, h0, hE, .inl (some (.int v)), false, [])
theorem metX7_led (l : Launch) (D : DD) {a0 : Nat} {a1 : Int32} {h0 : AH} {hE : AH} {v : Int32} (hr : fX7_led a0 a1 h0 = some (v, hE)) : AMet (KX7_led l D h0 hE v) [.ref a0, .int a1] := by
  refine AMet.of (K := (KX7_led l D h0 hE v)) rfl ⟨_, rfl⟩ rfl rfl rfl (Nat.le_of_ble_eq_true rfl) (fun ls hl => ?_)
  have hl : lv_has ls 4 [(0, .ref a0), (1, .int a1)] := hl
  suffices hsp : SP (fX7_led a0 a1 h0) (fun z => z = (v, hE)) (AW (KX7_led l D h0 hE v) h0 0 ls []) from hsp _ hr rfl
  unfold fX7_led
  refine sp_m (aw_aload_n (pc := 0) dX7_led_0 rfl (lv_at hl 0 rfl)) ?_
  refine sp_m (aw_iconst (v := 0) (pc := 1) dX7_led_1 rfl) ?_
  refine sp_g fun s1 => ?_
  refine sp_t fun h2 eh20 => ?_
  have eh2 : gS h2 = gS h0 := by rw [eh20]; rfl
  refine sp_m (aw_put (k := 0) okX7 opX7 s1 (by decide) q1502 (Or.inl rfl) (Or.inl rfl) (hasV_I' eh20) rfl rfl (pc := 2) dX7_led_2) ?_
  refine sp_m (aw_iconst (v := 0) (pc := 5) dX7_led_5 rfl) ?_
  refine sp_m (aw_istore_n (lv' := [(2, .int 0), (0, .ref a0), (1, .int a1)]) (pc := 6) dX7_led_6 rfl hl (by decide) rfl) (sp_all fun ls hl => ?_)
  refine sp_m (aw_iconst (v := 0) (pc := 7) dX7_led_7 rfl) ?_
  refine sp_m (aw_istore_n (lv' := [(3, .int 0), (2, .int 0), (0, .ref a0), (1, .int a1)]) (pc := 8) dX7_led_8 rfl hl (by decide) rfl) (sp_all fun ls hl => ?_)
  let P3 : Int32 × Int32 → Prop := aLP (KX7_led l D h0 hE v) 4 9 (fun s3v : Int32 × Int32 => [(0, .ref a0), (1, .int a1), (2, .int s3v.1), (3, .int s3v.2)]) (fun s3v => h2)
  refine sp_loop (P := P3) (fun s3v => sp_all fun ls hl => ?_) (fun k => k ls (lv_sub hl [2, 3, 1, 0] rfl))
  have hl : lv_has ls 4 [(0, .ref a0), (1, .int a1), (2, .int s3v.1), (3, .int s3v.2)] := hl
  show SP _ _ (AW (KX7_led l D h0 hE v) h2 9 ls [])
  unfold X7_led_L9
  refine sp_m (aw_aload_n (pc := 9) dX7_led_9 rfl (lv_at hl 0 rfl)) ?_
  refine sp_o (fun ex4 => ?_) (fun x4 ex4 => ?_)
  · refine sp_m (aw_get (k := 3) okX7 (uS eh2 s1) (by decide) q1505 (Or.inl rfl) (congrArg va_rf ex4) (pc := 10) dX7_led_10) ?_
    refine sp_m (aw_ifnullN (tgt := 54) (pc := 13) dX7_led_13 (by decide)) ?_
    refine sp_m (aw_aload_n (pc := 54) dX7_led_54 rfl (lv_at hl 0 rfl)) ?_
    refine sp_m (aw_iconst (v := 1) (pc := 55) dX7_led_55 rfl) ?_
    refine sp_t fun h13 eh130 => ?_
    have eh13 : gS h13 = gS h2 := by rw [eh130]; rfl
    refine sp_m (aw_put (k := 0) okX7 opX7 (uS eh2 s1) (by decide) q1502 (Or.inl rfl) (Or.inl rfl) (hasV_I' eh130) rfl rfl (pc := 56) dX7_led_56) ?_
    refine sp_m (aw_iconst (v := 0) (pc := 59) dX7_led_59 rfl) ?_
    exact sp_r fun hz => aw_iret hz rfl rfl rfl (pc := 60) dX7_led_60
  · refine sp_m (aw_get (k := 3) okX7 (uS eh2 s1) (by decide) q1505 (Or.inl rfl) (congrArg va_rf ex4) (pc := 10) dX7_led_10) ?_
    refine sp_m (aw_ifnull (pc := 13) dX7_led_13) ?_
    refine sp_m (aw_iload_n (pc := 16) dX7_led_16 rfl (lv_at hl 3 rfl)) ?_
    refine sp_m (aw_aload_n (pc := 17) dX7_led_17 rfl (lv_at hl 0 rfl)) ?_
    refine sp_b fun x5 ex5 => ?_
    refine sp_m (aw_get (k := 3) okX7 (uS eh2 s1) (by decide) q1505 (Or.inl rfl) (congrArg va_rf ex5) (pc := 18) dX7_led_18) ?_
    refine sp_g fun s6 => ?_
    refine sp_m (aw_getN (k := 3) okX20 s6 (by decide) nq1645 rfl rfl (pc := 21) dX7_led_21) ?_
    refine sp_if (fun c7 => ?_) (fun c7 => ?_)
    · refine sp_m (aw_icmp_ge_t (tgt := 54) (pc := 24) dX7_led_24 (by decide) c7) ?_
      refine sp_m (aw_aload_n (pc := 54) dX7_led_54 rfl (lv_at hl 0 rfl)) ?_
      refine sp_m (aw_iconst (v := 1) (pc := 55) dX7_led_55 rfl) ?_
      refine sp_t fun h8 eh80 => ?_
      have eh8 : gS h8 = gS h2 := by rw [eh80]; rfl
      refine sp_m (aw_put (k := 0) okX7 opX7 (uS eh2 s1) (by decide) q1502 (Or.inl rfl) (Or.inl rfl) (hasV_I' eh80) rfl rfl (pc := 56) dX7_led_56) ?_
      refine sp_m (aw_iconst (v := 0) (pc := 59) dX7_led_59 rfl) ?_
      exact sp_r fun hz => aw_iret hz rfl rfl rfl (pc := 60) dX7_led_60
    · refine sp_m (aw_icmp_ge_f (tgt := 54) (pc := 24) dX7_led_24 (by decide) c7) ?_
      refine sp_m (aw_aload_n (pc := 27) dX7_led_27 rfl (lv_at hl 0 rfl)) ?_
      refine sp_m (aw_iload_n (pc := 28) dX7_led_28 rfl (lv_at hl 3 rfl)) ?_
      refine sp_b fun p9 ep9 => ?_
      refine sp_m (G' := AW (KX7_led l D h0 hE v) h2 (32) ls (.int p9 :: [])) (fun kk => aw_callV (As := [.int s3v.2]) (metX7_isDead _ _ ep9) (rcv_o okX7 (uS eh2 s1)) rfl mok_X7_isDead q1885 q1887 qs75 q125 q1888 (Nat.le_of_ble_eq_true rfl) (Nat.le_of_ble_eq_true rfl) rfl hl.1 rfl (Nat.le_of_ble_eq_true rfl) (pc := 29) dX7_led_29 kk) ?_
      have hj48_1 : ∀ j10 : Int32, ∀ ls : Array Slot, lv_has ls 4 [(0, .ref a0), (1, .int a1), (2, .int j10), (3, .int s3v.2)] → SP (X7_led_j48 s3v j10) (ZL P3 (fun z => z = (v, hE))) (AW (KX7_led l D h0 hE v) h2 48 ls ([])) := by
        intro j10 ls hl
        unfold X7_led_j48
        refine sp_m (aw_iinc (v := s3v.2 + 1) (lv' := [(3, .int (s3v.2 + 1)), (0, .ref a0), (1, .int a1), (2, .int j10)]) (pc := 48) dX7_led_48 hl (k := 3) rfl rfl (by decide) rfl) (sp_all fun ls hl => ?_)
        refine sp_m (aw_goto (tgt := 9) (pc := 51) dX7_led_51 (by decide)) ?_
        exact sp_r fun hz => hz ls (lv_sub hl [1, 2, 3, 0] rfl)
      refine sp_if (fun c11 => ?_) (fun c11 => ?_)
      · refine sp_m (aw_if_ne_t (tgt := 38) (pc := 32) dX7_led_32 (by decide) c11) ?_
        refine sp_m (aw_iload_n (pc := 38) dX7_led_38 rfl (lv_at hl 2 rfl)) ?_
        refine sp_m (aw_iload_n (pc := 39) dX7_led_39 rfl (lv_at hl 1 rfl)) ?_
        refine sp_if (fun c12 => ?_) (fun c12 => ?_)
        · refine sp_m (aw_icmp_ne_t (tgt := 45) (pc := 40) dX7_led_40 (by decide) c12) ?_
          refine sp_m (aw_iinc (v := s3v.1 + 1) (lv' := [(2, .int (s3v.1 + 1)), (0, .ref a0), (1, .int a1), (3, .int s3v.2)]) (pc := 45) dX7_led_45 hl (k := 2) rfl rfl (by decide) rfl) (sp_all fun ls hl => ?_)
          exact hj48_1 (s3v.1 + 1) ls (lv_sub hl [1, 2, 0, 3] rfl)
        · refine sp_m (aw_icmp_ne_f (tgt := 45) (pc := 40) dX7_led_40 (by decide) (Decidable.not_not.mp c12)) ?_
          refine sp_m (aw_iload_n (pc := 43) dX7_led_43 rfl (lv_at hl 3 rfl)) ?_
          exact sp_r fun hz => aw_iret hz rfl rfl rfl (pc := 44) dX7_led_44
      · refine sp_m (aw_if_ne_f (tgt := 38) (pc := 32) dX7_led_32 (by decide) (Decidable.not_not.mp c11)) ?_
        refine sp_m (aw_goto (tgt := 48) (pc := 35) dX7_led_35 (by decide)) ?_
        exact hj48_1 s3v.1 ls (lv_sub hl [0, 1, 2, 3] rfl)
theorem mok_X7_comes : mOK yX7_comes 1 := ⟨⟨by decide +kernel, by decide +kernel⟩, by decide +kernel⟩
abbrev KX7_comes (l : Launch) (D : DD) (h0 hE : AH) : KT := (l, yX7_comes, cX7_comes, 3, none, RX7, 1, D, h0, hE, .inl (none), false, [])
theorem metX7_comes (l : Launch) (D : DD) {a0 : Nat} {a1 : Int32} {h0 : AH} {hE : AH} (hr : fX7_comes a0 a1 h0 = some hE) : AMet (KX7_comes l D h0 hE) [.ref a0, .int a1] := by
  refine AMet.of (K := (KX7_comes l D h0 hE)) rfl ⟨_, rfl⟩ rfl rfl rfl (Nat.le_of_ble_eq_true rfl) (fun ls hl => ?_)
  have hl : lv_has ls 3 [(0, .ref a0), (1, .int a1)] := hl
  suffices hsp : SP (fX7_comes a0 a1 h0) (fun z => z = hE) (AW (KX7_comes l D h0 hE) h0 0 ls []) from hsp _ hr rfl
  unfold fX7_comes
  refine sp_m (aw_aload_n (pc := 0) dX7_comes_0 rfl (lv_at hl 0 rfl)) ?_
  refine sp_g fun s1 => ?_
  refine sp_b fun x2 ex2 => ?_
  refine sp_m (aw_get (k := 27) okX7 s1 (by decide) q1529 (Or.inl rfl) (congrArg va_rf ex2) (pc := 1) dX7_comes_1) ?_
  refine sp_m (aw_iload_n (pc := 4) dX7_comes_4 rfl (lv_at hl 1 rfl)) ?_
  refine sp_m (aw_iconst (v := 1) (pc := 5) dX7_comes_5 rfl) ?_
  refine sp_m (aw_isub (pc := 6) dX7_comes_6) ?_
  refine sp_g fun s3 => ?_
  refine sp_g fun i4 => ?_
  refine sp_m (aw_iald s3 i4 (pc := 7) dX7_comes_7) ?_
  refine sp_m (aw_aload_n (pc := 8) dX7_comes_8 rfl (lv_at hl 0 rfl)) ?_
  refine sp_m (aw_get (k := 29) okX7 s1 (by decide) q1531 (Or.inl rfl) rfl (pc := 9) dX7_comes_9) ?_
  refine sp_if (fun c5 => ?_) (fun c5 => ?_)
  · refine sp_m (aw_icmp_gt_t (tgt := 16) (pc := 12) dX7_comes_12 (by decide) c5) ?_
    refine sp_m (aw_aload_n (pc := 16) dX7_comes_16 rfl (lv_at hl 0 rfl)) ?_
    refine sp_m (aw_aload_n (pc := 17) dX7_comes_17 rfl (lv_at hl 0 rfl)) ?_
    refine sp_b fun x6 ex6 => ?_
    refine sp_m (aw_get (k := 27) okX7 s1 (by decide) q1529 (Or.inl rfl) (congrArg va_rf ex6) (pc := 18) dX7_comes_18) ?_
    refine sp_m (aw_iload_n (pc := 21) dX7_comes_21 rfl (lv_at hl 1 rfl)) ?_
    refine sp_m (aw_iconst (v := 1) (pc := 22) dX7_comes_22 rfl) ?_
    refine sp_m (aw_isub (pc := 23) dX7_comes_23) ?_
    refine sp_g fun s7 => ?_
    refine sp_g fun i8 => ?_
    refine sp_m (aw_iald s7 i8 (pc := 24) dX7_comes_24) ?_
    refine sp_t fun h9 eh90 => ?_
    have eh9 : gS h9 = gS h0 := by rw [eh90]; rfl
    refine sp_m (aw_put (k := 29) okX7 opX7 s1 (by decide) q1531 (Or.inl rfl) (Or.inl rfl) (hasV_I' eh90) rfl rfl (pc := 25) dX7_comes_25) ?_
    refine sp_m (aw_aload_n (pc := 28) dX7_comes_28 rfl (lv_at hl 0 rfl)) ?_
    refine sp_m (aw_iload_n (pc := 29) dX7_comes_29 rfl (lv_at hl 1 rfl)) ?_
    refine sp_t fun h10 eh100 => ?_
    have eh10 : gS h10 = gS h9 := by rw [eh100]; rfl
    refine sp_m (aw_put (k := 28) okX7 opX7 (uS eh9 s1) (by decide) q1530 (Or.inl rfl) (Or.inl rfl) (hasV_I' eh100) rfl rfl (pc := 30) dX7_comes_30) ?_
    refine sp_m (aw_iconst (v := 0) (pc := 33) dX7_comes_33 rfl) ?_
    refine sp_m (aw_istore_n (lv' := [(2, .int 0), (0, .ref a0), (1, .int a1)]) (pc := 34) dX7_comes_34 rfl hl (by decide) rfl) (sp_all fun ls hl => ?_)
    let P11 : Int32 × AH → Prop := aLP (KX7_comes l D h0 hE) 3 35 (fun s11v : Int32 × AH => [(0, .ref a0), (1, .int a1), (2, .int s11v.1)]) (fun s11v => s11v.2)
    let E11 : AH → Prop := aLP (KX7_comes l D h0 hE) 3 58 (fun r11v : AH => []) (fun r11v => r11v)
    refine sp_bl (P := P11) (E := E11) (fun s11v => sp_all fun ls hl => ?_) (fun k => k ls (lv_sub hl [1, 2, 0] rfl)) (fun r11v => sp_all fun ls hl => ?_)
    · have hl : lv_has ls 3 [(0, .ref a0), (1, .int a1), (2, .int s11v.1)] := hl
      show SP _ _ (AW (KX7_comes l D h0 hE) s11v.2 35 ls [])
      unfold X7_comes_L35
      refine sp_m (aw_iload_n (pc := 35) dX7_comes_35 rfl (lv_at hl 2 rfl)) ?_
      refine sp_m (aw_iload_n (pc := 36) dX7_comes_36 rfl (lv_at hl 1 rfl)) ?_
      refine sp_if (fun c12 => ?_) (fun c12 => ?_)
      · refine sp_m (aw_icmp_ge_t (tgt := 58) (pc := 37) dX7_comes_37 (by decide) c12) ?_
        exact sp_r fun hz => hz ls (lv_sub hl [] rfl)
      · refine sp_m (aw_icmp_ge_f (tgt := 58) (pc := 37) dX7_comes_37 (by decide) c12) ?_
        refine sp_m (aw_aload_n (pc := 40) dX7_comes_40 rfl (lv_at hl 0 rfl)) ?_
        refine sp_g fun s13 => ?_
        refine sp_b fun x14 ex14 => ?_
        refine sp_m (aw_get (k := 26) okX7 s13 (by decide) q1528 (Or.inl rfl) (congrArg va_rf ex14) (pc := 41) dX7_comes_41) ?_
        refine sp_m (aw_iload_n (pc := 44) dX7_comes_44 rfl (lv_at hl 2 rfl)) ?_
        refine sp_m (aw_aload_n (pc := 45) dX7_comes_45 rfl (lv_at hl 0 rfl)) ?_
        refine sp_b fun x15 ex15 => ?_
        refine sp_m (aw_get (k := 25) okX7 s13 (by decide) q1527 (Or.inl rfl) (congrArg va_rf ex15) (pc := 46) dX7_comes_46) ?_
        refine sp_m (aw_iload_n (pc := 49) dX7_comes_49 rfl (lv_at hl 2 rfl)) ?_
        refine sp_g fun s16 => ?_
        refine sp_g fun i17 => ?_
        refine sp_m (aw_iald s16 i17 (pc := 50) dX7_comes_50) ?_
        refine sp_g fun s18 => ?_
        refine sp_g fun i19 => ?_
        refine sp_t fun h20 eh200 => ?_
        have eh20 : gS h20 = gS s11v.2 := by rw [eh200]; rfl
        refine sp_m (fun kk => aw_iast s18 i19 (pc := 51) dX7_comes_51 (AWe eh200 kk)) ?_
        refine sp_m (aw_iinc (v := s11v.1 + 1) (lv' := [(2, .int (s11v.1 + 1)), (0, .ref a0), (1, .int a1)]) (pc := 52) dX7_comes_52 hl (k := 2) rfl rfl (by decide) rfl) (sp_all fun ls hl => ?_)
        refine sp_m (aw_goto (tgt := 35) (pc := 55) dX7_comes_55 (by decide)) ?_
        exact sp_r fun hz => hz ls (lv_sub hl [1, 2, 0] rfl)
    · have hl : lv_has ls 3 [] := hl
      show SP _ _ (AW (KX7_comes l D h0 hE) r11v 58 ls [])
      exact sp_r fun hz => aw_vret hz rfl rfl rfl (pc := 58) dX7_comes_58
  · refine sp_m (aw_icmp_gt_f (tgt := 16) (pc := 12) dX7_comes_12 (by decide) c5) ?_
    exact sp_r fun hz => aw_vret hz rfl rfl rfl (pc := 15) dX7_comes_15
theorem mok_X7_over : mOK yX7_over 2 := ⟨⟨by decide +kernel, by decide +kernel⟩, by decide +kernel⟩
abbrev KX7_over (l : Launch) (D : DD) (h0 : AH) (v : Int32) : KT := (l, yX7_over, cX7_over, 2, (some .int), RX7, 1, D, h0, h0, .inl (some (.int v)), false, [])
theorem metX7_over (l : Launch) (D : DD) {a0 : Int32} {a1 : Int32} {h0 : AH} {v : Int32} (hr : fX7_over a0 a1 h0 = some v) : AMet (KX7_over l D h0 v) [.int a0, .int a1] := by
  refine AMet.of (K := (KX7_over l D h0 v)) rfl ⟨_, rfl⟩ rfl rfl rfl (Nat.le_of_ble_eq_true rfl) (fun ls hl => ?_)
  have hl : lv_has ls 2 [(0, .int a0), (1, .int a1)] := hl
  suffices hsp : SP (fX7_over a0 a1 h0) (fun z => z = v) (AW (KX7_over l D h0 v) h0 0 ls []) from hsp _ hr rfl
  unfold fX7_over
  refine sp_m (aw_iload_n (pc := 0) dX7_over_0 rfl (lv_at hl 0 rfl)) ?_
  refine sp_m (aw_bipush (v := 100) (pc := 1) dX7_over_1 rfl) ?_
  refine sp_m (aw_iload_n (pc := 3) dX7_over_3 rfl (lv_at hl 1 rfl)) ?_
  refine sp_m (aw_isub (pc := 4) dX7_over_4) ?_
  refine sp_m (aw_imul (pc := 5) dX7_over_5) ?_
  refine sp_m (aw_bipush (v := 100) (pc := 6) dX7_over_6 rfl) ?_
  refine sp_m (aw_idiv (pc := 8) dX7_over_8 (by decide)) ?_
  exact sp_r fun hz => aw_iret (congrArg (fun z => (z, h0)) hz) rfl rfl rfl (pc := 9) dX7_over_9
