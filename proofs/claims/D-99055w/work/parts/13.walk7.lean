/-! WALKS (printed by wip gen/all.py) -/
set_option maxRecDepth 100000
set_option maxHeartbeats 4000000
theorem mok_X7_teach : mOK yX7_teach 2 := ⟨⟨by decide +kernel, by decide +kernel⟩, by decide +kernel⟩
abbrev KX7_teach (l : Launch) (D : DD) (h0 hE : AH) (v : Int32) : KT := (l, yX7_teach, cX7_teach, 3, (some .int), RX7, 2, D, h0, hE, .inl (some (.int v)), false, [])
theorem metX7_teach (l : Launch) (D : DD) {a0 : Nat} {a1 : Int32} {a2 : Int32} {h0 : AH} {hE : AH} {v : Int32} (hr : fX7_teach a0 a1 a2 h0 = some (v, hE)) : AMet (KX7_teach l D h0 hE v) [.ref a0, .int a1, .int a2] := by
  refine AMet.of (K := (KX7_teach l D h0 hE v)) rfl ⟨_, rfl⟩ rfl rfl rfl (Nat.le_of_ble_eq_true rfl) (fun ls hl => ?_)
  have hl : lv_has ls 3 [(0, .ref a0), (1, .int a1), (2, .int a2)] := hl
  suffices hsp : SP (fX7_teach a0 a1 a2 h0) (fun z => z = (v, hE)) (AW (KX7_teach l D h0 hE v) h0 0 ls []) from hsp _ hr rfl
  unfold fX7_teach
  refine sp_m (aw_aload_n (pc := 0) dX7_teach_0 rfl (lv_at hl 0 rfl)) ?_
  refine sp_m (aw_iconst (v := 0) (pc := 1) dX7_teach_1 rfl) ?_
  refine sp_g fun s1 => ?_
  refine sp_t fun h2 eh20 => ?_
  have eh2 : gS h2 = gS h0 := by rw [eh20]; rfl
  refine sp_m (aw_put (k := 0) okX7 opX7 s1 (by decide) q1502 (Or.inl rfl) (Or.inl rfl) (hasV_I' eh20) rfl rfl (pc := 2) dX7_teach_2) ?_
  refine sp_m (aw_aload_n (pc := 5) dX7_teach_5 rfl (lv_at hl 0 rfl)) ?_
  refine sp_m (aw_iload_n (pc := 6) dX7_teach_6 rfl (lv_at hl 1 rfl)) ?_
  refine sp_b fun p3 ep3 => ?_
  refine sp_m (G' := AW (KX7_teach l D h0 hE v) h2 (10) ls (.int p3 :: [])) (fun kk => aw_callV (As := [.int a1]) (metX7_isLane _ _ ep3) (rcv_o okX7 (uS eh2 s1)) rfl mok_X7_isLane q1881 q1883 qs74 q125 q1884 (Nat.le_of_ble_eq_true rfl) (Nat.le_of_ble_eq_true rfl) rfl hl.1 rfl (Nat.le_of_ble_eq_true rfl) (pc := 7) dX7_teach_7 kk) ?_
  refine sp_if (fun c4 => ?_) (fun c4 => ?_)
  · refine sp_m (aw_if_ne_t (tgt := 19) (pc := 10) dX7_teach_10 (by decide) c4) ?_
    refine sp_m (aw_iload_n (pc := 19) dX7_teach_19 rfl (lv_at hl 2 rfl)) ?_
    refine sp_m (aw_iconst (v := 1) (pc := 20) dX7_teach_20 rfl) ?_
    refine sp_m (aw_bipush (v := 30) (pc := 21) dX7_teach_21 rfl) ?_
    refine sp_b fun p5 ep5 => ?_
    refine sp_m (G' := AW (KX7_teach l D h0 hE v) h2 (26) ls (.int p5 :: [])) (fun kk => aw_callS (As := [.int a2, .int 1, .int 30]) (metX7_in _ _ ep5) mok_X7_in q1793 q1794 q125 q1795 (Nat.le_of_ble_eq_true rfl) (Nat.le_of_ble_eq_true rfl) rfl hl.1 rfl (Nat.le_of_ble_eq_true rfl) (pc := 23) dX7_teach_23 kk) ?_
    refine sp_if (fun c6 => ?_) (fun c6 => ?_)
    · refine sp_m (aw_if_ne_t (tgt := 35) (pc := 26) dX7_teach_26 (by decide) c6) ?_
      refine sp_m (aw_aload_n (pc := 35) dX7_teach_35 rfl (lv_at hl 0 rfl)) ?_
      refine sp_b fun x7 ex7 => ?_
      refine sp_m (aw_get (k := 3) okX7 (uS eh2 s1) (by decide) q1505 (Or.inl rfl) (congrArg va_rf ex7) (pc := 36) dX7_teach_36) ?_
      refine sp_g fun s8 => ?_
      refine sp_b fun x9 ex9 => ?_
      refine sp_m (aw_getN (k := 8) okX20 s8 (by decide) nq1652 rfl (congrArg va_rf ex9) (pc := 39) dX7_teach_39) ?_
      refine sp_m (aw_iload_n (pc := 42) dX7_teach_42 rfl (lv_at hl 1 rfl)) ?_
      refine sp_g fun s10 => ?_
      refine sp_g fun i11 => ?_
      refine sp_m (aw_iald s10 i11 (pc := 43) dX7_teach_43) ?_
      refine sp_m (aw_iconst (v := 3) (pc := 44) dX7_teach_44 rfl) ?_
      refine sp_if (fun c12 => ?_) (fun c12 => ?_)
      · refine sp_m (aw_icmp_eq_t (tgt := 54) (pc := 45) dX7_teach_45 (by decide) c12) ?_
        refine sp_m (aw_aload_n (pc := 54) dX7_teach_54 rfl (lv_at hl 0 rfl)) ?_
        refine sp_b fun p13 ep13 => ?_
        refine sp_m (G' := AW (KX7_teach l D h0 hE v) p13 (58) ls ([])) (fun kk => aw_callV (As := []) (metX7_remembers _ _ ep13) (rcv_o okX7 (uS eh2 s1)) rfl mok_X7_remembers q2191 q2193 qs113 q125 q2194 (Nat.le_of_ble_eq_true rfl) (Nat.le_of_ble_eq_true rfl) rfl hl.1 rfl (Nat.le_of_ble_eq_true rfl) (pc := 55) dX7_teach_55 kk) ?_
        refine sp_m (aw_aload_n (pc := 58) dX7_teach_58 rfl (lv_at hl 0 rfl)) ?_
        refine sp_g fun s14 => ?_
        refine sp_b fun x15 ex15 => ?_
        refine sp_m (aw_get (k := 16) okX7 s14 (by decide) q1518 (Or.inl rfl) (congrArg va_rf ex15) (pc := 59) dX7_teach_59) ?_
        refine sp_m (aw_bipush (v := 11) (pc := 62) dX7_teach_62 rfl) ?_
        refine sp_m (aw_iload_n (pc := 64) dX7_teach_64 rfl (lv_at hl 1 rfl)) ?_
        refine sp_m (aw_iadd (pc := 65) dX7_teach_65) ?_
        refine sp_m (aw_aload_n (pc := 66) dX7_teach_66 rfl (lv_at hl 0 rfl)) ?_
        refine sp_b fun x16 ex16 => ?_
        refine sp_m (aw_get (k := 16) okX7 s14 (by decide) q1518 (Or.inl rfl) (congrArg va_rf ex16) (pc := 67) dX7_teach_67) ?_
        refine sp_m (aw_bipush (v := 11) (pc := 70) dX7_teach_70 rfl) ?_
        refine sp_m (aw_iload_n (pc := 72) dX7_teach_72 rfl (lv_at hl 1 rfl)) ?_
        refine sp_m (aw_iadd (pc := 73) dX7_teach_73) ?_
        refine sp_g fun s17 => ?_
        refine sp_g fun i18 => ?_
        refine sp_m (aw_iald s17 i18 (pc := 74) dX7_teach_74) ?_
        refine sp_m (aw_iload_n (pc := 75) dX7_teach_75 rfl (lv_at hl 2 rfl)) ?_
        refine sp_m (aw_iadd (pc := 76) dX7_teach_76) ?_
        refine sp_m (aw_bipush (v := 30) (pc := 77) dX7_teach_77 rfl) ?_
        have hj98_1 : ∀ j19 : Int32, ∀ ls : Array Slot, lv_has ls 3 [(0, .ref a0), (1, .int a1)] → SP (X7_teach_j98 a0 a1 p13 x15 j19) (fun z => z = (v, hE)) (AW (KX7_teach l D h0 hE v) p13 98 ls (.int j19 :: .int (11 + a1) :: .ref x15 :: [])) := by
          intro j19 ls hl
          unfold X7_teach_j98
          refine sp_g fun s20 => ?_
          refine sp_g fun i21 => ?_
          refine sp_t fun h22 eh220 => ?_
          have eh22 : gS h22 = gS p13 := by rw [eh220]; rfl
          refine sp_m (fun kk => aw_iast s20 i21 (pc := 98) dX7_teach_98 (AWe eh220 kk)) ?_
          refine sp_m (aw_aload_n (pc := 99) dX7_teach_99 rfl (lv_at hl 0 rfl)) ?_
          refine sp_m (aw_aload_n (pc := 100) dX7_teach_100 rfl (lv_at hl 0 rfl)) ?_
          refine sp_b fun x23 ex23 => ?_
          refine sp_m (aw_get (k := 16) okX7 (uS eh22 s14) (by decide) q1518 (Or.inl rfl) (congrArg va_rf ex23) (pc := 101) dX7_teach_101) ?_
          refine sp_m (aw_bipush (v := 11) (pc := 104) dX7_teach_104 rfl) ?_
          refine sp_m (aw_iload_n (pc := 106) dX7_teach_106 rfl (lv_at hl 1 rfl)) ?_
          refine sp_m (aw_iadd (pc := 107) dX7_teach_107) ?_
          refine sp_g fun s24 => ?_
          refine sp_g fun i25 => ?_
          refine sp_m (aw_iald s24 i25 (pc := 108) dX7_teach_108) ?_
          refine sp_b fun p26 ep26 => ?_
          refine sp_m (G' := AW (KX7_teach l D h0 hE v) p26.2 (112) ls (.int p26.1 :: [])) (fun kk => aw_callV (As := [.int (gI h22 x23 (ix (11 + a1)))]) (metX7_good _ _ ep26) (rcv_o okX7 (uS eh22 s14)) rfl mok_X7_good q1865 q1867 qs73 q125 q1868 (Nat.le_of_ble_eq_true rfl) (Nat.le_of_ble_eq_true rfl) rfl hl.1 rfl (Nat.le_of_ble_eq_true rfl) (pc := 109) dX7_teach_109 kk) ?_
          exact sp_r fun hz => aw_iret hz rfl rfl rfl (pc := 112) dX7_teach_112
        refine sp_if (fun c27 => ?_) (fun c27 => ?_)
        · refine sp_m (aw_icmp_ge_t (tgt := 96) (pc := 79) dX7_teach_79 (by decide) c27) ?_
          refine sp_m (aw_bipush (v := 30) (pc := 96) dX7_teach_96 rfl) ?_
          exact hj98_1 30 ls (lv_sub hl [0, 1] rfl)
        · refine sp_m (aw_icmp_ge_f (tgt := 96) (pc := 79) dX7_teach_79 (by decide) c27) ?_
          refine sp_m (aw_aload_n (pc := 82) dX7_teach_82 rfl (lv_at hl 0 rfl)) ?_
          refine sp_b fun x28 ex28 => ?_
          refine sp_m (aw_get (k := 16) okX7 s14 (by decide) q1518 (Or.inl rfl) (congrArg va_rf ex28) (pc := 83) dX7_teach_83) ?_
          refine sp_m (aw_bipush (v := 11) (pc := 86) dX7_teach_86 rfl) ?_
          refine sp_m (aw_iload_n (pc := 88) dX7_teach_88 rfl (lv_at hl 1 rfl)) ?_
          refine sp_m (aw_iadd (pc := 89) dX7_teach_89) ?_
          refine sp_g fun s29 => ?_
          refine sp_g fun i30 => ?_
          refine sp_m (aw_iald s29 i30 (pc := 90) dX7_teach_90) ?_
          refine sp_m (aw_iload_n (pc := 91) dX7_teach_91 rfl (lv_at hl 2 rfl)) ?_
          refine sp_m (aw_iadd (pc := 92) dX7_teach_92) ?_
          refine sp_m (aw_goto (tgt := 98) (pc := 93) dX7_teach_93 (by decide)) ?_
          exact hj98_1 ((gI p13 x28 (ix (11 + a1))) + a2) ls (lv_sub hl [0, 1] rfl)
      · refine sp_m (aw_icmp_eq_f (tgt := 54) (pc := 45) dX7_teach_45 (by decide) c12) ?_
        refine sp_m (aw_aload_n (pc := 48) dX7_teach_48 rfl (lv_at hl 0 rfl)) ?_
        refine sp_m (aw_iconst (v := 5) (pc := 49) dX7_teach_49 rfl) ?_
        refine sp_b fun p31 ep31 => ?_
        refine sp_m (G' := AW (KX7_teach l D h0 hE v) p31.2 (53) ls (.int p31.1 :: [])) (fun kk => aw_callV (As := [.int 5]) (metX7_refused _ _ ep31) (rcv_o okX7 (uS eh2 s1)) rfl mok_X7_refused q1632 q1634 qs50 q125 q1635 (Nat.le_of_ble_eq_true rfl) (Nat.le_of_ble_eq_true rfl) rfl hl.1 rfl (Nat.le_of_ble_eq_true rfl) (pc := 50) dX7_teach_50 kk) ?_
        exact sp_r fun hz => aw_iret hz rfl rfl rfl (pc := 53) dX7_teach_53
    · refine sp_m (aw_if_ne_f (tgt := 35) (pc := 26) dX7_teach_26 (by decide) (Decidable.not_not.mp c6)) ?_
      refine sp_m (aw_aload_n (pc := 29) dX7_teach_29 rfl (lv_at hl 0 rfl)) ?_
      refine sp_m (aw_iconst (v := 2) (pc := 30) dX7_teach_30 rfl) ?_
      refine sp_b fun p32 ep32 => ?_
      refine sp_m (G' := AW (KX7_teach l D h0 hE v) p32.2 (34) ls (.int p32.1 :: [])) (fun kk => aw_callV (As := [.int 2]) (metX7_refused _ _ ep32) (rcv_o okX7 (uS eh2 s1)) rfl mok_X7_refused q1632 q1634 qs50 q125 q1635 (Nat.le_of_ble_eq_true rfl) (Nat.le_of_ble_eq_true rfl) rfl hl.1 rfl (Nat.le_of_ble_eq_true rfl) (pc := 31) dX7_teach_31 kk) ?_
      exact sp_r fun hz => aw_iret hz rfl rfl rfl (pc := 34) dX7_teach_34
  · refine sp_m (aw_if_ne_f (tgt := 19) (pc := 10) dX7_teach_10 (by decide) (Decidable.not_not.mp c4)) ?_
    refine sp_m (aw_aload_n (pc := 13) dX7_teach_13 rfl (lv_at hl 0 rfl)) ?_
    refine sp_m (aw_iconst (v := 1) (pc := 14) dX7_teach_14 rfl) ?_
    refine sp_b fun p33 ep33 => ?_
    refine sp_m (G' := AW (KX7_teach l D h0 hE v) p33.2 (18) ls (.int p33.1 :: [])) (fun kk => aw_callV (As := [.int 1]) (metX7_refused _ _ ep33) (rcv_o okX7 (uS eh2 s1)) rfl mok_X7_refused q1632 q1634 qs50 q125 q1635 (Nat.le_of_ble_eq_true rfl) (Nat.le_of_ble_eq_true rfl) rfl hl.1 rfl (Nat.le_of_ble_eq_true rfl) (pc := 15) dX7_teach_15 kk) ?_
    exact sp_r fun hz => aw_iret hz rfl rfl rfl (pc := 18) dX7_teach_18
theorem mok_X7_thrown : mOK yX7_thrown 0 := ⟨⟨by decide +kernel, by decide +kernel⟩, by decide +kernel⟩
abbrev KX7_thrown (l : Launch) (D : DD) (h0 : AH) (v : Int32) : KT := (l, yX7_thrown, cX7_thrown, 1, (some .int), RX7, 1, D, h0, h0, .inl (some (.int v)), false, [])
theorem metX7_thrown (l : Launch) (D : DD) {a0 : Nat} {h0 : AH} {v : Int32} (hr : fX7_thrown a0 h0 = some v) : AMet (KX7_thrown l D h0 v) [.ref a0] := by
  refine AMet.of (K := (KX7_thrown l D h0 v)) rfl ⟨_, rfl⟩ rfl rfl rfl (Nat.le_of_ble_eq_true rfl) (fun ls hl => ?_)
  have hl : lv_has ls 1 [(0, .ref a0)] := hl
  suffices hsp : SP (fX7_thrown a0 h0) (fun z => z = v) (AW (KX7_thrown l D h0 v) h0 0 ls []) from hsp _ hr rfl
  unfold fX7_thrown
  refine sp_m (aw_aload_n (pc := 0) dX7_thrown_0 rfl (lv_at hl 0 rfl)) ?_
  refine sp_g fun s1 => ?_
  refine sp_m (aw_get (k := 0) okX7 s1 (by decide) q1502 (Or.inl rfl) rfl (pc := 1) dX7_thrown_1) ?_
  exact sp_r fun hz => aw_iret (congrArg (fun z => (z, h0)) hz) rfl rfl rfl (pc := 4) dX7_thrown_4
theorem mok_X7_toHammer : mOK yX7_toHammer 0 := ⟨⟨by decide +kernel, by decide +kernel⟩, by decide +kernel⟩
abbrev KX7_toHammer (l : Launch) (D : DD) (h0 hE : AH) (v : Int32) : KT := (l, yX7_toHammer, cX7_toHammer, 7, (some .int), RX7, 7, D, h0, hE, .inl (some (.int v)), false, [])
theorem metX7_toHammer (l : Launch) (D : DD) {a0 : Nat} {h0 : AH} {hE : AH} {v : Int32} (hr : fX7_toHammer a0 h0 = some (v, hE)) : AMet (KX7_toHammer l D h0 hE v) [.ref a0] := by
  refine AMet.of (K := (KX7_toHammer l D h0 hE v)) rfl ⟨_, rfl⟩ rfl rfl rfl (Nat.le_of_ble_eq_true rfl) (fun ls hl => ?_)
  have hl : lv_has ls 7 [(0, .ref a0)] := hl
  suffices hsp : SP (fX7_toHammer a0 h0) (fun z => z = (v, hE)) (AW (KX7_toHammer l D h0 hE v) h0 0 ls []) from hsp _ hr rfl
  unfold fX7_toHammer
  refine sp_m (aw_aload_n (pc := 0) dX7_toHammer_0 rfl (lv_at hl 0 rfl)) ?_
  refine sp_m (aw_iconst (v := 0) (pc := 1) dX7_toHammer_1 rfl) ?_
  refine sp_g fun s1 => ?_
  refine sp_t fun h2 eh20 => ?_
  have eh2 : gS h2 = gS h0 := by rw [eh20]; rfl
  refine sp_m (aw_put (k := 0) okX7 opX7 s1 (by decide) q1502 (Or.inl rfl) (Or.inl rfl) (hasV_I' eh20) rfl rfl (pc := 2) dX7_toHammer_2) ?_
  refine sp_m (aw_aload_n (pc := 5) dX7_toHammer_5 rfl (lv_at hl 0 rfl)) ?_
  refine sp_o (fun ex3 => ?_) (fun x3 ex3 => ?_)
  · refine sp_m (aw_get (k := 3) okX7 (uS eh2 s1) (by decide) q1505 (Or.inl rfl) (congrArg va_rf ex3) (pc := 6) dX7_toHammer_6) ?_
    refine sp_m (aw_ifnonnullN (pc := 9) dX7_toHammer_9) ?_
    refine sp_m (aw_aload_n (pc := 12) dX7_toHammer_12 rfl (lv_at hl 0 rfl)) ?_
    refine sp_m (aw_iconst (v := 1) (pc := 13) dX7_toHammer_13 rfl) ?_
    refine sp_b fun p16 ep16 => ?_
    refine sp_m (G' := AW (KX7_toHammer l D h0 hE v) p16.2 (17) ls (.int p16.1 :: [])) (fun kk => aw_callV (As := [.int 1]) (metX7_refused _ _ ep16) (rcv_o okX7 (uS eh2 s1)) rfl mok_X7_refused q1632 q1634 qs50 q125 q1635 (Nat.le_of_ble_eq_true rfl) (Nat.le_of_ble_eq_true rfl) rfl hl.1 rfl (Nat.le_of_ble_eq_true rfl) (pc := 14) dX7_toHammer_14 kk) ?_
    exact sp_r fun hz => aw_iret hz rfl rfl rfl (pc := 17) dX7_toHammer_17
  · refine sp_m (aw_get (k := 3) okX7 (uS eh2 s1) (by decide) q1505 (Or.inl rfl) (congrArg va_rf ex3) (pc := 6) dX7_toHammer_6) ?_
    refine sp_m (aw_ifnonnull (tgt := 18) (pc := 9) dX7_toHammer_9 (by decide)) ?_
    refine sp_m (aw_bipush (v := (-2)) (pc := 18) dX7_toHammer_18 rfl) ?_
    refine sp_m (aw_istore_n (lv' := [(1, .int (-2)), (0, .ref a0)]) (pc := 20) dX7_toHammer_20 rfl hl (by decide) rfl) (sp_all fun ls hl => ?_)
    refine sp_m (aw_lconst (v := 0) (pc := 21) dX7_toHammer_21 rfl) ?_
    refine sp_m (aw_lstore_n (lv' := [(2, .long 0), (1, .int (-2)), (0, .ref a0)]) (pc := 22) dX7_toHammer_22 rfl hl (by decide) rfl) (sp_all fun ls hl => ?_)
    refine sp_m (aw_iconst (v := 0) (pc := 23) dX7_toHammer_23 rfl) ?_
    refine sp_m (aw_istore (lv' := [(4, .int 0), (2, .long 0), (1, .int (-2)), (0, .ref a0)]) (pc := 24) dX7_toHammer_24 hl (by decide) rfl) (sp_all fun ls hl => ?_)
    let P4 : Int32 × Int64 × Int32 → Prop := aLP (KX7_toHammer l D h0 hE v) 7 26 (fun s4v : Int32 × Int64 × Int32 => [(0, .ref a0), (1, .int s4v.1), (2, .long s4v.2.1), (4, .int s4v.2.2)]) (fun s4v => h2)
    let E4 : Int32 → Prop := aLP (KX7_toHammer l D h0 hE v) 7 77 (fun r4v : Int32 => [(0, .ref a0), (1, .int r4v)]) (fun r4v => h2)
    refine sp_bl (P := P4) (E := E4) (fun s4v => sp_all fun ls hl => ?_) (fun k => k ls (lv_sub hl [3, 2, 1, 0] rfl)) (fun r4v => sp_all fun ls hl => ?_)
    · have hl : lv_has ls 7 [(0, .ref a0), (1, .int s4v.1), (2, .long s4v.2.1), (4, .int s4v.2.2)] := hl
      show SP _ _ (AW (KX7_toHammer l D h0 hE v) h2 26 ls [])
      unfold X7_toHammer_L26
      refine sp_m (aw_iload (pc := 26) dX7_toHammer_26 (lv_at hl 3 rfl)) ?_
      refine sp_m (aw_aload_n (pc := 28) dX7_toHammer_28 rfl (lv_at hl 0 rfl)) ?_
      refine sp_b fun x5 ex5 => ?_
      refine sp_m (aw_get (k := 3) okX7 (uS eh2 s1) (by decide) q1505 (Or.inl rfl) (congrArg va_rf ex5) (pc := 29) dX7_toHammer_29) ?_
      refine sp_g fun s6 => ?_
      refine sp_m (aw_getN (k := 3) okX20 s6 (by decide) nq1645 rfl rfl (pc := 32) dX7_toHammer_32) ?_
      refine sp_if (fun c7 => ?_) (fun c7 => ?_)
      · refine sp_m (aw_icmp_ge_t (tgt := 77) (pc := 35) dX7_toHammer_35 (by decide) c7) ?_
        exact sp_r fun hz => hz ls (lv_sub hl [0, 1] rfl)
      · refine sp_m (aw_icmp_ge_f (tgt := 77) (pc := 35) dX7_toHammer_35 (by decide) c7) ?_
        refine sp_m (aw_aload_n (pc := 38) dX7_toHammer_38 rfl (lv_at hl 0 rfl)) ?_
        refine sp_m (aw_iload (pc := 39) dX7_toHammer_39 (lv_at hl 3 rfl)) ?_
        refine sp_m (aw_aload_n (pc := 41) dX7_toHammer_41 rfl (lv_at hl 0 rfl)) ?_
        refine sp_b fun x8 ex8 => ?_
        refine sp_m (aw_get (k := 16) okX7 (uS eh2 s1) (by decide) q1518 (Or.inl rfl) (congrArg va_rf ex8) (pc := 42) dX7_toHammer_42) ?_
        refine sp_m (aw_iconst (v := 0) (pc := 45) dX7_toHammer_45 rfl) ?_
        refine sp_m (aw_iload (pc := 46) dX7_toHammer_46 (lv_at hl 3 rfl)) ?_
        refine sp_m (aw_iadd (pc := 48) dX7_toHammer_48) ?_
        refine sp_g fun s9 => ?_
        refine sp_g fun i10 => ?_
        refine sp_m (aw_iald s9 i10 (pc := 49) dX7_toHammer_49) ?_
        refine sp_b fun p11 ep11 => ?_
        refine sp_m (G' := AW (KX7_toHammer l D h0 hE v) h2 (53) ls (.long p11 :: [])) (fun kk => aw_callV (As := [.int s4v.2.2, .int (gI h2 x8 (ix (0 + s4v.2.2)))]) (metX7_worthIn _ _ ep11) (rcv_o okX7 (uS eh2 s1)) rfl mok_X7_worthIn q1956 q1958 qs86 q125 q1959 (Nat.le_of_ble_eq_true rfl) (Nat.le_of_ble_eq_true rfl) rfl hl.1 rfl (Nat.le_of_ble_eq_true rfl) (pc := 50) dX7_toHammer_50 kk) ?_
        refine sp_m (aw_lstore (lv' := [(5, .long p11), (0, .ref a0), (1, .int s4v.1), (2, .long s4v.2.1), (4, .int s4v.2.2)]) (pc := 53) dX7_toHammer_53 hl (by decide) rfl) (sp_all fun ls hl => ?_)
        refine sp_m (aw_lload (pc := 55) dX7_toHammer_55 (lv_at hl 0 rfl)) ?_
        refine sp_m (aw_lload_n (pc := 57) dX7_toHammer_57 rfl (lv_at hl 3 rfl)) ?_
        refine sp_m (aw_lcmp (pc := 58) dX7_toHammer_58) ?_
        have hj71_1 : ∀ j12 : Int32, ∀ j13 : Int64, ∀ ls : Array Slot, lv_has ls 7 [(0, .ref a0), (1, .int j12), (2, .long j13), (4, .int s4v.2.2)] → SP (X7_toHammer_j71 s4v j12 j13) (ZL P4 E4) (AW (KX7_toHammer l D h0 hE v) h2 71 ls ([])) := by
          intro j12 j13 ls hl
          unfold X7_toHammer_j71
          refine sp_m (aw_iinc (v := s4v.2.2 + 1) (lv' := [(4, .int (s4v.2.2 + 1)), (0, .ref a0), (1, .int j12), (2, .long j13)]) (pc := 71) dX7_toHammer_71 hl (k := 3) rfl rfl (by decide) rfl) (sp_all fun ls hl => ?_)
          refine sp_m (aw_goto (tgt := 26) (pc := 74) dX7_toHammer_74 (by decide)) ?_
          exact sp_r fun hz => hz ls (lv_sub hl [1, 2, 3, 0] rfl)
        refine sp_if (fun c14 => ?_) (fun c14 => ?_)
        · refine sp_m (aw_if_lt_t (tgt := 65) (pc := 59) dX7_toHammer_59 (by decide) ((lg_cmp_lt _ _).mpr c14)) ?_
          refine sp_m (aw_lload (pc := 65) dX7_toHammer_65 (lv_at hl 0 rfl)) ?_
          refine sp_m (aw_lstore_n (lv' := [(2, .long p11), (5, .long p11), (0, .ref a0), (1, .int s4v.1), (4, .int s4v.2.2)]) (pc := 67) dX7_toHammer_67 rfl hl (by decide) rfl) (sp_all fun ls hl => ?_)
          refine sp_m (aw_iload (pc := 68) dX7_toHammer_68 (lv_at hl 4 rfl)) ?_
          refine sp_m (aw_istore_n (lv' := [(1, .int s4v.2.2), (2, .long p11), (5, .long p11), (0, .ref a0), (4, .int s4v.2.2)]) (pc := 70) dX7_toHammer_70 rfl hl (by decide) rfl) (sp_all fun ls hl => ?_)
          exact hj71_1 s4v.2.2 p11 ls (lv_sub hl [3, 0, 1, 4] rfl)
        · refine sp_m (aw_if_lt_f (tgt := 65) (pc := 59) dX7_toHammer_59 (by decide) (fun z => c14 ((lg_cmp_lt _ _).mp z))) ?_
          refine sp_m (aw_goto (tgt := 71) (pc := 62) dX7_toHammer_62 (by decide)) ?_
          exact hj71_1 s4v.1 s4v.2.1 ls (lv_sub hl [1, 2, 3, 4] rfl)
    · have hl : lv_has ls 7 [(0, .ref a0), (1, .int r4v)] := hl
      show SP _ _ (AW (KX7_toHammer l D h0 hE v) h2 77 ls [])
      refine sp_m (aw_aload_n (pc := 77) dX7_toHammer_77 rfl (lv_at hl 0 rfl)) ?_
      refine sp_m (aw_iload_n (pc := 78) dX7_toHammer_78 rfl (lv_at hl 1 rfl)) ?_
      refine sp_b fun p15 ep15 => ?_
      refine sp_m (G' := AW (KX7_toHammer l D h0 hE v) p15.2 (82) ls (.int p15.1 :: [])) (fun kk => aw_callV (As := [.int r4v]) (metX7_good _ _ ep15) (rcv_o okX7 (uS eh2 s1)) rfl mok_X7_good q1865 q1867 qs73 q125 q1868 (Nat.le_of_ble_eq_true rfl) (Nat.le_of_ble_eq_true rfl) rfl hl.1 rfl (Nat.le_of_ble_eq_true rfl) (pc := 79) dX7_toHammer_79 kk) ?_
      exact sp_r fun hz => aw_iret hz rfl rfl rfl (pc := 82) dX7_toHammer_82
theorem mok_X7_sumOpen : mOK yX7_sumOpen 1 := ⟨⟨by decide +kernel, by decide +kernel⟩, by decide +kernel⟩
abbrev KX7_sumOpen (l : Launch) (D : DD) (h0 : AH) (v : Int64) : KT := (l, yX7_sumOpen, cX7_sumOpen, 5, (some .long), RX7, 7, D, h0, h0, .inl (some (.long v)), false, [])
theorem metX7_sumOpen (l : Launch) (D : DD) {a0 : Nat} {a1 : Int32} {h0 : AH} {v : Int64} (hr : fX7_sumOpen a0 a1 h0 = some v) : AMet (KX7_sumOpen l D h0 v) [.ref a0, .int a1] := by
  refine AMet.of (K := (KX7_sumOpen l D h0 v)) rfl ⟨_, rfl⟩ rfl rfl rfl (Nat.le_of_ble_eq_true rfl) (fun ls hl => ?_)
  have hl : lv_has ls 5 [(0, .ref a0), (1, .int a1)] := hl
  suffices hsp : SP (fX7_sumOpen a0 a1 h0) (fun z => z = v) (AW (KX7_sumOpen l D h0 v) h0 0 ls []) from hsp _ hr rfl
  unfold fX7_sumOpen
  refine sp_m (aw_lconst (v := 0) (pc := 0) dX7_sumOpen_0 rfl) ?_
  refine sp_m (aw_lstore_n (lv' := [(2, .long 0), (0, .ref a0), (1, .int a1)]) (pc := 1) dX7_sumOpen_1 rfl hl (by decide) rfl) (sp_all fun ls hl => ?_)
  refine sp_m (aw_iconst (v := 0) (pc := 2) dX7_sumOpen_2 rfl) ?_
  refine sp_m (aw_istore (lv' := [(4, .int 0), (2, .long 0), (0, .ref a0), (1, .int a1)]) (pc := 3) dX7_sumOpen_3 hl (by decide) rfl) (sp_all fun ls hl => ?_)
  let P1 : Int64 × Int32 → Prop := aLP (KX7_sumOpen l D h0 v) 5 5 (fun s1v : Int64 × Int32 => [(0, .ref a0), (1, .int a1), (2, .long s1v.1), (4, .int s1v.2)]) (fun s1v => h0)
  let E1 : Int64 → Prop := aLP (KX7_sumOpen l D h0 v) 5 65 (fun r1v : Int64 => [(2, .long r1v)]) (fun r1v => h0)
  refine sp_bl (P := P1) (E := E1) (fun s1v => sp_all fun ls hl => ?_) (fun k => k ls (lv_sub hl [2, 3, 1, 0] rfl)) (fun r1v => sp_all fun ls hl => ?_)
  · have hl : lv_has ls 5 [(0, .ref a0), (1, .int a1), (2, .long s1v.1), (4, .int s1v.2)] := hl
    show SP _ _ (AW (KX7_sumOpen l D h0 v) h0 5 ls [])
    unfold X7_sumOpen_L5
    refine sp_m (aw_iload (pc := 5) dX7_sumOpen_5 (lv_at hl 3 rfl)) ?_
    refine sp_m (aw_aload_n (pc := 7) dX7_sumOpen_7 rfl (lv_at hl 0 rfl)) ?_
    refine sp_g fun s2 => ?_
    refine sp_b fun x3 ex3 => ?_
    refine sp_m (aw_get (k := 3) okX7 s2 (by decide) q1505 (Or.inl rfl) (congrArg va_rf ex3) (pc := 8) dX7_sumOpen_8) ?_
    refine sp_g fun s4 => ?_
    refine sp_m (aw_getN (k := 3) okX20 s4 (by decide) nq1645 rfl rfl (pc := 11) dX7_sumOpen_11) ?_
    refine sp_if (fun c5 => ?_) (fun c5 => ?_)
    · refine sp_m (aw_icmp_ge_t (tgt := 65) (pc := 14) dX7_sumOpen_14 (by decide) c5) ?_
      exact sp_r fun hz => hz ls (lv_sub hl [2] rfl)
    · refine sp_m (aw_icmp_ge_f (tgt := 65) (pc := 14) dX7_sumOpen_14 (by decide) c5) ?_
      refine sp_m (aw_lload_n (pc := 17) dX7_sumOpen_17 rfl (lv_at hl 2 rfl)) ?_
      refine sp_m (aw_aload_n (pc := 18) dX7_sumOpen_18 rfl (lv_at hl 0 rfl)) ?_
      refine sp_b fun x6 ex6 => ?_
      refine sp_m (aw_get (k := 16) okX7 s2 (by decide) q1518 (Or.inl rfl) (congrArg va_rf ex6) (pc := 19) dX7_sumOpen_19) ?_
      refine sp_m (aw_iconst (v := 0) (pc := 22) dX7_sumOpen_22 rfl) ?_
      refine sp_m (aw_iload (pc := 23) dX7_sumOpen_23 (lv_at hl 3 rfl)) ?_
      refine sp_m (aw_iadd (pc := 25) dX7_sumOpen_25) ?_
      refine sp_g fun s7 => ?_
      refine sp_g fun i8 => ?_
      refine sp_m (aw_iald s7 i8 (pc := 26) dX7_sumOpen_26) ?_
      refine sp_m (aw_iload_n (pc := 27) dX7_sumOpen_27 rfl (lv_at hl 1 rfl)) ?_
      have hj57_1 : ∀ j9 : Int64, ∀ ls : Array Slot, lv_has ls 5 [(0, .ref a0), (1, .int a1), (4, .int s1v.2)] → SP (X7_sumOpen_j57 s1v j9) (ZL P1 E1) (AW (KX7_sumOpen l D h0 v) h0 57 ls (.long j9 :: .long s1v.1 :: [])) := by
        intro j9 ls hl
        unfold X7_sumOpen_j57
        refine sp_m (aw_ladd (pc := 57) dX7_sumOpen_57) ?_
        refine sp_m (aw_lstore_n (lv' := [(2, .long (s1v.1 + j9)), (0, .ref a0), (1, .int a1), (4, .int s1v.2)]) (pc := 58) dX7_sumOpen_58 rfl hl (by decide) rfl) (sp_all fun ls hl => ?_)
        refine sp_m (aw_iinc (v := s1v.2 + 1) (lv' := [(4, .int (s1v.2 + 1)), (2, .long (s1v.1 + j9)), (0, .ref a0), (1, .int a1)]) (pc := 59) dX7_sumOpen_59 hl (k := 3) rfl rfl (by decide) rfl) (sp_all fun ls hl => ?_)
        refine sp_m (aw_goto (tgt := 5) (pc := 62) dX7_sumOpen_62 (by decide)) ?_
        exact sp_r fun hz => hz ls (lv_sub hl [2, 3, 1, 0] rfl)
      refine sp_if (fun c10 => ?_) (fun c10 => ?_)
      · refine sp_m (aw_icmp_ne_t (tgt := 42) (pc := 28) dX7_sumOpen_28 (by decide) c10) ?_
        refine sp_m (aw_aload_n (pc := 42) dX7_sumOpen_42 rfl (lv_at hl 0 rfl)) ?_
        refine sp_m (aw_iload (pc := 43) dX7_sumOpen_43 (lv_at hl 3 rfl)) ?_
        refine sp_m (aw_aload_n (pc := 45) dX7_sumOpen_45 rfl (lv_at hl 0 rfl)) ?_
        refine sp_b fun x11 ex11 => ?_
        refine sp_m (aw_get (k := 16) okX7 s2 (by decide) q1518 (Or.inl rfl) (congrArg va_rf ex11) (pc := 46) dX7_sumOpen_46) ?_
        refine sp_m (aw_iconst (v := 0) (pc := 49) dX7_sumOpen_49 rfl) ?_
        refine sp_m (aw_iload (pc := 50) dX7_sumOpen_50 (lv_at hl 3 rfl)) ?_
        refine sp_m (aw_iadd (pc := 52) dX7_sumOpen_52) ?_
        refine sp_g fun s12 => ?_
        refine sp_g fun i13 => ?_
        refine sp_m (aw_iald s12 i13 (pc := 53) dX7_sumOpen_53) ?_
        refine sp_b fun p14 ep14 => ?_
        refine sp_m (G' := AW (KX7_sumOpen l D h0 v) h0 (57) ls (.long p14 :: .long s1v.1 :: [])) (fun kk => aw_callV (As := [.int s1v.2, .int (gI h0 x11 (ix (0 + s1v.2)))]) (metX7_worthIn _ _ ep14) (rcv_o okX7 s2) rfl mok_X7_worthIn q1956 q1958 qs86 q125 q1959 (Nat.le_of_ble_eq_true rfl) (Nat.le_of_ble_eq_true rfl) rfl hl.1 rfl (Nat.le_of_ble_eq_true rfl) (pc := 54) dX7_sumOpen_54 kk) ?_
        exact hj57_1 p14 ls (lv_sub hl [0, 1, 3] rfl)
      · refine sp_m (aw_icmp_ne_f (tgt := 42) (pc := 28) dX7_sumOpen_28 (by decide) (Decidable.not_not.mp c10)) ?_
        refine sp_m (aw_aload_n (pc := 31) dX7_sumOpen_31 rfl (lv_at hl 0 rfl)) ?_
        refine sp_m (aw_iload (pc := 32) dX7_sumOpen_32 (lv_at hl 3 rfl)) ?_
        refine sp_m (aw_iconst (v := 0) (pc := 34) dX7_sumOpen_34 rfl) ?_
        refine sp_m (aw_iconst (v := 0) (pc := 35) dX7_sumOpen_35 rfl) ?_
        refine sp_b fun p15 ep15 => ?_
        refine sp_m (G' := AW (KX7_sumOpen l D h0 v) h0 (39) ls (.long p15 :: .long s1v.1 :: [])) (fun kk => aw_callV (As := [.int s1v.2, .int 0, .int 0]) (metX7_worthBy _ _ ep15) (rcv_o okX7 s2) rfl mok_X7_worthBy q1960 q1962 qs87 q125 q1963 (Nat.le_of_ble_eq_true rfl) (Nat.le_of_ble_eq_true rfl) rfl hl.1 rfl (Nat.le_of_ble_eq_true rfl) (pc := 36) dX7_sumOpen_36 kk) ?_
        refine sp_m (aw_goto (tgt := 57) (pc := 39) dX7_sumOpen_39 (by decide)) ?_
        exact hj57_1 p15 ls (lv_sub hl [0, 1, 3] rfl)
  · have hl : lv_has ls 5 [(2, .long r1v)] := hl
    show SP _ _ (AW (KX7_sumOpen l D h0 v) h0 65 ls [])
    refine sp_m (aw_lload_n (pc := 65) dX7_sumOpen_65 rfl (lv_at hl 0 rfl)) ?_
    exact sp_r fun hz => aw_lret (congrArg (fun z => (z, h0)) hz) rfl rfl rfl (pc := 66) dX7_sumOpen_66
theorem mok_X7_toOpen : mOK yX7_toOpen 0 := ⟨⟨by decide +kernel, by decide +kernel⟩, by decide +kernel⟩
abbrev KX7_toOpen (l : Launch) (D : DD) (h0 hE : AH) (v : Int32) : KT := (l, yX7_toOpen, cX7_toOpen, 5, (some .int), RX7, 8, D, h0, hE, .inl (some (.int v)), false, [])
theorem metX7_toOpen (l : Launch) (D : DD) {a0 : Nat} {h0 : AH} {hE : AH} {v : Int32} (hr : fX7_toOpen a0 h0 = some (v, hE)) : AMet (KX7_toOpen l D h0 hE v) [.ref a0] := by
  refine AMet.of (K := (KX7_toOpen l D h0 hE v)) rfl ⟨_, rfl⟩ rfl rfl rfl (Nat.le_of_ble_eq_true rfl) (fun ls hl => ?_)
  have hl : lv_has ls 5 [(0, .ref a0)] := hl
  suffices hsp : SP (fX7_toOpen a0 h0) (fun z => z = (v, hE)) (AW (KX7_toOpen l D h0 hE v) h0 0 ls []) from hsp _ hr rfl
  unfold fX7_toOpen
  refine sp_m (aw_aload_n (pc := 0) dX7_toOpen_0 rfl (lv_at hl 0 rfl)) ?_
  refine sp_m (aw_iconst (v := 0) (pc := 1) dX7_toOpen_1 rfl) ?_
  refine sp_g fun s1 => ?_
  refine sp_t fun h2 eh20 => ?_
  have eh2 : gS h2 = gS h0 := by rw [eh20]; rfl
  refine sp_m (aw_put (k := 0) okX7 opX7 s1 (by decide) q1502 (Or.inl rfl) (Or.inl rfl) (hasV_I' eh20) rfl rfl (pc := 2) dX7_toOpen_2) ?_
  refine sp_m (aw_aload_n (pc := 5) dX7_toOpen_5 rfl (lv_at hl 0 rfl)) ?_
  refine sp_o (fun ex3 => ?_) (fun x3 ex3 => ?_)
  · refine sp_m (aw_get (k := 3) okX7 (uS eh2 s1) (by decide) q1505 (Or.inl rfl) (congrArg va_rf ex3) (pc := 6) dX7_toOpen_6) ?_
    refine sp_m (aw_ifnonnullN (pc := 9) dX7_toOpen_9) ?_
    refine sp_m (aw_aload_n (pc := 12) dX7_toOpen_12 rfl (lv_at hl 0 rfl)) ?_
    refine sp_m (aw_iconst (v := 1) (pc := 13) dX7_toOpen_13 rfl) ?_
    refine sp_b fun p15 ep15 => ?_
    refine sp_m (G' := AW (KX7_toOpen l D h0 hE v) p15.2 (17) ls (.int p15.1 :: [])) (fun kk => aw_callV (As := [.int 1]) (metX7_refused _ _ ep15) (rcv_o okX7 (uS eh2 s1)) rfl mok_X7_refused q1632 q1634 qs50 q125 q1635 (Nat.le_of_ble_eq_true rfl) (Nat.le_of_ble_eq_true rfl) rfl hl.1 rfl (Nat.le_of_ble_eq_true rfl) (pc := 14) dX7_toOpen_14 kk) ?_
    exact sp_r fun hz => aw_iret hz rfl rfl rfl (pc := 17) dX7_toOpen_17
  · refine sp_m (aw_get (k := 3) okX7 (uS eh2 s1) (by decide) q1505 (Or.inl rfl) (congrArg va_rf ex3) (pc := 6) dX7_toOpen_6) ?_
    refine sp_m (aw_ifnonnull (tgt := 18) (pc := 9) dX7_toOpen_9 (by decide)) ?_
    refine sp_m (aw_bipush (v := (-2)) (pc := 18) dX7_toOpen_18 rfl) ?_
    refine sp_m (aw_istore_n (lv' := [(1, .int (-2)), (0, .ref a0)]) (pc := 20) dX7_toOpen_20 rfl hl (by decide) rfl) (sp_all fun ls hl => ?_)
    refine sp_m (aw_aload_n (pc := 21) dX7_toOpen_21 rfl (lv_at hl 1 rfl)) ?_
    refine sp_m (aw_iconst (v := (-1)) (pc := 22) dX7_toOpen_22 rfl) ?_
    refine sp_b fun p4 ep4 => ?_
    refine sp_m (G' := AW (KX7_toOpen l D h0 hE v) h2 (26) ls (.long p4 :: [])) (fun kk => aw_callV (As := [.int (-1)]) (metX7_sumOpen _ _ ep4) (rcv_o okX7 (uS eh2 s1)) rfl mok_X7_sumOpen q2033 q2035 qs95 q125 q2036 (Nat.le_of_ble_eq_true rfl) (Nat.le_of_ble_eq_true rfl) rfl hl.1 rfl (Nat.le_of_ble_eq_true rfl) (pc := 23) dX7_toOpen_23 kk) ?_
    refine sp_m (aw_lstore_n (lv' := [(2, .long p4), (1, .int (-2)), (0, .ref a0)]) (pc := 26) dX7_toOpen_26 rfl hl (by decide) rfl) (sp_all fun ls hl => ?_)
    refine sp_m (aw_iconst (v := 0) (pc := 27) dX7_toOpen_27 rfl) ?_
    refine sp_m (aw_istore (lv' := [(4, .int 0), (2, .long p4), (1, .int (-2)), (0, .ref a0)]) (pc := 28) dX7_toOpen_28 hl (by decide) rfl) (sp_all fun ls hl => ?_)
    let P5 : Int32 × Int64 × Int32 → Prop := aLP (KX7_toOpen l D h0 hE v) 5 30 (fun s5v : Int32 × Int64 × Int32 => [(0, .ref a0), (1, .int s5v.1), (2, .long s5v.2.1), (4, .int s5v.2.2)]) (fun s5v => h2)
    let E5 : Int32 → Prop := aLP (KX7_toOpen l D h0 hE v) 5 72 (fun r5v : Int32 => [(0, .ref a0), (1, .int r5v)]) (fun r5v => h2)
    refine sp_bl (P := P5) (E := E5) (fun s5v => sp_all fun ls hl => ?_) (fun k => k ls (lv_sub hl [3, 2, 1, 0] rfl)) (fun r5v => sp_all fun ls hl => ?_)
    · have hl : lv_has ls 5 [(0, .ref a0), (1, .int s5v.1), (2, .long s5v.2.1), (4, .int s5v.2.2)] := hl
      show SP _ _ (AW (KX7_toOpen l D h0 hE v) h2 30 ls [])
      unfold X7_toOpen_L30
      refine sp_m (aw_iload (pc := 30) dX7_toOpen_30 (lv_at hl 3 rfl)) ?_
      refine sp_m (aw_aload_n (pc := 32) dX7_toOpen_32 rfl (lv_at hl 0 rfl)) ?_
      refine sp_b fun x6 ex6 => ?_
      refine sp_m (aw_get (k := 3) okX7 (uS eh2 s1) (by decide) q1505 (Or.inl rfl) (congrArg va_rf ex6) (pc := 33) dX7_toOpen_33) ?_
      refine sp_g fun s7 => ?_
      refine sp_m (aw_getN (k := 0) okX20 s7 (by decide) nq1642 rfl rfl (pc := 36) dX7_toOpen_36) ?_
      refine sp_if (fun c8 => ?_) (fun c8 => ?_)
      · refine sp_m (aw_icmp_ge_t (tgt := 72) (pc := 39) dX7_toOpen_39 (by decide) c8) ?_
        exact sp_r fun hz => hz ls (lv_sub hl [0, 1] rfl)
      · refine sp_m (aw_icmp_ge_f (tgt := 72) (pc := 39) dX7_toOpen_39 (by decide) c8) ?_
        refine sp_m (aw_aload_n (pc := 42) dX7_toOpen_42 rfl (lv_at hl 0 rfl)) ?_
        refine sp_m (aw_iload (pc := 43) dX7_toOpen_43 (lv_at hl 3 rfl)) ?_
        refine sp_b fun p9 ep9 => ?_
        refine sp_m (G' := AW (KX7_toOpen l D h0 hE v) h2 (48) ls (.long p9 :: [])) (fun kk => aw_callV (As := [.int s5v.2.2]) (metX7_sumOpen _ _ ep9) (rcv_o okX7 (uS eh2 s1)) rfl mok_X7_sumOpen q2033 q2035 qs95 q125 q2036 (Nat.le_of_ble_eq_true rfl) (Nat.le_of_ble_eq_true rfl) rfl hl.1 rfl (Nat.le_of_ble_eq_true rfl) (pc := 45) dX7_toOpen_45 kk) ?_
        refine sp_m (aw_lload_n (pc := 48) dX7_toOpen_48 rfl (lv_at hl 2 rfl)) ?_
        refine sp_m (aw_lcmp (pc := 49) dX7_toOpen_49) ?_
        have hj66_1 : ∀ j10 : Int32, ∀ j11 : Int64, ∀ ls : Array Slot, lv_has ls 5 [(0, .ref a0), (1, .int j10), (2, .long j11), (4, .int s5v.2.2)] → SP (X7_toOpen_j66 s5v j10 j11) (ZL P5 E5) (AW (KX7_toOpen l D h0 hE v) h2 66 ls ([])) := by
          intro j10 j11 ls hl
          unfold X7_toOpen_j66
          refine sp_m (aw_iinc (v := s5v.2.2 + 1) (lv' := [(4, .int (s5v.2.2 + 1)), (0, .ref a0), (1, .int j10), (2, .long j11)]) (pc := 66) dX7_toOpen_66 hl (k := 3) rfl rfl (by decide) rfl) (sp_all fun ls hl => ?_)
          refine sp_m (aw_goto (tgt := 30) (pc := 69) dX7_toOpen_69 (by decide)) ?_
          exact sp_r fun hz => hz ls (lv_sub hl [1, 2, 3, 0] rfl)
        refine sp_if (fun c12 => ?_) (fun c12 => ?_)
        · refine sp_m (aw_if_lt_t (tgt := 56) (pc := 50) dX7_toOpen_50 (by decide) ((lg_cmp_lt _ _).mpr c12)) ?_
          refine sp_m (aw_aload_n (pc := 56) dX7_toOpen_56 rfl (lv_at hl 0 rfl)) ?_
          refine sp_m (aw_iload (pc := 57) dX7_toOpen_57 (lv_at hl 3 rfl)) ?_
          refine sp_b fun p13 ep13 => ?_
          refine sp_m (G' := AW (KX7_toOpen l D h0 hE v) h2 (62) ls (.long p13 :: [])) (fun kk => aw_callV (As := [.int s5v.2.2]) (metX7_sumOpen _ _ ep13) (rcv_o okX7 (uS eh2 s1)) rfl mok_X7_sumOpen q2033 q2035 qs95 q125 q2036 (Nat.le_of_ble_eq_true rfl) (Nat.le_of_ble_eq_true rfl) rfl hl.1 rfl (Nat.le_of_ble_eq_true rfl) (pc := 59) dX7_toOpen_59 kk) ?_
          refine sp_m (aw_lstore_n (lv' := [(2, .long p13), (0, .ref a0), (1, .int s5v.1), (4, .int s5v.2.2)]) (pc := 62) dX7_toOpen_62 rfl hl (by decide) rfl) (sp_all fun ls hl => ?_)
          refine sp_m (aw_iload (pc := 63) dX7_toOpen_63 (lv_at hl 3 rfl)) ?_
          refine sp_m (aw_istore_n (lv' := [(1, .int s5v.2.2), (2, .long p13), (0, .ref a0), (4, .int s5v.2.2)]) (pc := 65) dX7_toOpen_65 rfl hl (by decide) rfl) (sp_all fun ls hl => ?_)
          exact hj66_1 s5v.2.2 p13 ls (lv_sub hl [2, 0, 1, 3] rfl)
        · refine sp_m (aw_if_lt_f (tgt := 56) (pc := 50) dX7_toOpen_50 (by decide) (fun z => c12 ((lg_cmp_lt _ _).mp z))) ?_
          refine sp_m (aw_goto (tgt := 66) (pc := 53) dX7_toOpen_53 (by decide)) ?_
          exact hj66_1 s5v.1 s5v.2.1 ls (lv_sub hl [0, 1, 2, 3] rfl)
    · have hl : lv_has ls 5 [(0, .ref a0), (1, .int r5v)] := hl
      show SP _ _ (AW (KX7_toOpen l D h0 hE v) h2 72 ls [])
      refine sp_m (aw_aload_n (pc := 72) dX7_toOpen_72 rfl (lv_at hl 0 rfl)) ?_
      refine sp_m (aw_iload_n (pc := 73) dX7_toOpen_73 rfl (lv_at hl 1 rfl)) ?_
      refine sp_b fun p14 ep14 => ?_
      refine sp_m (G' := AW (KX7_toOpen l D h0 hE v) p14.2 (77) ls (.int p14.1 :: [])) (fun kk => aw_callV (As := [.int r5v]) (metX7_good _ _ ep14) (rcv_o okX7 (uS eh2 s1)) rfl mok_X7_good q1865 q1867 qs73 q125 q1868 (Nat.le_of_ble_eq_true rfl) (Nat.le_of_ble_eq_true rfl) rfl hl.1 rfl (Nat.le_of_ble_eq_true rfl) (pc := 74) dX7_toOpen_74 kk) ?_
      exact sp_r fun hz => aw_iret hz rfl rfl rfl (pc := 77) dX7_toOpen_77
theorem mok_X7_trouble : mOK yX7_trouble 0 := ⟨⟨by decide +kernel, by decide +kernel⟩, by decide +kernel⟩
abbrev KX7_trouble (l : Launch) (D : DD) (h0 hE : AH) (v : Int32) : KT := (l, yX7_trouble, cX7_trouble, 1, (some .int), RX7, 1, D, h0, hE, .inl (some (.int v)), false, [])
theorem metX7_trouble (l : Launch) (D : DD) {a0 : Nat} {h0 : AH} {hE : AH} {v : Int32} (hr : fX7_trouble a0 h0 = some (v, hE)) : AMet (KX7_trouble l D h0 hE v) [.ref a0] := by
  refine AMet.of (K := (KX7_trouble l D h0 hE v)) rfl ⟨_, rfl⟩ rfl rfl rfl (Nat.le_of_ble_eq_true rfl) (fun ls hl => ?_)
  have hl : lv_has ls 1 [(0, .ref a0)] := hl
  suffices hsp : SP (fX7_trouble a0 h0) (fun z => z = (v, hE)) (AW (KX7_trouble l D h0 hE v) h0 0 ls []) from hsp _ hr rfl
  unfold fX7_trouble
  refine sp_m (aw_aload_n (pc := 0) dX7_trouble_0 rfl (lv_at hl 0 rfl)) ?_
  refine sp_m (aw_iconst (v := 0) (pc := 1) dX7_trouble_1 rfl) ?_
  refine sp_g fun s1 => ?_
  refine sp_t fun h2 eh20 => ?_
  have eh2 : gS h2 = gS h0 := by rw [eh20]; rfl
  refine sp_m (aw_put (k := 0) okX7 opX7 s1 (by decide) q1502 (Or.inl rfl) (Or.inl rfl) (hasV_I' eh20) rfl rfl (pc := 2) dX7_trouble_2) ?_
  refine sp_m (aw_aload_n (pc := 5) dX7_trouble_5 rfl (lv_at hl 0 rfl)) ?_
  refine sp_m (aw_get (k := 1) okX7 (uS eh2 s1) (by decide) q1503 (Or.inl rfl) rfl (pc := 6) dX7_trouble_6) ?_
  exact sp_r fun hz => aw_iret hz rfl rfl rfl (pc := 9) dX7_trouble_9
theorem mok_X7_turnedBy : mOK yX7_turnedBy 1 := ⟨⟨by decide +kernel, by decide +kernel⟩, by decide +kernel⟩
abbrev KX7_turnedBy (l : Launch) (D : DD) (h0 hE : AH) (v : Int32) : KT := (l, yX7_turnedBy, cX7_turnedBy, 2, (some .int), RX7, 4, D, h0, hE, .inl (some (.int v)), false, [])
theorem metX7_turnedBy (l : Launch) (D : DD) {a0 : Nat} {a1 : Int32} {h0 : AH} {hE : AH} {v : Int32} (hr : fX7_turnedBy a0 a1 h0 = some (v, hE)) : AMet (KX7_turnedBy l D h0 hE v) [.ref a0, .int a1] := by
  refine AMet.of (K := (KX7_turnedBy l D h0 hE v)) rfl ⟨_, rfl⟩ rfl rfl rfl (Nat.le_of_ble_eq_true rfl) (fun ls hl => ?_)
  have hl : lv_has ls 2 [(0, .ref a0), (1, .int a1)] := hl
  suffices hsp : SP (fX7_turnedBy a0 a1 h0) (fun z => z = (v, hE)) (AW (KX7_turnedBy l D h0 hE v) h0 0 ls []) from hsp _ hr rfl
  unfold fX7_turnedBy
  refine sp_m (aw_aload_n (pc := 0) dX7_turnedBy_0 rfl (lv_at hl 0 rfl)) ?_
  refine sp_m (aw_iconst (v := 0) (pc := 1) dX7_turnedBy_1 rfl) ?_
  refine sp_g fun s1 => ?_
  refine sp_t fun h2 eh20 => ?_
  have eh2 : gS h2 = gS h0 := by rw [eh20]; rfl
  refine sp_m (aw_put (k := 0) okX7 opX7 s1 (by decide) q1502 (Or.inl rfl) (Or.inl rfl) (hasV_I' eh20) rfl rfl (pc := 2) dX7_turnedBy_2) ?_
  refine sp_m (aw_aload_n (pc := 5) dX7_turnedBy_5 rfl (lv_at hl 0 rfl)) ?_
  refine sp_m (aw_iload_n (pc := 6) dX7_turnedBy_6 rfl (lv_at hl 1 rfl)) ?_
  refine sp_b fun p3 ep3 => ?_
  refine sp_m (G' := AW (KX7_turnedBy l D h0 hE v) h2 (10) ls (.int p3 :: [])) (fun kk => aw_callV (As := [.int a1]) (metX7_isBeast _ _ ep3) (rcv_o okX7 (uS eh2 s1)) rfl mok_X7_isBeast q1893 q1895 qs76 q125 q1896 (Nat.le_of_ble_eq_true rfl) (Nat.le_of_ble_eq_true rfl) rfl hl.1 rfl (Nat.le_of_ble_eq_true rfl) (pc := 7) dX7_turnedBy_7 kk) ?_
  refine sp_if (fun c4 => ?_) (fun c4 => ?_)
  · refine sp_m (aw_if_eq_t (tgt := 25) (pc := 10) dX7_turnedBy_10 (by decide) c4) ?_
    refine sp_m (aw_aload_n (pc := 25) dX7_turnedBy_25 rfl (lv_at hl 0 rfl)) ?_
    refine sp_m (aw_iconst (v := 1) (pc := 26) dX7_turnedBy_26 rfl) ?_
    refine sp_b fun p5 ep5 => ?_
    refine sp_m (G' := AW (KX7_turnedBy l D h0 hE v) p5.2 (30) ls (.int p5.1 :: [])) (fun kk => aw_callV (As := [.int 1]) (metX7_refused _ _ ep5) (rcv_o okX7 (uS eh2 s1)) rfl mok_X7_refused q1632 q1634 qs50 q125 q1635 (Nat.le_of_ble_eq_true rfl) (Nat.le_of_ble_eq_true rfl) rfl hl.1 rfl (Nat.le_of_ble_eq_true rfl) (pc := 27) dX7_turnedBy_27 kk) ?_
    exact sp_r fun hz => aw_iret hz rfl rfl rfl (pc := 30) dX7_turnedBy_30
  · refine sp_m (aw_if_eq_f (tgt := 25) (pc := 10) dX7_turnedBy_10 (by decide) c4) ?_
    refine sp_m (aw_aload_n (pc := 13) dX7_turnedBy_13 rfl (lv_at hl 0 rfl)) ?_
    refine sp_m (aw_aload_n (pc := 14) dX7_turnedBy_14 rfl (lv_at hl 0 rfl)) ?_
    refine sp_m (aw_iload_n (pc := 15) dX7_turnedBy_15 rfl (lv_at hl 1 rfl)) ?_
    refine sp_b fun p6 ep6 => ?_
    refine sp_m (G' := AW (KX7_turnedBy l D h0 hE v) h2 (19) ls (.int p6 :: .ref a0 :: [])) (fun kk => aw_callV (As := [.int a1]) (metX7_turnedOf _ _ ep6) (rcv_o okX7 (uS eh2 s1)) rfl mok_X7_turnedOf q2123 q2125 qs105 q125 q2126 (Nat.le_of_ble_eq_true rfl) (Nat.le_of_ble_eq_true rfl) rfl hl.1 rfl (Nat.le_of_ble_eq_true rfl) (pc := 16) dX7_turnedBy_16 kk) ?_
    refine sp_b fun p7 ep7 => ?_
    refine sp_m (G' := AW (KX7_turnedBy l D h0 hE v) p7.2 (22) ls (.int p7.1 :: [])) (fun kk => aw_callV (As := [.int p6]) (metX7_good _ _ ep7) (rcv_o okX7 (uS eh2 s1)) rfl mok_X7_good q1865 q1867 qs73 q125 q1868 (Nat.le_of_ble_eq_true rfl) (Nat.le_of_ble_eq_true rfl) rfl hl.1 rfl (Nat.le_of_ble_eq_true rfl) (pc := 19) dX7_turnedBy_19 kk) ?_
    refine sp_m (aw_goto (tgt := 30) (pc := 22) dX7_turnedBy_22 (by decide)) ?_
    exact sp_r fun hz => aw_iret hz rfl rfl rfl (pc := 30) dX7_turnedBy_30
theorem mok_X7_undo : mOK yX7_undo 0 := ⟨⟨by decide +kernel, by decide +kernel⟩, by decide +kernel⟩
abbrev KX7_undo (l : Launch) (D : DD) (h0 hE : AH) (v : Int32) : KT := (l, yX7_undo, cX7_undo, 2, (some .boolean), RX7, 3, D, h0, hE, .inl (some (.int v)), false, [])
theorem metX7_undo (l : Launch) (D : DD) {a0 : Nat} {h0 : AH} {hE : AH} {v : Int32} (hr : fX7_undo a0 h0 = some (v, hE)) : AMet (KX7_undo l D h0 hE v) [.ref a0] := by
  refine AMet.of (K := (KX7_undo l D h0 hE v)) rfl ⟨_, rfl⟩ rfl rfl rfl (Nat.le_of_ble_eq_true rfl) (fun ls hl => ?_)
  have hl : lv_has ls 2 [(0, .ref a0)] := hl
  suffices hsp : SP (fX7_undo a0 h0) (fun z => z = (v, hE)) (AW (KX7_undo l D h0 hE v) h0 0 ls []) from hsp _ hr rfl
  unfold fX7_undo
  refine sp_m (aw_aload_n (pc := 0) dX7_undo_0 rfl (lv_at hl 0 rfl)) ?_
  refine sp_m (aw_iconst (v := 0) (pc := 1) dX7_undo_1 rfl) ?_
  refine sp_g fun s1 => ?_
  refine sp_t fun h2 eh20 => ?_
  have eh2 : gS h2 = gS h0 := by rw [eh20]; rfl
  refine sp_m (aw_put (k := 0) okX7 opX7 s1 (by decide) q1502 (Or.inl rfl) (Or.inl rfl) (hasV_I' eh20) rfl rfl (pc := 2) dX7_undo_2) ?_
  refine sp_m (aw_aload_n (pc := 5) dX7_undo_5 rfl (lv_at hl 0 rfl)) ?_
  refine sp_o (fun ex3 => ?_) (fun x3 ex3 => ?_)
  · refine sp_m (aw_get (k := 3) okX7 (uS eh2 s1) (by decide) q1505 (Or.inl rfl) (congrArg va_rf ex3) (pc := 6) dX7_undo_6) ?_
    refine sp_m (aw_ifnullN (tgt := 19) (pc := 9) dX7_undo_9 (by decide)) ?_
    refine sp_m (aw_aload_n (pc := 19) dX7_undo_19 rfl (lv_at hl 0 rfl)) ?_
    refine sp_m (aw_bipush (v := 6) (pc := 20) dX7_undo_20 rfl) ?_
    refine sp_b fun p21 ep21 => ?_
    refine sp_m (G' := AW (KX7_undo l D h0 hE v) p21.2 (25) ls (.int p21.1 :: [])) (fun kk => aw_callV (As := [.int 6]) (metX7_denied _ _ ep21) (rcv_o okX7 (uS eh2 s1)) rfl mok_X7_denied q2187 q2189 qs112 q125 q2190 (Nat.le_of_ble_eq_true rfl) (Nat.le_of_ble_eq_true rfl) rfl hl.1 rfl (Nat.le_of_ble_eq_true rfl) (pc := 22) dX7_undo_22 kk) ?_
    refine sp_g fun g22 => ?_
    exact sp_r fun hz => aw_zret (nar_b g22) hz rfl rfl rfl (pc := 25) dX7_undo_25
  · refine sp_m (aw_get (k := 3) okX7 (uS eh2 s1) (by decide) q1505 (Or.inl rfl) (congrArg va_rf ex3) (pc := 6) dX7_undo_6) ?_
    refine sp_m (aw_ifnull (pc := 9) dX7_undo_9) ?_
    refine sp_m (aw_aload_n (pc := 12) dX7_undo_12 rfl (lv_at hl 0 rfl)) ?_
    refine sp_m (aw_get (k := 20) okX7 (uS eh2 s1) (by decide) q1522 (Or.inl rfl) rfl (pc := 13) dX7_undo_13) ?_
    refine sp_if (fun c4 => ?_) (fun c4 => ?_)
    · refine sp_m (aw_if_ne_t (tgt := 26) (pc := 16) dX7_undo_16 (by decide) c4) ?_
      refine sp_m (aw_aload_n (pc := 26) dX7_undo_26 rfl (lv_at hl 0 rfl)) ?_
      refine sp_m (aw_dup (pc := 27) dX7_undo_27 rfl) ?_
      refine sp_m (aw_get (k := 20) okX7 (uS eh2 s1) (by decide) q1522 (Or.inl rfl) rfl (pc := 28) dX7_undo_28) ?_
      refine sp_m (aw_iconst (v := 1) (pc := 31) dX7_undo_31 rfl) ?_
      refine sp_m (aw_isub (pc := 32) dX7_undo_32) ?_
      refine sp_t fun h5 eh50 => ?_
      have eh5 : gS h5 = gS h2 := by rw [eh50]; rfl
      refine sp_m (aw_put (k := 20) okX7 opX7 (uS eh2 s1) (by decide) q1522 (Or.inl rfl) (Or.inl rfl) (hasV_I' eh50) rfl rfl (pc := 33) dX7_undo_33) ?_
      refine sp_m (aw_iconst (v := 0) (pc := 36) dX7_undo_36 rfl) ?_
      refine sp_m (aw_istore_n (lv' := [(1, .int 0), (0, .ref a0)]) (pc := 37) dX7_undo_37 rfl hl (by decide) rfl) (sp_all fun ls hl => ?_)
      let P6 : Int32 × AH → Prop := aLP (KX7_undo l D h0 hE v) 2 38 (fun s6v : Int32 × AH => [(0, .ref a0), (1, .int s6v.1)]) (fun s6v => s6v.2)
      let E6 : AH → Prop := aLP (KX7_undo l D h0 hE v) 2 70 (fun r6v : AH => [(0, .ref a0)]) (fun r6v => r6v)
      refine sp_bl (P := P6) (E := E6) (fun s6v => sp_all fun ls hl => ?_) (fun k => k ls (lv_sub hl [1, 0] rfl)) (fun r6v => sp_all fun ls hl => ?_)
      · have hl : lv_has ls 2 [(0, .ref a0), (1, .int s6v.1)] := hl
        show SP _ _ (AW (KX7_undo l D h0 hE v) s6v.2 38 ls [])
        unfold X7_undo_L38
        refine sp_m (aw_iload_n (pc := 38) dX7_undo_38 rfl (lv_at hl 1 rfl)) ?_
        refine sp_m (aw_bipush (v := 19) (pc := 39) dX7_undo_39 rfl) ?_
        refine sp_if (fun c7 => ?_) (fun c7 => ?_)
        · refine sp_m (aw_icmp_ge_t (tgt := 70) (pc := 41) dX7_undo_41 (by decide) c7) ?_
          exact sp_r fun hz => hz ls (lv_sub hl [0] rfl)
        · refine sp_m (aw_icmp_ge_f (tgt := 70) (pc := 41) dX7_undo_41 (by decide) c7) ?_
          refine sp_m (aw_aload_n (pc := 44) dX7_undo_44 rfl (lv_at hl 0 rfl)) ?_
          refine sp_g fun s8 => ?_
          refine sp_b fun x9 ex9 => ?_
          refine sp_m (aw_get (k := 16) okX7 s8 (by decide) q1518 (Or.inl rfl) (congrArg va_rf ex9) (pc := 45) dX7_undo_45) ?_
          refine sp_m (aw_iload_n (pc := 48) dX7_undo_48 rfl (lv_at hl 1 rfl)) ?_
          refine sp_m (aw_aload_n (pc := 49) dX7_undo_49 rfl (lv_at hl 0 rfl)) ?_
          refine sp_b fun x10 ex10 => ?_
          refine sp_m (aw_get (k := 18) okX7 s8 (by decide) q1520 (Or.inl rfl) (congrArg va_rf ex10) (pc := 50) dX7_undo_50) ?_
          refine sp_m (aw_bipush (v := 19) (pc := 53) dX7_undo_53 rfl) ?_
          refine sp_m (aw_aload_n (pc := 55) dX7_undo_55 rfl (lv_at hl 0 rfl)) ?_
          refine sp_m (aw_get (k := 20) okX7 s8 (by decide) q1522 (Or.inl rfl) rfl (pc := 56) dX7_undo_56) ?_
          refine sp_m (aw_imul (pc := 59) dX7_undo_59) ?_
          refine sp_m (aw_iload_n (pc := 60) dX7_undo_60 rfl (lv_at hl 1 rfl)) ?_
          refine sp_m (aw_iadd (pc := 61) dX7_undo_61) ?_
          refine sp_g fun s11 => ?_
          refine sp_g fun i12 => ?_
          refine sp_m (aw_iald s11 i12 (pc := 62) dX7_undo_62) ?_
          refine sp_g fun s13 => ?_
          refine sp_g fun i14 => ?_
          refine sp_t fun h15 eh150 => ?_
          have eh15 : gS h15 = gS s6v.2 := by rw [eh150]; rfl
          refine sp_m (fun kk => aw_iast s13 i14 (pc := 63) dX7_undo_63 (AWe eh150 kk)) ?_
          refine sp_m (aw_iinc (v := s6v.1 + 1) (lv' := [(1, .int (s6v.1 + 1)), (0, .ref a0)]) (pc := 64) dX7_undo_64 hl (k := 1) rfl rfl (by decide) rfl) (sp_all fun ls hl => ?_)
          refine sp_m (aw_goto (tgt := 38) (pc := 67) dX7_undo_67 (by decide)) ?_
          exact sp_r fun hz => hz ls (lv_sub hl [1, 0] rfl)
      · have hl : lv_has ls 2 [(0, .ref a0)] := hl
        show SP _ _ (AW (KX7_undo l D h0 hE v) r6v 70 ls [])
        refine sp_m (aw_aload_n (pc := 70) dX7_undo_70 rfl (lv_at hl 0 rfl)) ?_
        refine sp_g fun s17 => ?_
        refine sp_b fun p16 ep16 => ?_
        refine sp_m (G' := AW (KX7_undo l D h0 hE v) p16.2 (74) ls (.int p16.1 :: [])) (fun kk => aw_callV (As := []) (metX7_granted _ _ ep16) (rcv_o okX7 s17) rfl mok_X7_granted q2195 q2197 qs114 q125 q2198 (Nat.le_of_ble_eq_true rfl) (Nat.le_of_ble_eq_true rfl) rfl hl.1 rfl (Nat.le_of_ble_eq_true rfl) (pc := 71) dX7_undo_71 kk) ?_
        refine sp_g fun g18 => ?_
        exact sp_r fun hz => aw_zret (nar_b g18) hz rfl rfl rfl (pc := 74) dX7_undo_74
    · refine sp_m (aw_if_ne_f (tgt := 26) (pc := 16) dX7_undo_16 (by decide) (Decidable.not_not.mp c4)) ?_
      refine sp_m (aw_aload_n (pc := 19) dX7_undo_19 rfl (lv_at hl 0 rfl)) ?_
      refine sp_m (aw_bipush (v := 6) (pc := 20) dX7_undo_20 rfl) ?_
      refine sp_b fun p19 ep19 => ?_
      refine sp_m (G' := AW (KX7_undo l D h0 hE v) p19.2 (25) ls (.int p19.1 :: [])) (fun kk => aw_callV (As := [.int 6]) (metX7_denied _ _ ep19) (rcv_o okX7 (uS eh2 s1)) rfl mok_X7_denied q2187 q2189 qs112 q125 q2190 (Nat.le_of_ble_eq_true rfl) (Nat.le_of_ble_eq_true rfl) rfl hl.1 rfl (Nat.le_of_ble_eq_true rfl) (pc := 22) dX7_undo_22 kk) ?_
      refine sp_g fun g20 => ?_
      exact sp_r fun hz => aw_zret (nar_b g20) hz rfl rfl rfl (pc := 25) dX7_undo_25
theorem mok_X7_byteAt : mOK yX7_byteAt 1 := ⟨⟨by decide +kernel, by decide +kernel⟩, by decide +kernel⟩
abbrev KX7_byteAt (l : Launch) (D : DD) (h0 : AH) (v : Int32) : KT := (l, yX7_byteAt, cX7_byteAt, 2, (some .int), RX7, 1, D, h0, h0, .inl (some (.int v)), false, [])
theorem metX7_byteAt (l : Launch) (D : DD) {a0 : Nat} {a1 : Int32} {h0 : AH} {v : Int32} (hr : fX7_byteAt a0 a1 h0 = some v) : AMet (KX7_byteAt l D h0 v) [.ref a0, .int a1] := by
  refine AMet.of (K := (KX7_byteAt l D h0 v)) rfl ⟨_, rfl⟩ rfl rfl rfl (Nat.le_of_ble_eq_true rfl) (fun ls hl => ?_)
  have hl : lv_has ls 2 [(0, .ref a0), (1, .int a1)] := hl
  suffices hsp : SP (fX7_byteAt a0 a1 h0) (fun z => z = v) (AW (KX7_byteAt l D h0 v) h0 0 ls []) from hsp _ hr rfl
  unfold fX7_byteAt
  refine sp_m (aw_iload_n (pc := 0) dX7_byteAt_0 rfl (lv_at hl 1 rfl)) ?_
  refine sp_m (aw_aload_n (pc := 1) dX7_byteAt_1 rfl (lv_at hl 0 rfl)) ?_
  refine sp_g fun s1 => ?_
  refine sp_m (aw_get (k := 7) okX7 s1 (by decide) q1509 (Or.inl rfl) rfl (pc := 2) dX7_byteAt_2) ?_
  refine sp_if (fun c2 => ?_) (fun c2 => ?_)
  · refine sp_m (aw_icmp_ge_t (tgt := 21) (pc := 5) dX7_byteAt_5 (by decide) c2) ?_
    refine sp_m (aw_iconst (v := (-1)) (pc := 21) dX7_byteAt_21 rfl) ?_
    exact sp_r fun hz => aw_iret (congrArg (fun z => (z, h0)) hz) rfl rfl rfl (pc := 22) dX7_byteAt_22
  · refine sp_m (aw_icmp_ge_f (tgt := 21) (pc := 5) dX7_byteAt_5 (by decide) c2) ?_
    refine sp_m (aw_aload_n (pc := 8) dX7_byteAt_8 rfl (lv_at hl 0 rfl)) ?_
    refine sp_b fun x3 ex3 => ?_
    refine sp_m (aw_get (k := 5) okX7 s1 (by decide) q1507 (Or.inl rfl) (congrArg va_rf ex3) (pc := 9) dX7_byteAt_9) ?_
    refine sp_m (aw_iload_n (pc := 12) dX7_byteAt_12 rfl (lv_at hl 1 rfl)) ?_
    refine sp_g fun s4 => ?_
    refine sp_g fun i5 => ?_
    refine sp_m (aw_bald s4 i5 (pc := 13) dX7_byteAt_13) ?_
    refine sp_m (aw_sipush (v := 255) (pc := 14) dX7_byteAt_14 rfl) ?_
    refine sp_m (aw_iand (pc := 17) dX7_byteAt_17) ?_
    refine sp_m (aw_goto (tgt := 22) (pc := 18) dX7_byteAt_18 (by decide)) ?_
    exact sp_r fun hz => aw_iret (congrArg (fun z => (z, h0)) hz) rfl rfl rfl (pc := 22) dX7_byteAt_22
theorem mok_X7_isDigit : mOK yX7_isDigit 1 := ⟨⟨by decide +kernel, by decide +kernel⟩, by decide +kernel⟩
abbrev KX7_isDigit (l : Launch) (D : DD) (h0 : AH) (v : Int32) : KT := (l, yX7_isDigit, cX7_isDigit, 1, (some .boolean), RX7, 1, D, h0, h0, .inl (some (.int v)), false, [])
theorem metX7_isDigit (l : Launch) (D : DD) {a0 : Int32} {h0 : AH} {v : Int32} (hr : fX7_isDigit a0 h0 = some v) : AMet (KX7_isDigit l D h0 v) [.int a0] := by
  refine AMet.of (K := (KX7_isDigit l D h0 v)) rfl ⟨_, rfl⟩ rfl rfl rfl (Nat.le_of_ble_eq_true rfl) (fun ls hl => ?_)
  have hl : lv_has ls 1 [(0, .int a0)] := hl
  suffices hsp : SP (fX7_isDigit a0 h0) (fun z => z = v) (AW (KX7_isDigit l D h0 v) h0 0 ls []) from hsp _ hr rfl
  unfold fX7_isDigit
  refine sp_m (aw_iload_n (pc := 0) dX7_isDigit_0 rfl (lv_at hl 0 rfl)) ?_
  refine sp_m (aw_bipush (v := 48) (pc := 1) dX7_isDigit_1 rfl) ?_
  refine sp_if (fun c1 => ?_) (fun c1 => ?_)
  · refine sp_m (aw_icmp_lt_t (tgt := 16) (pc := 3) dX7_isDigit_3 (by decide) c1) ?_
    refine sp_m (aw_iconst (v := 0) (pc := 16) dX7_isDigit_16 rfl) ?_
    exact sp_r fun hz => aw_zret (nar_b (Or.inl rfl)) (congrArg (fun z => (z, h0)) hz) rfl rfl rfl (pc := 17) dX7_isDigit_17
  · refine sp_m (aw_icmp_lt_f (tgt := 16) (pc := 3) dX7_isDigit_3 (by decide) c1) ?_
    refine sp_m (aw_iload_n (pc := 6) dX7_isDigit_6 rfl (lv_at hl 0 rfl)) ?_
    refine sp_m (aw_bipush (v := 57) (pc := 7) dX7_isDigit_7 rfl) ?_
    refine sp_if (fun c2 => ?_) (fun c2 => ?_)
    · refine sp_m (aw_icmp_gt_t (tgt := 16) (pc := 9) dX7_isDigit_9 (by decide) c2) ?_
      refine sp_m (aw_iconst (v := 0) (pc := 16) dX7_isDigit_16 rfl) ?_
      exact sp_r fun hz => aw_zret (nar_b (Or.inl rfl)) (congrArg (fun z => (z, h0)) hz) rfl rfl rfl (pc := 17) dX7_isDigit_17
    · refine sp_m (aw_icmp_gt_f (tgt := 16) (pc := 9) dX7_isDigit_9 (by decide) c2) ?_
      refine sp_m (aw_iconst (v := 1) (pc := 12) dX7_isDigit_12 rfl) ?_
      refine sp_m (aw_goto (tgt := 17) (pc := 13) dX7_isDigit_13 (by decide)) ?_
      exact sp_r fun hz => aw_zret (nar_b (Or.inr rfl)) (congrArg (fun z => (z, h0)) hz) rfl rfl rfl (pc := 17) dX7_isDigit_17
theorem mok_X7_isLetter : mOK yX7_isLetter 1 := ⟨⟨by decide +kernel, by decide +kernel⟩, by decide +kernel⟩
abbrev KX7_isLetter (l : Launch) (D : DD) (h0 : AH) (v : Int32) : KT := (l, yX7_isLetter, cX7_isLetter, 1, (some .boolean), RX7, 1, D, h0, h0, .inl (some (.int v)), false, [])
theorem metX7_isLetter (l : Launch) (D : DD) {a0 : Int32} {h0 : AH} {v : Int32} (hr : fX7_isLetter a0 h0 = some v) : AMet (KX7_isLetter l D h0 v) [.int a0] := by
  refine AMet.of (K := (KX7_isLetter l D h0 v)) rfl ⟨_, rfl⟩ rfl rfl rfl (Nat.le_of_ble_eq_true rfl) (fun ls hl => ?_)
  have hl : lv_has ls 1 [(0, .int a0)] := hl
  suffices hsp : SP (fX7_isLetter a0 h0) (fun z => z = v) (AW (KX7_isLetter l D h0 v) h0 0 ls []) from hsp _ hr rfl
  unfold fX7_isLetter
  refine sp_m (aw_iload_n (pc := 0) dX7_isLetter_0 rfl (lv_at hl 0 rfl)) ?_
  refine sp_m (aw_bipush (v := 97) (pc := 1) dX7_isLetter_1 rfl) ?_
  refine sp_if (fun c1 => ?_) (fun c1 => ?_)
  · refine sp_m (aw_icmp_lt_t (tgt := 16) (pc := 3) dX7_isLetter_3 (by decide) c1) ?_
    refine sp_m (aw_iconst (v := 0) (pc := 16) dX7_isLetter_16 rfl) ?_
    exact sp_r fun hz => aw_zret (nar_b (Or.inl rfl)) (congrArg (fun z => (z, h0)) hz) rfl rfl rfl (pc := 17) dX7_isLetter_17
  · refine sp_m (aw_icmp_lt_f (tgt := 16) (pc := 3) dX7_isLetter_3 (by decide) c1) ?_
    refine sp_m (aw_iload_n (pc := 6) dX7_isLetter_6 rfl (lv_at hl 0 rfl)) ?_
    refine sp_m (aw_bipush (v := 122) (pc := 7) dX7_isLetter_7 rfl) ?_
    refine sp_if (fun c2 => ?_) (fun c2 => ?_)
    · refine sp_m (aw_icmp_gt_t (tgt := 16) (pc := 9) dX7_isLetter_9 (by decide) c2) ?_
      refine sp_m (aw_iconst (v := 0) (pc := 16) dX7_isLetter_16 rfl) ?_
      exact sp_r fun hz => aw_zret (nar_b (Or.inl rfl)) (congrArg (fun z => (z, h0)) hz) rfl rfl rfl (pc := 17) dX7_isLetter_17
    · refine sp_m (aw_icmp_gt_f (tgt := 16) (pc := 9) dX7_isLetter_9 (by decide) c2) ?_
      refine sp_m (aw_iconst (v := 1) (pc := 12) dX7_isLetter_12 rfl) ?_
      refine sp_m (aw_goto (tgt := 17) (pc := 13) dX7_isLetter_13 (by decide)) ?_
      exact sp_r fun hz => aw_zret (nar_b (Or.inr rfl)) (congrArg (fun z => (z, h0)) hz) rfl rfl rfl (pc := 17) dX7_isLetter_17
theorem mok_X7_goesOn : mOK yX7_goesOn 0 := ⟨⟨by decide +kernel, by decide +kernel⟩, by decide +kernel⟩
abbrev KX7_goesOn (l : Launch) (D : DD) (h0 hE : AH) : KT := (l, yX7_goesOn, cX7_goesOn, 3, none, RX7, 2, D, h0, hE, .inl (none), false, [])
theorem metX7_goesOn (l : Launch) (D : DD) {a0 : Nat} {h0 : AH} {hE : AH} (hr : fX7_goesOn a0 h0 = some hE) : AMet (KX7_goesOn l D h0 hE) [.ref a0] := by
  refine AMet.of (K := (KX7_goesOn l D h0 hE)) rfl ⟨_, rfl⟩ rfl rfl rfl (Nat.le_of_ble_eq_true rfl) (fun ls hl => ?_)
  have hl : lv_has ls 3 [(0, .ref a0)] := hl
  suffices hsp : SP (fX7_goesOn a0 h0) (fun z => z = hE) (AW (KX7_goesOn l D h0 hE) h0 0 ls []) from hsp _ hr rfl
  unfold fX7_goesOn
  refine sp_m (aw_aload_n (pc := 0) dX7_goesOn_0 rfl (lv_at hl 0 rfl)) ?_
  refine sp_g fun s1 => ?_
  refine sp_m (aw_get (k := 9) okX7 s1 (by decide) q1511 (Or.inl rfl) rfl (pc := 1) dX7_goesOn_1) ?_
  refine sp_m (aw_iconst (v := 5) (pc := 4) dX7_goesOn_4 rfl) ?_
  refine sp_if (fun c2 => ?_) (fun c2 => ?_)
  · refine sp_m (aw_icmp_ne_t (tgt := 9) (pc := 5) dX7_goesOn_5 (by decide) c2) ?_
    let P3 : AH → Prop := aLP (KX7_goesOn l D h0 hE) 3 9 (fun s3v : AH => [(0, .ref a0)]) (fun s3v => s3v)
    let E3 : AH → Prop := aLP (KX7_goesOn l D h0 hE) 3 35 (fun r3v : AH => [(0, .ref a0)]) (fun r3v => r3v)
    refine sp_bl (P := P3) (E := E3) (fun s3v => sp_all fun ls hl => ?_) (fun k => k ls (lv_sub hl [0] rfl)) (fun r3v => sp_all fun ls hl => ?_)
    · have hl : lv_has ls 3 [(0, .ref a0)] := hl
      show SP _ _ (AW (KX7_goesOn l D h0 hE) s3v 9 ls [])
      unfold X7_goesOn_L9
      refine sp_m (aw_aload_n (pc := 9) dX7_goesOn_9 rfl (lv_at hl 0 rfl)) ?_
      refine sp_m (aw_aload_n (pc := 10) dX7_goesOn_10 rfl (lv_at hl 0 rfl)) ?_
      refine sp_g fun s4 => ?_
      refine sp_m (aw_get (k := 8) okX7 s4 (by decide) q1510 (Or.inl rfl) rfl (pc := 11) dX7_goesOn_11) ?_
      refine sp_b fun p5 ep5 => ?_
      refine sp_m (G' := AW (KX7_goesOn l D h0 hE) s3v (17) ls (.int p5 :: [])) (fun kk => aw_callV (As := [.int (gI s3v a0 8)]) (metX7_byteAt _ _ ep5) (rcv_o okX7 s4) rfl mok_X7_byteAt q1713 q1715 qs52 q125 q1716 (Nat.le_of_ble_eq_true rfl) (Nat.le_of_ble_eq_true rfl) rfl hl.1 rfl (Nat.le_of_ble_eq_true rfl) (pc := 14) dX7_goesOn_14 kk) ?_
      refine sp_m (aw_bipush (v := 32) (pc := 17) dX7_goesOn_17 rfl) ?_
      refine sp_if (fun c6 => ?_) (fun c6 => ?_)
      · refine sp_m (aw_icmp_ne_t (tgt := 35) (pc := 19) dX7_goesOn_19 (by decide) c6) ?_
        exact sp_r fun hz => hz ls (lv_sub hl [0] rfl)
      · refine sp_m (aw_icmp_ne_f (tgt := 35) (pc := 19) dX7_goesOn_19 (by decide) (Decidable.not_not.mp c6)) ?_
        refine sp_m (aw_aload_n (pc := 22) dX7_goesOn_22 rfl (lv_at hl 0 rfl)) ?_
        refine sp_m (aw_dup (pc := 23) dX7_goesOn_23 rfl) ?_
        refine sp_m (aw_get (k := 8) okX7 s4 (by decide) q1510 (Or.inl rfl) rfl (pc := 24) dX7_goesOn_24) ?_
        refine sp_m (aw_iconst (v := 1) (pc := 27) dX7_goesOn_27 rfl) ?_
        refine sp_m (aw_iadd (pc := 28) dX7_goesOn_28) ?_
        refine sp_t fun h7 eh70 => ?_
        have eh7 : gS h7 = gS s3v := by rw [eh70]; rfl
        refine sp_m (aw_put (k := 8) okX7 opX7 s4 (by decide) q1510 (Or.inl rfl) (Or.inl rfl) (hasV_I' eh70) rfl rfl (pc := 29) dX7_goesOn_29) ?_
        refine sp_m (aw_goto (tgt := 9) (pc := 32) dX7_goesOn_32 (by decide)) ?_
        exact sp_r fun hz => hz ls (lv_sub hl [0] rfl)
    · have hl : lv_has ls 3 [(0, .ref a0)] := hl
      show SP _ _ (AW (KX7_goesOn l D h0 hE) r3v 35 ls [])
      refine sp_m (aw_aload_n (pc := 35) dX7_goesOn_35 rfl (lv_at hl 0 rfl)) ?_
      refine sp_m (aw_aload_n (pc := 36) dX7_goesOn_36 rfl (lv_at hl 0 rfl)) ?_
      refine sp_g fun s8 => ?_
      refine sp_m (aw_get (k := 8) okX7 s8 (by decide) q1510 (Or.inl rfl) rfl (pc := 37) dX7_goesOn_37) ?_
      refine sp_t fun h9 eh90 => ?_
      have eh9 : gS h9 = gS r3v := by rw [eh90]; rfl
      refine sp_m (aw_put (k := 10) okX7 opX7 s8 (by decide) q1512 (Or.inl rfl) (Or.inl rfl) (hasV_I' eh90) rfl rfl (pc := 40) dX7_goesOn_40) ?_
      refine sp_m (aw_aload_n (pc := 43) dX7_goesOn_43 rfl (lv_at hl 0 rfl)) ?_
      refine sp_m (aw_iconst (v := 0) (pc := 44) dX7_goesOn_44 rfl) ?_
      refine sp_t fun h10 eh100 => ?_
      have eh10 : gS h10 = gS h9 := by rw [eh100]; rfl
      refine sp_m (aw_put (k := 9) okX7 opX7 (uS eh9 s8) (by decide) q1511 (Or.inl rfl) (Or.inl rfl) (hasV_I' eh100) rfl rfl (pc := 45) dX7_goesOn_45) ?_
      refine sp_m (aw_aload_n (pc := 48) dX7_goesOn_48 rfl (lv_at hl 0 rfl)) ?_
      refine sp_m (aw_aload_n (pc := 49) dX7_goesOn_49 rfl (lv_at hl 0 rfl)) ?_
      refine sp_m (aw_get (k := 8) okX7 (uS eh10 (uS eh9 s8)) (by decide) q1510 (Or.inl rfl) rfl (pc := 50) dX7_goesOn_50) ?_
      refine sp_b fun p11 ep11 => ?_
      refine sp_m (G' := AW (KX7_goesOn l D h0 hE) h10 (56) ls (.int p11 :: [])) (fun kk => aw_callV (As := [.int (gI h10 a0 8)]) (metX7_byteAt _ _ ep11) (rcv_o okX7 (uS eh10 (uS eh9 s8))) rfl mok_X7_byteAt q1713 q1715 qs52 q125 q1716 (Nat.le_of_ble_eq_true rfl) (Nat.le_of_ble_eq_true rfl) rfl hl.1 rfl (Nat.le_of_ble_eq_true rfl) (pc := 53) dX7_goesOn_53 kk) ?_
      refine sp_m (aw_istore_n (lv' := [(1, .int p11), (0, .ref a0)]) (pc := 56) dX7_goesOn_56 rfl hl (by decide) rfl) (sp_all fun ls hl => ?_)
      refine sp_m (aw_iconst (v := 0) (pc := 57) dX7_goesOn_57 rfl) ?_
      refine sp_m (aw_istore_n (lv' := [(2, .int 0), (1, .int p11), (0, .ref a0)]) (pc := 58) dX7_goesOn_58 rfl hl (by decide) rfl) (sp_all fun ls hl => ?_)
      refine sp_m (aw_iload_n (pc := 59) dX7_goesOn_59 rfl (lv_at hl 1 rfl)) ?_
      refine sp_m (aw_iconst (v := (-1)) (pc := 60) dX7_goesOn_60 rfl) ?_
      refine sp_if (fun c12 => ?_) (fun c12 => ?_)
      · refine sp_m (aw_icmp_ne_t (tgt := 72) (pc := 61) dX7_goesOn_61 (by decide) c12) ?_
        refine sp_m (aw_iload_n (pc := 72) dX7_goesOn_72 rfl (lv_at hl 1 rfl)) ?_
        refine sp_b fun p13 ep13 => ?_
        refine sp_m (G' := AW (KX7_goesOn l D h0 hE) h10 (76) ls (.int p13 :: [])) (fun kk => aw_callS (As := [.int p11]) (metX7_isLetter _ _ ep13) mok_X7_isLetter q1717 q1718 q125 q1719 (Nat.le_of_ble_eq_true rfl) (Nat.le_of_ble_eq_true rfl) rfl hl.1 rfl (Nat.le_of_ble_eq_true rfl) (pc := 73) dX7_goesOn_73 kk) ?_
        refine sp_if (fun c14 => ?_) (fun c14 => ?_)
        · refine sp_m (aw_if_eq_t (tgt := 161) (pc := 76) dX7_goesOn_76 (by decide) c14) ?_
          refine sp_m (aw_iload_n (pc := 161) dX7_goesOn_161 rfl (lv_at hl 1 rfl)) ?_
          refine sp_b fun p15 ep15 => ?_
          refine sp_m (G' := AW (KX7_goesOn l D h0 hE) h10 (165) ls (.int p15 :: [])) (fun kk => aw_callS (As := [.int p11]) (metX7_isDigit _ _ ep15) mok_X7_isDigit q1721 q1722 q125 q1723 (Nat.le_of_ble_eq_true rfl) (Nat.le_of_ble_eq_true rfl) rfl hl.1 rfl (Nat.le_of_ble_eq_true rfl) (pc := 162) dX7_goesOn_162 kk) ?_
          refine sp_if (fun c16 => ?_) (fun c16 => ?_)
          · refine sp_m (aw_if_eq_t (tgt := 244) (pc := 165) dX7_goesOn_165 (by decide) c16) ?_
            refine sp_m (aw_iload_n (pc := 244) dX7_goesOn_244 rfl (lv_at hl 1 rfl)) ?_
            refine sp_m (aw_bipush (v := 59) (pc := 245) dX7_goesOn_245 rfl) ?_
            refine sp_if (fun c17 => ?_) (fun c17 => ?_)
            · refine sp_m (aw_icmp_ne_t (tgt := 265) (pc := 247) dX7_goesOn_247 (by decide) c17) ?_
              exact sp_r fun hz => aw_vret hz rfl rfl rfl (pc := 265) dX7_goesOn_265
            · refine sp_m (aw_icmp_ne_f (tgt := 265) (pc := 247) dX7_goesOn_247 (by decide) (Decidable.not_not.mp c17)) ?_
              refine sp_m (aw_aload_n (pc := 250) dX7_goesOn_250 rfl (lv_at hl 2 rfl)) ?_
              refine sp_m (aw_iconst (v := 4) (pc := 251) dX7_goesOn_251 rfl) ?_
              refine sp_t fun h18 eh180 => ?_
              have eh18 : gS h18 = gS h10 := by rw [eh180]; rfl
              refine sp_m (aw_put (k := 9) okX7 opX7 (uS eh10 (uS eh9 s8)) (by decide) q1511 (Or.inl rfl) (Or.inl rfl) (hasV_I' eh180) rfl rfl (pc := 252) dX7_goesOn_252) ?_
              refine sp_m (aw_aload_n (pc := 255) dX7_goesOn_255 rfl (lv_at hl 2 rfl)) ?_
              refine sp_m (aw_dup (pc := 256) dX7_goesOn_256 rfl) ?_
              refine sp_m (aw_get (k := 8) okX7 (uS eh18 (uS eh10 (uS eh9 s8))) (by decide) q1510 (Or.inl rfl) rfl (pc := 257) dX7_goesOn_257) ?_
              refine sp_m (aw_iconst (v := 1) (pc := 260) dX7_goesOn_260 rfl) ?_
              refine sp_m (aw_iadd (pc := 261) dX7_goesOn_261) ?_
              refine sp_t fun h19 eh190 => ?_
              have eh19 : gS h19 = gS h18 := by rw [eh190]; rfl
              refine sp_m (aw_put (k := 8) okX7 opX7 (uS eh18 (uS eh10 (uS eh9 s8))) (by decide) q1510 (Or.inl rfl) (Or.inl rfl) (hasV_I' eh190) rfl rfl (pc := 262) dX7_goesOn_262) ?_
              exact sp_r fun hz => aw_vret hz rfl rfl rfl (pc := 265) dX7_goesOn_265
          · refine sp_m (aw_if_eq_f (tgt := 244) (pc := 165) dX7_goesOn_165 (by decide) c16) ?_
            refine sp_m (aw_aload_n (pc := 168) dX7_goesOn_168 rfl (lv_at hl 2 rfl)) ?_
            refine sp_m (aw_iconst (v := 0) (pc := 169) dX7_goesOn_169 rfl) ?_
            refine sp_t fun h20 eh200 => ?_
            have eh20 : gS h20 = gS h10 := by rw [eh200]; rfl
            refine sp_m (aw_put (k := 11) okX7 opX7 (uS eh10 (uS eh9 s8)) (by decide) q1513 (Or.inl rfl) (Or.inl rfl) (hasV_I' eh200) rfl rfl (pc := 170) dX7_goesOn_170) ?_
            let P21 : Int32 × AH → Prop := aLP (KX7_goesOn l D h0 hE) 3 173 (fun s21v : Int32 × AH => [(0, .ref a0), (2, .int s21v.1)]) (fun s21v => s21v.2)
            let E21 : Int32 × AH → Prop := aLP (KX7_goesOn l D h0 hE) 3 231 (fun r21v : Int32 × AH => [(0, .ref a0), (2, .int r21v.1)]) (fun r21v => r21v.2)
            refine sp_bl (P := P21) (E := E21) (fun s21v => sp_all fun ls hl => ?_) (fun k => k ls (lv_sub hl [2, 0] rfl)) (fun r21v => sp_all fun ls hl => ?_)
            · have hl : lv_has ls 3 [(0, .ref a0), (2, .int s21v.1)] := hl
              show SP _ _ (AW (KX7_goesOn l D h0 hE) s21v.2 173 ls [])
              unfold X7_goesOn_L173
              refine sp_m (aw_aload_n (pc := 173) dX7_goesOn_173 rfl (lv_at hl 0 rfl)) ?_
              refine sp_m (aw_aload_n (pc := 174) dX7_goesOn_174 rfl (lv_at hl 0 rfl)) ?_
              refine sp_g fun s22 => ?_
              refine sp_m (aw_get (k := 8) okX7 s22 (by decide) q1510 (Or.inl rfl) rfl (pc := 175) dX7_goesOn_175) ?_
              refine sp_b fun p23 ep23 => ?_
              refine sp_m (G' := AW (KX7_goesOn l D h0 hE) s21v.2 (181) ls (.int p23 :: [])) (fun kk => aw_callV (As := [.int (gI s21v.2 a0 8)]) (metX7_byteAt _ _ ep23) (rcv_o okX7 s22) rfl mok_X7_byteAt q1713 q1715 qs52 q125 q1716 (Nat.le_of_ble_eq_true rfl) (Nat.le_of_ble_eq_true rfl) rfl hl.1 rfl (Nat.le_of_ble_eq_true rfl) (pc := 178) dX7_goesOn_178 kk) ?_
              refine sp_b fun p24 ep24 => ?_
              refine sp_m (G' := AW (KX7_goesOn l D h0 hE) s21v.2 (184) ls (.int p24 :: [])) (fun kk => aw_callS (As := [.int p23]) (metX7_isDigit _ _ ep24) mok_X7_isDigit q1721 q1722 q125 q1723 (Nat.le_of_ble_eq_true rfl) (Nat.le_of_ble_eq_true rfl) rfl hl.1 rfl (Nat.le_of_ble_eq_true rfl) (pc := 181) dX7_goesOn_181 kk) ?_
              refine sp_if (fun c25 => ?_) (fun c25 => ?_)
              · refine sp_m (aw_if_eq_t (tgt := 231) (pc := 184) dX7_goesOn_184 (by decide) c25) ?_
                exact sp_r fun hz => hz ls (lv_sub hl [0, 1] rfl)
              · refine sp_m (aw_if_eq_f (tgt := 231) (pc := 184) dX7_goesOn_184 (by decide) c25) ?_
                refine sp_m (aw_iload_n (pc := 187) dX7_goesOn_187 rfl (lv_at hl 1 rfl)) ?_
                refine sp_m (aw_iconst (v := 3) (pc := 188) dX7_goesOn_188 rfl) ?_
                have hj215_2 : ∀ h26 : AH, ∀ ls : Array Slot, lv_has ls 3 [(0, .ref a0), (2, .int s21v.1)] → SP (X7_goesOn_j215 a0 s21v h26) (ZL P21 E21) (AW (KX7_goesOn l D h0 hE) h26 215 ls ([])) := by
                  intro h26 ls hl
                  unfold X7_goesOn_j215
                  refine sp_m (aw_iinc (v := s21v.1 + 1) (lv' := [(2, .int (s21v.1 + 1)), (0, .ref a0)]) (pc := 215) dX7_goesOn_215 hl (k := 1) rfl rfl (by decide) rfl) (sp_all fun ls hl => ?_)
                  refine sp_m (aw_aload_n (pc := 218) dX7_goesOn_218 rfl (lv_at hl 1 rfl)) ?_
                  refine sp_m (aw_dup (pc := 219) dX7_goesOn_219 rfl) ?_
                  refine sp_g fun s27 => ?_
                  refine sp_m (aw_get (k := 8) okX7 s27 (by decide) q1510 (Or.inl rfl) rfl (pc := 220) dX7_goesOn_220) ?_
                  refine sp_m (aw_iconst (v := 1) (pc := 223) dX7_goesOn_223 rfl) ?_
                  refine sp_m (aw_iadd (pc := 224) dX7_goesOn_224) ?_
                  refine sp_t fun h28 eh280 => ?_
                  have eh28 : gS h28 = gS h26 := by rw [eh280]; rfl
                  refine sp_m (aw_put (k := 8) okX7 opX7 s27 (by decide) q1510 (Or.inl rfl) (Or.inl rfl) (hasV_I' eh280) rfl rfl (pc := 225) dX7_goesOn_225) ?_
                  refine sp_m (aw_goto (tgt := 173) (pc := 228) dX7_goesOn_228 (by decide)) ?_
                  exact sp_r fun hz => hz ls (lv_sub hl [1, 0] rfl)
                refine sp_if (fun c29 => ?_) (fun c29 => ?_)
                · refine sp_m (aw_icmp_ge_t (tgt := 215) (pc := 189) dX7_goesOn_189 (by decide) c29) ?_
                  exact hj215_2 s21v.2 ls (lv_sub hl [0, 1] rfl)
                · refine sp_m (aw_icmp_ge_f (tgt := 215) (pc := 189) dX7_goesOn_189 (by decide) c29) ?_
                  refine sp_m (aw_aload_n (pc := 192) dX7_goesOn_192 rfl (lv_at hl 0 rfl)) ?_
                  refine sp_m (aw_bipush (v := 10) (pc := 193) dX7_goesOn_193 rfl) ?_
                  refine sp_m (aw_aload_n (pc := 195) dX7_goesOn_195 rfl (lv_at hl 0 rfl)) ?_
                  refine sp_m (aw_get (k := 11) okX7 s22 (by decide) q1513 (Or.inl rfl) rfl (pc := 196) dX7_goesOn_196) ?_
                  refine sp_m (aw_imul (pc := 199) dX7_goesOn_199) ?_
                  refine sp_m (aw_aload_n (pc := 200) dX7_goesOn_200 rfl (lv_at hl 0 rfl)) ?_
                  refine sp_m (aw_aload_n (pc := 201) dX7_goesOn_201 rfl (lv_at hl 0 rfl)) ?_
                  refine sp_m (aw_get (k := 8) okX7 s22 (by decide) q1510 (Or.inl rfl) rfl (pc := 202) dX7_goesOn_202) ?_
                  refine sp_b fun p30 ep30 => ?_
                  refine sp_m (G' := AW (KX7_goesOn l D h0 hE) s21v.2 (208) ls (.int p30 :: .int (10 * (gI s21v.2 a0 11)) :: .ref a0 :: [])) (fun kk => aw_callV (As := [.int (gI s21v.2 a0 8)]) (metX7_byteAt _ _ ep30) (rcv_o okX7 s22) rfl mok_X7_byteAt q1713 q1715 qs52 q125 q1716 (Nat.le_of_ble_eq_true rfl) (Nat.le_of_ble_eq_true rfl) rfl hl.1 rfl (Nat.le_of_ble_eq_true rfl) (pc := 205) dX7_goesOn_205 kk) ?_
                  refine sp_m (aw_iadd (pc := 208) dX7_goesOn_208) ?_
                  refine sp_m (aw_bipush (v := 48) (pc := 209) dX7_goesOn_209 rfl) ?_
                  refine sp_m (aw_isub (pc := 211) dX7_goesOn_211) ?_
                  refine sp_t fun h31 eh310 => ?_
                  have eh31 : gS h31 = gS s21v.2 := by rw [eh310]; rfl
                  refine sp_m (aw_put (k := 11) okX7 opX7 s22 (by decide) q1513 (Or.inl rfl) (Or.inl rfl) (hasV_I' eh310) rfl rfl (pc := 212) dX7_goesOn_212) ?_
                  exact hj215_2 h31 ls (lv_sub hl [0, 1] rfl)
            · have hl : lv_has ls 3 [(0, .ref a0), (2, .int r21v.1)] := hl
              show SP _ _ (AW (KX7_goesOn l D h0 hE) r21v.2 231 ls [])
              refine sp_m (aw_iload_n (pc := 231) dX7_goesOn_231 rfl (lv_at hl 1 rfl)) ?_
              refine sp_m (aw_iconst (v := 3) (pc := 232) dX7_goesOn_232 rfl) ?_
              refine sp_if (fun c32 => ?_) (fun c32 => ?_)
              · refine sp_m (aw_icmp_gt_t (tgt := 265) (pc := 233) dX7_goesOn_233 (by decide) c32) ?_
                exact sp_r fun hz => aw_vret hz rfl rfl rfl (pc := 265) dX7_goesOn_265
              · refine sp_m (aw_icmp_gt_f (tgt := 265) (pc := 233) dX7_goesOn_233 (by decide) c32) ?_
                refine sp_m (aw_aload_n (pc := 236) dX7_goesOn_236 rfl (lv_at hl 0 rfl)) ?_
                refine sp_m (aw_iconst (v := 3) (pc := 237) dX7_goesOn_237 rfl) ?_
                refine sp_g fun s33 => ?_
                refine sp_t fun h34 eh340 => ?_
                have eh34 : gS h34 = gS r21v.2 := by rw [eh340]; rfl
                refine sp_m (aw_put (k := 9) okX7 opX7 s33 (by decide) q1511 (Or.inl rfl) (Or.inl rfl) (hasV_I' eh340) rfl rfl (pc := 238) dX7_goesOn_238) ?_
                refine sp_m (aw_goto (tgt := 265) (pc := 241) dX7_goesOn_241 (by decide)) ?_
                exact sp_r fun hz => aw_vret hz rfl rfl rfl (pc := 265) dX7_goesOn_265
        · refine sp_m (aw_if_eq_f (tgt := 161) (pc := 76) dX7_goesOn_76 (by decide) c14) ?_
          refine sp_m (aw_aload_n (pc := 79) dX7_goesOn_79 rfl (lv_at hl 2 rfl)) ?_
          refine sp_m (aw_lconst (v := 0) (pc := 80) dX7_goesOn_80 rfl) ?_
          refine sp_t fun h35 eh350 => ?_
          have eh35 : gS h35 = gS h10 := by rw [eh350]; rfl
          refine sp_m (aw_put (k := 15) okX7 opX7 (uS eh10 (uS eh9 s8)) (by decide) q1517 (Or.inl rfl) (Or.inl rfl) (hasV_L' eh350) rfl rfl (pc := 81) dX7_goesOn_81) ?_
          let P36 : Int32 × AH → Prop := aLP (KX7_goesOn l D h0 hE) 3 84 (fun s36v : Int32 × AH => [(0, .ref a0), (2, .int s36v.1)]) (fun s36v => s36v.2)
          let E36 : Int32 × AH → Prop := aLP (KX7_goesOn l D h0 hE) 3 147 (fun r36v : Int32 × AH => [(0, .ref a0), (2, .int r36v.1)]) (fun r36v => r36v.2)
          refine sp_bl (P := P36) (E := E36) (fun s36v => sp_all fun ls hl => ?_) (fun k => k ls (lv_sub hl [2, 0] rfl)) (fun r36v => sp_all fun ls hl => ?_)
          · have hl : lv_has ls 3 [(0, .ref a0), (2, .int s36v.1)] := hl
            show SP _ _ (AW (KX7_goesOn l D h0 hE) s36v.2 84 ls [])
            unfold X7_goesOn_L84
            refine sp_m (aw_aload_n (pc := 84) dX7_goesOn_84 rfl (lv_at hl 0 rfl)) ?_
            refine sp_m (aw_aload_n (pc := 85) dX7_goesOn_85 rfl (lv_at hl 0 rfl)) ?_
            refine sp_g fun s37 => ?_
            refine sp_m (aw_get (k := 8) okX7 s37 (by decide) q1510 (Or.inl rfl) rfl (pc := 86) dX7_goesOn_86) ?_
            refine sp_b fun p38 ep38 => ?_
            refine sp_m (G' := AW (KX7_goesOn l D h0 hE) s36v.2 (92) ls (.int p38 :: [])) (fun kk => aw_callV (As := [.int (gI s36v.2 a0 8)]) (metX7_byteAt _ _ ep38) (rcv_o okX7 s37) rfl mok_X7_byteAt q1713 q1715 qs52 q125 q1716 (Nat.le_of_ble_eq_true rfl) (Nat.le_of_ble_eq_true rfl) rfl hl.1 rfl (Nat.le_of_ble_eq_true rfl) (pc := 89) dX7_goesOn_89 kk) ?_
            refine sp_b fun p39 ep39 => ?_
            refine sp_m (G' := AW (KX7_goesOn l D h0 hE) s36v.2 (95) ls (.int p39 :: [])) (fun kk => aw_callS (As := [.int p38]) (metX7_isLetter _ _ ep39) mok_X7_isLetter q1717 q1718 q125 q1719 (Nat.le_of_ble_eq_true rfl) (Nat.le_of_ble_eq_true rfl) rfl hl.1 rfl (Nat.le_of_ble_eq_true rfl) (pc := 92) dX7_goesOn_92 kk) ?_
            refine sp_if (fun c40 => ?_) (fun c40 => ?_)
            · refine sp_m (aw_if_eq_t (tgt := 147) (pc := 95) dX7_goesOn_95 (by decide) c40) ?_
              exact sp_r fun hz => hz ls (lv_sub hl [0, 1] rfl)
            · refine sp_m (aw_if_eq_f (tgt := 147) (pc := 95) dX7_goesOn_95 (by decide) c40) ?_
              refine sp_m (aw_iload_n (pc := 98) dX7_goesOn_98 rfl (lv_at hl 1 rfl)) ?_
              refine sp_m (aw_bipush (v := 8) (pc := 99) dX7_goesOn_99 rfl) ?_
              have hj131_4 : ∀ h41 : AH, ∀ ls : Array Slot, lv_has ls 3 [(0, .ref a0), (2, .int s36v.1)] → SP (X7_goesOn_j131 a0 s36v h41) (ZL P36 E36) (AW (KX7_goesOn l D h0 hE) h41 131 ls ([])) := by
                intro h41 ls hl
                unfold X7_goesOn_j131
                refine sp_m (aw_iinc (v := s36v.1 + 1) (lv' := [(2, .int (s36v.1 + 1)), (0, .ref a0)]) (pc := 131) dX7_goesOn_131 hl (k := 1) rfl rfl (by decide) rfl) (sp_all fun ls hl => ?_)
                refine sp_m (aw_aload_n (pc := 134) dX7_goesOn_134 rfl (lv_at hl 1 rfl)) ?_
                refine sp_m (aw_dup (pc := 135) dX7_goesOn_135 rfl) ?_
                refine sp_g fun s42 => ?_
                refine sp_m (aw_get (k := 8) okX7 s42 (by decide) q1510 (Or.inl rfl) rfl (pc := 136) dX7_goesOn_136) ?_
                refine sp_m (aw_iconst (v := 1) (pc := 139) dX7_goesOn_139 rfl) ?_
                refine sp_m (aw_iadd (pc := 140) dX7_goesOn_140) ?_
                refine sp_t fun h43 eh430 => ?_
                have eh43 : gS h43 = gS h41 := by rw [eh430]; rfl
                refine sp_m (aw_put (k := 8) okX7 opX7 s42 (by decide) q1510 (Or.inl rfl) (Or.inl rfl) (hasV_I' eh430) rfl rfl (pc := 141) dX7_goesOn_141) ?_
                refine sp_m (aw_goto (tgt := 84) (pc := 144) dX7_goesOn_144 (by decide)) ?_
                exact sp_r fun hz => hz ls (lv_sub hl [1, 0] rfl)
              refine sp_if (fun c44 => ?_) (fun c44 => ?_)
              · refine sp_m (aw_icmp_ge_t (tgt := 131) (pc := 101) dX7_goesOn_101 (by decide) c44) ?_
                exact hj131_4 s36v.2 ls (lv_sub hl [0, 1] rfl)
              · refine sp_m (aw_icmp_ge_f (tgt := 131) (pc := 101) dX7_goesOn_101 (by decide) c44) ?_
                refine sp_m (aw_aload_n (pc := 104) dX7_goesOn_104 rfl (lv_at hl 0 rfl)) ?_
                refine sp_m (aw_ldc2 q1720 (pc := 105) dX7_goesOn_105) ?_
                refine sp_m (aw_aload_n (pc := 108) dX7_goesOn_108 rfl (lv_at hl 0 rfl)) ?_
                refine sp_m (aw_get (k := 15) okX7 s37 (by decide) q1517 (Or.inl rfl) rfl (pc := 109) dX7_goesOn_109) ?_
                refine sp_m (aw_lmul (pc := 112) dX7_goesOn_112) ?_
                refine sp_m (aw_aload_n (pc := 113) dX7_goesOn_113 rfl (lv_at hl 0 rfl)) ?_
                refine sp_m (aw_aload_n (pc := 114) dX7_goesOn_114 rfl (lv_at hl 0 rfl)) ?_
                refine sp_m (aw_get (k := 8) okX7 s37 (by decide) q1510 (Or.inl rfl) rfl (pc := 115) dX7_goesOn_115) ?_
                refine sp_b fun p45 ep45 => ?_
                refine sp_m (G' := AW (KX7_goesOn l D h0 hE) s36v.2 (121) ls (.int p45 :: .long (32 * (gL s36v.2 a0 15)) :: .ref a0 :: [])) (fun kk => aw_callV (As := [.int (gI s36v.2 a0 8)]) (metX7_byteAt _ _ ep45) (rcv_o okX7 s37) rfl mok_X7_byteAt q1713 q1715 qs52 q125 q1716 (Nat.le_of_ble_eq_true rfl) (Nat.le_of_ble_eq_true rfl) rfl hl.1 rfl (Nat.le_of_ble_eq_true rfl) (pc := 118) dX7_goesOn_118 kk) ?_
                refine sp_m (aw_bipush (v := 97) (pc := 121) dX7_goesOn_121 rfl) ?_
                refine sp_m (aw_isub (pc := 123) dX7_goesOn_123) ?_
                refine sp_m (aw_iconst (v := 1) (pc := 124) dX7_goesOn_124 rfl) ?_
                refine sp_m (aw_iadd (pc := 125) dX7_goesOn_125) ?_
                refine sp_m (aw_i2l (pc := 126) dX7_goesOn_126) ?_
                refine sp_m (aw_ladd (pc := 127) dX7_goesOn_127) ?_
                refine sp_t fun h46 eh460 => ?_
                have eh46 : gS h46 = gS s36v.2 := by rw [eh460]; rfl
                refine sp_m (aw_put (k := 15) okX7 opX7 s37 (by decide) q1517 (Or.inl rfl) (Or.inl rfl) (hasV_L' eh460) rfl rfl (pc := 128) dX7_goesOn_128) ?_
                exact hj131_4 h46 ls (lv_sub hl [0, 1] rfl)
          · have hl : lv_has ls 3 [(0, .ref a0), (2, .int r36v.1)] := hl
            show SP _ _ (AW (KX7_goesOn l D h0 hE) r36v.2 147 ls [])
            refine sp_m (aw_iload_n (pc := 147) dX7_goesOn_147 rfl (lv_at hl 1 rfl)) ?_
            refine sp_m (aw_bipush (v := 8) (pc := 148) dX7_goesOn_148 rfl) ?_
            refine sp_if (fun c47 => ?_) (fun c47 => ?_)
            · refine sp_m (aw_icmp_gt_t (tgt := 265) (pc := 150) dX7_goesOn_150 (by decide) c47) ?_
              exact sp_r fun hz => aw_vret hz rfl rfl rfl (pc := 265) dX7_goesOn_265
            · refine sp_m (aw_icmp_gt_f (tgt := 265) (pc := 150) dX7_goesOn_150 (by decide) c47) ?_
              refine sp_m (aw_aload_n (pc := 153) dX7_goesOn_153 rfl (lv_at hl 0 rfl)) ?_
              refine sp_m (aw_iconst (v := 2) (pc := 154) dX7_goesOn_154 rfl) ?_
              refine sp_g fun s48 => ?_
              refine sp_t fun h49 eh490 => ?_
              have eh49 : gS h49 = gS r36v.2 := by rw [eh490]; rfl
              refine sp_m (aw_put (k := 9) okX7 opX7 s48 (by decide) q1511 (Or.inl rfl) (Or.inl rfl) (hasV_I' eh490) rfl rfl (pc := 155) dX7_goesOn_155) ?_
              refine sp_m (aw_goto (tgt := 265) (pc := 158) dX7_goesOn_158 (by decide)) ?_
              exact sp_r fun hz => aw_vret hz rfl rfl rfl (pc := 265) dX7_goesOn_265
      · refine sp_m (aw_icmp_ne_f (tgt := 72) (pc := 61) dX7_goesOn_61 (by decide) (Decidable.not_not.mp c12)) ?_
        refine sp_m (aw_aload_n (pc := 64) dX7_goesOn_64 rfl (lv_at hl 2 rfl)) ?_
        refine sp_m (aw_iconst (v := 1) (pc := 65) dX7_goesOn_65 rfl) ?_
        refine sp_t fun h50 eh500 => ?_
        have eh50 : gS h50 = gS h10 := by rw [eh500]; rfl
        refine sp_m (aw_put (k := 9) okX7 opX7 (uS eh10 (uS eh9 s8)) (by decide) q1511 (Or.inl rfl) (Or.inl rfl) (hasV_I' eh500) rfl rfl (pc := 66) dX7_goesOn_66) ?_
        refine sp_m (aw_goto (tgt := 265) (pc := 69) dX7_goesOn_69 (by decide)) ?_
        exact sp_r fun hz => aw_vret hz rfl rfl rfl (pc := 265) dX7_goesOn_265
  · refine sp_m (aw_icmp_ne_f (tgt := 9) (pc := 5) dX7_goesOn_5 (by decide) (Decidable.not_not.mp c2)) ?_
    exact sp_r fun hz => aw_vret hz rfl rfl rfl (pc := 8) dX7_goesOn_8
theorem mok_X7_eatsSemicolon : mOK yX7_eatsSemicolon 0 := ⟨⟨by decide +kernel, by decide +kernel⟩, by decide +kernel⟩
abbrev KX7_eatsSemicolon (l : Launch) (D : DD) (h0 hE : AH) (v : Int32) : KT := (l, yX7_eatsSemicolon, cX7_eatsSemicolon, 2, (some .boolean), RX7, 3, D, h0, hE, .inl (some (.int v)), false, [])
theorem metX7_eatsSemicolon (l : Launch) (D : DD) {a0 : Nat} {h0 : AH} {hE : AH} {v : Int32} (hr : fX7_eatsSemicolon a0 h0 = some (v, hE)) : AMet (KX7_eatsSemicolon l D h0 hE v) [.ref a0] := by
  refine AMet.of (K := (KX7_eatsSemicolon l D h0 hE v)) rfl ⟨_, rfl⟩ rfl rfl rfl (Nat.le_of_ble_eq_true rfl) (fun ls hl => ?_)
  have hl : lv_has ls 2 [(0, .ref a0)] := hl
  suffices hsp : SP (fX7_eatsSemicolon a0 h0) (fun z => z = (v, hE)) (AW (KX7_eatsSemicolon l D h0 hE v) h0 0 ls []) from hsp _ hr rfl
  unfold fX7_eatsSemicolon
  refine sp_m (aw_aload_n (pc := 0) dX7_eatsSemicolon_0 rfl (lv_at hl 0 rfl)) ?_
  refine sp_g fun s1 => ?_
  refine sp_m (aw_get (k := 9) okX7 s1 (by decide) q1511 (Or.inl rfl) rfl (pc := 1) dX7_eatsSemicolon_1) ?_
  refine sp_m (aw_iconst (v := 4) (pc := 4) dX7_eatsSemicolon_4 rfl) ?_
  have hj13_1 : ∀ j2 : Int32, ∀ ls : Array Slot, lv_has ls 2 [(0, .ref a0)] → SP (X7_eatsSemicolon_j13 a0 h0 j2) (fun z => z = (v, hE)) (AW (KX7_eatsSemicolon l D h0 hE v) h0 13 ls (.int j2 :: [])) := by
    intro j2 ls hl
    unfold X7_eatsSemicolon_j13
    refine sp_m (aw_istore_n (lv' := [(1, .int j2), (0, .ref a0)]) (pc := 13) dX7_eatsSemicolon_13 rfl hl (by decide) rfl) (sp_all fun ls hl => ?_)
    refine sp_m (aw_iload_n (pc := 14) dX7_eatsSemicolon_14 rfl (lv_at hl 0 rfl)) ?_
    refine sp_if (fun c3 => ?_) (fun c3 => ?_)
    · refine sp_m (aw_if_eq_t (tgt := 22) (pc := 15) dX7_eatsSemicolon_15 (by decide) c3) ?_
      refine sp_m (aw_iload_n (pc := 22) dX7_eatsSemicolon_22 rfl (lv_at hl 0 rfl)) ?_
      refine sp_g fun g4 => ?_
      exact sp_r fun hz => aw_zret (nar_b g4) hz rfl rfl rfl (pc := 23) dX7_eatsSemicolon_23
    · refine sp_m (aw_if_eq_f (tgt := 22) (pc := 15) dX7_eatsSemicolon_15 (by decide) c3) ?_
      refine sp_m (aw_aload_n (pc := 18) dX7_eatsSemicolon_18 rfl (lv_at hl 1 rfl)) ?_
      refine sp_b fun p5 ep5 => ?_
      refine sp_m (G' := AW (KX7_eatsSemicolon l D h0 hE v) p5 (22) ls ([])) (fun kk => aw_callV (As := []) (metX7_goesOn _ _ ep5) (rcv_o okX7 s1) rfl mok_X7_goesOn q1709 q1711 qs51 q125 q1712 (Nat.le_of_ble_eq_true rfl) (Nat.le_of_ble_eq_true rfl) rfl hl.1 rfl (Nat.le_of_ble_eq_true rfl) (pc := 19) dX7_eatsSemicolon_19 kk) ?_
      refine sp_m (aw_iload_n (pc := 22) dX7_eatsSemicolon_22 rfl (lv_at hl 0 rfl)) ?_
      refine sp_g fun g6 => ?_
      exact sp_r fun hz => aw_zret (nar_b g6) hz rfl rfl rfl (pc := 23) dX7_eatsSemicolon_23
  refine sp_if (fun c7 => ?_) (fun c7 => ?_)
  · refine sp_m (aw_icmp_ne_t (tgt := 12) (pc := 5) dX7_eatsSemicolon_5 (by decide) c7) ?_
    refine sp_m (aw_iconst (v := 0) (pc := 12) dX7_eatsSemicolon_12 rfl) ?_
    exact hj13_1 0 ls (lv_sub hl [0] rfl)
  · refine sp_m (aw_icmp_ne_f (tgt := 12) (pc := 5) dX7_eatsSemicolon_5 (by decide) (Decidable.not_not.mp c7)) ?_
    refine sp_m (aw_iconst (v := 1) (pc := 8) dX7_eatsSemicolon_8 rfl) ?_
    refine sp_m (aw_goto (tgt := 13) (pc := 9) dX7_eatsSemicolon_9 (by decide)) ?_
    exact hj13_1 1 ls (lv_sub hl [0] rfl)
theorem mok_X7_flaw : mOK yX7_flaw 1 := ⟨⟨by decide +kernel, by decide +kernel⟩, by decide +kernel⟩
abbrev KX7_flaw (l : Launch) (D : DD) (h0 hE : AH) : KT := (l, yX7_flaw, cX7_flaw, 2, none, RX7, 1, D, h0, hE, .inl (none), false, [])
theorem metX7_flaw (l : Launch) (D : DD) {a0 : Nat} {a1 : Int32} {h0 : AH} {hE : AH} (hr : fX7_flaw a0 a1 h0 = some hE) : AMet (KX7_flaw l D h0 hE) [.ref a0, .int a1] := by
  refine AMet.of (K := (KX7_flaw l D h0 hE)) rfl ⟨_, rfl⟩ rfl rfl rfl (Nat.le_of_ble_eq_true rfl) (fun ls hl => ?_)
  have hl : lv_has ls 2 [(0, .ref a0), (1, .int a1)] := hl
  suffices hsp : SP (fX7_flaw a0 a1 h0) (fun z => z = hE) (AW (KX7_flaw l D h0 hE) h0 0 ls []) from hsp _ hr rfl
  unfold fX7_flaw
  refine sp_m (aw_aload_n (pc := 0) dX7_flaw_0 rfl (lv_at hl 0 rfl)) ?_
  refine sp_g fun s1 => ?_
  refine sp_m (aw_get (k := 9) okX7 s1 (by decide) q1511 (Or.inl rfl) rfl (pc := 1) dX7_flaw_1) ?_
  refine sp_m (aw_iconst (v := 5) (pc := 4) dX7_flaw_4 rfl) ?_
  refine sp_if (fun c2 => ?_) (fun c2 => ?_)
  · refine sp_m (aw_icmp_ne_t (tgt := 9) (pc := 5) dX7_flaw_5 (by decide) c2) ?_
    refine sp_m (aw_aload_n (pc := 9) dX7_flaw_9 rfl (lv_at hl 0 rfl)) ?_
    refine sp_m (aw_iload_n (pc := 10) dX7_flaw_10 rfl (lv_at hl 1 rfl)) ?_
    refine sp_t fun h3 eh30 => ?_
    have eh3 : gS h3 = gS h0 := by rw [eh30]; rfl
    refine sp_m (aw_put (k := 12) okX7 opX7 s1 (by decide) q1514 (Or.inl rfl) (Or.inl rfl) (hasV_I' eh30) rfl rfl (pc := 11) dX7_flaw_11) ?_
    refine sp_m (aw_aload_n (pc := 14) dX7_flaw_14 rfl (lv_at hl 0 rfl)) ?_
    refine sp_m (aw_aload_n (pc := 15) dX7_flaw_15 rfl (lv_at hl 0 rfl)) ?_
    refine sp_m (aw_get (k := 10) okX7 (uS eh3 s1) (by decide) q1512 (Or.inl rfl) rfl (pc := 16) dX7_flaw_16) ?_
    refine sp_t fun h4 eh40 => ?_
    have eh4 : gS h4 = gS h3 := by rw [eh40]; rfl
    refine sp_m (aw_put (k := 13) okX7 opX7 (uS eh3 s1) (by decide) q1515 (Or.inl rfl) (Or.inl rfl) (hasV_I' eh40) rfl rfl (pc := 19) dX7_flaw_19) ?_
    refine sp_m (aw_aload_n (pc := 22) dX7_flaw_22 rfl (lv_at hl 0 rfl)) ?_
    refine sp_m (aw_iconst (v := 5) (pc := 23) dX7_flaw_23 rfl) ?_
    refine sp_t fun h5 eh50 => ?_
    have eh5 : gS h5 = gS h4 := by rw [eh50]; rfl
    refine sp_m (aw_put (k := 9) okX7 opX7 (uS eh4 (uS eh3 s1)) (by decide) q1511 (Or.inl rfl) (Or.inl rfl) (hasV_I' eh50) rfl rfl (pc := 24) dX7_flaw_24) ?_
    exact sp_r fun hz => aw_vret hz rfl rfl rfl (pc := 27) dX7_flaw_27
  · refine sp_m (aw_icmp_ne_f (tgt := 9) (pc := 5) dX7_flaw_5 (by decide) (Decidable.not_not.mp c2)) ?_
    exact sp_r fun hz => aw_vret hz rfl rfl rfl (pc := 8) dX7_flaw_8
theorem mok_J4_checkIndex : mOK yJ4_checkIndex 3 := ⟨⟨by decide +kernel, by decide +kernel⟩, by decide +kernel⟩
abbrev KJ4_checkIndex (l : Launch) (D : DD) (h0 : AH) (v : Int32) : KT := (l, yJ4_checkIndex, cJ4_checkIndex, 3, (some .int), RJ4, 1, D, h0, h0, .inl (some (.int v)), false, [])
theorem metJ4_checkIndex_n (l : Launch) (D : DD) {a0 : Int32} {a1 : Int32} {h0 : AH} {v : Int32} (hr : fJ4_checkIndex a0 a1 h0 = some v) : AMet (KJ4_checkIndex l D h0 v) [.int a0, .int a1, .null] := by
  refine AMet.of (K := (KJ4_checkIndex l D h0 v)) rfl ⟨_, rfl⟩ rfl rfl rfl (Nat.le_of_ble_eq_true rfl) (fun ls hl => ?_)
  have hl : lv_has ls 3 [(0, .int a0), (1, .int a1), (2, .null)] := hl
  suffices hsp : SP (fJ4_checkIndex a0 a1 h0) (fun z => z = v) (AW (KJ4_checkIndex l D h0 v) h0 0 ls []) from hsp _ hr rfl
  unfold fJ4_checkIndex
  refine sp_m (aw_iload_n (pc := 0) dJ4_checkIndex_0 rfl (lv_at hl 0 rfl)) ?_
  refine sp_if (fun c1 => ?_) (fun c1 => ?_)
  · refine sp_m (aw_if_lt_t (tgt := 9) (pc := 1) dJ4_checkIndex_1 (by decide) c1) ?_
    refine sp_m (aw_aload_nN (pc := 9) dJ4_checkIndex_9 rfl (lv_at hl 2 rfl)) ?_
    refine sp_m (aw_iload_n (pc := 10) dJ4_checkIndex_10 rfl (lv_at hl 0 rfl)) ?_
    refine sp_m (aw_iload_n (pc := 11) dJ4_checkIndex_11 rfl (lv_at hl 1 rfl)) ?_
    exact sp_n
  · refine sp_m (aw_if_lt_f (tgt := 9) (pc := 1) dJ4_checkIndex_1 (by decide) c1) ?_
    refine sp_m (aw_iload_n (pc := 4) dJ4_checkIndex_4 rfl (lv_at hl 0 rfl)) ?_
    refine sp_m (aw_iload_n (pc := 5) dJ4_checkIndex_5 rfl (lv_at hl 1 rfl)) ?_
    refine sp_if (fun c2 => ?_) (fun c2 => ?_)
    · refine sp_m (aw_icmp_lt_t (tgt := 16) (pc := 6) dJ4_checkIndex_6 (by decide) c2) ?_
      refine sp_m (aw_iload_n (pc := 16) dJ4_checkIndex_16 rfl (lv_at hl 0 rfl)) ?_
      exact sp_r fun hz => aw_iret (congrArg (fun z => (z, h0)) hz) rfl rfl rfl (pc := 17) dJ4_checkIndex_17
    · refine sp_m (aw_icmp_lt_f (tgt := 16) (pc := 6) dJ4_checkIndex_6 (by decide) c2) ?_
      refine sp_m (aw_aload_nN (pc := 9) dJ4_checkIndex_9 rfl (lv_at hl 2 rfl)) ?_
      refine sp_m (aw_iload_n (pc := 10) dJ4_checkIndex_10 rfl (lv_at hl 0 rfl)) ?_
      refine sp_m (aw_iload_n (pc := 11) dJ4_checkIndex_11 rfl (lv_at hl 1 rfl)) ?_
      exact sp_n
theorem metJ4_checkIndex_s (l : Launch) (D : DD) {a0 : Int32} {a1 : Int32} {a2 : Nat} {h0 : AH} {v : Int32} (hr : fJ4_checkIndex a0 a1 h0 = some v) : AMet (KJ4_checkIndex l D h0 v) [.int a0, .int a1, .ref a2] := by
  refine AMet.of (K := (KJ4_checkIndex l D h0 v)) rfl ⟨_, rfl⟩ rfl rfl rfl (Nat.le_of_ble_eq_true rfl) (fun ls hl => ?_)
  have hl : lv_has ls 3 [(0, .int a0), (1, .int a1), (2, .ref a2)] := hl
  suffices hsp : SP (fJ4_checkIndex a0 a1 h0) (fun z => z = v) (AW (KJ4_checkIndex l D h0 v) h0 0 ls []) from hsp _ hr rfl
  unfold fJ4_checkIndex
  refine sp_m (aw_iload_n (pc := 0) dJ4_checkIndex_0 rfl (lv_at hl 0 rfl)) ?_
  refine sp_if (fun c1 => ?_) (fun c1 => ?_)
  · refine sp_m (aw_if_lt_t (tgt := 9) (pc := 1) dJ4_checkIndex_1 (by decide) c1) ?_
    refine sp_m (aw_aload_n (pc := 9) dJ4_checkIndex_9 rfl (lv_at hl 2 rfl)) ?_
    refine sp_m (aw_iload_n (pc := 10) dJ4_checkIndex_10 rfl (lv_at hl 0 rfl)) ?_
    refine sp_m (aw_iload_n (pc := 11) dJ4_checkIndex_11 rfl (lv_at hl 1 rfl)) ?_
    exact sp_n
  · refine sp_m (aw_if_lt_f (tgt := 9) (pc := 1) dJ4_checkIndex_1 (by decide) c1) ?_
    refine sp_m (aw_iload_n (pc := 4) dJ4_checkIndex_4 rfl (lv_at hl 0 rfl)) ?_
    refine sp_m (aw_iload_n (pc := 5) dJ4_checkIndex_5 rfl (lv_at hl 1 rfl)) ?_
    refine sp_if (fun c2 => ?_) (fun c2 => ?_)
    · refine sp_m (aw_icmp_lt_t (tgt := 16) (pc := 6) dJ4_checkIndex_6 (by decide) c2) ?_
      refine sp_m (aw_iload_n (pc := 16) dJ4_checkIndex_16 rfl (lv_at hl 0 rfl)) ?_
      exact sp_r fun hz => aw_iret (congrArg (fun z => (z, h0)) hz) rfl rfl rfl (pc := 17) dJ4_checkIndex_17
    · refine sp_m (aw_icmp_lt_f (tgt := 16) (pc := 6) dJ4_checkIndex_6 (by decide) c2) ?_
      refine sp_m (aw_aload_n (pc := 9) dJ4_checkIndex_9 rfl (lv_at hl 2 rfl)) ?_
      refine sp_m (aw_iload_n (pc := 10) dJ4_checkIndex_10 rfl (lv_at hl 0 rfl)) ?_
      refine sp_m (aw_iload_n (pc := 11) dJ4_checkIndex_11 rfl (lv_at hl 1 rfl)) ?_
      exact sp_n
theorem mok_J3_checkIndex : mOK yJ3_checkIndex 2 := ⟨⟨by decide +kernel, by decide +kernel⟩, by decide +kernel⟩
abbrev KJ3_checkIndex (l : Launch) (D : DD) (h0 : AH) : KT := (l, yJ3_checkIndex, cJ3_checkIndex, 2, none, RJ3, 2, D, h0, h0, .inl (none), false, [])
theorem metJ3_checkIndex (l : Launch) (D : DD) {a0 : Int32} {a1 : Int32} {h0 : AH}  (hr : fJ3_checkIndex a0 a1 h0 = some ()) : AMet (KJ3_checkIndex l D h0) [.int a0, .int a1] := by
  refine AMet.of (K := (KJ3_checkIndex l D h0)) rfl ⟨_, rfl⟩ rfl rfl rfl (Nat.le_of_ble_eq_true rfl) (fun ls hl => ?_)
  have hl : lv_has ls 2 [(0, .int a0), (1, .int a1)] := hl
  suffices hsp : SP (fJ3_checkIndex a0 a1 h0) (fun z => z = ()) (AW (KJ3_checkIndex l D h0) h0 0 ls []) from hsp _ hr rfl
  unfold fJ3_checkIndex
  refine sp_m (aw_iload_n (pc := 0) dJ3_checkIndex_0 rfl (lv_at hl 0 rfl)) ?_
  refine sp_m (aw_iload_n (pc := 1) dJ3_checkIndex_1 rfl (lv_at hl 1 rfl)) ?_
  refine sp_o (fun ex1 => ?_) (fun x1 ex1 => ?_)
  · refine sp_m (aw_sgetR sr_2 (congrArg va_rf ex1) q563 (pc := 2) dJ3_checkIndex_2) ?_
    refine sp_b fun p2 ep2 => ?_
    refine sp_m (G' := AW (KJ3_checkIndex l D h0) h0 (8) ls (.int p2 :: [])) (fun kk => aw_callS (As := [.int a0, .int a1, .null]) (metJ4_checkIndex_n _ _ ep2) mok_J4_checkIndex q1758 q1759 q128 q1760 (Nat.le_of_ble_eq_true rfl) (Nat.le_of_ble_eq_true rfl) rfl hl.1 rfl (Nat.le_of_ble_eq_true rfl) (pc := 5) dJ3_checkIndex_5 kk) ?_
    refine sp_m (aw_pop (pc := 8) dJ3_checkIndex_8 rfl) ?_
    exact sp_r fun hz => aw_vret rfl rfl rfl rfl (pc := 9) dJ3_checkIndex_9
  · refine sp_m (aw_sgetR sr_2 (congrArg va_rf ex1) q563 (pc := 2) dJ3_checkIndex_2) ?_
    refine sp_b fun p3 ep3 => ?_
    refine sp_m (G' := AW (KJ3_checkIndex l D h0) h0 (8) ls (.int p3 :: [])) (fun kk => aw_callS (As := [.int a0, .int a1, .ref x1]) (metJ4_checkIndex_s _ _ ep3) mok_J4_checkIndex q1758 q1759 q128 q1760 (Nat.le_of_ble_eq_true rfl) (Nat.le_of_ble_eq_true rfl) rfl hl.1 rfl (Nat.le_of_ble_eq_true rfl) (pc := 5) dJ3_checkIndex_5 kk) ?_
    refine sp_m (aw_pop (pc := 8) dJ3_checkIndex_8 rfl) ?_
    exact sp_r fun hz => aw_vret rfl rfl rfl rfl (pc := 9) dJ3_checkIndex_9
theorem mok_J6_charAt : mOK yJ6_charAt 2 := ⟨⟨by decide +kernel, by decide +kernel⟩, by decide +kernel⟩
abbrev KJ6_charAt (l : Launch) (D : DD) (h0 : AH) (v : Int32) : KT := (l, yJ6_charAt, cJ6_charAt, 2, (some .char), RJ6, 3, D, h0, h0, .inl (some (.int v)), false, [])
theorem metJ6_charAt (l : Launch) (D : DD) {a0 : Nat} {a1 : Int32} {h0 : AH} {v : Int32} (hr : fJ6_charAt a0 a1 h0 = some v) : AMet (KJ6_charAt l D h0 v) [.ref a0, .int a1] := by
  refine AMet.of (K := (KJ6_charAt l D h0 v)) rfl ⟨_, rfl⟩ rfl rfl rfl (Nat.le_of_ble_eq_true rfl) (fun ls hl => ?_)
  have hl : lv_has ls 2 [(0, .ref a0), (1, .int a1)] := hl
  suffices hsp : SP (fJ6_charAt a0 a1 h0) (fun z => z = v) (AW (KJ6_charAt l D h0 v) h0 0 ls []) from hsp _ hr rfl
  unfold fJ6_charAt
  refine sp_m (aw_iload_n (pc := 0) dJ6_charAt_0 rfl (lv_at hl 1 rfl)) ?_
  refine sp_m (aw_aload_n (pc := 1) dJ6_charAt_1 rfl (lv_at hl 0 rfl)) ?_
  refine sp_g fun s1 => ?_
  refine sp_m (G' := AW (KJ6_charAt l D h0 v) h0 (3) ls (.int (Int32.ofNat (gN h0 a0)) :: .int a1 :: [])) (fun kk => by rcases s1 with z | z; exact aw_alen (t := 1) z (by decide) rfl (pc := 2) dJ6_charAt_2 kk; exact aw_alenK z rfl (pc := 2) dJ6_charAt_2 kk) ?_
  refine sp_b fun p2 ep2 => ?_
  refine sp_m (G' := AW (KJ6_charAt l D h0 v) h0 (6) ls ([])) (fun kk => aw_callS (As := [.int a1, .int (Int32.ofNat (gN h0 a0))]) (metJ3_checkIndex _ _ ep2) mok_J3_checkIndex q1755 q1756 q127 q1757 (Nat.le_of_ble_eq_true rfl) (Nat.le_of_ble_eq_true rfl) rfl hl.1 rfl (Nat.le_of_ble_eq_true rfl) (pc := 3) dJ6_charAt_3 kk) ?_
  refine sp_m (aw_aload_n (pc := 6) dJ6_charAt_6 rfl (lv_at hl 0 rfl)) ?_
  refine sp_m (aw_iload_n (pc := 7) dJ6_charAt_7 rfl (lv_at hl 1 rfl)) ?_
  refine sp_g fun i3 => ?_
  refine sp_m (G' := AW (KJ6_charAt l D h0 v) h0 (9) ls (.int (gI h0 a0 (ix a1)) :: [])) (fun kk => by rcases s1 with z | z; exact aw_bald z i3 (pc := 8) dJ6_charAt_8 kk; exact aw_baldK z i3 (pc := 8) dJ6_charAt_8 kk) ?_
  refine sp_m (aw_sipush (v := 255) (pc := 9) dJ6_charAt_9 rfl) ?_
  refine sp_m (aw_iand (pc := 12) dJ6_charAt_12) ?_
  refine sp_m (aw_i2c (pc := 13) dJ6_charAt_13) ?_
  exact sp_r fun hz => aw_zret (pk_nc _) (congrArg (fun z => (z, h0)) hz) rfl rfl rfl (pc := 14) dJ6_charAt_14
theorem mok_J3_charAt : mOK yJ3_charAt 1 := ⟨⟨by decide +kernel, by decide +kernel⟩, by decide +kernel⟩
abbrev KJ3_charAt (l : Launch) (D : DD) (h0 : AH) (v : Int32) : KT := (l, yJ3_charAt, cJ3_charAt, 2, (some .char), RJ3, 4, D, h0, h0, .inl (some (.int v)), false, [])
theorem metJ3_charAt (l : Launch) (D : DD) {a0 : Nat} {a1 : Int32} {h0 : AH} {v : Int32} (hr : fJ3_charAt a0 a1 h0 = some v) : AMet (KJ3_charAt l D h0 v) [.ref a0, .int a1] := by
  refine AMet.of (K := (KJ3_charAt l D h0 v)) rfl ⟨_, rfl⟩ rfl rfl rfl (Nat.le_of_ble_eq_true rfl) (fun ls hl => ?_)
  have hl : lv_has ls 2 [(0, .ref a0), (1, .int a1)] := hl
  suffices hsp : SP (fJ3_charAt a0 a1 h0) (fun z => z = v) (AW (KJ3_charAt l D h0 v) h0 0 ls []) from hsp _ hr rfl
  unfold fJ3_charAt
  refine sp_m (aw_aload_n (pc := 0) dJ3_charAt_0 rfl (lv_at hl 0 rfl)) ?_
  refine sp_g fun s2 => ?_
  refine sp_b fun p1 ep1 => ?_
  refine sp_m (G' := AW (KJ3_charAt l D h0 v) h0 (4) ls (.int p1 :: [])) (fun kk => by rcases s2 with z | z; exact aw_callV (As := []) (metJ3_isLatin1 _ _ ep1) (rcv_o okJ3 z) rfl mok_J3_isLatin1 q650 q651 q652 q127 q653 (Nat.le_of_ble_eq_true rfl) (Nat.le_of_ble_eq_true rfl) rfl hl.1 rfl (Nat.le_of_ble_eq_true rfl) (pc := 1) dJ3_charAt_1 kk; exact aw_callV (As := []) (metJ3_isLatin1 _ _ ep1) (rcv_k z) rfl mok_J3_isLatin1 q650 q651 q652 q127 q653 (Nat.le_of_ble_eq_true rfl) (Nat.le_of_ble_eq_true rfl) rfl hl.1 rfl (Nat.le_of_ble_eq_true rfl) (pc := 1) dJ3_charAt_1 kk) ?_
  refine sp_if (fun c3 => ?_) (fun c3 => ?_)
  · refine sp_m (aw_if_eq_t (tgt := 16) (pc := 4) dJ3_charAt_4 (by decide) c3) ?_
    refine sp_m (aw_aload_n (pc := 16) dJ3_charAt_16 rfl (lv_at hl 0 rfl)) ?_
    refine sp_b fun x4 ex4 => ?_
    refine sp_m (G' := AW (KJ3_charAt l D h0 v) h0 (20) ls (.ref x4 :: [])) (fun kk => by rcases s2 with z | z; exact aw_get (k := 0) okJ3 z (by decide) q617 (Or.inl rfl) (congrArg va_rf ex4) (pc := 17) dJ3_charAt_17 kk; exact aw_getKv z ex4 q617 (pc := 17) dJ3_charAt_17 kk) ?_
    refine sp_m (aw_iload_n (pc := 20) dJ3_charAt_20 rfl (lv_at hl 1 rfl)) ?_
    exact sp_n
  · refine sp_m (aw_if_eq_f (tgt := 16) (pc := 4) dJ3_charAt_4 (by decide) c3) ?_
    refine sp_m (aw_aload_n (pc := 7) dJ3_charAt_7 rfl (lv_at hl 0 rfl)) ?_
    refine sp_b fun x5 ex5 => ?_
    refine sp_m (G' := AW (KJ3_charAt l D h0 v) h0 (11) ls (.ref x5 :: [])) (fun kk => by rcases s2 with z | z; exact aw_get (k := 0) okJ3 z (by decide) q617 (Or.inl rfl) (congrArg va_rf ex5) (pc := 8) dJ3_charAt_8 kk; exact aw_getKv z ex5 q617 (pc := 8) dJ3_charAt_8 kk) ?_
    refine sp_m (aw_iload_n (pc := 11) dJ3_charAt_11 rfl (lv_at hl 1 rfl)) ?_
    refine sp_b fun p6 ep6 => ?_
    refine sp_m (G' := AW (KJ3_charAt l D h0 v) h0 (15) ls (.int p6 :: [])) (fun kk => aw_callS (As := [.ref x5, .int a1]) (metJ6_charAt _ _ ep6) mok_J6_charAt q1752 q1753 q130 q1754 (Nat.le_of_ble_eq_true rfl) (Nat.le_of_ble_eq_true rfl) rfl hl.1 rfl (Nat.le_of_ble_eq_true rfl) (pc := 12) dJ3_charAt_12 kk) ?_
    refine sp_g fun g7 => ?_
    exact sp_r fun hz => aw_zret (nar_c g7) (congrArg (fun z => (z, h0)) hz) rfl rfl rfl (pc := 15) dJ3_charAt_15
theorem mok_J3_coder : mOK yJ3_coder 0 := ⟨⟨by decide +kernel, by decide +kernel⟩, by decide +kernel⟩
abbrev KJ3_coder (l : Launch) (D : DD) (h0 : AH) (v : Int32) : KT := (l, yJ3_coder, cJ3_coder, 1, (some .byte), RJ3, 1, D, h0, h0, .inl (some (.int v)), false, [])
theorem metJ3_coder (l : Launch) (D : DD) {a0 : Nat} {h0 : AH} {v : Int32} (hr : fJ3_coder a0 h0 = some v) : AMet (KJ3_coder l D h0 v) [.ref a0] := by
  refine AMet.of (K := (KJ3_coder l D h0 v)) rfl ⟨_, rfl⟩ rfl rfl rfl (Nat.le_of_ble_eq_true rfl) (fun ls hl => ?_)
  have hl : lv_has ls 1 [(0, .ref a0)] := hl
  suffices hsp : SP (fJ3_coder a0 h0) (fun z => z = v) (AW (KJ3_coder l D h0 v) h0 0 ls []) from hsp _ hr rfl
  unfold fJ3_coder
  refine sp_m (aw_sgetI sz_0 q573 (pc := 0) dJ3_coder_0) ?_
  refine sp_m (aw_if_eq_f (tgt := 13) (pc := 3) dJ3_coder_3 (by decide) (by decide)) ?_
  refine sp_m (aw_aload_n (pc := 6) dJ3_coder_6 rfl (lv_at hl 0 rfl)) ?_
  refine sp_g fun s1 => ?_
  refine sp_m (G' := AW (KJ3_coder l D h0 v) h0 (10) ls (.int (gI h0 a0 1) :: [])) (fun kk => by rcases s1 with z | z; exact aw_get (k := 1) okJ3 z (by decide) q618 (Or.inl rfl) rfl (pc := 7) dJ3_coder_7 kk; exact aw_getKc z q618 (pc := 7) dJ3_coder_7 kk) ?_
  refine sp_m (aw_goto (tgt := 14) (pc := 10) dJ3_coder_10 (by decide)) ?_
  refine sp_g fun g2 => ?_
  exact sp_r fun hz => aw_zret (nar_y g2) (congrArg (fun z => (z, h0)) hz) rfl rfl rfl (pc := 14) dJ3_coder_14
theorem mok_J3_length : mOK yJ3_length 0 := ⟨⟨by decide +kernel, by decide +kernel⟩, by decide +kernel⟩
abbrev KJ3_length (l : Launch) (D : DD) (h0 : AH) (v : Int32) : KT := (l, yJ3_length, cJ3_length, 1, (some .int), RJ3, 2, D, h0, h0, .inl (some (.int v)), false, [])
theorem metJ3_length (l : Launch) (D : DD) {a0 : Nat} {h0 : AH} {v : Int32} (hr : fJ3_length a0 h0 = some v) : AMet (KJ3_length l D h0 v) [.ref a0] := by
  refine AMet.of (K := (KJ3_length l D h0 v)) rfl ⟨_, rfl⟩ rfl rfl rfl (Nat.le_of_ble_eq_true rfl) (fun ls hl => ?_)
  have hl : lv_has ls 1 [(0, .ref a0)] := hl
  suffices hsp : SP (fJ3_length a0 h0) (fun z => z = v) (AW (KJ3_length l D h0 v) h0 0 ls []) from hsp _ hr rfl
  unfold fJ3_length
  refine sp_m (aw_aload_n (pc := 0) dJ3_length_0 rfl (lv_at hl 0 rfl)) ?_
  refine sp_g fun s1 => ?_
  refine sp_b fun x2 ex2 => ?_
  refine sp_m (G' := AW (KJ3_length l D h0 v) h0 (4) ls (.ref x2 :: [])) (fun kk => by rcases s1 with z | z; exact aw_get (k := 0) okJ3 z (by decide) q617 (Or.inl rfl) (congrArg va_rf ex2) (pc := 1) dJ3_length_1 kk; exact aw_getKv z ex2 q617 (pc := 1) dJ3_length_1 kk) ?_
  refine sp_g fun s3 => ?_
  refine sp_m (G' := AW (KJ3_length l D h0 v) h0 (5) ls (.int (Int32.ofNat (gN h0 x2)) :: [])) (fun kk => by rcases s3 with z | z; exact aw_alen (t := 1) z (by decide) rfl (pc := 4) dJ3_length_4 kk; exact aw_alenK z rfl (pc := 4) dJ3_length_4 kk) ?_
  refine sp_m (aw_aload_n (pc := 5) dJ3_length_5 rfl (lv_at hl 0 rfl)) ?_
  refine sp_b fun p4 ep4 => ?_
  refine sp_m (G' := AW (KJ3_length l D h0 v) h0 (9) ls (.int p4 :: .int (Int32.ofNat (gN h0 x2)) :: [])) (fun kk => by rcases s1 with z | z; exact aw_callV (As := []) (metJ3_coder _ _ ep4) (rcv_o okJ3 z) rfl mok_J3_coder q1744 q1745 q1746 q127 q1747 (Nat.le_of_ble_eq_true rfl) (Nat.le_of_ble_eq_true rfl) rfl hl.1 rfl (Nat.le_of_ble_eq_true rfl) (pc := 6) dJ3_length_6 kk; exact aw_callV (As := []) (metJ3_coder _ _ ep4) (rcv_k z) rfl mok_J3_coder q1744 q1745 q1746 q127 q1747 (Nat.le_of_ble_eq_true rfl) (Nat.le_of_ble_eq_true rfl) rfl hl.1 rfl (Nat.le_of_ble_eq_true rfl) (pc := 6) dJ3_length_6 kk) ?_
  refine sp_m (aw_ishr (pc := 9) dJ3_length_9) ?_
  exact sp_r fun hz => aw_iret (congrArg (fun z => (z, h0)) hz) rfl rfl rfl (pc := 10) dJ3_length_10
theorem mok_X7_packed : mOK yX7_packed 1 := ⟨⟨by decide +kernel, by decide +kernel⟩, by decide +kernel⟩
abbrev KX7_packed (l : Launch) (D : DD) (h0 : AH) (v : Int64) : KT := (l, yX7_packed, cX7_packed, 4, (some .long), RX7, 5, D, h0, h0, .inl (some (.long v)), false, [])
theorem metX7_packed (l : Launch) (D : DD) {a0 : Nat} {h0 : AH} {v : Int64} (hr : fX7_packed a0 h0 = some v) : AMet (KX7_packed l D h0 v) [.ref a0] := by
  refine AMet.of (K := (KX7_packed l D h0 v)) rfl ⟨_, rfl⟩ rfl rfl rfl (Nat.le_of_ble_eq_true rfl) (fun ls hl => ?_)
  have hl : lv_has ls 4 [(0, .ref a0)] := hl
  suffices hsp : SP (fX7_packed a0 h0) (fun z => z = v) (AW (KX7_packed l D h0 v) h0 0 ls []) from hsp _ hr rfl
  unfold fX7_packed
  refine sp_m (aw_lconst (v := 0) (pc := 0) dX7_packed_0 rfl) ?_
  refine sp_m (aw_lstore_n (lv' := [(1, .long 0), (0, .ref a0)]) (pc := 1) dX7_packed_1 rfl hl (by decide) rfl) (sp_all fun ls hl => ?_)
  refine sp_m (aw_iconst (v := 0) (pc := 2) dX7_packed_2 rfl) ?_
  refine sp_m (aw_istore_n (lv' := [(3, .int 0), (1, .long 0), (0, .ref a0)]) (pc := 3) dX7_packed_3 rfl hl (by decide) rfl) (sp_all fun ls hl => ?_)
  let P1 : Int64 × Int32 → Prop := aLP (KX7_packed l D h0 v) 4 4 (fun s1v : Int64 × Int32 => [(0, .ref a0), (1, .long s1v.1), (3, .int s1v.2)]) (fun s1v => h0)
  let E1 : Int64 → Prop := aLP (KX7_packed l D h0 v) 4 36 (fun r1v : Int64 => [(1, .long r1v)]) (fun r1v => h0)
  refine sp_bl (P := P1) (E := E1) (fun s1v => sp_all fun ls hl => ?_) (fun k => k ls (lv_sub hl [2, 1, 0] rfl)) (fun r1v => sp_all fun ls hl => ?_)
  · have hl : lv_has ls 4 [(0, .ref a0), (1, .long s1v.1), (3, .int s1v.2)] := hl
    show SP _ _ (AW (KX7_packed l D h0 v) h0 4 ls [])
    unfold X7_packed_L4
    refine sp_m (aw_iload_n (pc := 4) dX7_packed_4 rfl (lv_at hl 2 rfl)) ?_
    refine sp_m (aw_aload_n (pc := 5) dX7_packed_5 rfl (lv_at hl 0 rfl)) ?_
    refine sp_g fun s3 => ?_
    refine sp_b fun p2 ep2 => ?_
    refine sp_m (G' := AW (KX7_packed l D h0 v) h0 (9) ls (.int p2 :: .int s1v.2 :: [])) (fun kk => by rcases s3 with z | z; exact aw_callV (As := []) (metJ3_length _ _ ep2) (rcv_o okJ3 z) rfl mok_J3_length q1740 q1741 q1742 q127 q1743 (Nat.le_of_ble_eq_true rfl) (Nat.le_of_ble_eq_true rfl) rfl hl.1 rfl (Nat.le_of_ble_eq_true rfl) (pc := 6) dX7_packed_6 kk; exact aw_callV (As := []) (metJ3_length _ _ ep2) (rcv_k z) rfl mok_J3_length q1740 q1741 q1742 q127 q1743 (Nat.le_of_ble_eq_true rfl) (Nat.le_of_ble_eq_true rfl) rfl hl.1 rfl (Nat.le_of_ble_eq_true rfl) (pc := 6) dX7_packed_6 kk) ?_
    refine sp_if (fun c4 => ?_) (fun c4 => ?_)
    · refine sp_m (aw_icmp_ge_t (tgt := 36) (pc := 9) dX7_packed_9 (by decide) c4) ?_
      exact sp_r fun hz => hz ls (lv_sub hl [1] rfl)
    · refine sp_m (aw_icmp_ge_f (tgt := 36) (pc := 9) dX7_packed_9 (by decide) c4) ?_
      refine sp_m (aw_ldc2 q1720 (pc := 12) dX7_packed_12) ?_
      refine sp_m (aw_lload_n (pc := 15) dX7_packed_15 rfl (lv_at hl 1 rfl)) ?_
      refine sp_m (aw_lmul (pc := 16) dX7_packed_16) ?_
      refine sp_m (aw_aload_n (pc := 17) dX7_packed_17 rfl (lv_at hl 0 rfl)) ?_
      refine sp_m (aw_iload_n (pc := 18) dX7_packed_18 rfl (lv_at hl 2 rfl)) ?_
      refine sp_b fun p5 ep5 => ?_
      refine sp_m (G' := AW (KX7_packed l D h0 v) h0 (22) ls (.int p5 :: .long (32 * s1v.1) :: [])) (fun kk => by rcases s3 with z | z; exact aw_callV (As := [.int s1v.2]) (metJ3_charAt _ _ ep5) (rcv_o okJ3 z) rfl mok_J3_charAt q1748 q1749 q1750 q127 q1751 (Nat.le_of_ble_eq_true rfl) (Nat.le_of_ble_eq_true rfl) rfl hl.1 rfl (Nat.le_of_ble_eq_true rfl) (pc := 19) dX7_packed_19 kk; exact aw_callV (As := [.int s1v.2]) (metJ3_charAt _ _ ep5) (rcv_k z) rfl mok_J3_charAt q1748 q1749 q1750 q127 q1751 (Nat.le_of_ble_eq_true rfl) (Nat.le_of_ble_eq_true rfl) rfl hl.1 rfl (Nat.le_of_ble_eq_true rfl) (pc := 19) dX7_packed_19 kk) ?_
      refine sp_m (aw_bipush (v := 97) (pc := 22) dX7_packed_22 rfl) ?_
      refine sp_m (aw_isub (pc := 24) dX7_packed_24) ?_
      refine sp_m (aw_iconst (v := 1) (pc := 25) dX7_packed_25 rfl) ?_
      refine sp_m (aw_iadd (pc := 26) dX7_packed_26) ?_
      refine sp_m (aw_i2l (pc := 27) dX7_packed_27) ?_
      refine sp_m (aw_ladd (pc := 28) dX7_packed_28) ?_
      refine sp_m (aw_lstore_n (lv' := [(1, .long ((32 * s1v.1) + (((p5 - 97) + 1).toInt64))), (0, .ref a0), (3, .int s1v.2)]) (pc := 29) dX7_packed_29 rfl hl (by decide) rfl) (sp_all fun ls hl => ?_)
      refine sp_m (aw_iinc (v := s1v.2 + 1) (lv' := [(3, .int (s1v.2 + 1)), (1, .long ((32 * s1v.1) + (((p5 - 97) + 1).toInt64))), (0, .ref a0)]) (pc := 30) dX7_packed_30 hl (k := 2) rfl rfl (by decide) rfl) (sp_all fun ls hl => ?_)
      refine sp_m (aw_goto (tgt := 4) (pc := 33) dX7_packed_33 (by decide)) ?_
      exact sp_r fun hz => hz ls (lv_sub hl [2, 1, 0] rfl)
  · have hl : lv_has ls 4 [(1, .long r1v)] := hl
    show SP _ _ (AW (KX7_packed l D h0 v) h0 36 ls [])
    refine sp_m (aw_lload_n (pc := 36) dX7_packed_36 rfl (lv_at hl 0 rfl)) ?_
    exact sp_r fun hz => aw_lret (congrArg (fun z => (z, h0)) hz) rfl rfl rfl (pc := 37) dX7_packed_37
theorem mok_X7_isWord : mOK yX7_isWord 1 := ⟨⟨by decide +kernel, by decide +kernel⟩, by decide +kernel⟩
abbrev KX7_isWord (l : Launch) (D : DD) (h0 : AH) (v : Int32) : KT := (l, yX7_isWord, cX7_isWord, 2, (some .boolean), RX7, 6, D, h0, h0, .inl (some (.int v)), false, [])
theorem metX7_isWord (l : Launch) (D : DD) {a0 : Nat} {a1 : Nat} {h0 : AH} {v : Int32} (hr : fX7_isWord a0 a1 h0 = some v) : AMet (KX7_isWord l D h0 v) [.ref a0, .ref a1] := by
  refine AMet.of (K := (KX7_isWord l D h0 v)) rfl ⟨_, rfl⟩ rfl rfl rfl (Nat.le_of_ble_eq_true rfl) (fun ls hl => ?_)
  have hl : lv_has ls 2 [(0, .ref a0), (1, .ref a1)] := hl
  suffices hsp : SP (fX7_isWord a0 a1 h0) (fun z => z = v) (AW (KX7_isWord l D h0 v) h0 0 ls []) from hsp _ hr rfl
  unfold fX7_isWord
  refine sp_m (aw_aload_n (pc := 0) dX7_isWord_0 rfl (lv_at hl 0 rfl)) ?_
  refine sp_g fun s1 => ?_
  refine sp_m (aw_get (k := 9) okX7 s1 (by decide) q1511 (Or.inl rfl) rfl (pc := 1) dX7_isWord_1) ?_
  refine sp_m (aw_iconst (v := 2) (pc := 4) dX7_isWord_4 rfl) ?_
  refine sp_if (fun c2 => ?_) (fun c2 => ?_)
  · refine sp_m (aw_icmp_ne_t (tgt := 24) (pc := 5) dX7_isWord_5 (by decide) c2) ?_
    refine sp_m (aw_iconst (v := 0) (pc := 24) dX7_isWord_24 rfl) ?_
    exact sp_r fun hz => aw_zret (nar_b (Or.inl rfl)) (congrArg (fun z => (z, h0)) hz) rfl rfl rfl (pc := 25) dX7_isWord_25
  · refine sp_m (aw_icmp_ne_f (tgt := 24) (pc := 5) dX7_isWord_5 (by decide) (Decidable.not_not.mp c2)) ?_
    refine sp_m (aw_aload_n (pc := 8) dX7_isWord_8 rfl (lv_at hl 0 rfl)) ?_
    refine sp_m (aw_get (k := 15) okX7 s1 (by decide) q1517 (Or.inl rfl) rfl (pc := 9) dX7_isWord_9) ?_
    refine sp_m (aw_aload_n (pc := 12) dX7_isWord_12 rfl (lv_at hl 1 rfl)) ?_
    refine sp_b fun p3 ep3 => ?_
    refine sp_m (G' := AW (KX7_isWord l D h0 v) h0 (16) ls (.long p3 :: .long (gL h0 a0 15) :: [])) (fun kk => aw_callS (As := [.ref a1]) (metX7_packed _ _ ep3) mok_X7_packed q1737 q1738 q125 q1739 (Nat.le_of_ble_eq_true rfl) (Nat.le_of_ble_eq_true rfl) rfl hl.1 rfl (Nat.le_of_ble_eq_true rfl) (pc := 13) dX7_isWord_13 kk) ?_
    refine sp_m (aw_lcmp (pc := 16) dX7_isWord_16) ?_
    refine sp_if (fun c4 => ?_) (fun c4 => ?_)
    · refine sp_m (aw_if_ne_t (tgt := 24) (pc := 17) dX7_isWord_17 (by decide) (fun z => c4 ((lg_cmp_eq _ _).mp z))) ?_
      refine sp_m (aw_iconst (v := 0) (pc := 24) dX7_isWord_24 rfl) ?_
      exact sp_r fun hz => aw_zret (nar_b (Or.inl rfl)) (congrArg (fun z => (z, h0)) hz) rfl rfl rfl (pc := 25) dX7_isWord_25
    · refine sp_m (aw_if_ne_f (tgt := 24) (pc := 17) dX7_isWord_17 (by decide) ((lg_cmp_eq _ _).mpr (Decidable.not_not.mp c4))) ?_
      refine sp_m (aw_iconst (v := 1) (pc := 20) dX7_isWord_20 rfl) ?_
      refine sp_m (aw_goto (tgt := 25) (pc := 21) dX7_isWord_21 (by decide)) ?_
      exact sp_r fun hz => aw_zret (nar_b (Or.inr rfl)) (congrArg (fun z => (z, h0)) hz) rfl rfl rfl (pc := 25) dX7_isWord_25
theorem mok_X7_lineBegins : mOK yX7_lineBegins 2 := ⟨⟨by decide +kernel, by decide +kernel⟩, by decide +kernel⟩
abbrev KX7_lineBegins (l : Launch) (D : DD) (h0 hE : AH) : KT := (l, yX7_lineBegins, cX7_lineBegins, 3, none, RX7, 3, D, h0, hE, .inl (none), false, [])
theorem metX7_lineBegins (l : Launch) (D : DD) {a0 : Nat} {a1 : Int32} {a2 : Int32} {h0 : AH} {hE : AH} (hr : fX7_lineBegins a0 a1 a2 h0 = some hE) : AMet (KX7_lineBegins l D h0 hE) [.ref a0, .int a1, .int a2] := by
  refine AMet.of (K := (KX7_lineBegins l D h0 hE)) rfl ⟨_, rfl⟩ rfl rfl rfl (Nat.le_of_ble_eq_true rfl) (fun ls hl => ?_)
  have hl : lv_has ls 3 [(0, .ref a0), (1, .int a1), (2, .int a2)] := hl
  suffices hsp : SP (fX7_lineBegins a0 a1 a2 h0) (fun z => z = hE) (AW (KX7_lineBegins l D h0 hE) h0 0 ls []) from hsp _ hr rfl
  unfold fX7_lineBegins
  refine sp_m (aw_iload_n (pc := 0) dX7_lineBegins_0 rfl (lv_at hl 1 rfl)) ?_
  refine sp_m (aw_iload_n (pc := 1) dX7_lineBegins_1 rfl (lv_at hl 2 rfl)) ?_
  have hj10_1 : ∀ h1 : AH, ∀ ls : Array Slot, lv_has ls 3 [(0, .ref a0)] → SP (X7_lineBegins_j10 a0 h1) (fun z => z = hE) (AW (KX7_lineBegins l D h0 hE) h1 10 ls ([])) := by
    intro h1 ls hl
    unfold X7_lineBegins_j10
    refine sp_m (aw_aload_n (pc := 10) dX7_lineBegins_10 rfl (lv_at hl 0 rfl)) ?_
    refine sp_g fun s2 => ?_
    refine sp_b fun x3 ex3 => ?_
    refine sp_m (aw_get (k := 4) okX7 s2 (by decide) q1506 (Or.inl rfl) (congrArg va_rf ex3) (pc := 11) dX7_lineBegins_11) ?_
    refine sp_g fun s4 => ?_
    refine sp_m (aw_getN (k := 0) okX20 s4 (by decide) nq1642 rfl rfl (pc := 14) dX7_lineBegins_14) ?_
    have hj26_2 : ∀ h5 : AH, ∀ ls : Array Slot, lv_has ls 3 [(0, .ref a0)] → SP (X7_lineBegins_j26 a0 h5) (fun z => z = hE) (AW (KX7_lineBegins l D h0 hE) h5 26 ls ([])) := by
      intro h5 ls hl
      unfold X7_lineBegins_j26
      refine sp_m (aw_aload_n (pc := 26) dX7_lineBegins_26 rfl (lv_at hl 0 rfl)) ?_
      refine sp_g fun s7 => ?_
      refine sp_b fun p6 ep6 => ?_
      refine sp_m (G' := AW (KX7_lineBegins l D h0 hE) p6 (30) ls ([])) (fun kk => aw_callV (As := []) (metX7_goesOn _ _ ep6) (rcv_o okX7 s7) rfl mok_X7_goesOn q1709 q1711 qs51 q125 q1712 (Nat.le_of_ble_eq_true rfl) (Nat.le_of_ble_eq_true rfl) rfl hl.1 rfl (Nat.le_of_ble_eq_true rfl) (pc := 27) dX7_lineBegins_27 kk) ?_
      exact sp_r fun hz => aw_vret hz rfl rfl rfl (pc := 30) dX7_lineBegins_30
    refine sp_if (fun c8 => ?_) (fun c8 => ?_)
    · refine sp_m (aw_if_ne_t (tgt := 26) (pc := 17) dX7_lineBegins_17 (by decide) c8) ?_
      exact hj26_2 h1 ls (lv_sub hl [0] rfl)
    · refine sp_m (aw_if_ne_f (tgt := 26) (pc := 17) dX7_lineBegins_17 (by decide) (Decidable.not_not.mp c8)) ?_
      refine sp_m (aw_aload_n (pc := 20) dX7_lineBegins_20 rfl (lv_at hl 0 rfl)) ?_
      refine sp_m (aw_bipush (v := 6) (pc := 21) dX7_lineBegins_21 rfl) ?_
      refine sp_b fun p9 ep9 => ?_
      refine sp_m (G' := AW (KX7_lineBegins l D h0 hE) p9 (26) ls ([])) (fun kk => aw_callV (As := [.int 6]) (metX7_flaw _ _ ep9) (rcv_o okX7 s2) rfl mok_X7_flaw q1772 q1774 qs57 q125 q1775 (Nat.le_of_ble_eq_true rfl) (Nat.le_of_ble_eq_true rfl) rfl hl.1 rfl (Nat.le_of_ble_eq_true rfl) (pc := 23) dX7_lineBegins_23 kk) ?_
      exact hj26_2 p9 ls (lv_sub hl [0] rfl)
  refine sp_if (fun c10 => ?_) (fun c10 => ?_)
  · refine sp_m (aw_icmp_ne_t (tgt := 10) (pc := 2) dX7_lineBegins_2 (by decide) c10) ?_
    exact hj10_1 h0 ls (lv_sub hl [0] rfl)
  · refine sp_m (aw_icmp_ne_f (tgt := 10) (pc := 2) dX7_lineBegins_2 (by decide) (Decidable.not_not.mp c10)) ?_
    refine sp_m (aw_aload_n (pc := 5) dX7_lineBegins_5 rfl (lv_at hl 0 rfl)) ?_
    refine sp_m (aw_iconst (v := 5) (pc := 6) dX7_lineBegins_6 rfl) ?_
    refine sp_g fun s12 => ?_
    refine sp_b fun p11 ep11 => ?_
    refine sp_m (G' := AW (KX7_lineBegins l D h0 hE) p11 (10) ls ([])) (fun kk => aw_callV (As := [.int 5]) (metX7_flaw _ _ ep11) (rcv_o okX7 s12) rfl mok_X7_flaw q1772 q1774 qs57 q125 q1775 (Nat.le_of_ble_eq_true rfl) (Nat.le_of_ble_eq_true rfl) rfl hl.1 rfl (Nat.le_of_ble_eq_true rfl) (pc := 7) dX7_lineBegins_7 kk) ?_
    exact hj10_1 p11 ls (lv_sub hl [0] rfl)
theorem mok_X7_names : mOK yX7_names 3 := ⟨⟨by decide +kernel, by decide +kernel⟩, by decide +kernel⟩
abbrev KX7_names (l : Launch) (D : DD) (h0 hE : AH) : KT := (l, yX7_names, cX7_names, 5, none, RX7, 1, D, h0, hE, .inl (none), false, [])
theorem metX7_names (l : Launch) (D : DD) {a0 : Nat} {a1 : Int64} {a2 : Int32} {a3 : Int32} {h0 : AH} {hE : AH} (hr : fX7_names a0 a1 a2 a3 h0 = some hE) : AMet (KX7_names l D h0 hE) [.ref a0, .long a1, .int a2, .int a3] := by
  refine AMet.of (K := (KX7_names l D h0 hE)) rfl ⟨_, rfl⟩ rfl rfl rfl (Nat.le_of_ble_eq_true rfl) (fun ls hl => ?_)
  have hl : lv_has ls 5 [(0, .ref a0), (1, .long a1), (3, .int a2), (4, .int a3)] := hl
  suffices hsp : SP (fX7_names a0 a1 a2 a3 h0) (fun z => z = hE) (AW (KX7_names l D h0 hE) h0 0 ls []) from hsp _ hr rfl
  unfold fX7_names
  refine sp_m (aw_aload_n (pc := 0) dX7_names_0 rfl (lv_at hl 0 rfl)) ?_
  refine sp_g fun s1 => ?_
  refine sp_b fun x2 ex2 => ?_
  refine sp_m (aw_get (k := 4) okX7 s1 (by decide) q1506 (Or.inl rfl) (congrArg va_rf ex2) (pc := 1) dX7_names_1) ?_
  refine sp_g fun s3 => ?_
  refine sp_b fun x4 ex4 => ?_
  refine sp_m (aw_getN (k := 15) okX20 s3 (by decide) nq1666 rfl (congrArg va_rf ex4) (pc := 4) dX7_names_4) ?_
  refine sp_m (aw_aload_n (pc := 7) dX7_names_7 rfl (lv_at hl 0 rfl)) ?_
  refine sp_b fun x5 ex5 => ?_
  refine sp_m (aw_get (k := 4) okX7 s1 (by decide) q1506 (Or.inl rfl) (congrArg va_rf ex5) (pc := 8) dX7_names_8) ?_
  refine sp_g fun s6 => ?_
  refine sp_m (aw_getN (k := 7) okX20 s6 (by decide) nq1650 rfl rfl (pc := 11) dX7_names_11) ?_
  refine sp_m (aw_lload_n (pc := 14) dX7_names_14 rfl (lv_at hl 1 rfl)) ?_
  refine sp_g fun s7 => ?_
  refine sp_g fun i8 => ?_
  refine sp_t fun h9 eh90 => ?_
  have eh9 : gS h9 = gS h0 := by rw [eh90]; rfl
  refine sp_m (fun kk => aw_last s7 i8 (pc := 15) dX7_names_15 (AWe eh90 kk)) ?_
  refine sp_m (aw_aload_n (pc := 16) dX7_names_16 rfl (lv_at hl 0 rfl)) ?_
  refine sp_b fun x10 ex10 => ?_
  refine sp_m (aw_get (k := 4) okX7 (uS eh9 s1) (by decide) q1506 (Or.inl rfl) (congrArg va_rf ex10) (pc := 17) dX7_names_17) ?_
  refine sp_g fun s11 => ?_
  refine sp_b fun x12 ex12 => ?_
  refine sp_m (aw_getN (k := 16) okX20 s11 (by decide) nq1668 rfl (congrArg va_rf ex12) (pc := 20) dX7_names_20) ?_
  refine sp_m (aw_aload_n (pc := 23) dX7_names_23 rfl (lv_at hl 0 rfl)) ?_
  refine sp_b fun x13 ex13 => ?_
  refine sp_m (aw_get (k := 4) okX7 (uS eh9 s1) (by decide) q1506 (Or.inl rfl) (congrArg va_rf ex13) (pc := 24) dX7_names_24) ?_
  refine sp_g fun s14 => ?_
  refine sp_m (aw_getN (k := 7) okX20 s14 (by decide) nq1650 rfl rfl (pc := 27) dX7_names_27) ?_
  refine sp_m (aw_iload_n (pc := 30) dX7_names_30 rfl (lv_at hl 2 rfl)) ?_
  refine sp_g fun s15 => ?_
  refine sp_g fun i16 => ?_
  refine sp_t fun h17 eh170 => ?_
  have eh17 : gS h17 = gS h9 := by rw [eh170]; rfl
  refine sp_m (fun kk => aw_iast s15 i16 (pc := 31) dX7_names_31 (AWe eh170 kk)) ?_
  refine sp_m (aw_aload_n (pc := 32) dX7_names_32 rfl (lv_at hl 0 rfl)) ?_
  refine sp_b fun x18 ex18 => ?_
  refine sp_m (aw_get (k := 4) okX7 (uS eh17 (uS eh9 s1)) (by decide) q1506 (Or.inl rfl) (congrArg va_rf ex18) (pc := 33) dX7_names_33) ?_
  refine sp_g fun s19 => ?_
  refine sp_b fun x20 ex20 => ?_
  refine sp_m (aw_getN (k := 17) okX20 s19 (by decide) nq1670 rfl (congrArg va_rf ex20) (pc := 36) dX7_names_36) ?_
  refine sp_m (aw_aload_n (pc := 39) dX7_names_39 rfl (lv_at hl 0 rfl)) ?_
  refine sp_b fun x21 ex21 => ?_
  refine sp_m (aw_get (k := 4) okX7 (uS eh17 (uS eh9 s1)) (by decide) q1506 (Or.inl rfl) (congrArg va_rf ex21) (pc := 40) dX7_names_40) ?_
  refine sp_g fun s22 => ?_
  refine sp_m (aw_getN (k := 7) okX20 s22 (by decide) nq1650 rfl rfl (pc := 43) dX7_names_43) ?_
  refine sp_m (aw_iload (pc := 46) dX7_names_46 (lv_at hl 3 rfl)) ?_
  refine sp_g fun s23 => ?_
  refine sp_g fun i24 => ?_
  refine sp_t fun h25 eh250 => ?_
  have eh25 : gS h25 = gS h17 := by rw [eh250]; rfl
  refine sp_m (fun kk => aw_iast s23 i24 (pc := 48) dX7_names_48 (AWe eh250 kk)) ?_
  refine sp_m (aw_aload_n (pc := 49) dX7_names_49 rfl (lv_at hl 0 rfl)) ?_
  refine sp_b fun x26 ex26 => ?_
  refine sp_m (aw_get (k := 4) okX7 (uS eh25 (uS eh17 (uS eh9 s1))) (by decide) q1506 (Or.inl rfl) (congrArg va_rf ex26) (pc := 50) dX7_names_50) ?_
  refine sp_m (aw_dup (pc := 53) dX7_names_53 rfl) ?_
  refine sp_g fun s27 => ?_
  refine sp_m (aw_getN (k := 7) okX20 s27 (by decide) nq1650 rfl rfl (pc := 54) dX7_names_54) ?_
  refine sp_m (aw_iconst (v := 1) (pc := 57) dX7_names_57 rfl) ?_
  refine sp_m (aw_iadd (pc := 58) dX7_names_58) ?_
  refine sp_t fun h28 eh280 => ?_
  have eh28 : gS h28 = gS h25 := by rw [eh280]; rfl
  refine sp_m (aw_putN (k := 7) okX20 opX20 s27 (by decide) nq1650 rfl rfl (hasV_I' eh280) rfl rfl (pc := 59) dX7_names_59) ?_
  exact sp_r fun hz => aw_vret hz rfl rfl rfl (pc := 62) dX7_names_62
theorem mok_X7_isName : mOK yX7_isName 0 := ⟨⟨by decide +kernel, by decide +kernel⟩, by decide +kernel⟩
abbrev KX7_isName (l : Launch) (D : DD) (h0 : AH) (v : Int32) : KT := (l, yX7_isName, cX7_isName, 1, (some .boolean), RX7, 7, D, h0, h0, .inl (some (.int v)), false, [])
theorem metX7_isName (l : Launch) (D : DD) {a0 : Nat} {h0 : AH} {v : Int32} (hr : fX7_isName a0 h0 = some v) : AMet (KX7_isName l D h0 v) [.ref a0] := by
  refine AMet.of (K := (KX7_isName l D h0 v)) rfl ⟨_, rfl⟩ rfl rfl rfl (Nat.le_of_ble_eq_true rfl) (fun ls hl => ?_)
  have hl : lv_has ls 1 [(0, .ref a0)] := hl
  suffices hsp : SP (fX7_isName a0 h0) (fun z => z = v) (AW (KX7_isName l D h0 v) h0 0 ls []) from hsp _ hr rfl
  unfold fX7_isName
  refine sp_m (aw_aload_n (pc := 0) dX7_isName_0 rfl (lv_at hl 0 rfl)) ?_
  refine sp_g fun s1 => ?_
  refine sp_m (aw_get (k := 9) okX7 s1 (by decide) q1511 (Or.inl rfl) rfl (pc := 1) dX7_isName_1) ?_
  refine sp_m (aw_iconst (v := 2) (pc := 4) dX7_isName_4 rfl) ?_
  refine sp_if (fun c2 => ?_) (fun c2 => ?_)
  · refine sp_m (aw_icmp_ne_t (tgt := 35) (pc := 5) dX7_isName_5 (by decide) c2) ?_
    refine sp_m (aw_iconst (v := 0) (pc := 35) dX7_isName_35 rfl) ?_
    exact sp_r fun hz => aw_zret (nar_b (Or.inl rfl)) (congrArg (fun z => (z, h0)) hz) rfl rfl rfl (pc := 36) dX7_isName_36
  · refine sp_m (aw_icmp_ne_f (tgt := 35) (pc := 5) dX7_isName_5 (by decide) (Decidable.not_not.mp c2)) ?_
    refine sp_m (aw_aload_n (pc := 8) dX7_isName_8 rfl (lv_at hl 0 rfl)) ?_
    refine sp_b fun x3 ex3 => ?_
    refine sp_m (aw_ldcS sk_X7_144 ex3 (pc := 9) dX7_isName_9) ?_
    refine sp_b fun p4 ep4 => ?_
    refine sp_m (G' := AW (KX7_isName l D h0 v) h0 (14) ls (.int p4 :: [])) (fun kk => aw_callV (As := [.ref x3]) (metX7_isWord _ _ ep4) (rcv_o okX7 s1) rfl mok_X7_isWord q1733 q1735 qs55 q125 q1736 (Nat.le_of_ble_eq_true rfl) (Nat.le_of_ble_eq_true rfl) rfl hl.1 rfl (Nat.le_of_ble_eq_true rfl) (pc := 11) dX7_isName_11 kk) ?_
    refine sp_if (fun c5 => ?_) (fun c5 => ?_)
    · refine sp_m (aw_if_ne_t (tgt := 35) (pc := 14) dX7_isName_14 (by decide) c5) ?_
      refine sp_m (aw_iconst (v := 0) (pc := 35) dX7_isName_35 rfl) ?_
      exact sp_r fun hz => aw_zret (nar_b (Or.inl rfl)) (congrArg (fun z => (z, h0)) hz) rfl rfl rfl (pc := 36) dX7_isName_36
    · refine sp_m (aw_if_ne_f (tgt := 35) (pc := 14) dX7_isName_14 (by decide) (Decidable.not_not.mp c5)) ?_
      refine sp_m (aw_aload_n (pc := 17) dX7_isName_17 rfl (lv_at hl 0 rfl)) ?_
      refine sp_b fun x6 ex6 => ?_
      refine sp_m (aw_ldcS sk_X7_146 ex6 (pc := 18) dX7_isName_18) ?_
      refine sp_b fun p7 ep7 => ?_
      refine sp_m (G' := AW (KX7_isName l D h0 v) h0 (23) ls (.int p7 :: [])) (fun kk => aw_callV (As := [.ref x6]) (metX7_isWord _ _ ep7) (rcv_o okX7 s1) rfl mok_X7_isWord q1733 q1735 qs55 q125 q1736 (Nat.le_of_ble_eq_true rfl) (Nat.le_of_ble_eq_true rfl) rfl hl.1 rfl (Nat.le_of_ble_eq_true rfl) (pc := 20) dX7_isName_20 kk) ?_
      refine sp_if (fun c8 => ?_) (fun c8 => ?_)
      · refine sp_m (aw_if_ne_t (tgt := 35) (pc := 23) dX7_isName_23 (by decide) c8) ?_
        refine sp_m (aw_iconst (v := 0) (pc := 35) dX7_isName_35 rfl) ?_
        exact sp_r fun hz => aw_zret (nar_b (Or.inl rfl)) (congrArg (fun z => (z, h0)) hz) rfl rfl rfl (pc := 36) dX7_isName_36
      · refine sp_m (aw_if_ne_f (tgt := 35) (pc := 23) dX7_isName_23 (by decide) (Decidable.not_not.mp c8)) ?_
        refine sp_m (aw_aload_n (pc := 26) dX7_isName_26 rfl (lv_at hl 0 rfl)) ?_
        refine sp_b fun x9 ex9 => ?_
        refine sp_m (aw_ldcS sk_X7_148 ex9 (pc := 27) dX7_isName_27) ?_
        refine sp_b fun p10 ep10 => ?_
        refine sp_m (G' := AW (KX7_isName l D h0 v) h0 (32) ls (.int p10 :: [])) (fun kk => aw_callV (As := [.ref x9]) (metX7_isWord _ _ ep10) (rcv_o okX7 s1) rfl mok_X7_isWord q1733 q1735 qs55 q125 q1736 (Nat.le_of_ble_eq_true rfl) (Nat.le_of_ble_eq_true rfl) rfl hl.1 rfl (Nat.le_of_ble_eq_true rfl) (pc := 29) dX7_isName_29 kk) ?_
        refine sp_if (fun c11 => ?_) (fun c11 => ?_)
        · refine sp_m (aw_if_eq_t (tgt := 37) (pc := 32) dX7_isName_32 (by decide) c11) ?_
          refine sp_m (aw_aload_n (pc := 37) dX7_isName_37 rfl (lv_at hl 0 rfl)) ?_
          refine sp_b fun x12 ex12 => ?_
          refine sp_m (aw_ldcS sk_X7_150 ex12 (pc := 38) dX7_isName_38) ?_
          refine sp_b fun p13 ep13 => ?_
          refine sp_m (G' := AW (KX7_isName l D h0 v) h0 (43) ls (.int p13 :: [])) (fun kk => aw_callV (As := [.ref x12]) (metX7_isWord _ _ ep13) (rcv_o okX7 s1) rfl mok_X7_isWord q1733 q1735 qs55 q125 q1736 (Nat.le_of_ble_eq_true rfl) (Nat.le_of_ble_eq_true rfl) rfl hl.1 rfl (Nat.le_of_ble_eq_true rfl) (pc := 40) dX7_isName_40 kk) ?_
          refine sp_if (fun c14 => ?_) (fun c14 => ?_)
          · refine sp_m (aw_if_ne_t (tgt := 68) (pc := 43) dX7_isName_43 (by decide) c14) ?_
            refine sp_m (aw_iconst (v := 0) (pc := 68) dX7_isName_68 rfl) ?_
            exact sp_r fun hz => aw_zret (nar_b (Or.inl rfl)) (congrArg (fun z => (z, h0)) hz) rfl rfl rfl (pc := 69) dX7_isName_69
          · refine sp_m (aw_if_ne_f (tgt := 68) (pc := 43) dX7_isName_43 (by decide) (Decidable.not_not.mp c14)) ?_
            refine sp_m (aw_aload_n (pc := 46) dX7_isName_46 rfl (lv_at hl 0 rfl)) ?_
            refine sp_b fun x15 ex15 => ?_
            refine sp_m (aw_ldcS sk_X7_152 ex15 (pc := 47) dX7_isName_47) ?_
            refine sp_b fun p16 ep16 => ?_
            refine sp_m (G' := AW (KX7_isName l D h0 v) h0 (52) ls (.int p16 :: [])) (fun kk => aw_callV (As := [.ref x15]) (metX7_isWord _ _ ep16) (rcv_o okX7 s1) rfl mok_X7_isWord q1733 q1735 qs55 q125 q1736 (Nat.le_of_ble_eq_true rfl) (Nat.le_of_ble_eq_true rfl) rfl hl.1 rfl (Nat.le_of_ble_eq_true rfl) (pc := 49) dX7_isName_49 kk) ?_
            refine sp_if (fun c17 => ?_) (fun c17 => ?_)
            · refine sp_m (aw_if_ne_t (tgt := 68) (pc := 52) dX7_isName_52 (by decide) c17) ?_
              refine sp_m (aw_iconst (v := 0) (pc := 68) dX7_isName_68 rfl) ?_
              exact sp_r fun hz => aw_zret (nar_b (Or.inl rfl)) (congrArg (fun z => (z, h0)) hz) rfl rfl rfl (pc := 69) dX7_isName_69
            · refine sp_m (aw_if_ne_f (tgt := 68) (pc := 52) dX7_isName_52 (by decide) (Decidable.not_not.mp c17)) ?_
              refine sp_m (aw_aload_n (pc := 55) dX7_isName_55 rfl (lv_at hl 0 rfl)) ?_
              refine sp_b fun x18 ex18 => ?_
              refine sp_m (aw_ldcS sk_X7_154 ex18 (pc := 56) dX7_isName_56) ?_
              refine sp_b fun p19 ep19 => ?_
              refine sp_m (G' := AW (KX7_isName l D h0 v) h0 (61) ls (.int p19 :: [])) (fun kk => aw_callV (As := [.ref x18]) (metX7_isWord _ _ ep19) (rcv_o okX7 s1) rfl mok_X7_isWord q1733 q1735 qs55 q125 q1736 (Nat.le_of_ble_eq_true rfl) (Nat.le_of_ble_eq_true rfl) rfl hl.1 rfl (Nat.le_of_ble_eq_true rfl) (pc := 58) dX7_isName_58 kk) ?_
              refine sp_if (fun c20 => ?_) (fun c20 => ?_)
              · refine sp_m (aw_if_ne_t (tgt := 68) (pc := 61) dX7_isName_61 (by decide) c20) ?_
                refine sp_m (aw_iconst (v := 0) (pc := 68) dX7_isName_68 rfl) ?_
                exact sp_r fun hz => aw_zret (nar_b (Or.inl rfl)) (congrArg (fun z => (z, h0)) hz) rfl rfl rfl (pc := 69) dX7_isName_69
              · refine sp_m (aw_if_ne_f (tgt := 68) (pc := 61) dX7_isName_61 (by decide) (Decidable.not_not.mp c20)) ?_
                refine sp_m (aw_iconst (v := 1) (pc := 64) dX7_isName_64 rfl) ?_
                refine sp_m (aw_goto (tgt := 69) (pc := 65) dX7_isName_65 (by decide)) ?_
                exact sp_r fun hz => aw_zret (nar_b (Or.inr rfl)) (congrArg (fun z => (z, h0)) hz) rfl rfl rfl (pc := 69) dX7_isName_69
        · refine sp_m (aw_if_eq_f (tgt := 37) (pc := 32) dX7_isName_32 (by decide) c11) ?_
          refine sp_m (aw_iconst (v := 0) (pc := 35) dX7_isName_35 rfl) ?_
          exact sp_r fun hz => aw_zret (nar_b (Or.inl rfl)) (congrArg (fun z => (z, h0)) hz) rfl rfl rfl (pc := 36) dX7_isName_36
theorem mok_X20_find : mOK yX20_find 1 := ⟨⟨by decide +kernel, by decide +kernel⟩, by decide +kernel⟩
abbrev KX20_find (l : Launch) (D : DD) (h0 : AH) (v : Int32) : KT := (l, yX20_find, cX20_find, 4, (some .int), RX20, 1, D, h0, h0, .inl (some (.int v)), false, [])
theorem metX20_find (l : Launch) (D : DD) {a0 : Nat} {a1 : Int64} {h0 : AH} {v : Int32} (hr : fX20_find a0 a1 h0 = some v) : AMet (KX20_find l D h0 v) [.ref a0, .long a1] := by
  refine AMet.of (K := (KX20_find l D h0 v)) rfl ⟨_, rfl⟩ rfl rfl rfl (Nat.le_of_ble_eq_true rfl) (fun ls hl => ?_)
  have hl : lv_has ls 4 [(0, .ref a0), (1, .long a1)] := hl
  suffices hsp : SP (fX20_find a0 a1 h0) (fun z => z = v) (AW (KX20_find l D h0 v) h0 0 ls []) from hsp _ hr rfl
  unfold fX20_find
  refine sp_m (aw_iconst (v := 0) (pc := 0) dX20_find_0 rfl) ?_
  refine sp_m (aw_istore_n (lv' := [(3, .int 0), (0, .ref a0), (1, .long a1)]) (pc := 1) dX20_find_1 rfl hl (by decide) rfl) (sp_all fun ls hl => ?_)
  let P1 : Int32 → Prop := aLP (KX20_find l D h0 v) 4 2 (fun s1v : Int32 => [(0, .ref a0), (1, .long a1), (3, .int s1v)]) (fun s1v => h0)
  refine sp_loop (P := P1) (fun s1v => sp_all fun ls hl => ?_) (fun k => k ls (lv_sub hl [1, 2, 0] rfl))
  have hl : lv_has ls 4 [(0, .ref a0), (1, .long a1), (3, .int s1v)] := hl
  show SP _ _ (AW (KX20_find l D h0 v) h0 2 ls [])
  unfold X20_find_L2
  refine sp_m (aw_iload_n (pc := 2) dX20_find_2 rfl (lv_at hl 2 rfl)) ?_
  refine sp_m (aw_aload_n (pc := 3) dX20_find_3 rfl (lv_at hl 0 rfl)) ?_
  refine sp_g fun s2 => ?_
  refine sp_m (aw_get (k := 7) okX20 s2 (by decide) q1649 (Or.inl rfl) rfl (pc := 4) dX20_find_4) ?_
  refine sp_if (fun c3 => ?_) (fun c3 => ?_)
  · refine sp_m (aw_icmp_ge_t (tgt := 29) (pc := 7) dX20_find_7 (by decide) c3) ?_
    refine sp_m (aw_iconst (v := (-1)) (pc := 29) dX20_find_29 rfl) ?_
    exact sp_r fun hz => aw_iret (congrArg (fun z => (z, h0)) hz) rfl rfl rfl (pc := 30) dX20_find_30
  · refine sp_m (aw_icmp_ge_f (tgt := 29) (pc := 7) dX20_find_7 (by decide) c3) ?_
    refine sp_m (aw_aload_n (pc := 10) dX20_find_10 rfl (lv_at hl 0 rfl)) ?_
    refine sp_b fun x4 ex4 => ?_
    refine sp_m (aw_get (k := 15) okX20 s2 (by decide) q1665 (Or.inl rfl) (congrArg va_rf ex4) (pc := 11) dX20_find_11) ?_
    refine sp_m (aw_iload_n (pc := 14) dX20_find_14 rfl (lv_at hl 2 rfl)) ?_
    refine sp_g fun s5 => ?_
    refine sp_g fun i6 => ?_
    refine sp_m (aw_lald s5 i6 (pc := 15) dX20_find_15) ?_
    refine sp_m (aw_lload_n (pc := 16) dX20_find_16 rfl (lv_at hl 1 rfl)) ?_
    refine sp_m (aw_lcmp (pc := 17) dX20_find_17) ?_
    refine sp_if (fun c7 => ?_) (fun c7 => ?_)
    · refine sp_m (aw_if_ne_t (tgt := 23) (pc := 18) dX20_find_18 (by decide) (fun z => c7 ((lg_cmp_eq _ _).mp z))) ?_
      refine sp_m (aw_iinc (v := s1v + 1) (lv' := [(3, .int (s1v + 1)), (0, .ref a0), (1, .long a1)]) (pc := 23) dX20_find_23 hl (k := 2) rfl rfl (by decide) rfl) (sp_all fun ls hl => ?_)
      refine sp_m (aw_goto (tgt := 2) (pc := 26) dX20_find_26 (by decide)) ?_
      exact sp_r fun hz => hz ls (lv_sub hl [1, 2, 0] rfl)
    · refine sp_m (aw_if_ne_f (tgt := 23) (pc := 18) dX20_find_18 (by decide) ((lg_cmp_eq _ _).mpr (Decidable.not_not.mp c7))) ?_
      refine sp_m (aw_iload_n (pc := 21) dX20_find_21 rfl (lv_at hl 2 rfl)) ?_
      exact sp_r fun hz => aw_iret (congrArg (fun z => (z, h0)) hz) rfl rfl rfl (pc := 22) dX20_find_22
theorem mok_X7_readFresh : mOK yX7_readFresh 0 := ⟨⟨by decide +kernel, by decide +kernel⟩, by decide +kernel⟩
abbrev KX7_readFresh (l : Launch) (D : DD) (h0 hE : AH) (v : Int64) : KT := (l, yX7_readFresh, cX7_readFresh, 3, (some .long), RX7, 8, D, h0, hE, .inl (some (.long v)), false, [])
theorem metX7_readFresh (l : Launch) (D : DD) {a0 : Nat} {h0 : AH} {hE : AH} {v : Int64} (hr : fX7_readFresh a0 h0 = some (v, hE)) : AMet (KX7_readFresh l D h0 hE v) [.ref a0] := by
  refine AMet.of (K := (KX7_readFresh l D h0 hE v)) rfl ⟨_, rfl⟩ rfl rfl rfl (Nat.le_of_ble_eq_true rfl) (fun ls hl => ?_)
  have hl : lv_has ls 3 [(0, .ref a0)] := hl
  suffices hsp : SP (fX7_readFresh a0 h0) (fun z => z = (v, hE)) (AW (KX7_readFresh l D h0 hE v) h0 0 ls []) from hsp _ hr rfl
  unfold fX7_readFresh
  refine sp_m (aw_aload_n (pc := 0) dX7_readFresh_0 rfl (lv_at hl 0 rfl)) ?_
  refine sp_g fun s2 => ?_
  refine sp_b fun p1 ep1 => ?_
  refine sp_m (G' := AW (KX7_readFresh l D h0 hE v) h0 (4) ls (.int p1 :: [])) (fun kk => aw_callV (As := []) (metX7_isName _ _ ep1) (rcv_o okX7 s2) rfl mok_X7_isName q1822 q1824 qs66 q125 q1825 (Nat.le_of_ble_eq_true rfl) (Nat.le_of_ble_eq_true rfl) rfl hl.1 rfl (Nat.le_of_ble_eq_true rfl) (pc := 1) dX7_readFresh_1 kk) ?_
  have hj12_1 : ∀ h3 : AH, ∀ ls : Array Slot, lv_has ls 3 [(0, .ref a0)] → SP (X7_readFresh_j12 a0 h3) (fun z => z = (v, hE)) (AW (KX7_readFresh l D h0 hE v) h3 12 ls ([])) := by
    intro h3 ls hl
    unfold X7_readFresh_j12
    refine sp_m (aw_aload_n (pc := 12) dX7_readFresh_12 rfl (lv_at hl 0 rfl)) ?_
    refine sp_g fun s4 => ?_
    refine sp_b fun x5 ex5 => ?_
    refine sp_m (aw_get (k := 4) okX7 s4 (by decide) q1506 (Or.inl rfl) (congrArg va_rf ex5) (pc := 13) dX7_readFresh_13) ?_
    refine sp_m (aw_aload_n (pc := 16) dX7_readFresh_16 rfl (lv_at hl 0 rfl)) ?_
    refine sp_m (aw_get (k := 15) okX7 s4 (by decide) q1517 (Or.inl rfl) rfl (pc := 17) dX7_readFresh_17) ?_
    refine sp_g fun s7 => ?_
    refine sp_b fun p6 ep6 => ?_
    refine sp_m (G' := AW (KX7_readFresh l D h0 hE v) h3 (23) ls (.int p6 :: [])) (fun kk => aw_callV (As := [.long (gL h3 a0 15)]) (metX20_find _ _ ep6) (rcv_o okX20 s7) rfl mok_X20_find q1829 q1830 q1831 q144 q1832 (Nat.le_of_ble_eq_true rfl) (Nat.le_of_ble_eq_true rfl) rfl hl.1 rfl (Nat.le_of_ble_eq_true rfl) (pc := 20) dX7_readFresh_20 kk) ?_
    refine sp_m (aw_iconst (v := (-1)) (pc := 23) dX7_readFresh_23 rfl) ?_
    have hj32_2 : ∀ h8 : AH, ∀ ls : Array Slot, lv_has ls 3 [(0, .ref a0)] → SP (X7_readFresh_j32 a0 h8) (fun z => z = (v, hE)) (AW (KX7_readFresh l D h0 hE v) h8 32 ls ([])) := by
      intro h8 ls hl
      unfold X7_readFresh_j32
      refine sp_m (aw_aload_n (pc := 32) dX7_readFresh_32 rfl (lv_at hl 0 rfl)) ?_
      refine sp_g fun s9 => ?_
      refine sp_m (aw_get (k := 15) okX7 s9 (by decide) q1517 (Or.inl rfl) rfl (pc := 33) dX7_readFresh_33) ?_
      refine sp_m (aw_lstore_n (lv' := [(1, .long (gL h8 a0 15)), (0, .ref a0)]) (pc := 36) dX7_readFresh_36 rfl hl (by decide) rfl) (sp_all fun ls hl => ?_)
      refine sp_m (aw_aload_n (pc := 37) dX7_readFresh_37 rfl (lv_at hl 1 rfl)) ?_
      refine sp_b fun p10 ep10 => ?_
      refine sp_m (G' := AW (KX7_readFresh l D h0 hE v) p10 (41) ls ([])) (fun kk => aw_callV (As := []) (metX7_goesOn _ _ ep10) (rcv_o okX7 s9) rfl mok_X7_goesOn q1709 q1711 qs51 q125 q1712 (Nat.le_of_ble_eq_true rfl) (Nat.le_of_ble_eq_true rfl) rfl hl.1 rfl (Nat.le_of_ble_eq_true rfl) (pc := 38) dX7_readFresh_38 kk) ?_
      refine sp_m (aw_lload_n (pc := 41) dX7_readFresh_41 rfl (lv_at hl 0 rfl)) ?_
      exact sp_r fun hz => aw_lret hz rfl rfl rfl (pc := 42) dX7_readFresh_42
    refine sp_if (fun c11 => ?_) (fun c11 => ?_)
    · refine sp_m (aw_icmp_eq_t (tgt := 32) (pc := 24) dX7_readFresh_24 (by decide) c11) ?_
      exact hj32_2 h3 ls (lv_sub hl [0] rfl)
    · refine sp_m (aw_icmp_eq_f (tgt := 32) (pc := 24) dX7_readFresh_24 (by decide) c11) ?_
      refine sp_m (aw_aload_n (pc := 27) dX7_readFresh_27 rfl (lv_at hl 0 rfl)) ?_
      refine sp_m (aw_iconst (v := 3) (pc := 28) dX7_readFresh_28 rfl) ?_
      refine sp_b fun p12 ep12 => ?_
      refine sp_m (G' := AW (KX7_readFresh l D h0 hE v) p12 (32) ls ([])) (fun kk => aw_callV (As := [.int 3]) (metX7_flaw _ _ ep12) (rcv_o okX7 s4) rfl mok_X7_flaw q1772 q1774 qs57 q125 q1775 (Nat.le_of_ble_eq_true rfl) (Nat.le_of_ble_eq_true rfl) rfl hl.1 rfl (Nat.le_of_ble_eq_true rfl) (pc := 29) dX7_readFresh_29 kk) ?_
      exact hj32_2 p12 ls (lv_sub hl [0] rfl)
  refine sp_if (fun c13 => ?_) (fun c13 => ?_)
  · refine sp_m (aw_if_ne_t (tgt := 12) (pc := 4) dX7_readFresh_4 (by decide) c13) ?_
    exact hj12_1 h0 ls (lv_sub hl [0] rfl)
  · refine sp_m (aw_if_ne_f (tgt := 12) (pc := 4) dX7_readFresh_4 (by decide) (Decidable.not_not.mp c13)) ?_
    refine sp_m (aw_aload_n (pc := 7) dX7_readFresh_7 rfl (lv_at hl 0 rfl)) ?_
    refine sp_m (aw_iconst (v := 1) (pc := 8) dX7_readFresh_8 rfl) ?_
    refine sp_b fun p14 ep14 => ?_
    refine sp_m (G' := AW (KX7_readFresh l D h0 hE v) p14 (12) ls ([])) (fun kk => aw_callV (As := [.int 1]) (metX7_flaw _ _ ep14) (rcv_o okX7 s2) rfl mok_X7_flaw q1772 q1774 qs57 q125 q1775 (Nat.le_of_ble_eq_true rfl) (Nat.le_of_ble_eq_true rfl) rfl hl.1 rfl (Nat.le_of_ble_eq_true rfl) (pc := 9) dX7_readFresh_9 kk) ?_
    exact hj12_1 p14 ls (lv_sub hl [0] rfl)
theorem mok_X7_needs : mOK yX7_needs 1 := ⟨⟨by decide +kernel, by decide +kernel⟩, by decide +kernel⟩
abbrev KX7_needs (l : Launch) (D : DD) (h0 hE : AH) : KT := (l, yX7_needs, cX7_needs, 2, none, RX7, 7, D, h0, hE, .inl (none), false, [])
theorem metX7_needs (l : Launch) (D : DD) {a0 : Nat} {a1 : Nat} {h0 : AH} {hE : AH} (hr : fX7_needs a0 a1 h0 = some hE) : AMet (KX7_needs l D h0 hE) [.ref a0, .ref a1] := by
  refine AMet.of (K := (KX7_needs l D h0 hE)) rfl ⟨_, rfl⟩ rfl rfl rfl (Nat.le_of_ble_eq_true rfl) (fun ls hl => ?_)
  have hl : lv_has ls 2 [(0, .ref a0), (1, .ref a1)] := hl
  suffices hsp : SP (fX7_needs a0 a1 h0) (fun z => z = hE) (AW (KX7_needs l D h0 hE) h0 0 ls []) from hsp _ hr rfl
  unfold fX7_needs
  refine sp_m (aw_aload_n (pc := 0) dX7_needs_0 rfl (lv_at hl 0 rfl)) ?_
  refine sp_m (aw_aload_n (pc := 1) dX7_needs_1 rfl (lv_at hl 1 rfl)) ?_
  refine sp_g fun s2 => ?_
  refine sp_b fun p1 ep1 => ?_
  refine sp_m (G' := AW (KX7_needs l D h0 hE) h0 (5) ls (.int p1 :: [])) (fun kk => aw_callV (As := [.ref a1]) (metX7_isWord _ _ ep1) (rcv_o okX7 s2) rfl mok_X7_isWord q1733 q1735 qs55 q125 q1736 (Nat.le_of_ble_eq_true rfl) (Nat.le_of_ble_eq_true rfl) rfl hl.1 rfl (Nat.le_of_ble_eq_true rfl) (pc := 2) dX7_needs_2 kk) ?_
  have hj13_1 : ∀ h3 : AH, ∀ ls : Array Slot, lv_has ls 2 [(0, .ref a0)] → SP (X7_needs_j13 a0 h3) (fun z => z = hE) (AW (KX7_needs l D h0 hE) h3 13 ls ([])) := by
    intro h3 ls hl
    unfold X7_needs_j13
    refine sp_m (aw_aload_n (pc := 13) dX7_needs_13 rfl (lv_at hl 0 rfl)) ?_
    refine sp_g fun s5 => ?_
    refine sp_b fun p4 ep4 => ?_
    refine sp_m (G' := AW (KX7_needs l D h0 hE) p4 (17) ls ([])) (fun kk => aw_callV (As := []) (metX7_goesOn _ _ ep4) (rcv_o okX7 s5) rfl mok_X7_goesOn q1709 q1711 qs51 q125 q1712 (Nat.le_of_ble_eq_true rfl) (Nat.le_of_ble_eq_true rfl) rfl hl.1 rfl (Nat.le_of_ble_eq_true rfl) (pc := 14) dX7_needs_14 kk) ?_
    exact sp_r fun hz => aw_vret hz rfl rfl rfl (pc := 17) dX7_needs_17
  refine sp_if (fun c6 => ?_) (fun c6 => ?_)
  · refine sp_m (aw_if_ne_t (tgt := 13) (pc := 5) dX7_needs_5 (by decide) c6) ?_
    exact hj13_1 h0 ls (lv_sub hl [0] rfl)
  · refine sp_m (aw_if_ne_f (tgt := 13) (pc := 5) dX7_needs_5 (by decide) (Decidable.not_not.mp c6)) ?_
    refine sp_m (aw_aload_n (pc := 8) dX7_needs_8 rfl (lv_at hl 0 rfl)) ?_
    refine sp_m (aw_iconst (v := 1) (pc := 9) dX7_needs_9 rfl) ?_
    refine sp_b fun p7 ep7 => ?_
    refine sp_m (G' := AW (KX7_needs l D h0 hE) p7 (13) ls ([])) (fun kk => aw_callV (As := [.int 1]) (metX7_flaw _ _ ep7) (rcv_o okX7 s2) rfl mok_X7_flaw q1772 q1774 qs57 q125 q1775 (Nat.le_of_ble_eq_true rfl) (Nat.le_of_ble_eq_true rfl) rfl hl.1 rfl (Nat.le_of_ble_eq_true rfl) (pc := 10) dX7_needs_10 kk) ?_
    exact hj13_1 p7 ls (lv_sub hl [0] rfl)
theorem mok_X7_bounded : mOK yX7_bounded 2 := ⟨⟨by decide +kernel, by decide +kernel⟩, by decide +kernel⟩
abbrev KX7_bounded (l : Launch) (D : DD) (h0 hE : AH) (v : Int32) : KT := (l, yX7_bounded, cX7_bounded, 3, (some .int), RX7, 2, D, h0, hE, .inl (some (.int v)), false, [])
theorem metX7_bounded (l : Launch) (D : DD) {a0 : Nat} {a1 : Int32} {a2 : Int32} {h0 : AH} {hE : AH} {v : Int32} (hr : fX7_bounded a0 a1 a2 h0 = some (v, hE)) : AMet (KX7_bounded l D h0 hE v) [.ref a0, .int a1, .int a2] := by
  refine AMet.of (K := (KX7_bounded l D h0 hE v)) rfl ⟨_, rfl⟩ rfl rfl rfl (Nat.le_of_ble_eq_true rfl) (fun ls hl => ?_)
  have hl : lv_has ls 3 [(0, .ref a0), (1, .int a1), (2, .int a2)] := hl
  suffices hsp : SP (fX7_bounded a0 a1 a2 h0) (fun z => z = (v, hE)) (AW (KX7_bounded l D h0 hE v) h0 0 ls []) from hsp _ hr rfl
  unfold fX7_bounded
  refine sp_m (aw_aload_n (pc := 0) dX7_bounded_0 rfl (lv_at hl 0 rfl)) ?_
  refine sp_g fun s1 => ?_
  refine sp_m (aw_get (k := 9) okX7 s1 (by decide) q1511 (Or.inl rfl) rfl (pc := 1) dX7_bounded_1) ?_
  refine sp_m (aw_iconst (v := 3) (pc := 4) dX7_bounded_4 rfl) ?_
  have hj33_1 : ∀ h2 : AH, ∀ ls : Array Slot, lv_has ls 3 [(0, .ref a0), (1, .int a1)] → SP (X7_bounded_j33 a0 a1 h2) (fun z => z = (v, hE)) (AW (KX7_bounded l D h0 hE v) h2 33 ls ([])) := by
    intro h2 ls hl
    unfold X7_bounded_j33
    refine sp_m (aw_aload_n (pc := 33) dX7_bounded_33 rfl (lv_at hl 0 rfl)) ?_
    refine sp_g fun s3 => ?_
    refine sp_m (aw_get (k := 9) okX7 s3 (by decide) q1511 (Or.inl rfl) rfl (pc := 34) dX7_bounded_34) ?_
    refine sp_m (aw_iconst (v := 5) (pc := 37) dX7_bounded_37 rfl) ?_
    refine sp_if (fun c4 => ?_) (fun c4 => ?_)
    · refine sp_m (aw_icmp_ne_t (tgt := 45) (pc := 38) dX7_bounded_38 (by decide) c4) ?_
      refine sp_m (aw_aload_n (pc := 45) dX7_bounded_45 rfl (lv_at hl 0 rfl)) ?_
      refine sp_m (aw_get (k := 11) okX7 s3 (by decide) q1513 (Or.inl rfl) rfl (pc := 46) dX7_bounded_46) ?_
      exact sp_r fun hz => aw_iret hz rfl rfl rfl (pc := 49) dX7_bounded_49
    · refine sp_m (aw_icmp_ne_f (tgt := 45) (pc := 38) dX7_bounded_38 (by decide) (Decidable.not_not.mp c4)) ?_
      refine sp_m (aw_iload_n (pc := 41) dX7_bounded_41 rfl (lv_at hl 1 rfl)) ?_
      refine sp_m (aw_goto (tgt := 49) (pc := 42) dX7_bounded_42 (by decide)) ?_
      exact sp_r fun hz => aw_iret hz rfl rfl rfl (pc := 49) dX7_bounded_49
  refine sp_if (fun c5 => ?_) (fun c5 => ?_)
  · refine sp_m (aw_icmp_eq_t (tgt := 16) (pc := 5) dX7_bounded_5 (by decide) c5) ?_
    refine sp_m (aw_aload_n (pc := 16) dX7_bounded_16 rfl (lv_at hl 0 rfl)) ?_
    refine sp_m (aw_get (k := 11) okX7 s1 (by decide) q1513 (Or.inl rfl) rfl (pc := 17) dX7_bounded_17) ?_
    refine sp_m (aw_iload_n (pc := 20) dX7_bounded_20 rfl (lv_at hl 1 rfl)) ?_
    refine sp_m (aw_iload_n (pc := 21) dX7_bounded_21 rfl (lv_at hl 2 rfl)) ?_
    refine sp_b fun p6 ep6 => ?_
    refine sp_m (G' := AW (KX7_bounded l D h0 hE v) h0 (25) ls (.int p6 :: [])) (fun kk => aw_callS (As := [.int (gI h0 a0 11), .int a1, .int a2]) (metX7_in _ _ ep6) mok_X7_in q1793 q1794 q125 q1795 (Nat.le_of_ble_eq_true rfl) (Nat.le_of_ble_eq_true rfl) rfl hl.1 rfl (Nat.le_of_ble_eq_true rfl) (pc := 22) dX7_bounded_22 kk) ?_
    refine sp_if (fun c7 => ?_) (fun c7 => ?_)
    · refine sp_m (aw_if_ne_t (tgt := 33) (pc := 25) dX7_bounded_25 (by decide) c7) ?_
      exact hj33_1 h0 ls (lv_sub hl [0, 1] rfl)
    · refine sp_m (aw_if_ne_f (tgt := 33) (pc := 25) dX7_bounded_25 (by decide) (Decidable.not_not.mp c7)) ?_
      refine sp_m (aw_aload_n (pc := 28) dX7_bounded_28 rfl (lv_at hl 0 rfl)) ?_
      refine sp_m (aw_iconst (v := 4) (pc := 29) dX7_bounded_29 rfl) ?_
      refine sp_b fun p8 ep8 => ?_
      refine sp_m (G' := AW (KX7_bounded l D h0 hE v) p8 (33) ls ([])) (fun kk => aw_callV (As := [.int 4]) (metX7_flaw _ _ ep8) (rcv_o okX7 s1) rfl mok_X7_flaw q1772 q1774 qs57 q125 q1775 (Nat.le_of_ble_eq_true rfl) (Nat.le_of_ble_eq_true rfl) rfl hl.1 rfl (Nat.le_of_ble_eq_true rfl) (pc := 30) dX7_bounded_30 kk) ?_
      exact hj33_1 p8 ls (lv_sub hl [0, 1] rfl)
  · refine sp_m (aw_icmp_eq_f (tgt := 16) (pc := 5) dX7_bounded_5 (by decide) c5) ?_
    refine sp_m (aw_aload_n (pc := 8) dX7_bounded_8 rfl (lv_at hl 0 rfl)) ?_
    refine sp_m (aw_iconst (v := 1) (pc := 9) dX7_bounded_9 rfl) ?_
    refine sp_b fun p9 ep9 => ?_
    refine sp_m (G' := AW (KX7_bounded l D h0 hE v) p9 (13) ls ([])) (fun kk => aw_callV (As := [.int 1]) (metX7_flaw _ _ ep9) (rcv_o okX7 s1) rfl mok_X7_flaw q1772 q1774 qs57 q125 q1775 (Nat.le_of_ble_eq_true rfl) (Nat.le_of_ble_eq_true rfl) rfl hl.1 rfl (Nat.le_of_ble_eq_true rfl) (pc := 10) dX7_bounded_10 kk) ?_
    refine sp_m (aw_goto (tgt := 33) (pc := 13) dX7_bounded_13 (by decide)) ?_
    exact hj33_1 p9 ls (lv_sub hl [0, 1] rfl)
theorem mok_X7_readWhole : mOK yX7_readWhole 2 := ⟨⟨by decide +kernel, by decide +kernel⟩, by decide +kernel⟩
abbrev KX7_readWhole (l : Launch) (D : DD) (h0 hE : AH) (v : Int32) : KT := (l, yX7_readWhole, cX7_readWhole, 4, (some .int), RX7, 3, D, h0, hE, .inl (some (.int v)), false, [])
theorem metX7_readWhole (l : Launch) (D : DD) {a0 : Nat} {a1 : Int32} {a2 : Int32} {h0 : AH} {hE : AH} {v : Int32} (hr : fX7_readWhole a0 a1 a2 h0 = some (v, hE)) : AMet (KX7_readWhole l D h0 hE v) [.ref a0, .int a1, .int a2] := by
  refine AMet.of (K := (KX7_readWhole l D h0 hE v)) rfl ⟨_, rfl⟩ rfl rfl rfl (Nat.le_of_ble_eq_true rfl) (fun ls hl => ?_)
  have hl : lv_has ls 4 [(0, .ref a0), (1, .int a1), (2, .int a2)] := hl
  suffices hsp : SP (fX7_readWhole a0 a1 a2 h0) (fun z => z = (v, hE)) (AW (KX7_readWhole l D h0 hE v) h0 0 ls []) from hsp _ hr rfl
  unfold fX7_readWhole
  refine sp_m (aw_aload_n (pc := 0) dX7_readWhole_0 rfl (lv_at hl 0 rfl)) ?_
  refine sp_m (aw_iload_n (pc := 1) dX7_readWhole_1 rfl (lv_at hl 1 rfl)) ?_
  refine sp_m (aw_iload_n (pc := 2) dX7_readWhole_2 rfl (lv_at hl 2 rfl)) ?_
  refine sp_g fun s2 => ?_
  refine sp_b fun p1 ep1 => ?_
  refine sp_m (G' := AW (KX7_readWhole l D h0 hE v) p1.2 (6) ls (.int p1.1 :: [])) (fun kk => aw_callV (As := [.int a1, .int a2]) (metX7_bounded _ _ ep1) (rcv_o okX7 s2) rfl mok_X7_bounded q1789 q1791 qs61 q125 q1792 (Nat.le_of_ble_eq_true rfl) (Nat.le_of_ble_eq_true rfl) rfl hl.1 rfl (Nat.le_of_ble_eq_true rfl) (pc := 3) dX7_readWhole_3 kk) ?_
  refine sp_m (aw_istore_n (lv' := [(3, .int p1.1), (0, .ref a0), (1, .int a1), (2, .int a2)]) (pc := 6) dX7_readWhole_6 rfl hl (by decide) rfl) (sp_all fun ls hl => ?_)
  refine sp_m (aw_aload_n (pc := 7) dX7_readWhole_7 rfl (lv_at hl 1 rfl)) ?_
  refine sp_g fun s4 => ?_
  refine sp_b fun p3 ep3 => ?_
  refine sp_m (G' := AW (KX7_readWhole l D h0 hE v) p3 (11) ls ([])) (fun kk => aw_callV (As := []) (metX7_goesOn _ _ ep3) (rcv_o okX7 s4) rfl mok_X7_goesOn q1709 q1711 qs51 q125 q1712 (Nat.le_of_ble_eq_true rfl) (Nat.le_of_ble_eq_true rfl) rfl hl.1 rfl (Nat.le_of_ble_eq_true rfl) (pc := 8) dX7_readWhole_8 kk) ?_
  refine sp_m (aw_iload_n (pc := 11) dX7_readWhole_11 rfl (lv_at hl 0 rfl)) ?_
  exact sp_r fun hz => aw_iret hz rfl rfl rfl (pc := 12) dX7_readWhole_12
theorem mok_X7_readPart : mOK yX7_readPart 3 := ⟨⟨by decide +kernel, by decide +kernel⟩, by decide +kernel⟩
abbrev KX7_readPart (l : Launch) (D : DD) (h0 hE : AH) (v : Int32) : KT := (l, yX7_readPart, cX7_readPart, 4, (some .int), RX7, 8, D, h0, hE, .inl (some (.int v)), false, [])
theorem metX7_readPart (l : Launch) (D : DD) {a0 : Nat} {a1 : Nat} {a2 : Int32} {a3 : Int32} {h0 : AH} {hE : AH} {v : Int32} (hr : fX7_readPart a0 a1 a2 a3 h0 = some (v, hE)) : AMet (KX7_readPart l D h0 hE v) [.ref a0, .ref a1, .int a2, .int a3] := by
  refine AMet.of (K := (KX7_readPart l D h0 hE v)) rfl ⟨_, rfl⟩ rfl rfl rfl (Nat.le_of_ble_eq_true rfl) (fun ls hl => ?_)
  have hl : lv_has ls 4 [(0, .ref a0), (1, .ref a1), (2, .int a2), (3, .int a3)] := hl
  suffices hsp : SP (fX7_readPart a0 a1 a2 a3 h0) (fun z => z = (v, hE)) (AW (KX7_readPart l D h0 hE v) h0 0 ls []) from hsp _ hr rfl
  unfold fX7_readPart
  refine sp_m (aw_aload_n (pc := 0) dX7_readPart_0 rfl (lv_at hl 0 rfl)) ?_
  refine sp_m (aw_aload_n (pc := 1) dX7_readPart_1 rfl (lv_at hl 1 rfl)) ?_
  refine sp_g fun s2 => ?_
  refine sp_b fun p1 ep1 => ?_
  refine sp_m (G' := AW (KX7_readPart l D h0 hE v) p1 (5) ls ([])) (fun kk => aw_callV (As := [.ref a1]) (metX7_needs _ _ ep1) (rcv_o okX7 s2) rfl mok_X7_needs q1781 q1783 qs59 q125 q1784 (Nat.le_of_ble_eq_true rfl) (Nat.le_of_ble_eq_true rfl) rfl hl.1 rfl (Nat.le_of_ble_eq_true rfl) (pc := 2) dX7_readPart_2 kk) ?_
  refine sp_m (aw_aload_n (pc := 5) dX7_readPart_5 rfl (lv_at hl 0 rfl)) ?_
  refine sp_m (aw_iload_n (pc := 6) dX7_readPart_6 rfl (lv_at hl 2 rfl)) ?_
  refine sp_m (aw_iload_n (pc := 7) dX7_readPart_7 rfl (lv_at hl 3 rfl)) ?_
  refine sp_g fun s4 => ?_
  refine sp_b fun p3 ep3 => ?_
  refine sp_m (G' := AW (KX7_readPart l D h0 hE v) p3.2 (11) ls (.int p3.1 :: [])) (fun kk => aw_callV (As := [.int a2, .int a3]) (metX7_readWhole _ _ ep3) (rcv_o okX7 s4) rfl mok_X7_readWhole q1785 q1787 qs60 q125 q1788 (Nat.le_of_ble_eq_true rfl) (Nat.le_of_ble_eq_true rfl) rfl hl.1 rfl (Nat.le_of_ble_eq_true rfl) (pc := 8) dX7_readPart_8 kk) ?_
  exact sp_r fun hz => aw_iret hz rfl rfl rfl (pc := 11) dX7_readPart_11
theorem mok_X7_readBeast : mOK yX7_readBeast 0 := ⟨⟨by decide +kernel, by decide +kernel⟩, by decide +kernel⟩
abbrev KX7_readBeast (l : Launch) (D : DD) (h0 hE : AH) : KT := (l, yX7_readBeast, cX7_readBeast, 8, none, RX7, 9, D, h0, hE, .inl (none), false, [])
theorem metX7_readBeast (l : Launch) (D : DD) {a0 : Nat} {h0 : AH} {hE : AH} (hr : fX7_readBeast a0 h0 = some hE) : AMet (KX7_readBeast l D h0 hE) [.ref a0] := by
  refine AMet.of (K := (KX7_readBeast l D h0 hE)) rfl ⟨_, rfl⟩ rfl rfl rfl (Nat.le_of_ble_eq_true rfl) (fun ls hl => ?_)
  have hl : lv_has ls 8 [(0, .ref a0)] := hl
  suffices hsp : SP (fX7_readBeast a0 h0) (fun z => z = hE) (AW (KX7_readBeast l D h0 hE) h0 0 ls []) from hsp _ hr rfl
  unfold fX7_readBeast
  refine sp_m (aw_aload_n (pc := 0) dX7_readBeast_0 rfl (lv_at hl 0 rfl)) ?_
  refine sp_m (aw_aload_n (pc := 1) dX7_readBeast_1 rfl (lv_at hl 0 rfl)) ?_
  refine sp_g fun s1 => ?_
  refine sp_b fun x2 ex2 => ?_
  refine sp_m (aw_get (k := 4) okX7 s1 (by decide) q1506 (Or.inl rfl) (congrArg va_rf ex2) (pc := 2) dX7_readBeast_2) ?_
  refine sp_g fun s3 => ?_
  refine sp_m (aw_getN (k := 3) okX20 s3 (by decide) nq1645 rfl rfl (pc := 5) dX7_readBeast_5) ?_
  refine sp_m (aw_iconst (v := 5) (pc := 8) dX7_readBeast_8 rfl) ?_
  refine sp_b fun p4 ep4 => ?_
  refine sp_m (G' := AW (KX7_readBeast l D h0 hE) p4 (12) ls ([])) (fun kk => aw_callV (As := [.int (gI h0 x2 3), .int 5]) (metX7_lineBegins _ _ ep4) (rcv_o okX7 s1) rfl mok_X7_lineBegins q1802 q1804 qs63 q125 q1805 (Nat.le_of_ble_eq_true rfl) (Nat.le_of_ble_eq_true rfl) rfl hl.1 rfl (Nat.le_of_ble_eq_true rfl) (pc := 9) dX7_readBeast_9 kk) ?_
  refine sp_m (aw_aload_n (pc := 12) dX7_readBeast_12 rfl (lv_at hl 0 rfl)) ?_
  refine sp_g fun s6 => ?_
  refine sp_b fun p5 ep5 => ?_
  refine sp_m (G' := AW (KX7_readBeast l D h0 hE) p5.2 (16) ls (.long p5.1 :: [])) (fun kk => aw_callV (As := []) (metX7_readFresh _ _ ep5) (rcv_o okX7 s6) rfl mok_X7_readFresh q1818 q1820 qs65 q125 q1821 (Nat.le_of_ble_eq_true rfl) (Nat.le_of_ble_eq_true rfl) rfl hl.1 rfl (Nat.le_of_ble_eq_true rfl) (pc := 13) dX7_readBeast_13 kk) ?_
  refine sp_m (aw_lstore_n (lv' := [(1, .long p5.1), (0, .ref a0)]) (pc := 16) dX7_readBeast_16 rfl hl (by decide) rfl) (sp_all fun ls hl => ?_)
  refine sp_m (aw_aload_n (pc := 17) dX7_readBeast_17 rfl (lv_at hl 1 rfl)) ?_
  refine sp_b fun x7 ex7 => ?_
  refine sp_m (aw_ldcS sk_X7_254 ex7 (pc := 18) dX7_readBeast_18) ?_
  refine sp_g fun s9 => ?_
  refine sp_b fun p8 ep8 => ?_
  refine sp_m (G' := AW (KX7_readBeast l D h0 hE) p5.2 (23) ls (.int p8 :: [])) (fun kk => aw_callV (As := [.ref x7]) (metX7_isWord _ _ ep8) (rcv_o okX7 s9) rfl mok_X7_isWord q1733 q1735 qs55 q125 q1736 (Nat.le_of_ble_eq_true rfl) (Nat.le_of_ble_eq_true rfl) rfl hl.1 rfl (Nat.le_of_ble_eq_true rfl) (pc := 20) dX7_readBeast_20 kk) ?_
  have hj73_1 : ∀ j10 : Int32, ∀ ls : Array Slot, lv_has ls 8 [(0, .ref a0), (1, .long p5.1)] → SP (X7_readBeast_j73 a0 p5 j10) (fun z => z = hE) (AW (KX7_readBeast l D h0 hE) p5.2 73 ls (.int j10 :: [])) := by
    intro j10 ls hl
    unfold X7_readBeast_j73
    refine sp_m (aw_istore_n (lv' := [(3, .int j10), (0, .ref a0), (1, .long p5.1)]) (pc := 73) dX7_readBeast_73 rfl hl (by decide) rfl) (sp_all fun ls hl => ?_)
    refine sp_m (aw_iload_n (pc := 74) dX7_readBeast_74 rfl (lv_at hl 0 rfl)) ?_
    refine sp_m (aw_iconst (v := (-1)) (pc := 75) dX7_readBeast_75 rfl) ?_
    have hj84_2 : ∀ h11 : AH, ∀ ls : Array Slot, lv_has ls 8 [(0, .ref a0), (1, .long p5.1), (3, .int j10)] → SP (X7_readBeast_j84 a0 p5 j10 h11) (fun z => z = hE) (AW (KX7_readBeast l D h0 hE) h11 84 ls ([])) := by
      intro h11 ls hl
      unfold X7_readBeast_j84
      refine sp_m (aw_aload_n (pc := 84) dX7_readBeast_84 rfl (lv_at hl 0 rfl)) ?_
      refine sp_g fun s13 => ?_
      refine sp_b fun p12 ep12 => ?_
      refine sp_m (G' := AW (KX7_readBeast l D h0 hE) p12 (88) ls ([])) (fun kk => aw_callV (As := []) (metX7_goesOn _ _ ep12) (rcv_o okX7 s13) rfl mok_X7_goesOn q1709 q1711 qs51 q125 q1712 (Nat.le_of_ble_eq_true rfl) (Nat.le_of_ble_eq_true rfl) rfl hl.1 rfl (Nat.le_of_ble_eq_true rfl) (pc := 85) dX7_readBeast_85 kk) ?_
      refine sp_m (aw_aload_n (pc := 88) dX7_readBeast_88 rfl (lv_at hl 0 rfl)) ?_
      refine sp_b fun x14 ex14 => ?_
      refine sp_m (aw_ldcSw sk_X7_262 ex14 (pc := 89) dX7_readBeast_89) ?_
      refine sp_m (aw_iconst (v := 0) (pc := 92) dX7_readBeast_92 rfl) ?_
      refine sp_m (aw_aload_n (pc := 93) dX7_readBeast_93 rfl (lv_at hl 0 rfl)) ?_
      refine sp_g fun s15 => ?_
      refine sp_b fun x16 ex16 => ?_
      refine sp_m (aw_get (k := 4) okX7 s15 (by decide) q1506 (Or.inl rfl) (congrArg va_rf ex16) (pc := 94) dX7_readBeast_94) ?_
      refine sp_g fun s17 => ?_
      refine sp_m (aw_getN (k := 0) okX20 s17 (by decide) nq1642 rfl rfl (pc := 97) dX7_readBeast_97) ?_
      refine sp_m (aw_iconst (v := 1) (pc := 100) dX7_readBeast_100 rfl) ?_
      refine sp_m (aw_isub (pc := 101) dX7_readBeast_101) ?_
      refine sp_b fun p18 ep18 => ?_
      refine sp_m (G' := AW (KX7_readBeast l D h0 hE) p18.2 (105) ls (.int p18.1 :: [])) (fun kk => aw_callV (As := [.ref x14, .int 0, .int ((gI p12 x16 0) - 1)]) (metX7_readPart _ _ ep18) (rcv_o okX7 s15) rfl mok_X7_readPart q1777 q1779 qs58 q125 q1780 (Nat.le_of_ble_eq_true rfl) (Nat.le_of_ble_eq_true rfl) rfl hl.1 rfl (Nat.le_of_ble_eq_true rfl) (pc := 102) dX7_readBeast_102 kk) ?_
      refine sp_m (aw_istore (lv' := [(4, .int p18.1), (0, .ref a0), (1, .long p5.1), (3, .int j10)]) (pc := 105) dX7_readBeast_105 hl (by decide) rfl) (sp_all fun ls hl => ?_)
      refine sp_m (aw_aload_n (pc := 107) dX7_readBeast_107 rfl (lv_at hl 1 rfl)) ?_
      refine sp_b fun x19 ex19 => ?_
      refine sp_m (aw_ldcSw sk_X7_263 ex19 (pc := 108) dX7_readBeast_108) ?_
      refine sp_m (aw_iconst (v := 0) (pc := 111) dX7_readBeast_111 rfl) ?_
      refine sp_m (aw_bipush (v := 100) (pc := 112) dX7_readBeast_112 rfl) ?_
      refine sp_g fun s21 => ?_
      refine sp_b fun p20 ep20 => ?_
      refine sp_m (G' := AW (KX7_readBeast l D h0 hE) p20.2 (117) ls (.int p20.1 :: [])) (fun kk => aw_callV (As := [.ref x19, .int 0, .int 100]) (metX7_readPart _ _ ep20) (rcv_o okX7 s21) rfl mok_X7_readPart q1777 q1779 qs58 q125 q1780 (Nat.le_of_ble_eq_true rfl) (Nat.le_of_ble_eq_true rfl) rfl hl.1 rfl (Nat.le_of_ble_eq_true rfl) (pc := 114) dX7_readBeast_114 kk) ?_
      refine sp_m (aw_istore (lv' := [(5, .int p20.1), (4, .int p18.1), (0, .ref a0), (1, .long p5.1), (3, .int j10)]) (pc := 117) dX7_readBeast_117 hl (by decide) rfl) (sp_all fun ls hl => ?_)
      refine sp_m (aw_aload_n (pc := 119) dX7_readBeast_119 rfl (lv_at hl 2 rfl)) ?_
      refine sp_b fun x22 ex22 => ?_
      refine sp_m (aw_ldcSw sk_X7_265 ex22 (pc := 120) dX7_readBeast_120) ?_
      refine sp_m (aw_iconst (v := 1) (pc := 123) dX7_readBeast_123 rfl) ?_
      refine sp_m (aw_bipush (v := 99) (pc := 124) dX7_readBeast_124 rfl) ?_
      refine sp_g fun s24 => ?_
      refine sp_b fun p23 ep23 => ?_
      refine sp_m (G' := AW (KX7_readBeast l D h0 hE) p23.2 (129) ls (.int p23.1 :: [])) (fun kk => aw_callV (As := [.ref x22, .int 1, .int 99]) (metX7_readPart _ _ ep23) (rcv_o okX7 s24) rfl mok_X7_readPart q1777 q1779 qs58 q125 q1780 (Nat.le_of_ble_eq_true rfl) (Nat.le_of_ble_eq_true rfl) rfl hl.1 rfl (Nat.le_of_ble_eq_true rfl) (pc := 126) dX7_readBeast_126 kk) ?_
      refine sp_m (aw_istore (lv' := [(6, .int p23.1), (5, .int p20.1), (4, .int p18.1), (0, .ref a0), (1, .long p5.1), (3, .int j10)]) (pc := 129) dX7_readBeast_129 hl (by decide) rfl) (sp_all fun ls hl => ?_)
      refine sp_m (aw_aload_n (pc := 131) dX7_readBeast_131 rfl (lv_at hl 3 rfl)) ?_
      refine sp_g fun s25 => ?_
      refine sp_m (aw_get (k := 9) okX7 s25 (by decide) q1511 (Or.inl rfl) rfl (pc := 132) dX7_readBeast_132) ?_
      refine sp_m (aw_iconst (v := 5) (pc := 135) dX7_readBeast_135 rfl) ?_
      refine sp_if (fun c26 => ?_) (fun c26 => ?_)
      · refine sp_m (aw_icmp_ne_t (tgt := 140) (pc := 136) dX7_readBeast_136 (by decide) c26) ?_
        refine sp_m (aw_aload_n (pc := 140) dX7_readBeast_140 rfl (lv_at hl 3 rfl)) ?_
        refine sp_b fun x27 ex27 => ?_
        refine sp_m (aw_get (k := 4) okX7 s25 (by decide) q1506 (Or.inl rfl) (congrArg va_rf ex27) (pc := 141) dX7_readBeast_141) ?_
        refine sp_g fun s28 => ?_
        refine sp_m (aw_getN (k := 3) okX20 s28 (by decide) nq1645 rfl rfl (pc := 144) dX7_readBeast_144) ?_
        refine sp_m (aw_istore (lv' := [(7, .int (gI p23.2 x27 3)), (6, .int p23.1), (5, .int p20.1), (4, .int p18.1), (0, .ref a0), (1, .long p5.1), (3, .int j10)]) (pc := 147) dX7_readBeast_147 hl (by decide) rfl) (sp_all fun ls hl => ?_)
        refine sp_m (aw_aload_n (pc := 149) dX7_readBeast_149 rfl (lv_at hl 4 rfl)) ?_
        refine sp_m (aw_lload_n (pc := 150) dX7_readBeast_150 rfl (lv_at hl 5 rfl)) ?_
        refine sp_m (aw_iconst (v := 0) (pc := 151) dX7_readBeast_151 rfl) ?_
        refine sp_m (aw_iload (pc := 152) dX7_readBeast_152 (lv_at hl 0 rfl)) ?_
        refine sp_b fun p29 ep29 => ?_
        refine sp_m (G' := AW (KX7_readBeast l D h0 hE) p29 (157) ls ([])) (fun kk => aw_callV (As := [.long p5.1, .int 0, .int (gI p23.2 x27 3)]) (metX7_names _ _ ep29) (rcv_o okX7 s25) rfl mok_X7_names q1840 q1842 qs67 q125 q1843 (Nat.le_of_ble_eq_true rfl) (Nat.le_of_ble_eq_true rfl) rfl hl.1 rfl (Nat.le_of_ble_eq_true rfl) (pc := 154) dX7_readBeast_154 kk) ?_
        refine sp_m (aw_aload_n (pc := 157) dX7_readBeast_157 rfl (lv_at hl 4 rfl)) ?_
        refine sp_g fun s30 => ?_
        refine sp_b fun x31 ex31 => ?_
        refine sp_m (aw_get (k := 4) okX7 s30 (by decide) q1506 (Or.inl rfl) (congrArg va_rf ex31) (pc := 158) dX7_readBeast_158) ?_
        refine sp_g fun s32 => ?_
        refine sp_b fun x33 ex33 => ?_
        refine sp_m (aw_getN (k := 10) okX20 s32 (by decide) nq1656 rfl (congrArg va_rf ex33) (pc := 161) dX7_readBeast_161) ?_
        refine sp_m (aw_iload (pc := 164) dX7_readBeast_164 (lv_at hl 0 rfl)) ?_
        refine sp_m (aw_iload_n (pc := 166) dX7_readBeast_166 rfl (lv_at hl 6 rfl)) ?_
        refine sp_g fun s34 => ?_
        refine sp_g fun i35 => ?_
        refine sp_t fun h36 eh360 => ?_
        have eh36 : gS h36 = gS p29 := by rw [eh360]; rfl
        refine sp_m (fun kk => aw_iast s34 i35 (pc := 167) dX7_readBeast_167 (AWe eh360 kk)) ?_
        refine sp_m (aw_aload_n (pc := 168) dX7_readBeast_168 rfl (lv_at hl 4 rfl)) ?_
        refine sp_b fun x37 ex37 => ?_
        refine sp_m (aw_get (k := 4) okX7 (uS eh36 s30) (by decide) q1506 (Or.inl rfl) (congrArg va_rf ex37) (pc := 169) dX7_readBeast_169) ?_
        refine sp_g fun s38 => ?_
        refine sp_b fun x39 ex39 => ?_
        refine sp_m (aw_getN (k := 11) okX20 s38 (by decide) nq1658 rfl (congrArg va_rf ex39) (pc := 172) dX7_readBeast_172) ?_
        refine sp_m (aw_iload (pc := 175) dX7_readBeast_175 (lv_at hl 0 rfl)) ?_
        refine sp_m (aw_iload (pc := 177) dX7_readBeast_177 (lv_at hl 3 rfl)) ?_
        refine sp_g fun s40 => ?_
        refine sp_g fun i41 => ?_
        refine sp_t fun h42 eh420 => ?_
        have eh42 : gS h42 = gS h36 := by rw [eh420]; rfl
        refine sp_m (fun kk => aw_iast s40 i41 (pc := 179) dX7_readBeast_179 (AWe eh420 kk)) ?_
        refine sp_m (aw_aload_n (pc := 180) dX7_readBeast_180 rfl (lv_at hl 4 rfl)) ?_
        refine sp_b fun x43 ex43 => ?_
        refine sp_m (aw_get (k := 4) okX7 (uS eh42 (uS eh36 s30)) (by decide) q1506 (Or.inl rfl) (congrArg va_rf ex43) (pc := 181) dX7_readBeast_181) ?_
        refine sp_g fun s44 => ?_
        refine sp_b fun x45 ex45 => ?_
        refine sp_m (aw_getN (k := 12) okX20 s44 (by decide) nq1660 rfl (congrArg va_rf ex45) (pc := 184) dX7_readBeast_184) ?_
        refine sp_m (aw_iload (pc := 187) dX7_readBeast_187 (lv_at hl 0 rfl)) ?_
        refine sp_m (aw_iload (pc := 189) dX7_readBeast_189 (lv_at hl 2 rfl)) ?_
        refine sp_g fun s46 => ?_
        refine sp_g fun i47 => ?_
        refine sp_t fun h48 eh480 => ?_
        have eh48 : gS h48 = gS h42 := by rw [eh480]; rfl
        refine sp_m (fun kk => aw_iast s46 i47 (pc := 191) dX7_readBeast_191 (AWe eh480 kk)) ?_
        refine sp_m (aw_aload_n (pc := 192) dX7_readBeast_192 rfl (lv_at hl 4 rfl)) ?_
        refine sp_b fun x49 ex49 => ?_
        refine sp_m (aw_get (k := 4) okX7 (uS eh48 (uS eh42 (uS eh36 s30))) (by decide) q1506 (Or.inl rfl) (congrArg va_rf ex49) (pc := 193) dX7_readBeast_193) ?_
        refine sp_g fun s50 => ?_
        refine sp_b fun x51 ex51 => ?_
        refine sp_m (aw_getN (k := 13) okX20 s50 (by decide) nq1662 rfl (congrArg va_rf ex51) (pc := 196) dX7_readBeast_196) ?_
        refine sp_m (aw_iload (pc := 199) dX7_readBeast_199 (lv_at hl 0 rfl)) ?_
        refine sp_m (aw_iload (pc := 201) dX7_readBeast_201 (lv_at hl 1 rfl)) ?_
        refine sp_g fun s52 => ?_
        refine sp_g fun i53 => ?_
        refine sp_t fun h54 eh540 => ?_
        have eh54 : gS h54 = gS h48 := by rw [eh540]; rfl
        refine sp_m (fun kk => aw_iast s52 i53 (pc := 203) dX7_readBeast_203 (AWe eh540 kk)) ?_
        refine sp_m (aw_aload_n (pc := 204) dX7_readBeast_204 rfl (lv_at hl 4 rfl)) ?_
        refine sp_b fun x55 ex55 => ?_
        refine sp_m (aw_get (k := 4) okX7 (uS eh54 (uS eh48 (uS eh42 (uS eh36 s30)))) (by decide) q1506 (Or.inl rfl) (congrArg va_rf ex55) (pc := 205) dX7_readBeast_205) ?_
        refine sp_m (aw_dup (pc := 208) dX7_readBeast_208 rfl) ?_
        refine sp_g fun s56 => ?_
        refine sp_m (aw_getN (k := 3) okX20 s56 (by decide) nq1645 rfl rfl (pc := 209) dX7_readBeast_209) ?_
        refine sp_m (aw_iconst (v := 1) (pc := 212) dX7_readBeast_212 rfl) ?_
        refine sp_m (aw_iadd (pc := 213) dX7_readBeast_213) ?_
        refine sp_t fun h57 eh570 => ?_
        have eh57 : gS h57 = gS h54 := by rw [eh570]; rfl
        refine sp_m (aw_putN (k := 3) okX20 opX20 s56 (by decide) nq1645 rfl rfl (hasV_I' eh570) rfl rfl (pc := 214) dX7_readBeast_214) ?_
        exact sp_r fun hz => aw_vret hz rfl rfl rfl (pc := 217) dX7_readBeast_217
      · refine sp_m (aw_icmp_ne_f (tgt := 140) (pc := 136) dX7_readBeast_136 (by decide) (Decidable.not_not.mp c26)) ?_
        exact sp_r fun hz => aw_vret hz rfl rfl rfl (pc := 139) dX7_readBeast_139
    refine sp_if (fun c58 => ?_) (fun c58 => ?_)
    · refine sp_m (aw_icmp_ne_t (tgt := 84) (pc := 76) dX7_readBeast_76 (by decide) c58) ?_
      exact hj84_2 p5.2 ls (lv_sub hl [1, 2, 0] rfl)
    · refine sp_m (aw_icmp_ne_f (tgt := 84) (pc := 76) dX7_readBeast_76 (by decide) (Decidable.not_not.mp c58)) ?_
      refine sp_m (aw_aload_n (pc := 79) dX7_readBeast_79 rfl (lv_at hl 1 rfl)) ?_
      refine sp_m (aw_iconst (v := 1) (pc := 80) dX7_readBeast_80 rfl) ?_
      refine sp_b fun p59 ep59 => ?_
      refine sp_m (G' := AW (KX7_readBeast l D h0 hE) p59 (84) ls ([])) (fun kk => aw_callV (As := [.int 1]) (metX7_flaw _ _ ep59) (rcv_o okX7 s9) rfl mok_X7_flaw q1772 q1774 qs57 q125 q1775 (Nat.le_of_ble_eq_true rfl) (Nat.le_of_ble_eq_true rfl) rfl hl.1 rfl (Nat.le_of_ble_eq_true rfl) (pc := 81) dX7_readBeast_81 kk) ?_
      exact hj84_2 p59 ls (lv_sub hl [1, 2, 0] rfl)
  refine sp_if (fun c60 => ?_) (fun c60 => ?_)
  · refine sp_m (aw_if_eq_t (tgt := 30) (pc := 23) dX7_readBeast_23 (by decide) c60) ?_
    refine sp_m (aw_aload_n (pc := 30) dX7_readBeast_30 rfl (lv_at hl 1 rfl)) ?_
    refine sp_b fun x61 ex61 => ?_
    refine sp_m (aw_ldcSw sk_X7_256 ex61 (pc := 31) dX7_readBeast_31) ?_
    refine sp_b fun p62 ep62 => ?_
    refine sp_m (G' := AW (KX7_readBeast l D h0 hE) p5.2 (37) ls (.int p62 :: [])) (fun kk => aw_callV (As := [.ref x61]) (metX7_isWord _ _ ep62) (rcv_o okX7 s9) rfl mok_X7_isWord q1733 q1735 qs55 q125 q1736 (Nat.le_of_ble_eq_true rfl) (Nat.le_of_ble_eq_true rfl) rfl hl.1 rfl (Nat.le_of_ble_eq_true rfl) (pc := 34) dX7_readBeast_34 kk) ?_
    refine sp_if (fun c63 => ?_) (fun c63 => ?_)
    · refine sp_m (aw_if_eq_t (tgt := 44) (pc := 37) dX7_readBeast_37 (by decide) c63) ?_
      refine sp_m (aw_aload_n (pc := 44) dX7_readBeast_44 rfl (lv_at hl 1 rfl)) ?_
      refine sp_b fun x64 ex64 => ?_
      refine sp_m (aw_ldcSw sk_X7_258 ex64 (pc := 45) dX7_readBeast_45) ?_
      refine sp_b fun p65 ep65 => ?_
      refine sp_m (G' := AW (KX7_readBeast l D h0 hE) p5.2 (51) ls (.int p65 :: [])) (fun kk => aw_callV (As := [.ref x64]) (metX7_isWord _ _ ep65) (rcv_o okX7 s9) rfl mok_X7_isWord q1733 q1735 qs55 q125 q1736 (Nat.le_of_ble_eq_true rfl) (Nat.le_of_ble_eq_true rfl) rfl hl.1 rfl (Nat.le_of_ble_eq_true rfl) (pc := 48) dX7_readBeast_48 kk) ?_
      refine sp_if (fun c66 => ?_) (fun c66 => ?_)
      · refine sp_m (aw_if_eq_t (tgt := 58) (pc := 51) dX7_readBeast_51 (by decide) c66) ?_
        refine sp_m (aw_aload_n (pc := 58) dX7_readBeast_58 rfl (lv_at hl 1 rfl)) ?_
        refine sp_b fun x67 ex67 => ?_
        refine sp_m (aw_ldcSw sk_X7_260 ex67 (pc := 59) dX7_readBeast_59) ?_
        refine sp_b fun p68 ep68 => ?_
        refine sp_m (G' := AW (KX7_readBeast l D h0 hE) p5.2 (65) ls (.int p68 :: [])) (fun kk => aw_callV (As := [.ref x67]) (metX7_isWord _ _ ep68) (rcv_o okX7 s9) rfl mok_X7_isWord q1733 q1735 qs55 q125 q1736 (Nat.le_of_ble_eq_true rfl) (Nat.le_of_ble_eq_true rfl) rfl hl.1 rfl (Nat.le_of_ble_eq_true rfl) (pc := 62) dX7_readBeast_62 kk) ?_
        refine sp_if (fun c69 => ?_) (fun c69 => ?_)
        · refine sp_m (aw_if_eq_t (tgt := 72) (pc := 65) dX7_readBeast_65 (by decide) c69) ?_
          refine sp_m (aw_iconst (v := (-1)) (pc := 72) dX7_readBeast_72 rfl) ?_
          exact hj73_1 (-1) ls (lv_sub hl [1, 0] rfl)
        · refine sp_m (aw_if_eq_f (tgt := 72) (pc := 65) dX7_readBeast_65 (by decide) c69) ?_
          refine sp_m (aw_iconst (v := 3) (pc := 68) dX7_readBeast_68 rfl) ?_
          refine sp_m (aw_goto (tgt := 73) (pc := 69) dX7_readBeast_69 (by decide)) ?_
          exact hj73_1 3 ls (lv_sub hl [1, 0] rfl)
      · refine sp_m (aw_if_eq_f (tgt := 58) (pc := 51) dX7_readBeast_51 (by decide) c66) ?_
        refine sp_m (aw_iconst (v := 2) (pc := 54) dX7_readBeast_54 rfl) ?_
        refine sp_m (aw_goto (tgt := 73) (pc := 55) dX7_readBeast_55 (by decide)) ?_
        exact hj73_1 2 ls (lv_sub hl [1, 0] rfl)
    · refine sp_m (aw_if_eq_f (tgt := 44) (pc := 37) dX7_readBeast_37 (by decide) c63) ?_
      refine sp_m (aw_iconst (v := 1) (pc := 40) dX7_readBeast_40 rfl) ?_
      refine sp_m (aw_goto (tgt := 73) (pc := 41) dX7_readBeast_41 (by decide)) ?_
      exact hj73_1 1 ls (lv_sub hl [1, 0] rfl)
  · refine sp_m (aw_if_eq_f (tgt := 30) (pc := 23) dX7_readBeast_23 (by decide) c60) ?_
    refine sp_m (aw_iconst (v := 0) (pc := 26) dX7_readBeast_26 rfl) ?_
    refine sp_m (aw_goto (tgt := 73) (pc := 27) dX7_readBeast_27 (by decide)) ?_
    exact hj73_1 0 ls (lv_sub hl [1, 0] rfl)
theorem mok_X7_readCity : mOK yX7_readCity 0 := ⟨⟨by decide +kernel, by decide +kernel⟩, by decide +kernel⟩
abbrev KX7_readCity (l : Launch) (D : DD) (h0 hE : AH) : KT := (l, yX7_readCity, cX7_readCity, 4, none, RX7, 9, D, h0, hE, .inl (none), false, [])
theorem metX7_readCity (l : Launch) (D : DD) {a0 : Nat} {h0 : AH} {hE : AH} (hr : fX7_readCity a0 h0 = some hE) : AMet (KX7_readCity l D h0 hE) [.ref a0] := by
  refine AMet.of (K := (KX7_readCity l D h0 hE)) rfl ⟨_, rfl⟩ rfl rfl rfl (Nat.le_of_ble_eq_true rfl) (fun ls hl => ?_)
  have hl : lv_has ls 4 [(0, .ref a0)] := hl
  suffices hsp : SP (fX7_readCity a0 h0) (fun z => z = hE) (AW (KX7_readCity l D h0 hE) h0 0 ls []) from hsp _ hr rfl
  unfold fX7_readCity
  refine sp_m (aw_aload_n (pc := 0) dX7_readCity_0 rfl (lv_at hl 0 rfl)) ?_
  refine sp_m (aw_aload_n (pc := 1) dX7_readCity_1 rfl (lv_at hl 0 rfl)) ?_
  refine sp_g fun s1 => ?_
  refine sp_b fun x2 ex2 => ?_
  refine sp_m (aw_get (k := 4) okX7 s1 (by decide) q1506 (Or.inl rfl) (congrArg va_rf ex2) (pc := 2) dX7_readCity_2) ?_
  refine sp_g fun s3 => ?_
  refine sp_m (aw_getN (k := 4) okX20 s3 (by decide) nq1646 rfl rfl (pc := 5) dX7_readCity_5) ?_
  refine sp_m (aw_bipush (v := 6) (pc := 8) dX7_readCity_8 rfl) ?_
  refine sp_b fun p4 ep4 => ?_
  refine sp_m (G' := AW (KX7_readCity l D h0 hE) p4 (13) ls ([])) (fun kk => aw_callV (As := [.int (gI h0 x2 4), .int 6]) (metX7_lineBegins _ _ ep4) (rcv_o okX7 s1) rfl mok_X7_lineBegins q1802 q1804 qs63 q125 q1805 (Nat.le_of_ble_eq_true rfl) (Nat.le_of_ble_eq_true rfl) rfl hl.1 rfl (Nat.le_of_ble_eq_true rfl) (pc := 10) dX7_readCity_10 kk) ?_
  refine sp_m (aw_aload_n (pc := 13) dX7_readCity_13 rfl (lv_at hl 0 rfl)) ?_
  refine sp_g fun s6 => ?_
  refine sp_b fun p5 ep5 => ?_
  refine sp_m (G' := AW (KX7_readCity l D h0 hE) p5.2 (17) ls (.long p5.1 :: [])) (fun kk => aw_callV (As := []) (metX7_readFresh _ _ ep5) (rcv_o okX7 s6) rfl mok_X7_readFresh q1818 q1820 qs65 q125 q1821 (Nat.le_of_ble_eq_true rfl) (Nat.le_of_ble_eq_true rfl) rfl hl.1 rfl (Nat.le_of_ble_eq_true rfl) (pc := 14) dX7_readCity_14 kk) ?_
  refine sp_m (aw_lstore_n (lv' := [(1, .long p5.1), (0, .ref a0)]) (pc := 17) dX7_readCity_17 rfl hl (by decide) rfl) (sp_all fun ls hl => ?_)
  refine sp_m (aw_aload_n (pc := 18) dX7_readCity_18 rfl (lv_at hl 1 rfl)) ?_
  refine sp_g fun s7 => ?_
  refine sp_m (aw_get (k := 9) okX7 s7 (by decide) q1511 (Or.inl rfl) rfl (pc := 19) dX7_readCity_19) ?_
  refine sp_m (aw_iconst (v := 5) (pc := 22) dX7_readCity_22 rfl) ?_
  refine sp_if (fun c8 => ?_) (fun c8 => ?_)
  · refine sp_m (aw_icmp_ne_t (tgt := 27) (pc := 23) dX7_readCity_23 (by decide) c8) ?_
    refine sp_m (aw_aload_n (pc := 27) dX7_readCity_27 rfl (lv_at hl 1 rfl)) ?_
    refine sp_m (aw_lload_n (pc := 28) dX7_readCity_28 rfl (lv_at hl 0 rfl)) ?_
    refine sp_m (aw_iconst (v := 1) (pc := 29) dX7_readCity_29 rfl) ?_
    refine sp_m (aw_aload_n (pc := 30) dX7_readCity_30 rfl (lv_at hl 1 rfl)) ?_
    refine sp_b fun x9 ex9 => ?_
    refine sp_m (aw_get (k := 4) okX7 s7 (by decide) q1506 (Or.inl rfl) (congrArg va_rf ex9) (pc := 31) dX7_readCity_31) ?_
    refine sp_g fun s10 => ?_
    refine sp_m (aw_getN (k := 4) okX20 s10 (by decide) nq1646 rfl rfl (pc := 34) dX7_readCity_34) ?_
    refine sp_b fun p11 ep11 => ?_
    refine sp_m (G' := AW (KX7_readCity l D h0 hE) p11 (40) ls ([])) (fun kk => aw_callV (As := [.long p5.1, .int 1, .int (gI p5.2 x9 4)]) (metX7_names _ _ ep11) (rcv_o okX7 s7) rfl mok_X7_names q1840 q1842 qs67 q125 q1843 (Nat.le_of_ble_eq_true rfl) (Nat.le_of_ble_eq_true rfl) rfl hl.1 rfl (Nat.le_of_ble_eq_true rfl) (pc := 37) dX7_readCity_37 kk) ?_
    refine sp_m (aw_iconst (v := 0) (pc := 40) dX7_readCity_40 rfl) ?_
    refine sp_m (aw_istore_n (lv' := [(3, .int 0), (1, .long p5.1), (0, .ref a0)]) (pc := 41) dX7_readCity_41 rfl hl (by decide) rfl) (sp_all fun ls hl => ?_)
    let P12 : Int32 × AH → Prop := aLP (KX7_readCity l D h0 hE) 4 42 (fun s12v : Int32 × AH => [(0, .ref a0), (3, .int s12v.1)]) (fun s12v => s12v.2)
    let E12 : AH → Prop := aLP (KX7_readCity l D h0 hE) 4 96 (fun r12v : AH => [(0, .ref a0)]) (fun r12v => r12v)
    refine sp_bl (P := P12) (E := E12) (fun s12v => sp_all fun ls hl => ?_) (fun k => k ls (lv_sub hl [2, 0] rfl)) (fun r12v => sp_all fun ls hl => ?_)
    · have hl : lv_has ls 4 [(0, .ref a0), (3, .int s12v.1)] := hl
      show SP _ _ (AW (KX7_readCity l D h0 hE) s12v.2 42 ls [])
      unfold X7_readCity_L42
      refine sp_m (aw_iload_n (pc := 42) dX7_readCity_42 rfl (lv_at hl 1 rfl)) ?_
      refine sp_m (aw_bipush (v := 6) (pc := 43) dX7_readCity_43 rfl) ?_
      refine sp_if (fun c13 => ?_) (fun c13 => ?_)
      · refine sp_m (aw_icmp_ge_t (tgt := 96) (pc := 45) dX7_readCity_45 (by decide) c13) ?_
        exact sp_r fun hz => hz ls (lv_sub hl [0] rfl)
      · refine sp_m (aw_icmp_ge_f (tgt := 96) (pc := 45) dX7_readCity_45 (by decide) c13) ?_
        refine sp_m (aw_aload_n (pc := 48) dX7_readCity_48 rfl (lv_at hl 0 rfl)) ?_
        refine sp_g fun s14 => ?_
        refine sp_b fun x15 ex15 => ?_
        refine sp_m (aw_get (k := 4) okX7 s14 (by decide) q1506 (Or.inl rfl) (congrArg va_rf ex15) (pc := 49) dX7_readCity_49) ?_
        refine sp_g fun s16 => ?_
        refine sp_b fun x17 ex17 => ?_
        refine sp_m (aw_getN (k := 14) okX20 s16 (by decide) nq1664 rfl (congrArg va_rf ex17) (pc := 52) dX7_readCity_52) ?_
        refine sp_m (aw_bipush (v := 6) (pc := 55) dX7_readCity_55 rfl) ?_
        refine sp_m (aw_aload_n (pc := 57) dX7_readCity_57 rfl (lv_at hl 0 rfl)) ?_
        refine sp_b fun x18 ex18 => ?_
        refine sp_m (aw_get (k := 4) okX7 s14 (by decide) q1506 (Or.inl rfl) (congrArg va_rf ex18) (pc := 58) dX7_readCity_58) ?_
        refine sp_g fun s19 => ?_
        refine sp_m (aw_getN (k := 4) okX20 s19 (by decide) nq1646 rfl rfl (pc := 61) dX7_readCity_61) ?_
        refine sp_m (aw_imul (pc := 64) dX7_readCity_64) ?_
        refine sp_m (aw_iload_n (pc := 65) dX7_readCity_65 rfl (lv_at hl 1 rfl)) ?_
        refine sp_m (aw_iadd (pc := 66) dX7_readCity_66) ?_
        refine sp_m (aw_iconst (v := (-1)) (pc := 67) dX7_readCity_67 rfl) ?_
        refine sp_g fun s20 => ?_
        refine sp_g fun i21 => ?_
        refine sp_t fun h22 eh220 => ?_
        have eh22 : gS h22 = gS s12v.2 := by rw [eh220]; rfl
        refine sp_m (fun kk => aw_iast s20 i21 (pc := 68) dX7_readCity_68 (AWe eh220 kk)) ?_
        refine sp_m (aw_aload_n (pc := 69) dX7_readCity_69 rfl (lv_at hl 0 rfl)) ?_
        refine sp_b fun x23 ex23 => ?_
        refine sp_m (aw_get (k := 4) okX7 (uS eh22 s14) (by decide) q1506 (Or.inl rfl) (congrArg va_rf ex23) (pc := 70) dX7_readCity_70) ?_
        refine sp_g fun s24 => ?_
        refine sp_b fun x25 ex25 => ?_
        refine sp_m (aw_getN (k := 14) okX20 s24 (by decide) nq1664 rfl (congrArg va_rf ex25) (pc := 73) dX7_readCity_73) ?_
        refine sp_m (aw_bipush (v := 6) (pc := 76) dX7_readCity_76 rfl) ?_
        refine sp_m (aw_iload_n (pc := 78) dX7_readCity_78 rfl (lv_at hl 1 rfl)) ?_
        refine sp_m (aw_imul (pc := 79) dX7_readCity_79) ?_
        refine sp_m (aw_aload_n (pc := 80) dX7_readCity_80 rfl (lv_at hl 0 rfl)) ?_
        refine sp_b fun x26 ex26 => ?_
        refine sp_m (aw_get (k := 4) okX7 (uS eh22 s14) (by decide) q1506 (Or.inl rfl) (congrArg va_rf ex26) (pc := 81) dX7_readCity_81) ?_
        refine sp_g fun s27 => ?_
        refine sp_m (aw_getN (k := 4) okX20 s27 (by decide) nq1646 rfl rfl (pc := 84) dX7_readCity_84) ?_
        refine sp_m (aw_iadd (pc := 87) dX7_readCity_87) ?_
        refine sp_m (aw_iconst (v := (-1)) (pc := 88) dX7_readCity_88 rfl) ?_
        refine sp_g fun s28 => ?_
        refine sp_g fun i29 => ?_
        refine sp_t fun h30 eh300 => ?_
        have eh30 : gS h30 = gS h22 := by rw [eh300]; rfl
        refine sp_m (fun kk => aw_iast s28 i29 (pc := 89) dX7_readCity_89 (AWe eh300 kk)) ?_
        refine sp_m (aw_iinc (v := s12v.1 + 1) (lv' := [(3, .int (s12v.1 + 1)), (0, .ref a0)]) (pc := 90) dX7_readCity_90 hl (k := 1) rfl rfl (by decide) rfl) (sp_all fun ls hl => ?_)
        refine sp_m (aw_goto (tgt := 42) (pc := 93) dX7_readCity_93 (by decide)) ?_
        exact sp_r fun hz => hz ls (lv_sub hl [1, 0] rfl)
    · have hl : lv_has ls 4 [(0, .ref a0)] := hl
      show SP _ _ (AW (KX7_readCity l D h0 hE) r12v 96 ls [])
      refine sp_m (aw_aload_n (pc := 96) dX7_readCity_96 rfl (lv_at hl 0 rfl)) ?_
      refine sp_g fun s31 => ?_
      refine sp_b fun x32 ex32 => ?_
      refine sp_m (aw_get (k := 4) okX7 s31 (by decide) q1506 (Or.inl rfl) (congrArg va_rf ex32) (pc := 97) dX7_readCity_97) ?_
      refine sp_m (aw_dup (pc := 100) dX7_readCity_100 rfl) ?_
      refine sp_g fun s33 => ?_
      refine sp_m (aw_getN (k := 4) okX20 s33 (by decide) nq1646 rfl rfl (pc := 101) dX7_readCity_101) ?_
      refine sp_m (aw_iconst (v := 1) (pc := 104) dX7_readCity_104 rfl) ?_
      refine sp_m (aw_iadd (pc := 105) dX7_readCity_105) ?_
      refine sp_t fun h34 eh340 => ?_
      have eh34 : gS h34 = gS r12v := by rw [eh340]; rfl
      refine sp_m (aw_putN (k := 4) okX20 opX20 s33 (by decide) nq1646 rfl rfl (hasV_I' eh340) rfl rfl (pc := 106) dX7_readCity_106) ?_
      exact sp_r fun hz => aw_vret hz rfl rfl rfl (pc := 109) dX7_readCity_109
  · refine sp_m (aw_icmp_ne_f (tgt := 27) (pc := 23) dX7_readCity_23 (by decide) (Decidable.not_not.mp c8)) ?_
    exact sp_r fun hz => aw_vret hz rfl rfl rfl (pc := 26) dX7_readCity_26
theorem mok_X7_readField : mOK yX7_readField 0 := ⟨⟨by decide +kernel, by decide +kernel⟩, by decide +kernel⟩
abbrev KX7_readField (l : Launch) (D : DD) (h0 hE : AH) : KT := (l, yX7_readField, cX7_readField, 3, none, RX7, 9, D, h0, hE, .inl (none), false, [])
theorem metX7_readField (l : Launch) (D : DD) {a0 : Nat} {h0 : AH} {hE : AH} (hr : fX7_readField a0 h0 = some hE) : AMet (KX7_readField l D h0 hE) [.ref a0] := by
  refine AMet.of (K := (KX7_readField l D h0 hE)) rfl ⟨_, rfl⟩ rfl rfl rfl (Nat.le_of_ble_eq_true rfl) (fun ls hl => ?_)
  have hl : lv_has ls 3 [(0, .ref a0)] := hl
  suffices hsp : SP (fX7_readField a0 h0) (fun z => z = hE) (AW (KX7_readField l D h0 hE) h0 0 ls []) from hsp _ hr rfl
  unfold fX7_readField
  refine sp_m (aw_aload_n (pc := 0) dX7_readField_0 rfl (lv_at hl 0 rfl)) ?_
  refine sp_g fun s1 => ?_
  refine sp_b fun x2 ex2 => ?_
  refine sp_m (aw_get (k := 4) okX7 s1 (by decide) q1506 (Or.inl rfl) (congrArg va_rf ex2) (pc := 1) dX7_readField_1) ?_
  refine sp_g fun s3 => ?_
  refine sp_m (aw_getN (k := 0) okX20 s3 (by decide) nq1642 rfl rfl (pc := 4) dX7_readField_4) ?_
  have hj15_1 : ∀ h4 : AH, ∀ ls : Array Slot, lv_has ls 3 [(0, .ref a0)] → SP (X7_readField_j15 a0 h4) (fun z => z = hE) (AW (KX7_readField l D h0 hE) h4 15 ls ([])) := by
    intro h4 ls hl
    unfold X7_readField_j15
    refine sp_m (aw_aload_n (pc := 15) dX7_readField_15 rfl (lv_at hl 0 rfl)) ?_
    refine sp_g fun s6 => ?_
    refine sp_b fun p5 ep5 => ?_
    refine sp_m (G' := AW (KX7_readField l D h0 hE) p5 (19) ls ([])) (fun kk => aw_callV (As := []) (metX7_goesOn _ _ ep5) (rcv_o okX7 s6) rfl mok_X7_goesOn q1709 q1711 qs51 q125 q1712 (Nat.le_of_ble_eq_true rfl) (Nat.le_of_ble_eq_true rfl) rfl hl.1 rfl (Nat.le_of_ble_eq_true rfl) (pc := 16) dX7_readField_16 kk) ?_
    refine sp_m (aw_aload_n (pc := 19) dX7_readField_19 rfl (lv_at hl 0 rfl)) ?_
    refine sp_b fun x7 ex7 => ?_
    refine sp_m (aw_ldcS sk_X7_216 ex7 (pc := 20) dX7_readField_20) ?_
    refine sp_m (aw_iconst (v := 2) (pc := 22) dX7_readField_22 rfl) ?_
    refine sp_m (aw_bipush (v := 6) (pc := 23) dX7_readField_23 rfl) ?_
    refine sp_g fun s9 => ?_
    refine sp_b fun p8 ep8 => ?_
    refine sp_m (G' := AW (KX7_readField l D h0 hE) p8.2 (28) ls (.int p8.1 :: [])) (fun kk => aw_callV (As := [.ref x7, .int 2, .int 6]) (metX7_readPart _ _ ep8) (rcv_o okX7 s9) rfl mok_X7_readPart q1777 q1779 qs58 q125 q1780 (Nat.le_of_ble_eq_true rfl) (Nat.le_of_ble_eq_true rfl) rfl hl.1 rfl (Nat.le_of_ble_eq_true rfl) (pc := 25) dX7_readField_25 kk) ?_
    refine sp_m (aw_istore_n (lv' := [(1, .int p8.1), (0, .ref a0)]) (pc := 28) dX7_readField_28 rfl hl (by decide) rfl) (sp_all fun ls hl => ?_)
    refine sp_m (aw_aload_n (pc := 29) dX7_readField_29 rfl (lv_at hl 1 rfl)) ?_
    refine sp_b fun x10 ex10 => ?_
    refine sp_m (aw_ldcS sk_X7_221 ex10 (pc := 30) dX7_readField_30) ?_
    refine sp_m (aw_iconst (v := 1) (pc := 32) dX7_readField_32 rfl) ?_
    refine sp_m (aw_iconst (v := 5) (pc := 33) dX7_readField_33 rfl) ?_
    refine sp_g fun s12 => ?_
    refine sp_b fun p11 ep11 => ?_
    refine sp_m (G' := AW (KX7_readField l D h0 hE) p11.2 (37) ls (.int p11.1 :: [])) (fun kk => aw_callV (As := [.ref x10, .int 1, .int 5]) (metX7_readPart _ _ ep11) (rcv_o okX7 s12) rfl mok_X7_readPart q1777 q1779 qs58 q125 q1780 (Nat.le_of_ble_eq_true rfl) (Nat.le_of_ble_eq_true rfl) rfl hl.1 rfl (Nat.le_of_ble_eq_true rfl) (pc := 34) dX7_readField_34 kk) ?_
    refine sp_m (aw_istore_n (lv' := [(2, .int p11.1), (1, .int p8.1), (0, .ref a0)]) (pc := 37) dX7_readField_37 rfl hl (by decide) rfl) (sp_all fun ls hl => ?_)
    refine sp_m (aw_aload_n (pc := 38) dX7_readField_38 rfl (lv_at hl 2 rfl)) ?_
    refine sp_g fun s13 => ?_
    refine sp_m (aw_get (k := 9) okX7 s13 (by decide) q1511 (Or.inl rfl) rfl (pc := 39) dX7_readField_39) ?_
    refine sp_m (aw_iconst (v := 5) (pc := 42) dX7_readField_42 rfl) ?_
    refine sp_if (fun c14 => ?_) (fun c14 => ?_)
    · refine sp_m (aw_icmp_ne_t (tgt := 47) (pc := 43) dX7_readField_43 (by decide) c14) ?_
      refine sp_m (aw_aload_n (pc := 47) dX7_readField_47 rfl (lv_at hl 2 rfl)) ?_
      refine sp_b fun x15 ex15 => ?_
      refine sp_m (aw_get (k := 4) okX7 s13 (by decide) q1506 (Or.inl rfl) (congrArg va_rf ex15) (pc := 48) dX7_readField_48) ?_
      refine sp_m (aw_iload_n (pc := 51) dX7_readField_51 rfl (lv_at hl 1 rfl)) ?_
      refine sp_g fun s16 => ?_
      refine sp_t fun h17 eh170 => ?_
      have eh17 : gS h17 = gS p11.2 := by rw [eh170]; rfl
      refine sp_m (aw_putN (k := 0) okX20 opX20 s16 (by decide) nq1642 rfl rfl (hasV_I' eh170) rfl rfl (pc := 52) dX7_readField_52) ?_
      refine sp_m (aw_aload_n (pc := 55) dX7_readField_55 rfl (lv_at hl 2 rfl)) ?_
      refine sp_b fun x18 ex18 => ?_
      refine sp_m (aw_get (k := 4) okX7 (uS eh17 s13) (by decide) q1506 (Or.inl rfl) (congrArg va_rf ex18) (pc := 56) dX7_readField_56) ?_
      refine sp_m (aw_iload_n (pc := 59) dX7_readField_59 rfl (lv_at hl 0 rfl)) ?_
      refine sp_g fun s19 => ?_
      refine sp_t fun h20 eh200 => ?_
      have eh20 : gS h20 = gS h17 := by rw [eh200]; rfl
      refine sp_m (aw_putN (k := 1) okX20 opX20 s19 (by decide) nq1643 rfl rfl (hasV_I' eh200) rfl rfl (pc := 60) dX7_readField_60) ?_
      exact sp_r fun hz => aw_vret hz rfl rfl rfl (pc := 63) dX7_readField_63
    · refine sp_m (aw_icmp_ne_f (tgt := 47) (pc := 43) dX7_readField_43 (by decide) (Decidable.not_not.mp c14)) ?_
      exact sp_r fun hz => aw_vret hz rfl rfl rfl (pc := 46) dX7_readField_46
  refine sp_if (fun c21 => ?_) (fun c21 => ?_)
  · refine sp_m (aw_if_le_t (tgt := 15) (pc := 7) dX7_readField_7 (by decide) c21) ?_
    exact hj15_1 h0 ls (lv_sub hl [0] rfl)
  · refine sp_m (aw_if_le_f (tgt := 15) (pc := 7) dX7_readField_7 (by decide) c21) ?_
    refine sp_m (aw_aload_n (pc := 10) dX7_readField_10 rfl (lv_at hl 0 rfl)) ?_
    refine sp_m (aw_iconst (v := 3) (pc := 11) dX7_readField_11 rfl) ?_
    refine sp_b fun p22 ep22 => ?_
    refine sp_m (G' := AW (KX7_readField l D h0 hE) p22 (15) ls ([])) (fun kk => aw_callV (As := [.int 3]) (metX7_flaw _ _ ep22) (rcv_o okX7 s1) rfl mok_X7_flaw q1772 q1774 qs57 q125 q1775 (Nat.le_of_ble_eq_true rfl) (Nat.le_of_ble_eq_true rfl) rfl hl.1 rfl (Nat.le_of_ble_eq_true rfl) (pc := 12) dX7_readField_12 kk) ?_
    exact hj15_1 p22 ls (lv_sub hl [0] rfl)
theorem mok_X7_readLane : mOK yX7_readLane 0 := ⟨⟨by decide +kernel, by decide +kernel⟩, by decide +kernel⟩
abbrev KX7_readLane (l : Launch) (D : DD) (h0 hE : AH) : KT := (l, yX7_readLane, cX7_readLane, 4, none, RX7, 7, D, h0, hE, .inl (none), false, [])
theorem metX7_readLane (l : Launch) (D : DD) {a0 : Nat} {h0 : AH} {hE : AH} (hr : fX7_readLane a0 h0 = some hE) : AMet (KX7_readLane l D h0 hE) [.ref a0] := by
  refine AMet.of (K := (KX7_readLane l D h0 hE)) rfl ⟨_, rfl⟩ rfl rfl rfl (Nat.le_of_ble_eq_true rfl) (fun ls hl => ?_)
  have hl : lv_has ls 4 [(0, .ref a0)] := hl
  suffices hsp : SP (fX7_readLane a0 h0) (fun z => z = hE) (AW (KX7_readLane l D h0 hE) h0 0 ls []) from hsp _ hr rfl
  unfold fX7_readLane
  refine sp_m (aw_aload_n (pc := 0) dX7_readLane_0 rfl (lv_at hl 0 rfl)) ?_
  refine sp_m (aw_iconst (v := 0) (pc := 1) dX7_readLane_1 rfl) ?_
  refine sp_m (aw_iconst (v := 1) (pc := 2) dX7_readLane_2 rfl) ?_
  refine sp_g fun s2 => ?_
  refine sp_b fun p1 ep1 => ?_
  refine sp_m (G' := AW (KX7_readLane l D h0 hE) p1 (6) ls ([])) (fun kk => aw_callV (As := [.int 0, .int 1]) (metX7_lineBegins _ _ ep1) (rcv_o okX7 s2) rfl mok_X7_lineBegins q1802 q1804 qs63 q125 q1805 (Nat.le_of_ble_eq_true rfl) (Nat.le_of_ble_eq_true rfl) rfl hl.1 rfl (Nat.le_of_ble_eq_true rfl) (pc := 3) dX7_readLane_3 kk) ?_
  refine sp_m (aw_aload_n (pc := 6) dX7_readLane_6 rfl (lv_at hl 0 rfl)) ?_
  refine sp_m (aw_iconst (v := 0) (pc := 7) dX7_readLane_7 rfl) ?_
  refine sp_m (aw_aload_n (pc := 8) dX7_readLane_8 rfl (lv_at hl 0 rfl)) ?_
  refine sp_g fun s3 => ?_
  refine sp_b fun x4 ex4 => ?_
  refine sp_m (aw_get (k := 4) okX7 s3 (by decide) q1506 (Or.inl rfl) (congrArg va_rf ex4) (pc := 9) dX7_readLane_9) ?_
  refine sp_g fun s5 => ?_
  refine sp_m (aw_getN (k := 0) okX20 s5 (by decide) nq1642 rfl rfl (pc := 12) dX7_readLane_12) ?_
  refine sp_m (aw_iconst (v := 1) (pc := 15) dX7_readLane_15 rfl) ?_
  refine sp_m (aw_isub (pc := 16) dX7_readLane_16) ?_
  refine sp_b fun p6 ep6 => ?_
  refine sp_m (G' := AW (KX7_readLane l D h0 hE) p6.2 (20) ls (.int p6.1 :: [])) (fun kk => aw_callV (As := [.int 0, .int ((gI p1 x4 0) - 1)]) (metX7_bounded _ _ ep6) (rcv_o okX7 s3) rfl mok_X7_bounded q1789 q1791 qs61 q125 q1792 (Nat.le_of_ble_eq_true rfl) (Nat.le_of_ble_eq_true rfl) rfl hl.1 rfl (Nat.le_of_ble_eq_true rfl) (pc := 17) dX7_readLane_17 kk) ?_
  refine sp_m (aw_istore_n (lv' := [(1, .int p6.1), (0, .ref a0)]) (pc := 20) dX7_readLane_20 rfl hl (by decide) rfl) (sp_all fun ls hl => ?_)
  refine sp_m (aw_aload_n (pc := 21) dX7_readLane_21 rfl (lv_at hl 1 rfl)) ?_
  refine sp_g fun s7 => ?_
  refine sp_m (aw_get (k := 9) okX7 s7 (by decide) q1511 (Or.inl rfl) rfl (pc := 22) dX7_readLane_22) ?_
  refine sp_m (aw_iconst (v := 5) (pc := 25) dX7_readLane_25 rfl) ?_
  have hj45_1 : ∀ h8 : AH, ∀ ls : Array Slot, lv_has ls 4 [(0, .ref a0), (1, .int p6.1)] → SP (X7_readLane_j45 a0 p6 h8) (fun z => z = hE) (AW (KX7_readLane l D h0 hE) h8 45 ls ([])) := by
    intro h8 ls hl
    unfold X7_readLane_j45
    refine sp_m (aw_aload_n (pc := 45) dX7_readLane_45 rfl (lv_at hl 0 rfl)) ?_
    refine sp_g fun s10 => ?_
    refine sp_b fun p9 ep9 => ?_
    refine sp_m (G' := AW (KX7_readLane l D h0 hE) p9 (49) ls ([])) (fun kk => aw_callV (As := []) (metX7_goesOn _ _ ep9) (rcv_o okX7 s10) rfl mok_X7_goesOn q1709 q1711 qs51 q125 q1712 (Nat.le_of_ble_eq_true rfl) (Nat.le_of_ble_eq_true rfl) rfl hl.1 rfl (Nat.le_of_ble_eq_true rfl) (pc := 46) dX7_readLane_46 kk) ?_
    refine sp_m (aw_aload_n (pc := 49) dX7_readLane_49 rfl (lv_at hl 0 rfl)) ?_
    refine sp_b fun x11 ex11 => ?_
    refine sp_m (aw_ldcS sk_X7_233 ex11 (pc := 50) dX7_readLane_50) ?_
    refine sp_g fun s13 => ?_
    refine sp_b fun p12 ep12 => ?_
    refine sp_m (G' := AW (KX7_readLane l D h0 hE) p9 (55) ls (.int p12 :: [])) (fun kk => aw_callV (As := [.ref x11]) (metX7_isWord _ _ ep12) (rcv_o okX7 s13) rfl mok_X7_isWord q1733 q1735 qs55 q125 q1736 (Nat.le_of_ble_eq_true rfl) (Nat.le_of_ble_eq_true rfl) rfl hl.1 rfl (Nat.le_of_ble_eq_true rfl) (pc := 52) dX7_readLane_52 kk) ?_
    have hj102_2 : ∀ j14 : Int32, ∀ ls : Array Slot, lv_has ls 4 [(0, .ref a0), (1, .int p6.1)] → SP (X7_readLane_j102 a0 p6 p9 j14) (fun z => z = hE) (AW (KX7_readLane l D h0 hE) p9 102 ls (.int j14 :: [])) := by
      intro j14 ls hl
      unfold X7_readLane_j102
      refine sp_m (aw_istore_n (lv' := [(2, .int j14), (0, .ref a0), (1, .int p6.1)]) (pc := 102) dX7_readLane_102 rfl hl (by decide) rfl) (sp_all fun ls hl => ?_)
      refine sp_m (aw_iload_n (pc := 103) dX7_readLane_103 rfl (lv_at hl 0 rfl)) ?_
      refine sp_m (aw_iconst (v := (-1)) (pc := 104) dX7_readLane_104 rfl) ?_
      have hj113_3 : ∀ h15 : AH, ∀ ls : Array Slot, lv_has ls 4 [(0, .ref a0), (1, .int p6.1), (2, .int j14)] → SP (X7_readLane_j113 a0 p6 j14 h15) (fun z => z = hE) (AW (KX7_readLane l D h0 hE) h15 113 ls ([])) := by
        intro h15 ls hl
        unfold X7_readLane_j113
        refine sp_m (aw_aload_n (pc := 113) dX7_readLane_113 rfl (lv_at hl 0 rfl)) ?_
        refine sp_g fun s17 => ?_
        refine sp_b fun p16 ep16 => ?_
        refine sp_m (G' := AW (KX7_readLane l D h0 hE) p16 (117) ls ([])) (fun kk => aw_callV (As := []) (metX7_goesOn _ _ ep16) (rcv_o okX7 s17) rfl mok_X7_goesOn q1709 q1711 qs51 q125 q1712 (Nat.le_of_ble_eq_true rfl) (Nat.le_of_ble_eq_true rfl) rfl hl.1 rfl (Nat.le_of_ble_eq_true rfl) (pc := 114) dX7_readLane_114 kk) ?_
        refine sp_m (aw_iload_n (pc := 117) dX7_readLane_117 rfl (lv_at hl 2 rfl)) ?_
        refine sp_m (aw_iconst (v := 2) (pc := 118) dX7_readLane_118 rfl) ?_
        have hj148_4 : ∀ j18 : Int32, ∀ h19 : AH, ∀ ls : Array Slot, lv_has ls 4 [(0, .ref a0), (1, .int p6.1), (2, .int j14)] → SP (X7_readLane_j148 a0 p6 j14 j18 h19) (fun z => z = hE) (AW (KX7_readLane l D h0 hE) h19 148 ls (.int j18 :: [])) := by
          intro j18 h19 ls hl
          unfold X7_readLane_j148
          refine sp_m (aw_istore_n (lv' := [(3, .int j18), (0, .ref a0), (1, .int p6.1), (2, .int j14)]) (pc := 148) dX7_readLane_148 rfl hl (by decide) rfl) (sp_all fun ls hl => ?_)
          refine sp_m (aw_aload_n (pc := 149) dX7_readLane_149 rfl (lv_at hl 1 rfl)) ?_
          refine sp_g fun s20 => ?_
          refine sp_m (aw_get (k := 9) okX7 s20 (by decide) q1511 (Or.inl rfl) rfl (pc := 150) dX7_readLane_150) ?_
          refine sp_m (aw_iconst (v := 5) (pc := 153) dX7_readLane_153 rfl) ?_
          refine sp_if (fun c21 => ?_) (fun c21 => ?_)
          · refine sp_m (aw_icmp_ne_t (tgt := 158) (pc := 154) dX7_readLane_154 (by decide) c21) ?_
            refine sp_m (aw_aload_n (pc := 158) dX7_readLane_158 rfl (lv_at hl 1 rfl)) ?_
            refine sp_b fun x22 ex22 => ?_
            refine sp_m (aw_get (k := 4) okX7 s20 (by decide) q1506 (Or.inl rfl) (congrArg va_rf ex22) (pc := 159) dX7_readLane_159) ?_
            refine sp_g fun s23 => ?_
            refine sp_b fun x24 ex24 => ?_
            refine sp_m (aw_getN (k := 8) okX20 s23 (by decide) nq1652 rfl (congrArg va_rf ex24) (pc := 162) dX7_readLane_162) ?_
            refine sp_m (aw_iload_n (pc := 165) dX7_readLane_165 rfl (lv_at hl 2 rfl)) ?_
            refine sp_m (aw_iload_n (pc := 166) dX7_readLane_166 rfl (lv_at hl 3 rfl)) ?_
            refine sp_g fun s25 => ?_
            refine sp_g fun i26 => ?_
            refine sp_t fun h27 eh270 => ?_
            have eh27 : gS h27 = gS h19 := by rw [eh270]; rfl
            refine sp_m (fun kk => aw_iast s25 i26 (pc := 167) dX7_readLane_167 (AWe eh270 kk)) ?_
            refine sp_m (aw_aload_n (pc := 168) dX7_readLane_168 rfl (lv_at hl 1 rfl)) ?_
            refine sp_b fun x28 ex28 => ?_
            refine sp_m (aw_get (k := 4) okX7 (uS eh27 s20) (by decide) q1506 (Or.inl rfl) (congrArg va_rf ex28) (pc := 169) dX7_readLane_169) ?_
            refine sp_g fun s29 => ?_
            refine sp_b fun x30 ex30 => ?_
            refine sp_m (aw_getN (k := 9) okX20 s29 (by decide) nq1654 rfl (congrArg va_rf ex30) (pc := 172) dX7_readLane_172) ?_
            refine sp_m (aw_iload_n (pc := 175) dX7_readLane_175 rfl (lv_at hl 2 rfl)) ?_
            refine sp_m (aw_iload_n (pc := 176) dX7_readLane_176 rfl (lv_at hl 0 rfl)) ?_
            refine sp_g fun s31 => ?_
            refine sp_g fun i32 => ?_
            refine sp_t fun h33 eh330 => ?_
            have eh33 : gS h33 = gS h27 := by rw [eh330]; rfl
            refine sp_m (fun kk => aw_iast s31 i32 (pc := 177) dX7_readLane_177 (AWe eh330 kk)) ?_
            refine sp_m (aw_aload_n (pc := 178) dX7_readLane_178 rfl (lv_at hl 1 rfl)) ?_
            refine sp_m (aw_dup (pc := 179) dX7_readLane_179 rfl) ?_
            refine sp_m (aw_get (k := 14) okX7 (uS eh33 (uS eh27 s20)) (by decide) q1516 (Or.inl rfl) rfl (pc := 180) dX7_readLane_180) ?_
            refine sp_m (aw_iconst (v := 1) (pc := 183) dX7_readLane_183 rfl) ?_
            refine sp_m (aw_iload_n (pc := 184) dX7_readLane_184 rfl (lv_at hl 2 rfl)) ?_
            refine sp_m (aw_ishl (pc := 185) dX7_readLane_185) ?_
            refine sp_m (aw_ior (pc := 186) dX7_readLane_186) ?_
            refine sp_t fun h34 eh340 => ?_
            have eh34 : gS h34 = gS h33 := by rw [eh340]; rfl
            refine sp_m (aw_put (k := 14) okX7 opX7 (uS eh33 (uS eh27 s20)) (by decide) q1516 (Or.inl rfl) (Or.inl rfl) (hasV_I' eh340) rfl rfl (pc := 187) dX7_readLane_187) ?_
            refine sp_m (aw_aload_n (pc := 190) dX7_readLane_190 rfl (lv_at hl 1 rfl)) ?_
            refine sp_b fun x35 ex35 => ?_
            refine sp_m (aw_get (k := 4) okX7 (uS eh34 (uS eh33 (uS eh27 s20))) (by decide) q1506 (Or.inl rfl) (congrArg va_rf ex35) (pc := 191) dX7_readLane_191) ?_
            refine sp_m (aw_dup (pc := 194) dX7_readLane_194 rfl) ?_
            refine sp_g fun s36 => ?_
            refine sp_m (aw_getN (k := 2) okX20 s36 (by decide) nq1644 rfl rfl (pc := 195) dX7_readLane_195) ?_
            refine sp_m (aw_iconst (v := 1) (pc := 198) dX7_readLane_198 rfl) ?_
            refine sp_m (aw_iadd (pc := 199) dX7_readLane_199) ?_
            refine sp_t fun h37 eh370 => ?_
            have eh37 : gS h37 = gS h34 := by rw [eh370]; rfl
            refine sp_m (aw_putN (k := 2) okX20 opX20 s36 (by decide) nq1644 rfl rfl (hasV_I' eh370) rfl rfl (pc := 200) dX7_readLane_200) ?_
            exact sp_r fun hz => aw_vret hz rfl rfl rfl (pc := 203) dX7_readLane_203
          · refine sp_m (aw_icmp_ne_f (tgt := 158) (pc := 154) dX7_readLane_154 (by decide) (Decidable.not_not.mp c21)) ?_
            exact sp_r fun hz => aw_vret hz rfl rfl rfl (pc := 157) dX7_readLane_157
        refine sp_if (fun c38 => ?_) (fun c38 => ?_)
        · refine sp_m (aw_icmp_ne_t (tgt := 132) (pc := 119) dX7_readLane_119 (by decide) c38) ?_
          refine sp_m (aw_iload_n (pc := 132) dX7_readLane_132 rfl (lv_at hl 2 rfl)) ?_
          refine sp_m (aw_iconst (v := 3) (pc := 133) dX7_readLane_133 rfl) ?_
          refine sp_if (fun c39 => ?_) (fun c39 => ?_)
          · refine sp_m (aw_icmp_ne_t (tgt := 147) (pc := 134) dX7_readLane_134 (by decide) c39) ?_
            refine sp_m (aw_iconst (v := 0) (pc := 147) dX7_readLane_147 rfl) ?_
            exact hj148_4 0 p16 ls (lv_sub hl [0, 1, 2] rfl)
          · refine sp_m (aw_icmp_ne_f (tgt := 147) (pc := 134) dX7_readLane_134 (by decide) (Decidable.not_not.mp c39)) ?_
            refine sp_m (aw_aload_n (pc := 137) dX7_readLane_137 rfl (lv_at hl 0 rfl)) ?_
            refine sp_m (aw_iconst (v := 0) (pc := 138) dX7_readLane_138 rfl) ?_
            refine sp_m (aw_bipush (v := 30) (pc := 139) dX7_readLane_139 rfl) ?_
            refine sp_g fun s41 => ?_
            refine sp_b fun p40 ep40 => ?_
            refine sp_m (G' := AW (KX7_readLane l D h0 hE) p40.2 (144) ls (.int p40.1 :: [])) (fun kk => aw_callV (As := [.int 0, .int 30]) (metX7_readWhole _ _ ep40) (rcv_o okX7 s41) rfl mok_X7_readWhole q1785 q1787 qs60 q125 q1788 (Nat.le_of_ble_eq_true rfl) (Nat.le_of_ble_eq_true rfl) rfl hl.1 rfl (Nat.le_of_ble_eq_true rfl) (pc := 141) dX7_readLane_141 kk) ?_
            refine sp_m (aw_goto (tgt := 148) (pc := 144) dX7_readLane_144 (by decide)) ?_
            exact hj148_4 p40.1 p40.2 ls (lv_sub hl [0, 1, 2] rfl)
        · refine sp_m (aw_icmp_ne_f (tgt := 132) (pc := 119) dX7_readLane_119 (by decide) (Decidable.not_not.mp c38)) ?_
          refine sp_m (aw_aload_n (pc := 122) dX7_readLane_122 rfl (lv_at hl 0 rfl)) ?_
          refine sp_m (aw_iconst (v := 0) (pc := 123) dX7_readLane_123 rfl) ?_
          refine sp_m (aw_bipush (v := 60) (pc := 124) dX7_readLane_124 rfl) ?_
          refine sp_g fun s43 => ?_
          refine sp_b fun p42 ep42 => ?_
          refine sp_m (G' := AW (KX7_readLane l D h0 hE) p42.2 (129) ls (.int p42.1 :: [])) (fun kk => aw_callV (As := [.int 0, .int 60]) (metX7_readWhole _ _ ep42) (rcv_o okX7 s43) rfl mok_X7_readWhole q1785 q1787 qs60 q125 q1788 (Nat.le_of_ble_eq_true rfl) (Nat.le_of_ble_eq_true rfl) rfl hl.1 rfl (Nat.le_of_ble_eq_true rfl) (pc := 126) dX7_readLane_126 kk) ?_
          refine sp_m (aw_goto (tgt := 148) (pc := 129) dX7_readLane_129 (by decide)) ?_
          exact hj148_4 p42.1 p42.2 ls (lv_sub hl [0, 1, 2] rfl)
      refine sp_if (fun c44 => ?_) (fun c44 => ?_)
      · refine sp_m (aw_icmp_ne_t (tgt := 113) (pc := 105) dX7_readLane_105 (by decide) c44) ?_
        exact hj113_3 p9 ls (lv_sub hl [1, 2, 0] rfl)
      · refine sp_m (aw_icmp_ne_f (tgt := 113) (pc := 105) dX7_readLane_105 (by decide) (Decidable.not_not.mp c44)) ?_
        refine sp_m (aw_aload_n (pc := 108) dX7_readLane_108 rfl (lv_at hl 1 rfl)) ?_
        refine sp_m (aw_iconst (v := 1) (pc := 109) dX7_readLane_109 rfl) ?_
        refine sp_b fun p45 ep45 => ?_
        refine sp_m (G' := AW (KX7_readLane l D h0 hE) p45 (113) ls ([])) (fun kk => aw_callV (As := [.int 1]) (metX7_flaw _ _ ep45) (rcv_o okX7 s13) rfl mok_X7_flaw q1772 q1774 qs57 q125 q1775 (Nat.le_of_ble_eq_true rfl) (Nat.le_of_ble_eq_true rfl) rfl hl.1 rfl (Nat.le_of_ble_eq_true rfl) (pc := 110) dX7_readLane_110 kk) ?_
        exact hj113_3 p45 ls (lv_sub hl [1, 2, 0] rfl)
    refine sp_if (fun c46 => ?_) (fun c46 => ?_)
    · refine sp_m (aw_if_eq_t (tgt := 62) (pc := 55) dX7_readLane_55 (by decide) c46) ?_
      refine sp_m (aw_aload_n (pc := 62) dX7_readLane_62 rfl (lv_at hl 0 rfl)) ?_
      refine sp_b fun x47 ex47 => ?_
      refine sp_m (aw_ldcS sk_X7_235 ex47 (pc := 63) dX7_readLane_63) ?_
      refine sp_b fun p48 ep48 => ?_
      refine sp_m (G' := AW (KX7_readLane l D h0 hE) p9 (68) ls (.int p48 :: [])) (fun kk => aw_callV (As := [.ref x47]) (metX7_isWord _ _ ep48) (rcv_o okX7 s13) rfl mok_X7_isWord q1733 q1735 qs55 q125 q1736 (Nat.le_of_ble_eq_true rfl) (Nat.le_of_ble_eq_true rfl) rfl hl.1 rfl (Nat.le_of_ble_eq_true rfl) (pc := 65) dX7_readLane_65 kk) ?_
      refine sp_if (fun c49 => ?_) (fun c49 => ?_)
      · refine sp_m (aw_if_eq_t (tgt := 75) (pc := 68) dX7_readLane_68 (by decide) c49) ?_
        refine sp_m (aw_aload_n (pc := 75) dX7_readLane_75 rfl (lv_at hl 0 rfl)) ?_
        refine sp_b fun x50 ex50 => ?_
        refine sp_m (aw_ldcS sk_X7_237 ex50 (pc := 76) dX7_readLane_76) ?_
        refine sp_b fun p51 ep51 => ?_
        refine sp_m (G' := AW (KX7_readLane l D h0 hE) p9 (81) ls (.int p51 :: [])) (fun kk => aw_callV (As := [.ref x50]) (metX7_isWord _ _ ep51) (rcv_o okX7 s13) rfl mok_X7_isWord q1733 q1735 qs55 q125 q1736 (Nat.le_of_ble_eq_true rfl) (Nat.le_of_ble_eq_true rfl) rfl hl.1 rfl (Nat.le_of_ble_eq_true rfl) (pc := 78) dX7_readLane_78 kk) ?_
        refine sp_if (fun c52 => ?_) (fun c52 => ?_)
        · refine sp_m (aw_if_eq_t (tgt := 88) (pc := 81) dX7_readLane_81 (by decide) c52) ?_
          refine sp_m (aw_aload_n (pc := 88) dX7_readLane_88 rfl (lv_at hl 0 rfl)) ?_
          refine sp_b fun x53 ex53 => ?_
          refine sp_m (aw_ldcS sk_X7_239 ex53 (pc := 89) dX7_readLane_89) ?_
          refine sp_b fun p54 ep54 => ?_
          refine sp_m (G' := AW (KX7_readLane l D h0 hE) p9 (94) ls (.int p54 :: [])) (fun kk => aw_callV (As := [.ref x53]) (metX7_isWord _ _ ep54) (rcv_o okX7 s13) rfl mok_X7_isWord q1733 q1735 qs55 q125 q1736 (Nat.le_of_ble_eq_true rfl) (Nat.le_of_ble_eq_true rfl) rfl hl.1 rfl (Nat.le_of_ble_eq_true rfl) (pc := 91) dX7_readLane_91 kk) ?_
          refine sp_if (fun c55 => ?_) (fun c55 => ?_)
          · refine sp_m (aw_if_eq_t (tgt := 101) (pc := 94) dX7_readLane_94 (by decide) c55) ?_
            refine sp_m (aw_iconst (v := (-1)) (pc := 101) dX7_readLane_101 rfl) ?_
            exact hj102_2 (-1) ls (lv_sub hl [0, 1] rfl)
          · refine sp_m (aw_if_eq_f (tgt := 101) (pc := 94) dX7_readLane_94 (by decide) c55) ?_
            refine sp_m (aw_iconst (v := 3) (pc := 97) dX7_readLane_97 rfl) ?_
            refine sp_m (aw_goto (tgt := 102) (pc := 98) dX7_readLane_98 (by decide)) ?_
            exact hj102_2 3 ls (lv_sub hl [0, 1] rfl)
        · refine sp_m (aw_if_eq_f (tgt := 88) (pc := 81) dX7_readLane_81 (by decide) c52) ?_
          refine sp_m (aw_iconst (v := 2) (pc := 84) dX7_readLane_84 rfl) ?_
          refine sp_m (aw_goto (tgt := 102) (pc := 85) dX7_readLane_85 (by decide)) ?_
          exact hj102_2 2 ls (lv_sub hl [0, 1] rfl)
      · refine sp_m (aw_if_eq_f (tgt := 75) (pc := 68) dX7_readLane_68 (by decide) c49) ?_
        refine sp_m (aw_iconst (v := 1) (pc := 71) dX7_readLane_71 rfl) ?_
        refine sp_m (aw_goto (tgt := 102) (pc := 72) dX7_readLane_72 (by decide)) ?_
        exact hj102_2 1 ls (lv_sub hl [0, 1] rfl)
    · refine sp_m (aw_if_eq_f (tgt := 62) (pc := 55) dX7_readLane_55 (by decide) c46) ?_
      refine sp_m (aw_iconst (v := 0) (pc := 58) dX7_readLane_58 rfl) ?_
      refine sp_m (aw_goto (tgt := 102) (pc := 59) dX7_readLane_59 (by decide)) ?_
      exact hj102_2 0 ls (lv_sub hl [0, 1] rfl)
  refine sp_if (fun c56 => ?_) (fun c56 => ?_)
  · refine sp_m (aw_icmp_eq_t (tgt := 45) (pc := 26) dX7_readLane_26 (by decide) c56) ?_
    exact hj45_1 p6.2 ls (lv_sub hl [1, 0] rfl)
  · refine sp_m (aw_icmp_eq_f (tgt := 45) (pc := 26) dX7_readLane_26 (by decide) c56) ?_
    refine sp_m (aw_aload_n (pc := 29) dX7_readLane_29 rfl (lv_at hl 1 rfl)) ?_
    refine sp_m (aw_get (k := 14) okX7 s7 (by decide) q1516 (Or.inl rfl) rfl (pc := 30) dX7_readLane_30) ?_
    refine sp_m (aw_iload_n (pc := 33) dX7_readLane_33 rfl (lv_at hl 0 rfl)) ?_
    refine sp_b fun p57 ep57 => ?_
    refine sp_m (G' := AW (KX7_readLane l D h0 hE) p6.2 (37) ls (.int p57 :: [])) (fun kk => aw_callS (As := [.int (gI p6.2 a0 14), .int p6.1]) (metX7_bit _ _ ep57) mok_X7_bit q1806 q1807 q125 q1808 (Nat.le_of_ble_eq_true rfl) (Nat.le_of_ble_eq_true rfl) rfl hl.1 rfl (Nat.le_of_ble_eq_true rfl) (pc := 34) dX7_readLane_34 kk) ?_
    refine sp_if (fun c58 => ?_) (fun c58 => ?_)
    · refine sp_m (aw_if_eq_t (tgt := 45) (pc := 37) dX7_readLane_37 (by decide) c58) ?_
      exact hj45_1 p6.2 ls (lv_sub hl [1, 0] rfl)
    · refine sp_m (aw_if_eq_f (tgt := 45) (pc := 37) dX7_readLane_37 (by decide) c58) ?_
      refine sp_m (aw_aload_n (pc := 40) dX7_readLane_40 rfl (lv_at hl 1 rfl)) ?_
      refine sp_m (aw_iconst (v := 3) (pc := 41) dX7_readLane_41 rfl) ?_
      refine sp_b fun p59 ep59 => ?_
      refine sp_m (G' := AW (KX7_readLane l D h0 hE) p59 (45) ls ([])) (fun kk => aw_callV (As := [.int 3]) (metX7_flaw _ _ ep59) (rcv_o okX7 s7) rfl mok_X7_flaw q1772 q1774 qs57 q125 q1775 (Nat.le_of_ble_eq_true rfl) (Nat.le_of_ble_eq_true rfl) rfl hl.1 rfl (Nat.le_of_ble_eq_true rfl) (pc := 42) dX7_readLane_42 kk) ?_
      exact hj45_1 p59 ls (lv_sub hl [1, 0] rfl)
theorem mok_X7_knownOne : mOK yX7_knownOne 1 := ⟨⟨by decide +kernel, by decide +kernel⟩, by decide +kernel⟩
abbrev KX7_knownOne (l : Launch) (D : DD) (h0 hE : AH) (v : Int32) : KT := (l, yX7_knownOne, cX7_knownOne, 3, (some .int), RX7, 8, D, h0, hE, .inl (some (.int v)), false, [])
theorem metX7_knownOne (l : Launch) (D : DD) {a0 : Nat} {a1 : Int32} {h0 : AH} {hE : AH} {v : Int32} (hr : fX7_knownOne a0 a1 h0 = some (v, hE)) : AMet (KX7_knownOne l D h0 hE v) [.ref a0, .int a1] := by
  refine AMet.of (K := (KX7_knownOne l D h0 hE v)) rfl ⟨_, rfl⟩ rfl rfl rfl (Nat.le_of_ble_eq_true rfl) (fun ls hl => ?_)
  have hl : lv_has ls 3 [(0, .ref a0), (1, .int a1)] := hl
  suffices hsp : SP (fX7_knownOne a0 a1 h0) (fun z => z = (v, hE)) (AW (KX7_knownOne l D h0 hE v) h0 0 ls []) from hsp _ hr rfl
  unfold fX7_knownOne
  refine sp_m (aw_aload_n (pc := 0) dX7_knownOne_0 rfl (lv_at hl 0 rfl)) ?_
  refine sp_g fun s2 => ?_
  refine sp_b fun p1 ep1 => ?_
  refine sp_m (G' := AW (KX7_knownOne l D h0 hE v) h0 (4) ls (.int p1 :: [])) (fun kk => aw_callV (As := []) (metX7_isName _ _ ep1) (rcv_o okX7 s2) rfl mok_X7_isName q1822 q1824 qs66 q125 q1825 (Nat.le_of_ble_eq_true rfl) (Nat.le_of_ble_eq_true rfl) rfl hl.1 rfl (Nat.le_of_ble_eq_true rfl) (pc := 1) dX7_knownOne_1 kk) ?_
  have hj12_1 : ∀ h3 : AH, ∀ ls : Array Slot, lv_has ls 3 [(0, .ref a0), (1, .int a1)] → SP (X7_knownOne_j12 a0 a1 h3) (fun z => z = (v, hE)) (AW (KX7_knownOne l D h0 hE v) h3 12 ls ([])) := by
    intro h3 ls hl
    unfold X7_knownOne_j12
    refine sp_m (aw_aload_n (pc := 12) dX7_knownOne_12 rfl (lv_at hl 0 rfl)) ?_
    refine sp_g fun s4 => ?_
    refine sp_b fun x5 ex5 => ?_
    refine sp_m (aw_get (k := 4) okX7 s4 (by decide) q1506 (Or.inl rfl) (congrArg va_rf ex5) (pc := 13) dX7_knownOne_13) ?_
    refine sp_m (aw_aload_n (pc := 16) dX7_knownOne_16 rfl (lv_at hl 0 rfl)) ?_
    refine sp_m (aw_get (k := 15) okX7 s4 (by decide) q1517 (Or.inl rfl) rfl (pc := 17) dX7_knownOne_17) ?_
    refine sp_g fun s7 => ?_
    refine sp_b fun p6 ep6 => ?_
    refine sp_m (G' := AW (KX7_knownOne l D h0 hE v) h3 (23) ls (.int p6 :: [])) (fun kk => aw_callV (As := [.long (gL h3 a0 15)]) (metX20_find _ _ ep6) (rcv_o okX20 s7) rfl mok_X20_find q1829 q1830 q1831 q144 q1832 (Nat.le_of_ble_eq_true rfl) (Nat.le_of_ble_eq_true rfl) rfl hl.1 rfl (Nat.le_of_ble_eq_true rfl) (pc := 20) dX7_knownOne_20 kk) ?_
    refine sp_m (aw_istore_n (lv' := [(2, .int p6), (0, .ref a0), (1, .int a1)]) (pc := 23) dX7_knownOne_23 rfl hl (by decide) rfl) (sp_all fun ls hl => ?_)
    refine sp_m (aw_iload_n (pc := 24) dX7_knownOne_24 rfl (lv_at hl 0 rfl)) ?_
    refine sp_m (aw_iconst (v := (-1)) (pc := 25) dX7_knownOne_25 rfl) ?_
    have hj47_2 : ∀ h8 : AH, ∀ ls : Array Slot, lv_has ls 3 [(0, .ref a0), (2, .int p6)] → SP (X7_knownOne_j47 a0 p6 h8) (fun z => z = (v, hE)) (AW (KX7_knownOne l D h0 hE v) h8 47 ls ([])) := by
      intro h8 ls hl
      unfold X7_knownOne_j47
      refine sp_m (aw_aload_n (pc := 47) dX7_knownOne_47 rfl (lv_at hl 0 rfl)) ?_
      refine sp_g fun s9 => ?_
      refine sp_m (aw_get (k := 9) okX7 s9 (by decide) q1511 (Or.inl rfl) rfl (pc := 48) dX7_knownOne_48) ?_
      refine sp_m (aw_iconst (v := 5) (pc := 51) dX7_knownOne_51 rfl) ?_
      refine sp_if (fun c10 => ?_) (fun c10 => ?_)
      · refine sp_m (aw_icmp_ne_t (tgt := 59) (pc := 52) dX7_knownOne_52 (by decide) c10) ?_
        refine sp_m (aw_aload_n (pc := 59) dX7_knownOne_59 rfl (lv_at hl 0 rfl)) ?_
        refine sp_b fun x11 ex11 => ?_
        refine sp_m (aw_get (k := 4) okX7 s9 (by decide) q1506 (Or.inl rfl) (congrArg va_rf ex11) (pc := 60) dX7_knownOne_60) ?_
        refine sp_g fun s12 => ?_
        refine sp_b fun x13 ex13 => ?_
        refine sp_m (aw_getN (k := 17) okX20 s12 (by decide) nq1670 rfl (congrArg va_rf ex13) (pc := 63) dX7_knownOne_63) ?_
        refine sp_m (aw_iload_n (pc := 66) dX7_knownOne_66 rfl (lv_at hl 1 rfl)) ?_
        refine sp_g fun s14 => ?_
        refine sp_g fun i15 => ?_
        refine sp_m (aw_iald s14 i15 (pc := 67) dX7_knownOne_67) ?_
        exact sp_r fun hz => aw_iret hz rfl rfl rfl (pc := 68) dX7_knownOne_68
      · refine sp_m (aw_icmp_ne_f (tgt := 59) (pc := 52) dX7_knownOne_52 (by decide) (Decidable.not_not.mp c10)) ?_
        refine sp_m (aw_iconst (v := 0) (pc := 55) dX7_knownOne_55 rfl) ?_
        refine sp_m (aw_goto (tgt := 68) (pc := 56) dX7_knownOne_56 (by decide)) ?_
        exact sp_r fun hz => aw_iret hz rfl rfl rfl (pc := 68) dX7_knownOne_68
    have hj42_3 : ∀ ls : Array Slot, lv_has ls 3 [(0, .ref a0), (2, .int p6)] → SP (X7_knownOne_j42 a0 h3 p6) (fun z => z = (v, hE)) (AW (KX7_knownOne l D h0 hE v) h3 42 ls ([])) := by
      intro ls hl
      unfold X7_knownOne_j42
      refine sp_m (aw_aload_n (pc := 42) dX7_knownOne_42 rfl (lv_at hl 0 rfl)) ?_
      refine sp_m (aw_iconst (v := 2) (pc := 43) dX7_knownOne_43 rfl) ?_
      refine sp_b fun p16 ep16 => ?_
      refine sp_m (G' := AW (KX7_knownOne l D h0 hE v) p16 (47) ls ([])) (fun kk => aw_callV (As := [.int 2]) (metX7_flaw _ _ ep16) (rcv_o okX7 s4) rfl mok_X7_flaw q1772 q1774 qs57 q125 q1775 (Nat.le_of_ble_eq_true rfl) (Nat.le_of_ble_eq_true rfl) rfl hl.1 rfl (Nat.le_of_ble_eq_true rfl) (pc := 44) dX7_knownOne_44 kk) ?_
      exact hj47_2 p16 ls (lv_sub hl [0, 1] rfl)
    refine sp_if (fun c17 => ?_) (fun c17 => ?_)
    · refine sp_m (aw_icmp_eq_t (tgt := 42) (pc := 26) dX7_knownOne_26 (by decide) c17) ?_
      exact hj42_3 ls (lv_sub hl [1, 0] rfl)
    · refine sp_m (aw_icmp_eq_f (tgt := 42) (pc := 26) dX7_knownOne_26 (by decide) c17) ?_
      refine sp_m (aw_aload_n (pc := 29) dX7_knownOne_29 rfl (lv_at hl 1 rfl)) ?_
      refine sp_b fun x18 ex18 => ?_
      refine sp_m (aw_get (k := 4) okX7 s4 (by decide) q1506 (Or.inl rfl) (congrArg va_rf ex18) (pc := 30) dX7_knownOne_30) ?_
      refine sp_g fun s19 => ?_
      refine sp_b fun x20 ex20 => ?_
      refine sp_m (aw_getN (k := 16) okX20 s19 (by decide) nq1668 rfl (congrArg va_rf ex20) (pc := 33) dX7_knownOne_33) ?_
      refine sp_m (aw_iload_n (pc := 36) dX7_knownOne_36 rfl (lv_at hl 0 rfl)) ?_
      refine sp_g fun s21 => ?_
      refine sp_g fun i22 => ?_
      refine sp_m (aw_iald s21 i22 (pc := 37) dX7_knownOne_37) ?_
      refine sp_m (aw_iload_n (pc := 38) dX7_knownOne_38 rfl (lv_at hl 2 rfl)) ?_
      refine sp_if (fun c23 => ?_) (fun c23 => ?_)
      · refine sp_m (aw_icmp_eq_t (tgt := 47) (pc := 39) dX7_knownOne_39 (by decide) c23) ?_
        exact hj47_2 h3 ls (lv_sub hl [1, 0] rfl)
      · refine sp_m (aw_icmp_eq_f (tgt := 47) (pc := 39) dX7_knownOne_39 (by decide) c23) ?_
        exact hj42_3 ls (lv_sub hl [1, 0] rfl)
  refine sp_if (fun c24 => ?_) (fun c24 => ?_)
  · refine sp_m (aw_if_ne_t (tgt := 12) (pc := 4) dX7_knownOne_4 (by decide) c24) ?_
    exact hj12_1 h0 ls (lv_sub hl [0, 1] rfl)
  · refine sp_m (aw_if_ne_f (tgt := 12) (pc := 4) dX7_knownOne_4 (by decide) (Decidable.not_not.mp c24)) ?_
    refine sp_m (aw_aload_n (pc := 7) dX7_knownOne_7 rfl (lv_at hl 0 rfl)) ?_
    refine sp_m (aw_iconst (v := 1) (pc := 8) dX7_knownOne_8 rfl) ?_
    refine sp_b fun p25 ep25 => ?_
    refine sp_m (G' := AW (KX7_knownOne l D h0 hE v) p25 (12) ls ([])) (fun kk => aw_callV (As := [.int 1]) (metX7_flaw _ _ ep25) (rcv_o okX7 s2) rfl mok_X7_flaw q1772 q1774 qs57 q125 q1775 (Nat.le_of_ble_eq_true rfl) (Nat.le_of_ble_eq_true rfl) rfl hl.1 rfl (Nat.le_of_ble_eq_true rfl) (pc := 9) dX7_knownOne_9 kk) ?_
    exact hj12_1 p25 ls (lv_sub hl [0, 1] rfl)
theorem mok_X7_readPass : mOK yX7_readPass 0 := ⟨⟨by decide +kernel, by decide +kernel⟩, by decide +kernel⟩
abbrev KX7_readPass (l : Launch) (D : DD) (h0 hE : AH) : KT := (l, yX7_readPass, cX7_readPass, 4, none, RX7, 9, D, h0, hE, .inl (none), false, [])
theorem metX7_readPass (l : Launch) (D : DD) {a0 : Nat} {h0 : AH} {hE : AH} (hr : fX7_readPass a0 h0 = some hE) : AMet (KX7_readPass l D h0 hE) [.ref a0] := by
  refine AMet.of (K := (KX7_readPass l D h0 hE)) rfl ⟨_, rfl⟩ rfl rfl rfl (Nat.le_of_ble_eq_true rfl) (fun ls hl => ?_)
  have hl : lv_has ls 4 [(0, .ref a0)] := hl
  suffices hsp : SP (fX7_readPass a0 h0) (fun z => z = hE) (AW (KX7_readPass l D h0 hE) h0 0 ls []) from hsp _ hr rfl
  unfold fX7_readPass
  refine sp_m (aw_aload_n (pc := 0) dX7_readPass_0 rfl (lv_at hl 0 rfl)) ?_
  refine sp_m (aw_aload_n (pc := 1) dX7_readPass_1 rfl (lv_at hl 0 rfl)) ?_
  refine sp_g fun s1 => ?_
  refine sp_b fun x2 ex2 => ?_
  refine sp_m (aw_get (k := 4) okX7 s1 (by decide) q1506 (Or.inl rfl) (congrArg va_rf ex2) (pc := 2) dX7_readPass_2) ?_
  refine sp_g fun s3 => ?_
  refine sp_m (aw_getN (k := 5) okX20 s3 (by decide) nq1647 rfl rfl (pc := 5) dX7_readPass_5) ?_
  refine sp_m (aw_bipush (v := 9) (pc := 8) dX7_readPass_8 rfl) ?_
  refine sp_b fun p4 ep4 => ?_
  refine sp_m (G' := AW (KX7_readPass l D h0 hE) p4 (13) ls ([])) (fun kk => aw_callV (As := [.int (gI h0 x2 5), .int 9]) (metX7_lineBegins _ _ ep4) (rcv_o okX7 s1) rfl mok_X7_lineBegins q1802 q1804 qs63 q125 q1805 (Nat.le_of_ble_eq_true rfl) (Nat.le_of_ble_eq_true rfl) rfl hl.1 rfl (Nat.le_of_ble_eq_true rfl) (pc := 10) dX7_readPass_10 kk) ?_
  refine sp_m (aw_aload_n (pc := 13) dX7_readPass_13 rfl (lv_at hl 0 rfl)) ?_
  refine sp_m (aw_iconst (v := 1) (pc := 14) dX7_readPass_14 rfl) ?_
  refine sp_g fun s6 => ?_
  refine sp_b fun p5 ep5 => ?_
  refine sp_m (G' := AW (KX7_readPass l D h0 hE) p5.2 (18) ls (.int p5.1 :: [])) (fun kk => aw_callV (As := [.int 1]) (metX7_knownOne _ _ ep5) (rcv_o okX7 s6) rfl mok_X7_knownOne q1852 q1854 qs70 q125 q1855 (Nat.le_of_ble_eq_true rfl) (Nat.le_of_ble_eq_true rfl) rfl hl.1 rfl (Nat.le_of_ble_eq_true rfl) (pc := 15) dX7_readPass_15 kk) ?_
  refine sp_m (aw_istore_n (lv' := [(1, .int p5.1), (0, .ref a0)]) (pc := 18) dX7_readPass_18 rfl hl (by decide) rfl) (sp_all fun ls hl => ?_)
  refine sp_m (aw_aload_n (pc := 19) dX7_readPass_19 rfl (lv_at hl 1 rfl)) ?_
  refine sp_g fun s8 => ?_
  refine sp_b fun p7 ep7 => ?_
  refine sp_m (G' := AW (KX7_readPass l D h0 hE) p7 (23) ls ([])) (fun kk => aw_callV (As := []) (metX7_goesOn _ _ ep7) (rcv_o okX7 s8) rfl mok_X7_goesOn q1709 q1711 qs51 q125 q1712 (Nat.le_of_ble_eq_true rfl) (Nat.le_of_ble_eq_true rfl) rfl hl.1 rfl (Nat.le_of_ble_eq_true rfl) (pc := 20) dX7_readPass_20 kk) ?_
  refine sp_m (aw_aload_n (pc := 23) dX7_readPass_23 rfl (lv_at hl 1 rfl)) ?_
  refine sp_m (aw_iconst (v := 1) (pc := 24) dX7_readPass_24 rfl) ?_
  refine sp_g fun s10 => ?_
  refine sp_b fun p9 ep9 => ?_
  refine sp_m (G' := AW (KX7_readPass l D h0 hE) p9.2 (28) ls (.int p9.1 :: [])) (fun kk => aw_callV (As := [.int 1]) (metX7_knownOne _ _ ep9) (rcv_o okX7 s10) rfl mok_X7_knownOne q1852 q1854 qs70 q125 q1855 (Nat.le_of_ble_eq_true rfl) (Nat.le_of_ble_eq_true rfl) rfl hl.1 rfl (Nat.le_of_ble_eq_true rfl) (pc := 25) dX7_readPass_25 kk) ?_
  refine sp_m (aw_istore_n (lv' := [(2, .int p9.1), (1, .int p5.1), (0, .ref a0)]) (pc := 28) dX7_readPass_28 rfl hl (by decide) rfl) (sp_all fun ls hl => ?_)
  refine sp_m (aw_aload_n (pc := 29) dX7_readPass_29 rfl (lv_at hl 2 rfl)) ?_
  refine sp_g fun s11 => ?_
  refine sp_m (aw_get (k := 9) okX7 s11 (by decide) q1511 (Or.inl rfl) rfl (pc := 30) dX7_readPass_30) ?_
  refine sp_m (aw_iconst (v := 5) (pc := 33) dX7_readPass_33 rfl) ?_
  have hj65_1 : ∀ h12 : AH, ∀ ls : Array Slot, lv_has ls 4 [(0, .ref a0), (1, .int p5.1), (2, .int p9.1)] → SP (X7_readPass_j65 a0 p5 p9 h12) (fun z => z = hE) (AW (KX7_readPass l D h0 hE) h12 65 ls ([])) := by
    intro h12 ls hl
    unfold X7_readPass_j65
    refine sp_m (aw_aload_n (pc := 65) dX7_readPass_65 rfl (lv_at hl 0 rfl)) ?_
    refine sp_g fun s14 => ?_
    refine sp_b fun p13 ep13 => ?_
    refine sp_m (G' := AW (KX7_readPass l D h0 hE) p13 (69) ls ([])) (fun kk => aw_callV (As := []) (metX7_goesOn _ _ ep13) (rcv_o okX7 s14) rfl mok_X7_goesOn q1709 q1711 qs51 q125 q1712 (Nat.le_of_ble_eq_true rfl) (Nat.le_of_ble_eq_true rfl) rfl hl.1 rfl (Nat.le_of_ble_eq_true rfl) (pc := 66) dX7_readPass_66 kk) ?_
    refine sp_m (aw_aload_n (pc := 69) dX7_readPass_69 rfl (lv_at hl 0 rfl)) ?_
    refine sp_b fun x15 ex15 => ?_
    refine sp_m (aw_ldcSw sk_X7_291 ex15 (pc := 70) dX7_readPass_70) ?_
    refine sp_m (aw_iconst (v := 0) (pc := 73) dX7_readPass_73 rfl) ?_
    refine sp_m (aw_bipush (v := 99) (pc := 74) dX7_readPass_74 rfl) ?_
    refine sp_g fun s17 => ?_
    refine sp_b fun p16 ep16 => ?_
    refine sp_m (G' := AW (KX7_readPass l D h0 hE) p16.2 (79) ls (.int p16.1 :: [])) (fun kk => aw_callV (As := [.ref x15, .int 0, .int 99]) (metX7_readPart _ _ ep16) (rcv_o okX7 s17) rfl mok_X7_readPart q1777 q1779 qs58 q125 q1780 (Nat.le_of_ble_eq_true rfl) (Nat.le_of_ble_eq_true rfl) rfl hl.1 rfl (Nat.le_of_ble_eq_true rfl) (pc := 76) dX7_readPass_76 kk) ?_
    refine sp_m (aw_istore_n (lv' := [(3, .int p16.1), (0, .ref a0), (1, .int p5.1), (2, .int p9.1)]) (pc := 79) dX7_readPass_79 rfl hl (by decide) rfl) (sp_all fun ls hl => ?_)
    refine sp_m (aw_aload_n (pc := 80) dX7_readPass_80 rfl (lv_at hl 1 rfl)) ?_
    refine sp_g fun s18 => ?_
    refine sp_m (aw_get (k := 9) okX7 s18 (by decide) q1511 (Or.inl rfl) rfl (pc := 81) dX7_readPass_81) ?_
    refine sp_m (aw_iconst (v := 5) (pc := 84) dX7_readPass_84 rfl) ?_
    refine sp_if (fun c19 => ?_) (fun c19 => ?_)
    · refine sp_m (aw_icmp_ne_t (tgt := 89) (pc := 85) dX7_readPass_85 (by decide) c19) ?_
      refine sp_m (aw_aload_n (pc := 89) dX7_readPass_89 rfl (lv_at hl 1 rfl)) ?_
      refine sp_b fun x20 ex20 => ?_
      refine sp_m (aw_get (k := 4) okX7 s18 (by decide) q1506 (Or.inl rfl) (congrArg va_rf ex20) (pc := 90) dX7_readPass_90) ?_
      refine sp_g fun s21 => ?_
      refine sp_b fun x22 ex22 => ?_
      refine sp_m (aw_getN (k := 14) okX20 s21 (by decide) nq1664 rfl (congrArg va_rf ex22) (pc := 93) dX7_readPass_93) ?_
      refine sp_m (aw_bipush (v := 6) (pc := 96) dX7_readPass_96 rfl) ?_
      refine sp_m (aw_iload_n (pc := 98) dX7_readPass_98 rfl (lv_at hl 2 rfl)) ?_
      refine sp_m (aw_imul (pc := 99) dX7_readPass_99) ?_
      refine sp_m (aw_iload_n (pc := 100) dX7_readPass_100 rfl (lv_at hl 3 rfl)) ?_
      refine sp_m (aw_iadd (pc := 101) dX7_readPass_101) ?_
      refine sp_m (aw_iload_n (pc := 102) dX7_readPass_102 rfl (lv_at hl 0 rfl)) ?_
      refine sp_g fun s23 => ?_
      refine sp_g fun i24 => ?_
      refine sp_t fun h25 eh250 => ?_
      have eh25 : gS h25 = gS p16.2 := by rw [eh250]; rfl
      refine sp_m (fun kk => aw_iast s23 i24 (pc := 103) dX7_readPass_103 (AWe eh250 kk)) ?_
      refine sp_m (aw_aload_n (pc := 104) dX7_readPass_104 rfl (lv_at hl 1 rfl)) ?_
      refine sp_b fun x26 ex26 => ?_
      refine sp_m (aw_get (k := 4) okX7 (uS eh25 s18) (by decide) q1506 (Or.inl rfl) (congrArg va_rf ex26) (pc := 105) dX7_readPass_105) ?_
      refine sp_g fun s27 => ?_
      refine sp_b fun x28 ex28 => ?_
      refine sp_m (aw_getN (k := 14) okX20 s27 (by decide) nq1664 rfl (congrArg va_rf ex28) (pc := 108) dX7_readPass_108) ?_
      refine sp_m (aw_bipush (v := 6) (pc := 111) dX7_readPass_111 rfl) ?_
      refine sp_m (aw_iload_n (pc := 113) dX7_readPass_113 rfl (lv_at hl 3 rfl)) ?_
      refine sp_m (aw_imul (pc := 114) dX7_readPass_114) ?_
      refine sp_m (aw_iload_n (pc := 115) dX7_readPass_115 rfl (lv_at hl 2 rfl)) ?_
      refine sp_m (aw_iadd (pc := 116) dX7_readPass_116) ?_
      refine sp_m (aw_iload_n (pc := 117) dX7_readPass_117 rfl (lv_at hl 0 rfl)) ?_
      refine sp_g fun s29 => ?_
      refine sp_g fun i30 => ?_
      refine sp_t fun h31 eh310 => ?_
      have eh31 : gS h31 = gS h25 := by rw [eh310]; rfl
      refine sp_m (fun kk => aw_iast s29 i30 (pc := 118) dX7_readPass_118 (AWe eh310 kk)) ?_
      refine sp_m (aw_aload_n (pc := 119) dX7_readPass_119 rfl (lv_at hl 1 rfl)) ?_
      refine sp_b fun x32 ex32 => ?_
      refine sp_m (aw_get (k := 4) okX7 (uS eh31 (uS eh25 s18)) (by decide) q1506 (Or.inl rfl) (congrArg va_rf ex32) (pc := 120) dX7_readPass_120) ?_
      refine sp_m (aw_dup (pc := 123) dX7_readPass_123 rfl) ?_
      refine sp_g fun s33 => ?_
      refine sp_m (aw_getN (k := 5) okX20 s33 (by decide) nq1647 rfl rfl (pc := 124) dX7_readPass_124) ?_
      refine sp_m (aw_iconst (v := 1) (pc := 127) dX7_readPass_127 rfl) ?_
      refine sp_m (aw_iadd (pc := 128) dX7_readPass_128) ?_
      refine sp_t fun h34 eh340 => ?_
      have eh34 : gS h34 = gS h31 := by rw [eh340]; rfl
      refine sp_m (aw_putN (k := 5) okX20 opX20 s33 (by decide) nq1647 rfl rfl (hasV_I' eh340) rfl rfl (pc := 129) dX7_readPass_129) ?_
      exact sp_r fun hz => aw_vret hz rfl rfl rfl (pc := 132) dX7_readPass_132
    · refine sp_m (aw_icmp_ne_f (tgt := 89) (pc := 85) dX7_readPass_85 (by decide) (Decidable.not_not.mp c19)) ?_
      exact sp_r fun hz => aw_vret hz rfl rfl rfl (pc := 88) dX7_readPass_88
  refine sp_if (fun c35 => ?_) (fun c35 => ?_)
  · refine sp_m (aw_icmp_eq_t (tgt := 65) (pc := 34) dX7_readPass_34 (by decide) c35) ?_
    exact hj65_1 p9.2 ls (lv_sub hl [2, 1, 0] rfl)
  · refine sp_m (aw_icmp_eq_f (tgt := 65) (pc := 34) dX7_readPass_34 (by decide) c35) ?_
    refine sp_m (aw_iload_n (pc := 37) dX7_readPass_37 rfl (lv_at hl 1 rfl)) ?_
    refine sp_m (aw_iload_n (pc := 38) dX7_readPass_38 rfl (lv_at hl 0 rfl)) ?_
    have hj60_2 : ∀ ls : Array Slot, lv_has ls 4 [(0, .ref a0), (1, .int p5.1), (2, .int p9.1)] → SP (X7_readPass_j60 a0 p5 p9) (fun z => z = hE) (AW (KX7_readPass l D h0 hE) p9.2 60 ls ([])) := by
      intro ls hl
      unfold X7_readPass_j60
      refine sp_m (aw_aload_n (pc := 60) dX7_readPass_60 rfl (lv_at hl 0 rfl)) ?_
      refine sp_m (aw_iconst (v := 3) (pc := 61) dX7_readPass_61 rfl) ?_
      refine sp_b fun p36 ep36 => ?_
      refine sp_m (G' := AW (KX7_readPass l D h0 hE) p36 (65) ls ([])) (fun kk => aw_callV (As := [.int 3]) (metX7_flaw _ _ ep36) (rcv_o okX7 s11) rfl mok_X7_flaw q1772 q1774 qs57 q125 q1775 (Nat.le_of_ble_eq_true rfl) (Nat.le_of_ble_eq_true rfl) rfl hl.1 rfl (Nat.le_of_ble_eq_true rfl) (pc := 62) dX7_readPass_62 kk) ?_
      exact hj65_1 p36 ls (lv_sub hl [0, 1, 2] rfl)
    refine sp_if (fun c37 => ?_) (fun c37 => ?_)
    · refine sp_m (aw_icmp_eq_t (tgt := 60) (pc := 39) dX7_readPass_39 (by decide) c37) ?_
      exact hj60_2 ls (lv_sub hl [2, 1, 0] rfl)
    · refine sp_m (aw_icmp_eq_f (tgt := 60) (pc := 39) dX7_readPass_39 (by decide) c37) ?_
      refine sp_m (aw_aload_n (pc := 42) dX7_readPass_42 rfl (lv_at hl 2 rfl)) ?_
      refine sp_b fun x38 ex38 => ?_
      refine sp_m (aw_get (k := 4) okX7 s11 (by decide) q1506 (Or.inl rfl) (congrArg va_rf ex38) (pc := 43) dX7_readPass_43) ?_
      refine sp_g fun s39 => ?_
      refine sp_b fun x40 ex40 => ?_
      refine sp_m (aw_getN (k := 14) okX20 s39 (by decide) nq1664 rfl (congrArg va_rf ex40) (pc := 46) dX7_readPass_46) ?_
      refine sp_m (aw_bipush (v := 6) (pc := 49) dX7_readPass_49 rfl) ?_
      refine sp_m (aw_iload_n (pc := 51) dX7_readPass_51 rfl (lv_at hl 1 rfl)) ?_
      refine sp_m (aw_imul (pc := 52) dX7_readPass_52) ?_
      refine sp_m (aw_iload_n (pc := 53) dX7_readPass_53 rfl (lv_at hl 0 rfl)) ?_
      refine sp_m (aw_iadd (pc := 54) dX7_readPass_54) ?_
      refine sp_g fun s41 => ?_
      refine sp_g fun i42 => ?_
      refine sp_m (aw_iald s41 i42 (pc := 55) dX7_readPass_55) ?_
      refine sp_m (aw_iconst (v := (-1)) (pc := 56) dX7_readPass_56 rfl) ?_
      refine sp_if (fun c43 => ?_) (fun c43 => ?_)
      · refine sp_m (aw_icmp_eq_t (tgt := 65) (pc := 57) dX7_readPass_57 (by decide) c43) ?_
        exact hj65_1 p9.2 ls (lv_sub hl [2, 1, 0] rfl)
      · refine sp_m (aw_icmp_eq_f (tgt := 65) (pc := 57) dX7_readPass_57 (by decide) c43) ?_
        exact hj60_2 ls (lv_sub hl [2, 1, 0] rfl)
theorem mok_X7_readTurned : mOK yX7_readTurned 0 := ⟨⟨by decide +kernel, by decide +kernel⟩, by decide +kernel⟩
abbrev KX7_readTurned (l : Launch) (D : DD) (h0 hE : AH) : KT := (l, yX7_readTurned, cX7_readTurned, 2, none, RX7, 9, D, h0, hE, .inl (none), false, [])
theorem metX7_readTurned (l : Launch) (D : DD) {a0 : Nat} {h0 : AH} {hE : AH} (hr : fX7_readTurned a0 h0 = some hE) : AMet (KX7_readTurned l D h0 hE) [.ref a0] := by
  refine AMet.of (K := (KX7_readTurned l D h0 hE)) rfl ⟨_, rfl⟩ rfl rfl rfl (Nat.le_of_ble_eq_true rfl) (fun ls hl => ?_)
  have hl : lv_has ls 2 [(0, .ref a0)] := hl
  suffices hsp : SP (fX7_readTurned a0 h0) (fun z => z = hE) (AW (KX7_readTurned l D h0 hE) h0 0 ls []) from hsp _ hr rfl
  unfold fX7_readTurned
  refine sp_m (aw_aload_n (pc := 0) dX7_readTurned_0 rfl (lv_at hl 0 rfl)) ?_
  refine sp_m (aw_iconst (v := 0) (pc := 1) dX7_readTurned_1 rfl) ?_
  refine sp_m (aw_iconst (v := 1) (pc := 2) dX7_readTurned_2 rfl) ?_
  refine sp_g fun s2 => ?_
  refine sp_b fun p1 ep1 => ?_
  refine sp_m (G' := AW (KX7_readTurned l D h0 hE) p1 (6) ls ([])) (fun kk => aw_callV (As := [.int 0, .int 1]) (metX7_lineBegins _ _ ep1) (rcv_o okX7 s2) rfl mok_X7_lineBegins q1802 q1804 qs63 q125 q1805 (Nat.le_of_ble_eq_true rfl) (Nat.le_of_ble_eq_true rfl) rfl hl.1 rfl (Nat.le_of_ble_eq_true rfl) (pc := 3) dX7_readTurned_3 kk) ?_
  refine sp_m (aw_aload_n (pc := 6) dX7_readTurned_6 rfl (lv_at hl 0 rfl)) ?_
  refine sp_m (aw_iconst (v := 0) (pc := 7) dX7_readTurned_7 rfl) ?_
  refine sp_g fun s4 => ?_
  refine sp_b fun p3 ep3 => ?_
  refine sp_m (G' := AW (KX7_readTurned l D h0 hE) p3.2 (11) ls (.int p3.1 :: [])) (fun kk => aw_callV (As := [.int 0]) (metX7_knownOne _ _ ep3) (rcv_o okX7 s4) rfl mok_X7_knownOne q1852 q1854 qs70 q125 q1855 (Nat.le_of_ble_eq_true rfl) (Nat.le_of_ble_eq_true rfl) rfl hl.1 rfl (Nat.le_of_ble_eq_true rfl) (pc := 8) dX7_readTurned_8 kk) ?_
  refine sp_m (aw_istore_n (lv' := [(1, .int p3.1), (0, .ref a0)]) (pc := 11) dX7_readTurned_11 rfl hl (by decide) rfl) (sp_all fun ls hl => ?_)
  refine sp_m (aw_aload_n (pc := 12) dX7_readTurned_12 rfl (lv_at hl 1 rfl)) ?_
  refine sp_g fun s5 => ?_
  refine sp_m (aw_get (k := 9) okX7 s5 (by decide) q1511 (Or.inl rfl) rfl (pc := 13) dX7_readTurned_13) ?_
  refine sp_m (aw_iconst (v := 5) (pc := 16) dX7_readTurned_16 rfl) ?_
  have hj39_1 : ∀ h6 : AH, ∀ ls : Array Slot, lv_has ls 2 [(0, .ref a0), (1, .int p3.1)] → SP (X7_readTurned_j39 a0 p3 h6) (fun z => z = hE) (AW (KX7_readTurned l D h0 hE) h6 39 ls ([])) := by
    intro h6 ls hl
    unfold X7_readTurned_j39
    refine sp_m (aw_aload_n (pc := 39) dX7_readTurned_39 rfl (lv_at hl 0 rfl)) ?_
    refine sp_g fun s8 => ?_
    refine sp_b fun p7 ep7 => ?_
    refine sp_m (G' := AW (KX7_readTurned l D h0 hE) p7 (43) ls ([])) (fun kk => aw_callV (As := []) (metX7_goesOn _ _ ep7) (rcv_o okX7 s8) rfl mok_X7_goesOn q1709 q1711 qs51 q125 q1712 (Nat.le_of_ble_eq_true rfl) (Nat.le_of_ble_eq_true rfl) rfl hl.1 rfl (Nat.le_of_ble_eq_true rfl) (pc := 40) dX7_readTurned_40 kk) ?_
    refine sp_m (aw_aload_n (pc := 43) dX7_readTurned_43 rfl (lv_at hl 0 rfl)) ?_
    refine sp_g fun s9 => ?_
    refine sp_m (aw_get (k := 9) okX7 s9 (by decide) q1511 (Or.inl rfl) rfl (pc := 44) dX7_readTurned_44) ?_
    refine sp_m (aw_iconst (v := 5) (pc := 47) dX7_readTurned_47 rfl) ?_
    refine sp_if (fun c10 => ?_) (fun c10 => ?_)
    · refine sp_m (aw_icmp_eq_t (tgt := 66) (pc := 48) dX7_readTurned_48 (by decide) c10) ?_
      exact sp_r fun hz => aw_vret hz rfl rfl rfl (pc := 66) dX7_readTurned_66
    · refine sp_m (aw_icmp_eq_f (tgt := 66) (pc := 48) dX7_readTurned_48 (by decide) c10) ?_
      refine sp_m (aw_aload_n (pc := 51) dX7_readTurned_51 rfl (lv_at hl 0 rfl)) ?_
      refine sp_b fun x11 ex11 => ?_
      refine sp_m (aw_get (k := 4) okX7 s9 (by decide) q1506 (Or.inl rfl) (congrArg va_rf ex11) (pc := 52) dX7_readTurned_52) ?_
      refine sp_m (aw_dup (pc := 55) dX7_readTurned_55 rfl) ?_
      refine sp_g fun s12 => ?_
      refine sp_m (aw_getN (k := 6) okX20 s12 (by decide) nq1648 rfl rfl (pc := 56) dX7_readTurned_56) ?_
      refine sp_m (aw_iconst (v := 1) (pc := 59) dX7_readTurned_59 rfl) ?_
      refine sp_m (aw_iload_n (pc := 60) dX7_readTurned_60 rfl (lv_at hl 1 rfl)) ?_
      refine sp_m (aw_ishl (pc := 61) dX7_readTurned_61) ?_
      refine sp_m (aw_ior (pc := 62) dX7_readTurned_62) ?_
      refine sp_t fun h13 eh130 => ?_
      have eh13 : gS h13 = gS p7 := by rw [eh130]; rfl
      refine sp_m (aw_putN (k := 6) okX20 opX20 s12 (by decide) nq1648 rfl rfl (hasV_I' eh130) rfl rfl (pc := 63) dX7_readTurned_63) ?_
      exact sp_r fun hz => aw_vret hz rfl rfl rfl (pc := 66) dX7_readTurned_66
  refine sp_if (fun c14 => ?_) (fun c14 => ?_)
  · refine sp_m (aw_icmp_eq_t (tgt := 39) (pc := 17) dX7_readTurned_17 (by decide) c14) ?_
    exact hj39_1 p3.2 ls (lv_sub hl [1, 0] rfl)
  · refine sp_m (aw_icmp_eq_f (tgt := 39) (pc := 17) dX7_readTurned_17 (by decide) c14) ?_
    refine sp_m (aw_aload_n (pc := 20) dX7_readTurned_20 rfl (lv_at hl 1 rfl)) ?_
    refine sp_b fun x15 ex15 => ?_
    refine sp_m (aw_get (k := 4) okX7 s5 (by decide) q1506 (Or.inl rfl) (congrArg va_rf ex15) (pc := 21) dX7_readTurned_21) ?_
    refine sp_g fun s16 => ?_
    refine sp_m (aw_getN (k := 6) okX20 s16 (by decide) nq1648 rfl rfl (pc := 24) dX7_readTurned_24) ?_
    refine sp_m (aw_iload_n (pc := 27) dX7_readTurned_27 rfl (lv_at hl 0 rfl)) ?_
    refine sp_b fun p17 ep17 => ?_
    refine sp_m (G' := AW (KX7_readTurned l D h0 hE) p3.2 (31) ls (.int p17 :: [])) (fun kk => aw_callS (As := [.int (gI p3.2 x15 6), .int p3.1]) (metX7_bit _ _ ep17) mok_X7_bit q1806 q1807 q125 q1808 (Nat.le_of_ble_eq_true rfl) (Nat.le_of_ble_eq_true rfl) rfl hl.1 rfl (Nat.le_of_ble_eq_true rfl) (pc := 28) dX7_readTurned_28 kk) ?_
    refine sp_if (fun c18 => ?_) (fun c18 => ?_)
    · refine sp_m (aw_if_eq_t (tgt := 39) (pc := 31) dX7_readTurned_31 (by decide) c18) ?_
      exact hj39_1 p3.2 ls (lv_sub hl [1, 0] rfl)
    · refine sp_m (aw_if_eq_f (tgt := 39) (pc := 31) dX7_readTurned_31 (by decide) c18) ?_
      refine sp_m (aw_aload_n (pc := 34) dX7_readTurned_34 rfl (lv_at hl 1 rfl)) ?_
      refine sp_m (aw_iconst (v := 3) (pc := 35) dX7_readTurned_35 rfl) ?_
      refine sp_b fun p19 ep19 => ?_
      refine sp_m (G' := AW (KX7_readTurned l D h0 hE) p19 (39) ls ([])) (fun kk => aw_callV (As := [.int 3]) (metX7_flaw _ _ ep19) (rcv_o okX7 s5) rfl mok_X7_flaw q1772 q1774 qs57 q125 q1775 (Nat.le_of_ble_eq_true rfl) (Nat.le_of_ble_eq_true rfl) rfl hl.1 rfl (Nat.le_of_ble_eq_true rfl) (pc := 36) dX7_readTurned_36 kk) ?_
      exact hj39_1 p19 ls (lv_sub hl [1, 0] rfl)
theorem mok_X7_readLine : mOK yX7_readLine 0 := ⟨⟨by decide +kernel, by decide +kernel⟩, by decide +kernel⟩
abbrev KX7_readLine (l : Launch) (D : DD) (h0 hE : AH) : KT := (l, yX7_readLine, cX7_readLine, 1, none, RX7, 10, D, h0, hE, .inl (none), false, [])
theorem metX7_readLine (l : Launch) (D : DD) {a0 : Nat} {h0 : AH} {hE : AH} (hr : fX7_readLine a0 h0 = some hE) : AMet (KX7_readLine l D h0 hE) [.ref a0] := by
  refine AMet.of (K := (KX7_readLine l D h0 hE)) rfl ⟨_, rfl⟩ rfl rfl rfl (Nat.le_of_ble_eq_true rfl) (fun ls hl => ?_)
  have hl : lv_has ls 1 [(0, .ref a0)] := hl
  suffices hsp : SP (fX7_readLine a0 h0) (fun z => z = hE) (AW (KX7_readLine l D h0 hE) h0 0 ls []) from hsp _ hr rfl
  unfold fX7_readLine
  refine sp_m (aw_aload_n (pc := 0) dX7_readLine_0 rfl (lv_at hl 0 rfl)) ?_
  refine sp_b fun x1 ex1 => ?_
  refine sp_m (aw_ldcS sk_X7_144 ex1 (pc := 1) dX7_readLine_1) ?_
  refine sp_g fun s3 => ?_
  refine sp_b fun p2 ep2 => ?_
  refine sp_m (G' := AW (KX7_readLine l D h0 hE) h0 (6) ls (.int p2 :: [])) (fun kk => aw_callV (As := [.ref x1]) (metX7_isWord _ _ ep2) (rcv_o okX7 s3) rfl mok_X7_isWord q1733 q1735 qs55 q125 q1736 (Nat.le_of_ble_eq_true rfl) (Nat.le_of_ble_eq_true rfl) rfl hl.1 rfl (Nat.le_of_ble_eq_true rfl) (pc := 3) dX7_readLine_3 kk) ?_
  refine sp_if (fun c4 => ?_) (fun c4 => ?_)
  · refine sp_m (aw_if_eq_t (tgt := 16) (pc := 6) dX7_readLine_6 (by decide) c4) ?_
    refine sp_m (aw_aload_n (pc := 16) dX7_readLine_16 rfl (lv_at hl 0 rfl)) ?_
    refine sp_b fun x5 ex5 => ?_
    refine sp_m (aw_ldcS sk_X7_146 ex5 (pc := 17) dX7_readLine_17) ?_
    refine sp_b fun p6 ep6 => ?_
    refine sp_m (G' := AW (KX7_readLine l D h0 hE) h0 (22) ls (.int p6 :: [])) (fun kk => aw_callV (As := [.ref x5]) (metX7_isWord _ _ ep6) (rcv_o okX7 s3) rfl mok_X7_isWord q1733 q1735 qs55 q125 q1736 (Nat.le_of_ble_eq_true rfl) (Nat.le_of_ble_eq_true rfl) rfl hl.1 rfl (Nat.le_of_ble_eq_true rfl) (pc := 19) dX7_readLine_19 kk) ?_
    refine sp_if (fun c7 => ?_) (fun c7 => ?_)
    · refine sp_m (aw_if_eq_t (tgt := 32) (pc := 22) dX7_readLine_22 (by decide) c7) ?_
      refine sp_m (aw_aload_n (pc := 32) dX7_readLine_32 rfl (lv_at hl 0 rfl)) ?_
      refine sp_b fun x8 ex8 => ?_
      refine sp_m (aw_ldcS sk_X7_148 ex8 (pc := 33) dX7_readLine_33) ?_
      refine sp_b fun p9 ep9 => ?_
      refine sp_m (G' := AW (KX7_readLine l D h0 hE) h0 (38) ls (.int p9 :: [])) (fun kk => aw_callV (As := [.ref x8]) (metX7_isWord _ _ ep9) (rcv_o okX7 s3) rfl mok_X7_isWord q1733 q1735 qs55 q125 q1736 (Nat.le_of_ble_eq_true rfl) (Nat.le_of_ble_eq_true rfl) rfl hl.1 rfl (Nat.le_of_ble_eq_true rfl) (pc := 35) dX7_readLine_35 kk) ?_
      refine sp_if (fun c10 => ?_) (fun c10 => ?_)
      · refine sp_m (aw_if_eq_t (tgt := 48) (pc := 38) dX7_readLine_38 (by decide) c10) ?_
        refine sp_m (aw_aload_n (pc := 48) dX7_readLine_48 rfl (lv_at hl 0 rfl)) ?_
        refine sp_b fun x11 ex11 => ?_
        refine sp_m (aw_ldcS sk_X7_150 ex11 (pc := 49) dX7_readLine_49) ?_
        refine sp_b fun p12 ep12 => ?_
        refine sp_m (G' := AW (KX7_readLine l D h0 hE) h0 (54) ls (.int p12 :: [])) (fun kk => aw_callV (As := [.ref x11]) (metX7_isWord _ _ ep12) (rcv_o okX7 s3) rfl mok_X7_isWord q1733 q1735 qs55 q125 q1736 (Nat.le_of_ble_eq_true rfl) (Nat.le_of_ble_eq_true rfl) rfl hl.1 rfl (Nat.le_of_ble_eq_true rfl) (pc := 51) dX7_readLine_51 kk) ?_
        refine sp_if (fun c13 => ?_) (fun c13 => ?_)
        · refine sp_m (aw_if_eq_t (tgt := 64) (pc := 54) dX7_readLine_54 (by decide) c13) ?_
          refine sp_m (aw_aload_n (pc := 64) dX7_readLine_64 rfl (lv_at hl 0 rfl)) ?_
          refine sp_b fun x14 ex14 => ?_
          refine sp_m (aw_ldcS sk_X7_152 ex14 (pc := 65) dX7_readLine_65) ?_
          refine sp_b fun p15 ep15 => ?_
          refine sp_m (G' := AW (KX7_readLine l D h0 hE) h0 (70) ls (.int p15 :: [])) (fun kk => aw_callV (As := [.ref x14]) (metX7_isWord _ _ ep15) (rcv_o okX7 s3) rfl mok_X7_isWord q1733 q1735 qs55 q125 q1736 (Nat.le_of_ble_eq_true rfl) (Nat.le_of_ble_eq_true rfl) rfl hl.1 rfl (Nat.le_of_ble_eq_true rfl) (pc := 67) dX7_readLine_67 kk) ?_
          refine sp_if (fun c16 => ?_) (fun c16 => ?_)
          · refine sp_m (aw_if_eq_t (tgt := 80) (pc := 70) dX7_readLine_70 (by decide) c16) ?_
            refine sp_m (aw_aload_n (pc := 80) dX7_readLine_80 rfl (lv_at hl 0 rfl)) ?_
            refine sp_b fun x17 ex17 => ?_
            refine sp_m (aw_ldcS sk_X7_154 ex17 (pc := 81) dX7_readLine_81) ?_
            refine sp_b fun p18 ep18 => ?_
            refine sp_m (G' := AW (KX7_readLine l D h0 hE) h0 (86) ls (.int p18 :: [])) (fun kk => aw_callV (As := [.ref x17]) (metX7_isWord _ _ ep18) (rcv_o okX7 s3) rfl mok_X7_isWord q1733 q1735 qs55 q125 q1736 (Nat.le_of_ble_eq_true rfl) (Nat.le_of_ble_eq_true rfl) rfl hl.1 rfl (Nat.le_of_ble_eq_true rfl) (pc := 83) dX7_readLine_83 kk) ?_
            refine sp_if (fun c19 => ?_) (fun c19 => ?_)
            · refine sp_m (aw_if_eq_t (tgt := 96) (pc := 86) dX7_readLine_86 (by decide) c19) ?_
              refine sp_m (aw_aload_n (pc := 96) dX7_readLine_96 rfl (lv_at hl 0 rfl)) ?_
              refine sp_m (aw_iconst (v := 1) (pc := 97) dX7_readLine_97 rfl) ?_
              refine sp_b fun p20 ep20 => ?_
              refine sp_m (G' := AW (KX7_readLine l D h0 hE) p20 (101) ls ([])) (fun kk => aw_callV (As := [.int 1]) (metX7_flaw _ _ ep20) (rcv_o okX7 s3) rfl mok_X7_flaw q1772 q1774 qs57 q125 q1775 (Nat.le_of_ble_eq_true rfl) (Nat.le_of_ble_eq_true rfl) rfl hl.1 rfl (Nat.le_of_ble_eq_true rfl) (pc := 98) dX7_readLine_98 kk) ?_
              exact sp_r fun hz => aw_vret hz rfl rfl rfl (pc := 101) dX7_readLine_101
            · refine sp_m (aw_if_eq_f (tgt := 96) (pc := 86) dX7_readLine_86 (by decide) c19) ?_
              refine sp_m (aw_aload_n (pc := 89) dX7_readLine_89 rfl (lv_at hl 0 rfl)) ?_
              refine sp_b fun p21 ep21 => ?_
              refine sp_m (G' := AW (KX7_readLine l D h0 hE) p21 (93) ls ([])) (fun kk => aw_callV (As := []) (metX7_readTurned _ _ ep21) (rcv_o okX7 s3) rfl mok_X7_readTurned q1857 q1859 qs71 q125 q1860 (Nat.le_of_ble_eq_true rfl) (Nat.le_of_ble_eq_true rfl) rfl hl.1 rfl (Nat.le_of_ble_eq_true rfl) (pc := 90) dX7_readLine_90 kk) ?_
              refine sp_m (aw_goto (tgt := 101) (pc := 93) dX7_readLine_93 (by decide)) ?_
              exact sp_r fun hz => aw_vret hz rfl rfl rfl (pc := 101) dX7_readLine_101
          · refine sp_m (aw_if_eq_f (tgt := 80) (pc := 70) dX7_readLine_70 (by decide) c16) ?_
            refine sp_m (aw_aload_n (pc := 73) dX7_readLine_73 rfl (lv_at hl 0 rfl)) ?_
            refine sp_b fun p22 ep22 => ?_
            refine sp_m (G' := AW (KX7_readLine l D h0 hE) p22 (77) ls ([])) (fun kk => aw_callV (As := []) (metX7_readPass _ _ ep22) (rcv_o okX7 s3) rfl mok_X7_readPass q1848 q1850 qs69 q125 q1851 (Nat.le_of_ble_eq_true rfl) (Nat.le_of_ble_eq_true rfl) rfl hl.1 rfl (Nat.le_of_ble_eq_true rfl) (pc := 74) dX7_readLine_74 kk) ?_
            refine sp_m (aw_goto (tgt := 101) (pc := 77) dX7_readLine_77 (by decide)) ?_
            exact sp_r fun hz => aw_vret hz rfl rfl rfl (pc := 101) dX7_readLine_101
        · refine sp_m (aw_if_eq_f (tgt := 64) (pc := 54) dX7_readLine_54 (by decide) c13) ?_
          refine sp_m (aw_aload_n (pc := 57) dX7_readLine_57 rfl (lv_at hl 0 rfl)) ?_
          refine sp_b fun p23 ep23 => ?_
          refine sp_m (G' := AW (KX7_readLine l D h0 hE) p23 (61) ls ([])) (fun kk => aw_callV (As := []) (metX7_readCity _ _ ep23) (rcv_o okX7 s3) rfl mok_X7_readCity q1844 q1846 qs68 q125 q1847 (Nat.le_of_ble_eq_true rfl) (Nat.le_of_ble_eq_true rfl) rfl hl.1 rfl (Nat.le_of_ble_eq_true rfl) (pc := 58) dX7_readLine_58 kk) ?_
          refine sp_m (aw_goto (tgt := 101) (pc := 61) dX7_readLine_61 (by decide)) ?_
          exact sp_r fun hz => aw_vret hz rfl rfl rfl (pc := 101) dX7_readLine_101
      · refine sp_m (aw_if_eq_f (tgt := 48) (pc := 38) dX7_readLine_38 (by decide) c10) ?_
        refine sp_m (aw_aload_n (pc := 41) dX7_readLine_41 rfl (lv_at hl 0 rfl)) ?_
        refine sp_b fun p24 ep24 => ?_
        refine sp_m (G' := AW (KX7_readLine l D h0 hE) p24 (45) ls ([])) (fun kk => aw_callV (As := []) (metX7_readBeast _ _ ep24) (rcv_o okX7 s3) rfl mok_X7_readBeast q1814 q1816 qs64 q125 q1817 (Nat.le_of_ble_eq_true rfl) (Nat.le_of_ble_eq_true rfl) rfl hl.1 rfl (Nat.le_of_ble_eq_true rfl) (pc := 42) dX7_readLine_42 kk) ?_
        refine sp_m (aw_goto (tgt := 101) (pc := 45) dX7_readLine_45 (by decide)) ?_
        exact sp_r fun hz => aw_vret hz rfl rfl rfl (pc := 101) dX7_readLine_101
    · refine sp_m (aw_if_eq_f (tgt := 32) (pc := 22) dX7_readLine_22 (by decide) c7) ?_
      refine sp_m (aw_aload_n (pc := 25) dX7_readLine_25 rfl (lv_at hl 0 rfl)) ?_
      refine sp_b fun p25 ep25 => ?_
      refine sp_m (G' := AW (KX7_readLine l D h0 hE) p25 (29) ls ([])) (fun kk => aw_callV (As := []) (metX7_readLane _ _ ep25) (rcv_o okX7 s3) rfl mok_X7_readLane q1798 q1800 qs62 q125 q1801 (Nat.le_of_ble_eq_true rfl) (Nat.le_of_ble_eq_true rfl) rfl hl.1 rfl (Nat.le_of_ble_eq_true rfl) (pc := 26) dX7_readLine_26 kk) ?_
      refine sp_m (aw_goto (tgt := 101) (pc := 29) dX7_readLine_29 (by decide)) ?_
      exact sp_r fun hz => aw_vret hz rfl rfl rfl (pc := 101) dX7_readLine_101
  · refine sp_m (aw_if_eq_f (tgt := 16) (pc := 6) dX7_readLine_6 (by decide) c4) ?_
    refine sp_m (aw_aload_n (pc := 9) dX7_readLine_9 rfl (lv_at hl 0 rfl)) ?_
    refine sp_b fun p26 ep26 => ?_
    refine sp_m (G' := AW (KX7_readLine l D h0 hE) p26 (13) ls ([])) (fun kk => aw_callV (As := []) (metX7_readField _ _ ep26) (rcv_o okX7 s3) rfl mok_X7_readField q1768 q1770 qs56 q125 q1771 (Nat.le_of_ble_eq_true rfl) (Nat.le_of_ble_eq_true rfl) rfl hl.1 rfl (Nat.le_of_ble_eq_true rfl) (pc := 10) dX7_readLine_10 kk) ?_
    refine sp_m (aw_goto (tgt := 101) (pc := 13) dX7_readLine_13 (by decide)) ?_
    exact sp_r fun hz => aw_vret hz rfl rfl rfl (pc := 101) dX7_readLine_101
theorem mok_X7_readAll : mOK yX7_readAll 0 := ⟨⟨by decide +kernel, by decide +kernel⟩, by decide +kernel⟩
abbrev KX7_readAll (l : Launch) (D : DD) (h0 hE : AH) : KT := (l, yX7_readAll, cX7_readAll, 2, none, RX7, 11, D, h0, hE, .inl (none), false, [])
theorem metX7_readAll (l : Launch) (D : DD) {a0 : Nat} {h0 : AH} {hE : AH} (hr : fX7_readAll a0 h0 = some hE) : AMet (KX7_readAll l D h0 hE) [.ref a0] := by
  refine AMet.of (K := (KX7_readAll l D h0 hE)) rfl ⟨_, rfl⟩ rfl rfl rfl (Nat.le_of_ble_eq_true rfl) (fun ls hl => ?_)
  have hl : lv_has ls 2 [(0, .ref a0)] := hl
  suffices hsp : SP (fX7_readAll a0 h0) (fun z => z = hE) (AW (KX7_readAll l D h0 hE) h0 0 ls []) from hsp _ hr rfl
  unfold fX7_readAll
  refine sp_m (aw_iconst (v := 1) (pc := 0) dX7_readAll_0 rfl) ?_
  refine sp_m (aw_istore_n (lv' := [(1, .int 1), (0, .ref a0)]) (pc := 1) dX7_readAll_1 rfl hl (by decide) rfl) (sp_all fun ls hl => ?_)
  refine sp_m (aw_aload_n (pc := 2) dX7_readAll_2 rfl (lv_at hl 1 rfl)) ?_
  refine sp_m (aw_iconst (v := 0) (pc := 3) dX7_readAll_3 rfl) ?_
  refine sp_g fun s1 => ?_
  refine sp_t fun h2 eh20 => ?_
  have eh2 : gS h2 = gS h0 := by rw [eh20]; rfl
  refine sp_m (aw_put (k := 14) okX7 opX7 s1 (by decide) q1516 (Or.inl rfl) (Or.inl rfl) (hasV_I' eh20) rfl rfl (pc := 4) dX7_readAll_4) ?_
  let P3 : Int32 × AH → Prop := aLP (KX7_readAll l D h0 hE) 2 7 (fun s3v : Int32 × AH => [(0, .ref a0), (1, .int s3v.1)]) (fun s3v => s3v.2)
  let E3 : AH → Prop := aLP (KX7_readAll l D h0 hE) 2 23 (fun r3v : AH => [(0, .ref a0)]) (fun r3v => r3v)
  refine sp_bl (P := P3) (E := E3) (fun s3v => sp_all fun ls hl => ?_) (fun k => k ls (lv_sub hl [1, 0] rfl)) (fun r3v => sp_all fun ls hl => ?_)
  · have hl : lv_has ls 2 [(0, .ref a0), (1, .int s3v.1)] := hl
    show SP _ _ (AW (KX7_readAll l D h0 hE) s3v.2 7 ls [])
    unfold X7_readAll_L7
    refine sp_m (aw_iload_n (pc := 7) dX7_readAll_7 rfl (lv_at hl 1 rfl)) ?_
    refine sp_if (fun c4 => ?_) (fun c4 => ?_)
    · refine sp_m (aw_if_eq_t (tgt := 23) (pc := 8) dX7_readAll_8 (by decide) c4) ?_
      exact sp_r fun hz => hz ls (lv_sub hl [0] rfl)
    · refine sp_m (aw_if_eq_f (tgt := 23) (pc := 8) dX7_readAll_8 (by decide) c4) ?_
      refine sp_m (aw_aload_n (pc := 11) dX7_readAll_11 rfl (lv_at hl 0 rfl)) ?_
      refine sp_g fun s6 => ?_
      refine sp_b fun p5 ep5 => ?_
      refine sp_m (G' := AW (KX7_readAll l D h0 hE) p5 (15) ls ([])) (fun kk => aw_callV (As := []) (metX7_readLine _ _ ep5) (rcv_o okX7 s6) rfl mok_X7_readLine q1728 q1730 qs54 q125 q1731 (Nat.le_of_ble_eq_true rfl) (Nat.le_of_ble_eq_true rfl) rfl hl.1 rfl (Nat.le_of_ble_eq_true rfl) (pc := 12) dX7_readAll_12 kk) ?_
      refine sp_m (aw_aload_n (pc := 15) dX7_readAll_15 rfl (lv_at hl 0 rfl)) ?_
      refine sp_g fun s8 => ?_
      refine sp_b fun p7 ep7 => ?_
      refine sp_m (G' := AW (KX7_readAll l D h0 hE) p7.2 (19) ls (.int p7.1 :: [])) (fun kk => aw_callV (As := []) (metX7_eatsSemicolon _ _ ep7) (rcv_o okX7 s8) rfl mok_X7_eatsSemicolon q1861 q1863 qs72 q125 q1864 (Nat.le_of_ble_eq_true rfl) (Nat.le_of_ble_eq_true rfl) rfl hl.1 rfl (Nat.le_of_ble_eq_true rfl) (pc := 16) dX7_readAll_16 kk) ?_
      refine sp_m (aw_istore_n (lv' := [(1, .int p7.1), (0, .ref a0)]) (pc := 19) dX7_readAll_19 rfl hl (by decide) rfl) (sp_all fun ls hl => ?_)
      refine sp_m (aw_goto (tgt := 7) (pc := 20) dX7_readAll_20 (by decide)) ?_
      exact sp_r fun hz => hz ls (lv_sub hl [1, 0] rfl)
  · have hl : lv_has ls 2 [(0, .ref a0)] := hl
    show SP _ _ (AW (KX7_readAll l D h0 hE) r3v 23 ls [])
    refine sp_m (aw_aload_n (pc := 23) dX7_readAll_23 rfl (lv_at hl 0 rfl)) ?_
    refine sp_g fun s9 => ?_
    refine sp_m (aw_get (k := 9) okX7 s9 (by decide) q1511 (Or.inl rfl) rfl (pc := 24) dX7_readAll_24) ?_
    refine sp_m (aw_iconst (v := 1) (pc := 27) dX7_readAll_27 rfl) ?_
    have hj36_2 : ∀ h10 : AH, ∀ ls : Array Slot, lv_has ls 2 [(0, .ref a0)] → SP (X7_readAll_j36 a0 h10) (fun z => z = hE) (AW (KX7_readAll l D h0 hE) h10 36 ls ([])) := by
      intro h10 ls hl
      unfold X7_readAll_j36
      refine sp_m (aw_aload_n (pc := 36) dX7_readAll_36 rfl (lv_at hl 0 rfl)) ?_
      refine sp_g fun s11 => ?_
      refine sp_b fun x12 ex12 => ?_
      refine sp_m (aw_get (k := 4) okX7 s11 (by decide) q1506 (Or.inl rfl) (congrArg va_rf ex12) (pc := 37) dX7_readAll_37) ?_
      refine sp_g fun s13 => ?_
      refine sp_m (aw_getN (k := 3) okX20 s13 (by decide) nq1645 rfl rfl (pc := 40) dX7_readAll_40) ?_
      refine sp_if (fun c14 => ?_) (fun c14 => ?_)
      · refine sp_m (aw_if_ne_t (tgt := 52) (pc := 43) dX7_readAll_43 (by decide) c14) ?_
        exact sp_r fun hz => aw_vret hz rfl rfl rfl (pc := 52) dX7_readAll_52
      · refine sp_m (aw_if_ne_f (tgt := 52) (pc := 43) dX7_readAll_43 (by decide) (Decidable.not_not.mp c14)) ?_
        refine sp_m (aw_aload_n (pc := 46) dX7_readAll_46 rfl (lv_at hl 0 rfl)) ?_
        refine sp_m (aw_bipush (v := 6) (pc := 47) dX7_readAll_47 rfl) ?_
        refine sp_b fun p15 ep15 => ?_
        refine sp_m (G' := AW (KX7_readAll l D h0 hE) p15 (52) ls ([])) (fun kk => aw_callV (As := [.int 6]) (metX7_flaw _ _ ep15) (rcv_o okX7 s11) rfl mok_X7_flaw q1772 q1774 qs57 q125 q1775 (Nat.le_of_ble_eq_true rfl) (Nat.le_of_ble_eq_true rfl) rfl hl.1 rfl (Nat.le_of_ble_eq_true rfl) (pc := 49) dX7_readAll_49 kk) ?_
        exact sp_r fun hz => aw_vret hz rfl rfl rfl (pc := 52) dX7_readAll_52
    refine sp_if (fun c16 => ?_) (fun c16 => ?_)
    · refine sp_m (aw_icmp_eq_t (tgt := 36) (pc := 28) dX7_readAll_28 (by decide) c16) ?_
      exact hj36_2 r3v ls (lv_sub hl [0] rfl)
    · refine sp_m (aw_icmp_eq_f (tgt := 36) (pc := 28) dX7_readAll_28 (by decide) c16) ?_
      refine sp_m (aw_aload_n (pc := 31) dX7_readAll_31 rfl (lv_at hl 0 rfl)) ?_
      refine sp_m (aw_iconst (v := 1) (pc := 32) dX7_readAll_32 rfl) ?_
      refine sp_b fun p17 ep17 => ?_
      refine sp_m (G' := AW (KX7_readAll l D h0 hE) p17 (36) ls ([])) (fun kk => aw_callV (As := [.int 1]) (metX7_flaw _ _ ep17) (rcv_o okX7 s9) rfl mok_X7_flaw q1772 q1774 qs57 q125 q1775 (Nat.le_of_ble_eq_true rfl) (Nat.le_of_ble_eq_true rfl) rfl hl.1 rfl (Nat.le_of_ble_eq_true rfl) (pc := 33) dX7_readAll_33 kk) ?_
      exact hj36_2 p17 ls (lv_sub hl [0] rfl)
theorem mok_X20_init : mOK yX20_init 0 := ⟨⟨by decide +kernel, by decide +kernel⟩, by decide +kernel⟩
abbrev KX20_init (l : Launch) (D : DD) (h0 hE : AH) : KT := (l, yX20_init, cX20_init, 1, none, RX20, 1, D, h0, hE, .inl (none), false, [])
theorem metX20_init (l : Launch) (D : DD) {a0 : Nat} {h0 : AH} {hE : AH} (hr : fX20_init a0 h0 = some hE) : AMet (KX20_init l D h0 hE) [.ref a0] := by
  refine AMet.of (K := (KX20_init l D h0 hE)) rfl ⟨_, rfl⟩ rfl rfl rfl (Nat.le_of_ble_eq_true rfl) (fun ls hl => ?_)
  have hl : lv_has ls 1 [(0, .ref a0)] := hl
  suffices hsp : SP (fX20_init a0 h0) (fun z => z = hE) (AW (KX20_init l D h0 hE) h0 0 ls []) from hsp _ hr rfl
  unfold fX20_init
  refine sp_m (aw_aload_n (pc := 0) dX20_init_0 rfl (lv_at hl 0 rfl)) ?_
  refine sp_m (aw_objInit hl.1 q1641 q153 q154 (Nat.le_of_ble_eq_true rfl) rfl (pc := 1) dX20_init_1) ?_
  refine sp_m (aw_aload_n (pc := 4) dX20_init_4 rfl (lv_at hl 0 rfl)) ?_
  refine sp_m (aw_bipush (v := 6) (pc := 5) dX20_init_5 rfl) ?_
  refine sp_t fun h1 eh10 => ?_
  refine sp_m (fun kk => aw_newI q313 (by decide) (by decide) (pc := 7) dX20_init_7 (AWe eh10 kk)) ?_
  refine sp_g fun s2 => ?_
  refine sp_t fun h3 eh30 => ?_
  have eh3 : gS h3 = gS h1 := by rw [eh30]; rfl
  refine sp_m (aw_put (k := 8) okX20 opX20 s2 (by decide) q1651 (Or.inl rfl) (Or.inr ⟨rfl, rfl, rfl⟩) (hasV_R' eh30) rfl rfl (pc := 9) dX20_init_9) ?_
  refine sp_m (aw_aload_n (pc := 12) dX20_init_12 rfl (lv_at hl 0 rfl)) ?_
  refine sp_m (aw_bipush (v := 6) (pc := 13) dX20_init_13 rfl) ?_
  refine sp_t fun h4 eh40 => ?_
  refine sp_m (fun kk => aw_newI q313 (by decide) (by decide) (pc := 15) dX20_init_15 (AWe eh40 kk)) ?_
  refine sp_g fun s5 => ?_
  refine sp_t fun h6 eh60 => ?_
  have eh6 : gS h6 = gS h4 := by rw [eh60]; rfl
  refine sp_m (aw_put (k := 9) okX20 opX20 s5 (by decide) q1653 (Or.inl rfl) (Or.inr ⟨rfl, rfl, rfl⟩) (hasV_R' eh60) rfl rfl (pc := 17) dX20_init_17) ?_
  refine sp_m (aw_aload_n (pc := 20) dX20_init_20 rfl (lv_at hl 0 rfl)) ?_
  refine sp_m (aw_iconst (v := 5) (pc := 21) dX20_init_21 rfl) ?_
  refine sp_t fun h7 eh70 => ?_
  refine sp_m (fun kk => aw_newI q313 (by decide) (by decide) (pc := 22) dX20_init_22 (AWe eh70 kk)) ?_
  refine sp_g fun s8 => ?_
  refine sp_t fun h9 eh90 => ?_
  have eh9 : gS h9 = gS h7 := by rw [eh90]; rfl
  refine sp_m (aw_put (k := 10) okX20 opX20 s8 (by decide) q1655 (Or.inl rfl) (Or.inr ⟨rfl, rfl, rfl⟩) (hasV_R' eh90) rfl rfl (pc := 24) dX20_init_24) ?_
  refine sp_m (aw_aload_n (pc := 27) dX20_init_27 rfl (lv_at hl 0 rfl)) ?_
  refine sp_m (aw_iconst (v := 5) (pc := 28) dX20_init_28 rfl) ?_
  refine sp_t fun h10 eh100 => ?_
  refine sp_m (fun kk => aw_newI q313 (by decide) (by decide) (pc := 29) dX20_init_29 (AWe eh100 kk)) ?_
  refine sp_g fun s11 => ?_
  refine sp_t fun h12 eh120 => ?_
  have eh12 : gS h12 = gS h10 := by rw [eh120]; rfl
  refine sp_m (aw_put (k := 11) okX20 opX20 s11 (by decide) q1657 (Or.inl rfl) (Or.inr ⟨rfl, rfl, rfl⟩) (hasV_R' eh120) rfl rfl (pc := 31) dX20_init_31) ?_
  refine sp_m (aw_aload_n (pc := 34) dX20_init_34 rfl (lv_at hl 0 rfl)) ?_
  refine sp_m (aw_iconst (v := 5) (pc := 35) dX20_init_35 rfl) ?_
  refine sp_t fun h13 eh130 => ?_
  refine sp_m (fun kk => aw_newI q313 (by decide) (by decide) (pc := 36) dX20_init_36 (AWe eh130 kk)) ?_
  refine sp_g fun s14 => ?_
  refine sp_t fun h15 eh150 => ?_
  have eh15 : gS h15 = gS h13 := by rw [eh150]; rfl
  refine sp_m (aw_put (k := 12) okX20 opX20 s14 (by decide) q1659 (Or.inl rfl) (Or.inr ⟨rfl, rfl, rfl⟩) (hasV_R' eh150) rfl rfl (pc := 38) dX20_init_38) ?_
  refine sp_m (aw_aload_n (pc := 41) dX20_init_41 rfl (lv_at hl 0 rfl)) ?_
  refine sp_m (aw_iconst (v := 5) (pc := 42) dX20_init_42 rfl) ?_
  refine sp_t fun h16 eh160 => ?_
  refine sp_m (fun kk => aw_newI q313 (by decide) (by decide) (pc := 43) dX20_init_43 (AWe eh160 kk)) ?_
  refine sp_g fun s17 => ?_
  refine sp_t fun h18 eh180 => ?_
  have eh18 : gS h18 = gS h16 := by rw [eh180]; rfl
  refine sp_m (aw_put (k := 13) okX20 opX20 s17 (by decide) q1661 (Or.inl rfl) (Or.inr ⟨rfl, rfl, rfl⟩) (hasV_R' eh180) rfl rfl (pc := 45) dX20_init_45) ?_
  refine sp_m (aw_aload_n (pc := 48) dX20_init_48 rfl (lv_at hl 0 rfl)) ?_
  refine sp_m (aw_bipush (v := 36) (pc := 49) dX20_init_49 rfl) ?_
  refine sp_t fun h19 eh190 => ?_
  refine sp_m (fun kk => aw_newI q313 (by decide) (by decide) (pc := 51) dX20_init_51 (AWe eh190 kk)) ?_
  refine sp_g fun s20 => ?_
  refine sp_t fun h21 eh210 => ?_
  have eh21 : gS h21 = gS h19 := by rw [eh210]; rfl
  refine sp_m (aw_put (k := 14) okX20 opX20 s20 (by decide) q1663 (Or.inl rfl) (Or.inr ⟨rfl, rfl, rfl⟩) (hasV_R' eh210) rfl rfl (pc := 53) dX20_init_53) ?_
  refine sp_m (aw_aload_n (pc := 56) dX20_init_56 rfl (lv_at hl 0 rfl)) ?_
  refine sp_m (aw_bipush (v := 11) (pc := 57) dX20_init_57 rfl) ?_
  refine sp_t fun h22 eh220 => ?_
  refine sp_m (fun kk => aw_newJ q1708 (by decide) (by decide) (pc := 59) dX20_init_59 (AWe eh220 kk)) ?_
  refine sp_g fun s23 => ?_
  refine sp_t fun h24 eh240 => ?_
  have eh24 : gS h24 = gS h22 := by rw [eh240]; rfl
  refine sp_m (aw_put (k := 15) okX20 opX20 s23 (by decide) q1665 (Or.inl rfl) (Or.inr ⟨rfl, rfl, rfl⟩) (hasV_R' eh240) rfl rfl (pc := 61) dX20_init_61) ?_
  refine sp_m (aw_aload_n (pc := 64) dX20_init_64 rfl (lv_at hl 0 rfl)) ?_
  refine sp_m (aw_bipush (v := 11) (pc := 65) dX20_init_65 rfl) ?_
  refine sp_t fun h25 eh250 => ?_
  refine sp_m (fun kk => aw_newI q313 (by decide) (by decide) (pc := 67) dX20_init_67 (AWe eh250 kk)) ?_
  refine sp_g fun s26 => ?_
  refine sp_t fun h27 eh270 => ?_
  have eh27 : gS h27 = gS h25 := by rw [eh270]; rfl
  refine sp_m (aw_put (k := 16) okX20 opX20 s26 (by decide) q1667 (Or.inl rfl) (Or.inr ⟨rfl, rfl, rfl⟩) (hasV_R' eh270) rfl rfl (pc := 69) dX20_init_69) ?_
  refine sp_m (aw_aload_n (pc := 72) dX20_init_72 rfl (lv_at hl 0 rfl)) ?_
  refine sp_m (aw_bipush (v := 11) (pc := 73) dX20_init_73 rfl) ?_
  refine sp_t fun h28 eh280 => ?_
  refine sp_m (fun kk => aw_newI q313 (by decide) (by decide) (pc := 75) dX20_init_75 (AWe eh280 kk)) ?_
  refine sp_g fun s29 => ?_
  refine sp_t fun h30 eh300 => ?_
  have eh30 : gS h30 = gS h28 := by rw [eh300]; rfl
  refine sp_m (aw_put (k := 17) okX20 opX20 s29 (by decide) q1669 (Or.inl rfl) (Or.inr ⟨rfl, rfl, rfl⟩) (hasV_R' eh300) rfl rfl (pc := 77) dX20_init_77) ?_
  exact sp_r fun hz => aw_vret hz rfl rfl rfl (pc := 80) dX20_init_80
