/-! WALKS (printed by wip gen/all.py) -/
set_option maxRecDepth 100000
set_option maxHeartbeats 4000000
theorem mok_X8_find : mOK yX8_find 1 := ⟨⟨by decide +kernel, by decide +kernel⟩, by decide +kernel⟩
abbrev KX8_find (l : Launch) (D : DD) (h0 : AH) (v : Option Nat) : KT := (l, yX8_find, cX8_find, 3, (some (.object "ElephantLine$Named")), RX8, 3, D, h0, h0, .inl (some (va_rf v)), false, [])
theorem metX8_find (l : Launch) (D : DD) {a0 : Nat} {a1 : Nat} {h0 : AH} {v : Option Nat} (hr : fX8_find a0 a1 h0 = some v) : AMet (KX8_find l D h0 v) [.ref a0, .ref a1] := by
  refine AMet.of (K := (KX8_find l D h0 v)) rfl ⟨_, rfl⟩ rfl rfl rfl (Nat.le_of_ble_eq_true rfl) (fun ls hl => ?_)
  have hl : lv_has ls 3 [(0, .ref a0), (1, .ref a1)] := hl
  suffices hsp : SP (fX8_find a0 a1 h0) (fun z => z = v) (AW (KX8_find l D h0 v) h0 0 ls []) from hsp _ hr rfl
  unfold fX8_find
  refine sp_m (aw_iconst (v := 0) (pc := 0) dX8_find_0 rfl) ?_
  refine sp_m (aw_istore_n (lv' := [(2, .int 0), (0, .ref a0), (1, .ref a1)]) (pc := 1) dX8_find_1 rfl hl (by decide) rfl) (sp_all fun ls hl => ?_)
  let P1 : Int32 → Prop := aLP (KX8_find l D h0 v) 3 2 (fun s1v : Int32 => [(0, .ref a0), (1, .ref a1), (2, .int s1v)]) (fun s1v => h0)
  refine sp_loop (P := P1) (fun s1v => sp_all fun ls hl => ?_) (fun k => k ls (lv_sub hl [1, 2, 0] rfl))
  have hl : lv_has ls 3 [(0, .ref a0), (1, .ref a1), (2, .int s1v)] := hl
  show SP _ _ (AW (KX8_find l D h0 v) h0 2 ls [])
  unfold X8_find_L2
  refine sp_m (aw_iload_n (pc := 2) dX8_find_2 rfl (lv_at hl 2 rfl)) ?_
  refine sp_m (aw_aload_n (pc := 3) dX8_find_3 rfl (lv_at hl 0 rfl)) ?_
  refine sp_g fun s2 => ?_
  refine sp_m (aw_get (k := 8) okX8 s2 (by decide) q502 (Or.inl rfl) rfl (pc := 4) dX8_find_4) ?_
  refine sp_if (fun c3 => ?_) (fun c3 => ?_)
  · refine sp_m (aw_icmp_ge_t (tgt := 39) (pc := 7) dX8_find_7 (by decide) c3) ?_
    refine sp_m (aw_iconst (v := 0) (pc := 39) dX8_find_39 rfl) ?_
    refine sp_m (aw_istore_n (lv' := [(2, .int 0), (0, .ref a0), (1, .ref a1)]) (pc := 40) dX8_find_40 rfl hl (by decide) rfl) (sp_all fun ls hl => ?_)
    let P4 : Int32 → Prop := aLP (KX8_find l D h0 v) 3 41 (fun s4v : Int32 => [(0, .ref a0), (1, .ref a1), (2, .int s4v)]) (fun s4v => h0)
    refine sp_loop (P := P4) (fun s4v => sp_all fun ls hl => ?_) (fun k => k ls (lv_sub hl [1, 2, 0] rfl))
    have hl : lv_has ls 3 [(0, .ref a0), (1, .ref a1), (2, .int s4v)] := hl
    show SP _ _ (AW (KX8_find l D h0 v) h0 41 ls [])
    unfold X8_find_L41
    refine sp_m (aw_iload_n (pc := 41) dX8_find_41 rfl (lv_at hl 2 rfl)) ?_
    refine sp_m (aw_aload_n (pc := 42) dX8_find_42 rfl (lv_at hl 0 rfl)) ?_
    refine sp_m (aw_get (k := 9) okX8 s2 (by decide) q507 (Or.inl rfl) rfl (pc := 43) dX8_find_43) ?_
    refine sp_if (fun c5 => ?_) (fun c5 => ?_)
    · refine sp_m (aw_icmp_ge_t (tgt := 78) (pc := 46) dX8_find_46 (by decide) c5) ?_
      refine sp_m (aw_null (pc := 78) dX8_find_78) ?_
      exact sp_r fun hz => aw_aret (h := h0) (x := none) rfl (congrArg (fun z => (z, h0)) hz) rfl rfl rfl (Or.inl ⟨_, rfl⟩) (pc := 79) dX8_find_79
    · refine sp_m (aw_icmp_ge_f (tgt := 78) (pc := 46) dX8_find_46 (by decide) c5) ?_
      refine sp_m (aw_aload_n (pc := 49) dX8_find_49 rfl (lv_at hl 0 rfl)) ?_
      refine sp_b fun x6 ex6 => ?_
      refine sp_m (aw_get (k := 4) okX8 s2 (by decide) q492 (Or.inl rfl) (congrArg va_rf ex6) (pc := 50) dX8_find_50) ?_
      refine sp_m (aw_iload_n (pc := 53) dX8_find_53 rfl (lv_at hl 2 rfl)) ?_
      refine sp_g fun s7 => ?_
      refine sp_g fun i8 => ?_
      refine sp_b fun x9 ex9 => ?_
      refine sp_m (aw_aald (t := 7) s7 (by decide) rfl rfl i8 (congrArg va_rf ex9) (pc := 54) dX8_find_54) ?_
      refine sp_g fun s10 => ?_
      refine sp_b fun x11 ex11 => ?_
      refine sp_m (aw_get (k := 0) okX19 s10 (by decide) q829 (Or.inr q830) (congrArg va_rf ex11) (pc := 55) dX8_find_55) ?_
      refine sp_m (aw_aload_n (pc := 58) dX8_find_58 rfl (lv_at hl 1 rfl)) ?_
      refine sp_g fun s13 => ?_
      refine sp_b fun p12 ep12 => ?_
      refine sp_m (G' := AW (KX8_find l D h0 v) h0 (62) ls (.int p12 :: [])) (fun kk => by rcases s13 with z | z; exact aw_callV (As := [.ref a1]) (metJ3_equals _ _ ep12) (rcv_o okJ3 z) rfl mok_J3_equals q799 q701 q702 q127 q703 (Nat.le_of_ble_eq_true rfl) (Nat.le_of_ble_eq_true rfl) rfl hl.1 rfl (Nat.le_of_ble_eq_true rfl) (pc := 59) dX8_find_59 kk; exact aw_callV (As := [.ref a1]) (metJ3_equals _ _ ep12) (rcv_k z) rfl mok_J3_equals q799 q701 q702 q127 q703 (Nat.le_of_ble_eq_true rfl) (Nat.le_of_ble_eq_true rfl) rfl hl.1 rfl (Nat.le_of_ble_eq_true rfl) (pc := 59) dX8_find_59 kk) ?_
      refine sp_if (fun c14 => ?_) (fun c14 => ?_)
      · refine sp_m (aw_if_eq_t (tgt := 72) (pc := 62) dX8_find_62 (by decide) c14) ?_
        refine sp_m (aw_iinc (v := s4v + 1) (lv' := [(2, .int (s4v + 1)), (0, .ref a0), (1, .ref a1)]) (pc := 72) dX8_find_72 hl (k := 2) rfl rfl (by decide) rfl) (sp_all fun ls hl => ?_)
        refine sp_m (aw_goto (tgt := 41) (pc := 75) dX8_find_75 (by decide)) ?_
        exact sp_r fun hz => hz ls (lv_sub hl [1, 2, 0] rfl)
      · refine sp_m (aw_if_eq_f (tgt := 72) (pc := 62) dX8_find_62 (by decide) c14) ?_
        refine sp_m (aw_aload_n (pc := 65) dX8_find_65 rfl (lv_at hl 0 rfl)) ?_
        refine sp_b fun x15 ex15 => ?_
        refine sp_m (aw_get (k := 4) okX8 s2 (by decide) q492 (Or.inl rfl) (congrArg va_rf ex15) (pc := 66) dX8_find_66) ?_
        refine sp_m (aw_iload_n (pc := 69) dX8_find_69 rfl (lv_at hl 2 rfl)) ?_
        refine sp_g fun s16 => ?_
        refine sp_g fun i17 => ?_
        refine sp_b fun x18 ex18 => ?_
        refine sp_m (aw_aald (t := 7) s16 (by decide) rfl rfl i17 (congrArg va_rf ex18) (pc := 70) dX8_find_70) ?_
        exact sp_r fun hz => aw_aret (h := h0) (x := (some x18)) rfl (congrArg (fun z => (z, h0)) hz) rfl rfl rfl (Or.inl ⟨_, rfl⟩) (pc := 71) dX8_find_71
  · refine sp_m (aw_icmp_ge_f (tgt := 39) (pc := 7) dX8_find_7 (by decide) c3) ?_
    refine sp_m (aw_aload_n (pc := 10) dX8_find_10 rfl (lv_at hl 0 rfl)) ?_
    refine sp_b fun x19 ex19 => ?_
    refine sp_m (aw_get (k := 3) okX8 s2 (by decide) q488 (Or.inl rfl) (congrArg va_rf ex19) (pc := 11) dX8_find_11) ?_
    refine sp_m (aw_iload_n (pc := 14) dX8_find_14 rfl (lv_at hl 2 rfl)) ?_
    refine sp_g fun s20 => ?_
    refine sp_g fun i21 => ?_
    refine sp_b fun x22 ex22 => ?_
    refine sp_m (aw_aald (t := 5) s20 (by decide) rfl rfl i21 (congrArg va_rf ex22) (pc := 15) dX8_find_15) ?_
    refine sp_g fun s23 => ?_
    refine sp_b fun x24 ex24 => ?_
    refine sp_m (G' := AW (KX8_find l D h0 v) h0 (19) ls (.ref x24 :: [])) (fun kk => by rcases s23 with z | z | z | z; exact aw_get (k := 4) okX15 z (by decide) q827 (Or.inr q828) (congrArg va_rf ex24) (pc := 16) dX8_find_16 kk; exact aw_get (k := 4) okX16 z (by decide) q827 (Or.inr q828) (congrArg va_rf ex24) (pc := 16) dX8_find_16 kk; exact aw_get (k := 4) okX17 z (by decide) q827 (Or.inr q828) (congrArg va_rf ex24) (pc := 16) dX8_find_16 kk; exact aw_get (k := 4) okX18 z (by decide) q827 (Or.inr q828) (congrArg va_rf ex24) (pc := 16) dX8_find_16 kk) ?_
    refine sp_m (aw_aload_n (pc := 19) dX8_find_19 rfl (lv_at hl 1 rfl)) ?_
    refine sp_g fun s26 => ?_
    refine sp_b fun p25 ep25 => ?_
    refine sp_m (G' := AW (KX8_find l D h0 v) h0 (23) ls (.int p25 :: [])) (fun kk => by rcases s26 with z | z; exact aw_callV (As := [.ref a1]) (metJ3_equals _ _ ep25) (rcv_o okJ3 z) rfl mok_J3_equals q799 q701 q702 q127 q703 (Nat.le_of_ble_eq_true rfl) (Nat.le_of_ble_eq_true rfl) rfl hl.1 rfl (Nat.le_of_ble_eq_true rfl) (pc := 20) dX8_find_20 kk; exact aw_callV (As := [.ref a1]) (metJ3_equals _ _ ep25) (rcv_k z) rfl mok_J3_equals q799 q701 q702 q127 q703 (Nat.le_of_ble_eq_true rfl) (Nat.le_of_ble_eq_true rfl) rfl hl.1 rfl (Nat.le_of_ble_eq_true rfl) (pc := 20) dX8_find_20 kk) ?_
    refine sp_if (fun c27 => ?_) (fun c27 => ?_)
    · refine sp_m (aw_if_eq_t (tgt := 33) (pc := 23) dX8_find_23 (by decide) c27) ?_
      refine sp_m (aw_iinc (v := s1v + 1) (lv' := [(2, .int (s1v + 1)), (0, .ref a0), (1, .ref a1)]) (pc := 33) dX8_find_33 hl (k := 2) rfl rfl (by decide) rfl) (sp_all fun ls hl => ?_)
      refine sp_m (aw_goto (tgt := 2) (pc := 36) dX8_find_36 (by decide)) ?_
      exact sp_r fun hz => hz ls (lv_sub hl [1, 2, 0] rfl)
    · refine sp_m (aw_if_eq_f (tgt := 33) (pc := 23) dX8_find_23 (by decide) c27) ?_
      refine sp_m (aw_aload_n (pc := 26) dX8_find_26 rfl (lv_at hl 0 rfl)) ?_
      refine sp_b fun x28 ex28 => ?_
      refine sp_m (aw_get (k := 3) okX8 s2 (by decide) q488 (Or.inl rfl) (congrArg va_rf ex28) (pc := 27) dX8_find_27) ?_
      refine sp_m (aw_iload_n (pc := 30) dX8_find_30 rfl (lv_at hl 2 rfl)) ?_
      refine sp_g fun s29 => ?_
      refine sp_g fun i30 => ?_
      refine sp_b fun x31 ex31 => ?_
      refine sp_m (aw_aald (t := 5) s29 (by decide) rfl rfl i30 (congrArg va_rf ex31) (pc := 31) dX8_find_31) ?_
      exact sp_r fun hz => aw_aret (h := h0) (x := (some x31)) rfl (congrArg (fun z => (z, h0)) hz) rfl rfl rfl (Or.inl ⟨_, rfl⟩) (pc := 32) dX8_find_32
theorem mok_X2_newName : mOK yX2_newName 0 := ⟨⟨by decide +kernel, by decide +kernel⟩, by decide +kernel⟩
abbrev KX2_newName (l : Launch) (D : DD) (h0 : AH) (o : (Option Nat × AH) ⊕ (Nat × AH)) : KT := (l, yX2_newName, cX2_newName, 2, (some (.object "java/lang/String")), RX2, 6, D, h0, tE (fun p : Option Nat × AH => p.2) o, tV (fun p : Option Nat × AH => some (va_rf p.1)) "ElephantLine$Refused" o, true, [])
theorem metX2_newName (l : Launch) (D : DD) {a0 : Nat} {h0 : AH} {o : (Option Nat × AH) ⊕ (Nat × AH)} (hr : fX2_newName a0 h0 = some o) : AMetX (KX2_newName l D h0 o) [.ref a0] := by
  refine AMetX.of (K := (KX2_newName l D h0 o)) rfl rfl rfl rfl (Nat.le_of_ble_eq_true rfl) (fun ls hl => ?_)
  have hl : lv_has ls 2 [(0, .ref a0)] := hl
  suffices hsp : SP (fX2_newName a0 h0) (fun z => z = o) (AW (KX2_newName l D h0 o) h0 0 ls []) from hsp _ hr rfl
  unfold fX2_newName
  refine sp_m (aw_aload_n (pc := 0) dX2_newName_0 rfl (lv_at hl 0 rfl)) ?_
  refine sp_g fun s2 => ?_
  refine sp_bx (fun q14t ep1 => ?_) (fun p1 ep1 => ?_)
  · refine sp_m (G' := AX (KX2_newName l D h0 o) q14t.2 (1) ls ([]) "ElephantLine$Refused" q14t.1) (fun kk => aw_callV_t (As := []) (metX2_mustName _ _ ep1) (rcv_o okX2 s2) rfl mok_X2_mustName q791 q793 qs19 q117 q794 (Nat.le_of_ble_eq_true rfl) (Nat.le_of_ble_eq_true rfl) rfl hl.1 rfl (Nat.le_of_ble_eq_true rfl) (pc := 1) dX2_newName_1  kk) ?_
    exact sp_r fun hz => ax_outT hz rfl rfl rfl rfl
  · refine sp_m (G' := AW (KX2_newName l D h0 o) p1 (4) ls ([])) (fun kk => aw_callV_n (As := []) (metX2_mustName _ _ ep1) (rcv_o okX2 s2) rfl mok_X2_mustName q791 q793 qs19 q117 q794 (Nat.le_of_ble_eq_true rfl) (Nat.le_of_ble_eq_true rfl) rfl hl.1 rfl (Nat.le_of_ble_eq_true rfl) (pc := 1) dX2_newName_1  kk) ?_
    refine sp_m (aw_aload_n (pc := 4) dX2_newName_4 rfl (lv_at hl 0 rfl)) ?_
    refine sp_g fun s3 => ?_
    refine sp_b fun x4 ex4 => ?_
    refine sp_m (aw_get (k := 9) okX2 s3 (by decide) q244 (Or.inl rfl) (congrArg va_rf ex4) (pc := 5) dX2_newName_5) ?_
    refine sp_m (aw_aload_n (pc := 8) dX2_newName_8 rfl (lv_at hl 0 rfl)) ?_
    refine sp_b fun x5 ex5 => ?_
    refine sp_m (aw_get (k := 8) okX2 s3 (by decide) q243 (Or.inl rfl) (congrArg va_rf ex5) (pc := 9) dX2_newName_9) ?_
    refine sp_g fun s7 => ?_
    refine sp_b fun p6 ep6 => ?_
    refine sp_o (fun ex8 => ?_) (fun x8 ex8 => ?_)
    · refine sp_m (G' := AW (KX2_newName l D h0 o) p1 (15) ls (.null :: [])) (fun kk => aw_callV (As := [.ref x5]) (metX8_find _ _ ep6) (rcv_o okX8 s7) rfl mok_X8_find q795 q796 q797 q126 q798 (Nat.le_of_ble_eq_true rfl) (Nat.le_of_ble_eq_true rfl) rfl hl.1 rfl (Nat.le_of_ble_eq_true rfl) (pc := 12) dX2_newName_12 (kk_nul ex8 kk)) ?_
      refine sp_m (aw_ifnullN (tgt := 24) (pc := 15) dX2_newName_15 (by decide)) ?_
      refine sp_m (aw_aload_n (pc := 24) dX2_newName_24 rfl (lv_at hl 0 rfl)) ?_
      refine sp_b fun x12 ex12 => ?_
      refine sp_m (aw_get (k := 8) okX2 s3 (by decide) q243 (Or.inl rfl) (congrArg va_rf ex12) (pc := 25) dX2_newName_25) ?_
      refine sp_m (aw_astore_n (lv' := [(1, .ref x12), (0, .ref a0)]) (pc := 28) dX2_newName_28 rfl hl (by decide) rfl) (sp_all fun ls hl => ?_)
      refine sp_m (aw_aload_n (pc := 29) dX2_newName_29 rfl (lv_at hl 1 rfl)) ?_
      refine sp_b fun p13 ep13 => ?_
      refine sp_m (G' := AW (KX2_newName l D h0 o) p13 (33) ls ([])) (fun kk => aw_callV (As := []) (metX2_next _ _ ep13) (rcv_o okX2 s3) rfl mok_X2_next q540 q542 qs4 q117 q543 (Nat.le_of_ble_eq_true rfl) (Nat.le_of_ble_eq_true rfl) rfl hl.1 rfl (Nat.le_of_ble_eq_true rfl) (pc := 30) dX2_newName_30 kk) ?_
      refine sp_m (aw_aload_n (pc := 33) dX2_newName_33 rfl (lv_at hl 0 rfl)) ?_
      exact sp_r fun hz => aw_aretT rfl hz rfl rfl rfl (Or.inl ⟨_, rfl⟩) (pc := 34) dX2_newName_34
    · refine sp_m (G' := AW (KX2_newName l D h0 o) p1 (15) ls (.ref x8 :: [])) (fun kk => aw_callV (As := [.ref x5]) (metX8_find _ _ ep6) (rcv_o okX8 s7) rfl mok_X8_find q795 q796 q797 q126 q798 (Nat.le_of_ble_eq_true rfl) (Nat.le_of_ble_eq_true rfl) rfl hl.1 rfl (Nat.le_of_ble_eq_true rfl) (pc := 12) dX2_newName_12 (kk_ref ex8 kk)) ?_
      refine sp_m (aw_ifnull (pc := 15) dX2_newName_15) ?_
      refine sp_m (aw_aload_n (pc := 18) dX2_newName_18 rfl (lv_at hl 0 rfl)) ?_
      refine sp_m (aw_iconst (v := 3) (pc := 19) dX2_newName_19 rfl) ?_
      refine sp_b fun p9 ep9 => ?_
      refine sp_b fun x10 ex10 => ?_
      refine sp_m (G' := AW (KX2_newName l D h0 o) p9.2 (23) ls (.ref x10 :: [])) (fun kk => aw_callV (As := [.int 3]) (metX2_fail _ _ ep9) (rcv_o okX2 s3) rfl mok_X2_fail q638 q640 qs7 q117 q641 (Nat.le_of_ble_eq_true rfl) (Nat.le_of_ble_eq_true rfl) rfl hl.1 rfl (Nat.le_of_ble_eq_true rfl) (pc := 20) dX2_newName_20 (kk_ref ex10 kk)) ?_
      refine sp_g fun s11 => ?_
      exact sp_r fun hz => aw_throwT okX3 s11 hz rfl rfl rfl rfl (pc := 23) dX2_newName_23
theorem mok_X2_beastLine : mOK yX2_beastLine 0 := ⟨⟨by decide +kernel, by decide +kernel⟩, by decide +kernel⟩
abbrev KX2_beastLine (l : Launch) (D : DD) (h0 : AH) (o : (AH) ⊕ (Nat × AH)) : KT := (l, yX2_beastLine, cX2_beastLine, 2, none, RX2, 9, D, h0, tE (fun p : AH => p) o, tV (fun _ : AH => none) "ElephantLine$Refused" o, true, [])
theorem metX2_beastLine (l : Launch) (D : DD) {a0 : Nat} {h0 : AH} {o : (AH) ⊕ (Nat × AH)} (hr : fX2_beastLine a0 h0 = some o) : AMetX (KX2_beastLine l D h0 o) [.ref a0] := by
  refine AMetX.of (K := (KX2_beastLine l D h0 o)) rfl rfl rfl rfl (Nat.le_of_ble_eq_true rfl) (fun ls hl => ?_)
  have hl : lv_has ls 2 [(0, .ref a0)] := hl
  suffices hsp : SP (fX2_beastLine a0 h0) (fun z => z = o) (AW (KX2_beastLine l D h0 o) h0 0 ls []) from hsp _ hr rfl
  unfold fX2_beastLine
  refine sp_m (aw_aload_n (pc := 0) dX2_beastLine_0 rfl (lv_at hl 0 rfl)) ?_
  refine sp_m (aw_aload_n (pc := 1) dX2_beastLine_1 rfl (lv_at hl 0 rfl)) ?_
  refine sp_g fun s1 => ?_
  refine sp_b fun x2 ex2 => ?_
  refine sp_m (aw_get (k := 9) okX2 s1 (by decide) q244 (Or.inl rfl) (congrArg va_rf ex2) (pc := 2) dX2_beastLine_2) ?_
  refine sp_g fun s3 => ?_
  refine sp_m (aw_get (k := 8) okX8 s3 (by decide) q506 (Or.inl rfl) rfl (pc := 5) dX2_beastLine_5) ?_
  refine sp_m (aw_iconst (v := 5) (pc := 8) dX2_beastLine_8 rfl) ?_
  have hj17_1 : ∀ j4 : Int32, ∀ ls : Array Slot, lv_has ls 2 [(0, .ref a0)] → SP (X2_beastLine_j17 a0 h0 j4) (fun z => z = o) (AW (KX2_beastLine l D h0 o) h0 17 ls (.int j4 :: .ref a0 :: [])) := by
    intro j4 ls hl
    unfold X2_beastLine_j17
    refine sp_bx (fun q48t ep5 => ?_) (fun p5 ep5 => ?_)
    · refine sp_m (G' := AX (KX2_beastLine l D h0 o) q48t.2 (17) ls ([]) "ElephantLine$Refused" q48t.1) (fun kk => aw_callV_t (As := [.int j4]) (metX2_begins _ _ ep5) (rcv_o okX2 s1) rfl mok_X2_begins q743 q745 qs15 q117 q746 (Nat.le_of_ble_eq_true rfl) (Nat.le_of_ble_eq_true rfl) rfl hl.1 rfl (Nat.le_of_ble_eq_true rfl) (pc := 17) dX2_beastLine_17  kk) ?_
      exact sp_r fun hz => ax_outT hz rfl rfl rfl rfl
    · refine sp_m (G' := AW (KX2_beastLine l D h0 o) p5 (20) ls ([])) (fun kk => aw_callV_n (As := [.int j4]) (metX2_begins _ _ ep5) (rcv_o okX2 s1) rfl mok_X2_begins q743 q745 qs15 q117 q746 (Nat.le_of_ble_eq_true rfl) (Nat.le_of_ble_eq_true rfl) rfl hl.1 rfl (Nat.le_of_ble_eq_true rfl) (pc := 17) dX2_beastLine_17  kk) ?_
      refine sp_m (aw_aload_n (pc := 20) dX2_beastLine_20 rfl (lv_at hl 0 rfl)) ?_
      refine sp_m (aw_aload_n (pc := 21) dX2_beastLine_21 rfl (lv_at hl 0 rfl)) ?_
      refine sp_g fun s7 => ?_
      refine sp_bx (fun q9t ep6 => ?_) (fun p6 ep6 => ?_)
      · refine sp_m (G' := AX (KX2_beastLine l D h0 o) q9t.2 (22) ls (.ref a0 :: []) "ElephantLine$Refused" q9t.1) (fun kk => aw_callV_t (As := []) (metX2_newName _ _ ep6) (rcv_o okX2 s7) rfl mok_X2_newName q787 q789 qs18 q117 q790 (Nat.le_of_ble_eq_true rfl) (Nat.le_of_ble_eq_true rfl) rfl hl.1 rfl (Nat.le_of_ble_eq_true rfl) (pc := 22) dX2_beastLine_22  kk) ?_
        exact sp_r fun hz => ax_outT hz rfl rfl rfl rfl
      · refine sp_b fun x8 ex8 => ?_
        refine sp_m (G' := AW (KX2_beastLine l D h0 o) p6.2 (25) ls (.ref x8 :: .ref a0 :: [])) (fun kk => aw_callV_n (As := []) (metX2_newName _ _ ep6) (rcv_o okX2 s7) rfl mok_X2_newName q787 q789 qs18 q117 q790 (Nat.le_of_ble_eq_true rfl) (Nat.le_of_ble_eq_true rfl) rfl hl.1 rfl (Nat.le_of_ble_eq_true rfl) (pc := 22) dX2_beastLine_22  (kk_ref ex8 kk)) ?_
        refine sp_m (aw_aload_n (pc := 25) dX2_beastLine_25 rfl (lv_at hl 0 rfl)) ?_
        refine sp_g fun s10 => ?_
        refine sp_b fun x11 ex11 => ?_
        refine sp_m (aw_get (k := 9) okX2 s10 (by decide) q244 (Or.inl rfl) (congrArg va_rf ex11) (pc := 26) dX2_beastLine_26) ?_
        refine sp_g fun s12 => ?_
        refine sp_m (aw_get (k := 8) okX8 s12 (by decide) q506 (Or.inl rfl) rfl (pc := 29) dX2_beastLine_29) ?_
        refine sp_bx (fun q15t ep13 => ?_) (fun p13 ep13 => ?_)
        · refine sp_m (G' := AX (KX2_beastLine l D h0 o) q15t.2 (32) ls ([]) "ElephantLine$Refused" q15t.1) (fun kk => aw_callV_t (As := [.ref x8, .int (gI p6.2 x11 8)]) (metX2_beastOf _ _ ep13) (rcv_o okX2 s10) rfl mok_X2_beastOf q800 q802 qs20 q117 q803 (Nat.le_of_ble_eq_true rfl) (Nat.le_of_ble_eq_true rfl) rfl hl.1 rfl (Nat.le_of_ble_eq_true rfl) (pc := 32) dX2_beastLine_32  kk) ?_
          exact sp_r fun hz => ax_outT hz rfl rfl rfl rfl
        · refine sp_b fun x14 ex14 => ?_
          refine sp_m (G' := AW (KX2_beastLine l D h0 o) p13.2 (35) ls (.ref x14 :: [])) (fun kk => aw_callV_n (As := [.ref x8, .int (gI p6.2 x11 8)]) (metX2_beastOf _ _ ep13) (rcv_o okX2 s10) rfl mok_X2_beastOf q800 q802 qs20 q117 q803 (Nat.le_of_ble_eq_true rfl) (Nat.le_of_ble_eq_true rfl) rfl hl.1 rfl (Nat.le_of_ble_eq_true rfl) (pc := 32) dX2_beastLine_32  (kk_ref ex14 kk)) ?_
          refine sp_m (aw_astore_n (lv' := [(1, .ref x14), (0, .ref a0)]) (pc := 35) dX2_beastLine_35 rfl hl (by decide) rfl) (sp_all fun ls hl => ?_)
          refine sp_m (aw_aload_n (pc := 36) dX2_beastLine_36 rfl (lv_at hl 0 rfl)) ?_
          refine sp_m (aw_aload_n (pc := 37) dX2_beastLine_37 rfl (lv_at hl 1 rfl)) ?_
          refine sp_b fun x16 ex16 => ?_
          refine sp_m (aw_ldcS sk_X2_238 ex16 (pc := 38) dX2_beastLine_38) ?_
          refine sp_m (aw_iconst (v := 0) (pc := 40) dX2_beastLine_40 rfl) ?_
          refine sp_m (aw_aload_n (pc := 41) dX2_beastLine_41 rfl (lv_at hl 1 rfl)) ?_
          refine sp_g fun s17 => ?_
          refine sp_b fun x18 ex18 => ?_
          refine sp_m (aw_get (k := 9) okX2 s17 (by decide) q244 (Or.inl rfl) (congrArg va_rf ex18) (pc := 42) dX2_beastLine_42) ?_
          refine sp_g fun s19 => ?_
          refine sp_m (aw_get (k := 5) okX8 s19 (by decide) q495 (Or.inl rfl) rfl (pc := 45) dX2_beastLine_45) ?_
          refine sp_m (aw_iconst (v := 1) (pc := 48) dX2_beastLine_48 rfl) ?_
          refine sp_m (aw_isub (pc := 49) dX2_beastLine_49) ?_
          refine sp_bx (fun q47t ep20 => ?_) (fun p20 ep20 => ?_)
          · refine sp_m (G' := AX (KX2_beastLine l D h0 o) q47t.2 (50) ls (.ref x14 :: []) "ElephantLine$Refused" q47t.1) (fun kk => aw_callV_t (As := [.ref x16, .int 0, .int ((gI p13.2 x18 5) - 1)]) (metX2_after _ _ ep20) (rcv_o okX2 s17) rfl mok_X2_after q718 q720 qs9 q117 q721 (Nat.le_of_ble_eq_true rfl) (Nat.le_of_ble_eq_true rfl) rfl hl.1 rfl (Nat.le_of_ble_eq_true rfl) (pc := 50) dX2_beastLine_50  kk) ?_
            exact sp_r fun hz => ax_outT hz rfl rfl rfl rfl
          · refine sp_m (G' := AW (KX2_beastLine l D h0 o) p20.2 (53) ls (.int p20.1 :: .ref x14 :: [])) (fun kk => aw_callV_n (As := [.ref x16, .int 0, .int ((gI p13.2 x18 5) - 1)]) (metX2_after _ _ ep20) (rcv_o okX2 s17) rfl mok_X2_after q718 q720 qs9 q117 q721 (Nat.le_of_ble_eq_true rfl) (Nat.le_of_ble_eq_true rfl) rfl hl.1 rfl (Nat.le_of_ble_eq_true rfl) (pc := 50) dX2_beastLine_50  kk) ?_
            refine sp_g fun s21 => ?_
            refine sp_t fun h22 eh220 => ?_
            have eh22 : gS h22 = gS p20.2 := by rw [eh220]; rfl
            refine sp_m (G' := AW (KX2_beastLine l D h0 o) h22 (56) ls ([])) (fun kk => by rcases s21 with z | z | z | z; exact aw_put (k := 0) okX15 opX15 z (by decide) q818 (Or.inl rfl) (Or.inl rfl) (hasV_I' eh220) rfl rfl (pc := 53) dX2_beastLine_53 kk; exact aw_put (k := 0) okX16 opX16 z (by decide) q818 (Or.inl rfl) (Or.inl rfl) (hasV_I' eh220) rfl rfl (pc := 53) dX2_beastLine_53 kk; exact aw_put (k := 0) okX17 opX17 z (by decide) q818 (Or.inl rfl) (Or.inl rfl) (hasV_I' eh220) rfl rfl (pc := 53) dX2_beastLine_53 kk; exact aw_put (k := 0) okX18 opX18 z (by decide) q818 (Or.inl rfl) (Or.inl rfl) (hasV_I' eh220) rfl rfl (pc := 53) dX2_beastLine_53 kk) ?_
            refine sp_m (aw_aload_n (pc := 56) dX2_beastLine_56 rfl (lv_at hl 0 rfl)) ?_
            refine sp_m (aw_aload_n (pc := 57) dX2_beastLine_57 rfl (lv_at hl 1 rfl)) ?_
            refine sp_b fun x23 ex23 => ?_
            refine sp_m (aw_ldcS sk_X2_243 ex23 (pc := 58) dX2_beastLine_58) ?_
            refine sp_m (aw_iconst (v := 0) (pc := 60) dX2_beastLine_60 rfl) ?_
            refine sp_m (aw_bipush (v := 100) (pc := 61) dX2_beastLine_61 rfl) ?_
            refine sp_g fun s25 => ?_
            refine sp_bx (fun q46t ep24 => ?_) (fun p24 ep24 => ?_)
            · refine sp_m (G' := AX (KX2_beastLine l D h0 o) q46t.2 (63) ls (.ref x14 :: []) "ElephantLine$Refused" q46t.1) (fun kk => aw_callV_t (As := [.ref x23, .int 0, .int 100]) (metX2_after _ _ ep24) (rcv_o okX2 s25) rfl mok_X2_after q718 q720 qs9 q117 q721 (Nat.le_of_ble_eq_true rfl) (Nat.le_of_ble_eq_true rfl) rfl hl.1 rfl (Nat.le_of_ble_eq_true rfl) (pc := 63) dX2_beastLine_63  kk) ?_
              exact sp_r fun hz => ax_outT hz rfl rfl rfl rfl
            · refine sp_m (G' := AW (KX2_beastLine l D h0 o) p24.2 (66) ls (.int p24.1 :: .ref x14 :: [])) (fun kk => aw_callV_n (As := [.ref x23, .int 0, .int 100]) (metX2_after _ _ ep24) (rcv_o okX2 s25) rfl mok_X2_after q718 q720 qs9 q117 q721 (Nat.le_of_ble_eq_true rfl) (Nat.le_of_ble_eq_true rfl) rfl hl.1 rfl (Nat.le_of_ble_eq_true rfl) (pc := 63) dX2_beastLine_63  kk) ?_
              refine sp_g fun s26 => ?_
              refine sp_t fun h27 eh270 => ?_
              have eh27 : gS h27 = gS p24.2 := by rw [eh270]; rfl
              refine sp_m (G' := AW (KX2_beastLine l D h0 o) h27 (69) ls ([])) (fun kk => by rcases s26 with z | z | z | z; exact aw_put (k := 1) okX15 opX15 z (by decide) q821 (Or.inl rfl) (Or.inl rfl) (hasV_I' eh270) rfl rfl (pc := 66) dX2_beastLine_66 kk; exact aw_put (k := 1) okX16 opX16 z (by decide) q821 (Or.inl rfl) (Or.inl rfl) (hasV_I' eh270) rfl rfl (pc := 66) dX2_beastLine_66 kk; exact aw_put (k := 1) okX17 opX17 z (by decide) q821 (Or.inl rfl) (Or.inl rfl) (hasV_I' eh270) rfl rfl (pc := 66) dX2_beastLine_66 kk; exact aw_put (k := 1) okX18 opX18 z (by decide) q821 (Or.inl rfl) (Or.inl rfl) (hasV_I' eh270) rfl rfl (pc := 66) dX2_beastLine_66 kk) ?_
              refine sp_m (aw_aload_n (pc := 69) dX2_beastLine_69 rfl (lv_at hl 0 rfl)) ?_
              refine sp_m (aw_aload_n (pc := 70) dX2_beastLine_70 rfl (lv_at hl 1 rfl)) ?_
              refine sp_b fun x28 ex28 => ?_
              refine sp_m (aw_ldcS sk_X2_247 ex28 (pc := 71) dX2_beastLine_71) ?_
              refine sp_m (aw_iconst (v := 1) (pc := 73) dX2_beastLine_73 rfl) ?_
              refine sp_m (aw_bipush (v := 99) (pc := 74) dX2_beastLine_74 rfl) ?_
              refine sp_g fun s30 => ?_
              refine sp_bx (fun q45t ep29 => ?_) (fun p29 ep29 => ?_)
              · refine sp_m (G' := AX (KX2_beastLine l D h0 o) q45t.2 (76) ls (.ref x14 :: []) "ElephantLine$Refused" q45t.1) (fun kk => aw_callV_t (As := [.ref x28, .int 1, .int 99]) (metX2_after _ _ ep29) (rcv_o okX2 s30) rfl mok_X2_after q718 q720 qs9 q117 q721 (Nat.le_of_ble_eq_true rfl) (Nat.le_of_ble_eq_true rfl) rfl hl.1 rfl (Nat.le_of_ble_eq_true rfl) (pc := 76) dX2_beastLine_76  kk) ?_
                exact sp_r fun hz => ax_outT hz rfl rfl rfl rfl
              · refine sp_m (G' := AW (KX2_beastLine l D h0 o) p29.2 (79) ls (.int p29.1 :: .ref x14 :: [])) (fun kk => aw_callV_n (As := [.ref x28, .int 1, .int 99]) (metX2_after _ _ ep29) (rcv_o okX2 s30) rfl mok_X2_after q718 q720 qs9 q117 q721 (Nat.le_of_ble_eq_true rfl) (Nat.le_of_ble_eq_true rfl) rfl hl.1 rfl (Nat.le_of_ble_eq_true rfl) (pc := 76) dX2_beastLine_76  kk) ?_
                refine sp_g fun s31 => ?_
                refine sp_t fun h32 eh320 => ?_
                have eh32 : gS h32 = gS p29.2 := by rw [eh320]; rfl
                refine sp_m (G' := AW (KX2_beastLine l D h0 o) h32 (82) ls ([])) (fun kk => by rcases s31 with z | z | z | z; exact aw_put (k := 2) okX15 opX15 z (by decide) q823 (Or.inl rfl) (Or.inl rfl) (hasV_I' eh320) rfl rfl (pc := 79) dX2_beastLine_79 kk; exact aw_put (k := 2) okX16 opX16 z (by decide) q823 (Or.inl rfl) (Or.inl rfl) (hasV_I' eh320) rfl rfl (pc := 79) dX2_beastLine_79 kk; exact aw_put (k := 2) okX17 opX17 z (by decide) q823 (Or.inl rfl) (Or.inl rfl) (hasV_I' eh320) rfl rfl (pc := 79) dX2_beastLine_79 kk; exact aw_put (k := 2) okX18 opX18 z (by decide) q823 (Or.inl rfl) (Or.inl rfl) (hasV_I' eh320) rfl rfl (pc := 79) dX2_beastLine_79 kk) ?_
                refine sp_m (aw_aload_n (pc := 82) dX2_beastLine_82 rfl (lv_at hl 1 rfl)) ?_
                refine sp_g fun s33 => ?_
                refine sp_b fun x34 ex34 => ?_
                refine sp_m (aw_get (k := 9) okX2 s33 (by decide) q244 (Or.inl rfl) (congrArg va_rf ex34) (pc := 83) dX2_beastLine_83) ?_
                refine sp_g fun s35 => ?_
                refine sp_b fun x36 ex36 => ?_
                refine sp_m (aw_get (k := 3) okX8 s35 (by decide) q491 (Or.inl rfl) (congrArg va_rf ex36) (pc := 86) dX2_beastLine_86) ?_
                refine sp_m (aw_aload_n (pc := 89) dX2_beastLine_89 rfl (lv_at hl 1 rfl)) ?_
                refine sp_b fun x37 ex37 => ?_
                refine sp_m (aw_get (k := 9) okX2 s33 (by decide) q244 (Or.inl rfl) (congrArg va_rf ex37) (pc := 90) dX2_beastLine_90) ?_
                refine sp_g fun s38 => ?_
                refine sp_m (aw_get (k := 8) okX8 s38 (by decide) q506 (Or.inl rfl) rfl (pc := 93) dX2_beastLine_93) ?_
                refine sp_m (aw_aload_n (pc := 96) dX2_beastLine_96 rfl (lv_at hl 0 rfl)) ?_
                refine sp_g fun s39 => ?_
                refine sp_g fun i40 => ?_
                refine sp_t fun h41 eh410 => ?_
                have eh41 : gS h41 = gS h32 := by rw [eh410]; rfl
                refine sp_m (G' := AW (KX2_beastLine l D h0 o) h41 (98) ls ([])) (fun kk => by rcases (show gS h32 x14 = 14 ∨ gS h32 x14 = 15 ∨ gS h32 x14 = 16 ∨ gS h32 x14 = 17 from by rw [eh32]; exact s31) with z | z | z | z; exact aw_aast (t := 5) (Cc := "ElephantLine$Beast") s39 (by decide) rfl rfl okX15 z (Or.inr nq2251) i40 (pc := 97) dX2_beastLine_97 (AWe eh410 kk); exact aw_aast (t := 5) (Cc := "ElephantLine$Beast") s39 (by decide) rfl rfl okX16 z (Or.inr nq2248) i40 (pc := 97) dX2_beastLine_97 (AWe eh410 kk); exact aw_aast (t := 5) (Cc := "ElephantLine$Beast") s39 (by decide) rfl rfl okX17 z (Or.inr nq2249) i40 (pc := 97) dX2_beastLine_97 (AWe eh410 kk); exact aw_aast (t := 5) (Cc := "ElephantLine$Beast") s39 (by decide) rfl rfl okX18 z (Or.inr nq2250) i40 (pc := 97) dX2_beastLine_97 (AWe eh410 kk)) ?_
                refine sp_m (aw_aload_n (pc := 98) dX2_beastLine_98 rfl (lv_at hl 1 rfl)) ?_
                refine sp_b fun x42 ex42 => ?_
                refine sp_m (aw_get (k := 9) okX2 (uS eh41 s33) (by decide) q244 (Or.inl rfl) (congrArg va_rf ex42) (pc := 99) dX2_beastLine_99) ?_
                refine sp_m (aw_dup (pc := 102) dX2_beastLine_102 rfl) ?_
                refine sp_g fun s43 => ?_
                refine sp_m (aw_get (k := 8) okX8 s43 (by decide) q506 (Or.inl rfl) rfl (pc := 103) dX2_beastLine_103) ?_
                refine sp_m (aw_iconst (v := 1) (pc := 106) dX2_beastLine_106 rfl) ?_
                refine sp_m (aw_iadd (pc := 107) dX2_beastLine_107) ?_
                refine sp_t fun h44 eh440 => ?_
                have eh44 : gS h44 = gS h41 := by rw [eh440]; rfl
                refine sp_m (aw_put (k := 8) okX8 opX8 s43 (by decide) q506 (Or.inl rfl) (Or.inl rfl) (hasV_I' eh440) rfl rfl (pc := 108) dX2_beastLine_108) ?_
                exact sp_r fun hz => aw_vretT hz rfl rfl rfl (pc := 111) dX2_beastLine_111
  refine sp_if (fun c49 => ?_) (fun c49 => ?_)
  · refine sp_m (aw_icmp_ge_t (tgt := 16) (pc := 9) dX2_beastLine_9 (by decide) c49) ?_
    refine sp_m (aw_iconst (v := 0) (pc := 16) dX2_beastLine_16 rfl) ?_
    exact hj17_1 0 ls (lv_sub hl [0] rfl)
  · refine sp_m (aw_icmp_ge_f (tgt := 16) (pc := 9) dX2_beastLine_9 (by decide) c49) ?_
    refine sp_m (aw_iconst (v := 1) (pc := 12) dX2_beastLine_12 rfl) ?_
    refine sp_m (aw_goto (tgt := 17) (pc := 13) dX2_beastLine_13 (by decide)) ?_
    exact hj17_1 1 ls (lv_sub hl [0] rfl)
theorem mok_X19_init : mOK yX19_init 2 := ⟨⟨by decide +kernel, by decide +kernel⟩, by decide +kernel⟩
abbrev KX19_init (l : Launch) (D : DD) (h0 hE : AH) : KT := (l, yX19_init, cX19_init, 3, none, RX19, 2, D, h0, hE, .inl (none), false, [])
theorem metX19_init (l : Launch) (D : DD) {a0 : Nat} {a1 : Nat} {a2 : Int32} {h0 : AH} {hE : AH} (hr : fX19_init a0 a1 a2 h0 = some hE) : AMet (KX19_init l D h0 hE) [.ref a0, .ref a1, .int a2] := by
  refine AMet.of (K := (KX19_init l D h0 hE)) rfl ⟨_, rfl⟩ rfl rfl rfl (Nat.le_of_ble_eq_true rfl) (fun ls hl => ?_)
  have hl : lv_has ls 3 [(0, .ref a0), (1, .ref a1), (2, .int a2)] := hl
  suffices hsp : SP (fX19_init a0 a1 a2 h0) (fun z => z = hE) (AW (KX19_init l D h0 hE) h0 0 ls []) from hsp _ hr rfl
  unfold fX19_init
  refine sp_m (aw_aload_n (pc := 0) dX19_init_0 rfl (lv_at hl 0 rfl)) ?_
  refine sp_m (aw_aload_n (pc := 1) dX19_init_1 rfl (lv_at hl 1 rfl)) ?_
  refine sp_m (aw_iload_n (pc := 2) dX19_init_2 rfl (lv_at hl 2 rfl)) ?_
  refine sp_b fun p1 ep1 => ?_
  refine sp_m (G' := AW (KX19_init l D h0 hE) p1 (6) ls ([])) (fun kk => aw_callI (As := [.ref a1, .int a2]) (metX13_init _ _ ep1) mok_X13_init rfl q900 q814 q136 q815 (Nat.le_of_ble_eq_true rfl) (Nat.le_of_ble_eq_true rfl) rfl hl.1 rfl (Nat.le_of_ble_eq_true rfl) (pc := 3) dX19_init_3 kk) ?_
  exact sp_r fun hz => aw_vret hz rfl rfl rfl (pc := 6) dX19_init_6
theorem mok_X2_cityLine : mOK yX2_cityLine 0 := ⟨⟨by decide +kernel, by decide +kernel⟩, by decide +kernel⟩
abbrev KX2_cityLine (l : Launch) (D : DD) (h0 : AH) (o : (AH) ⊕ (Nat × AH)) : KT := (l, yX2_cityLine, cX2_cityLine, 1, none, RX2, 7, D, h0, tE (fun p : AH => p) o, tV (fun _ : AH => none) "ElephantLine$Refused" o, true, [])
theorem metX2_cityLine (l : Launch) (D : DD) {a0 : Nat} {h0 : AH} {o : (AH) ⊕ (Nat × AH)} (hr : fX2_cityLine a0 h0 = some o) : AMetX (KX2_cityLine l D h0 o) [.ref a0] := by
  refine AMetX.of (K := (KX2_cityLine l D h0 o)) rfl rfl rfl rfl (Nat.le_of_ble_eq_true rfl) (fun ls hl => ?_)
  have hl : lv_has ls 1 [(0, .ref a0)] := hl
  suffices hsp : SP (fX2_cityLine a0 h0) (fun z => z = o) (AW (KX2_cityLine l D h0 o) h0 0 ls []) from hsp _ hr rfl
  unfold fX2_cityLine
  refine sp_m (aw_aload_n (pc := 0) dX2_cityLine_0 rfl (lv_at hl 0 rfl)) ?_
  refine sp_m (aw_aload_n (pc := 1) dX2_cityLine_1 rfl (lv_at hl 0 rfl)) ?_
  refine sp_g fun s1 => ?_
  refine sp_b fun x2 ex2 => ?_
  refine sp_m (aw_get (k := 9) okX2 s1 (by decide) q244 (Or.inl rfl) (congrArg va_rf ex2) (pc := 2) dX2_cityLine_2) ?_
  refine sp_g fun s3 => ?_
  refine sp_m (aw_get (k := 9) okX8 s3 (by decide) q510 (Or.inl rfl) rfl (pc := 5) dX2_cityLine_5) ?_
  refine sp_m (aw_bipush (v := 6) (pc := 8) dX2_cityLine_8 rfl) ?_
  have hj18_1 : ∀ j4 : Int32, ∀ ls : Array Slot, lv_has ls 1 [(0, .ref a0)] → SP (X2_cityLine_j18 a0 h0 j4) (fun z => z = o) (AW (KX2_cityLine l D h0 o) h0 18 ls (.int j4 :: .ref a0 :: [])) := by
    intro j4 ls hl
    unfold X2_cityLine_j18
    refine sp_bx (fun q29t ep5 => ?_) (fun p5 ep5 => ?_)
    · refine sp_m (G' := AX (KX2_cityLine l D h0 o) q29t.2 (18) ls ([]) "ElephantLine$Refused" q29t.1) (fun kk => aw_callV_t (As := [.int j4]) (metX2_begins _ _ ep5) (rcv_o okX2 s1) rfl mok_X2_begins q743 q745 qs15 q117 q746 (Nat.le_of_ble_eq_true rfl) (Nat.le_of_ble_eq_true rfl) rfl hl.1 rfl (Nat.le_of_ble_eq_true rfl) (pc := 18) dX2_cityLine_18  kk) ?_
      exact sp_r fun hz => ax_outT hz rfl rfl rfl rfl
    · refine sp_m (G' := AW (KX2_cityLine l D h0 o) p5 (21) ls ([])) (fun kk => aw_callV_n (As := [.int j4]) (metX2_begins _ _ ep5) (rcv_o okX2 s1) rfl mok_X2_begins q743 q745 qs15 q117 q746 (Nat.le_of_ble_eq_true rfl) (Nat.le_of_ble_eq_true rfl) rfl hl.1 rfl (Nat.le_of_ble_eq_true rfl) (pc := 18) dX2_cityLine_18  kk) ?_
      refine sp_m (aw_aload_n (pc := 21) dX2_cityLine_21 rfl (lv_at hl 0 rfl)) ?_
      refine sp_g fun s6 => ?_
      refine sp_b fun x7 ex7 => ?_
      refine sp_m (aw_get (k := 9) okX2 s6 (by decide) q244 (Or.inl rfl) (congrArg va_rf ex7) (pc := 22) dX2_cityLine_22) ?_
      refine sp_g fun s8 => ?_
      refine sp_b fun x9 ex9 => ?_
      refine sp_m (aw_get (k := 4) okX8 s8 (by decide) q493 (Or.inl rfl) (congrArg va_rf ex9) (pc := 25) dX2_cityLine_25) ?_
      refine sp_m (aw_aload_n (pc := 28) dX2_cityLine_28 rfl (lv_at hl 0 rfl)) ?_
      refine sp_b fun x10 ex10 => ?_
      refine sp_m (aw_get (k := 9) okX2 s6 (by decide) q244 (Or.inl rfl) (congrArg va_rf ex10) (pc := 29) dX2_cityLine_29) ?_
      refine sp_g fun s11 => ?_
      refine sp_m (aw_get (k := 9) okX8 s11 (by decide) q510 (Or.inl rfl) rfl (pc := 32) dX2_cityLine_32) ?_
      refine sp_t fun h12 eh120 => ?_
      refine sp_m (fun kk => aw_new okX19 opX19 odX19 q895 q896 q142 (pc := 35) dX2_cityLine_35 (AWe eh120 kk)) ?_
      refine sp_m (aw_dup (pc := 38) dX2_cityLine_38 rfl) ?_
      refine sp_m (aw_aload_n (pc := 39) dX2_cityLine_39 rfl (lv_at hl 0 rfl)) ?_
      refine sp_g fun s14 => ?_
      refine sp_bx (fun q16t ep13 => ?_) (fun p13 ep13 => ?_)
      · refine sp_m (G' := AX (KX2_cityLine l D h0 o) q16t.2 (40) ls (.ref (gZ p5) :: .ref (gZ p5) :: .int (gI p5 x10 9) :: .ref x9 :: []) "ElephantLine$Refused" q16t.1) (fun kk => aw_callV_t (As := []) (metX2_newName _ _ ep13) (rcv_o okX2 s14) rfl mok_X2_newName q787 q789 qs18 q117 q790 (Nat.le_of_ble_eq_true rfl) (Nat.le_of_ble_eq_true rfl) rfl hl.1 rfl (Nat.le_of_ble_eq_true rfl) (pc := 40) dX2_cityLine_40  kk) ?_
        exact sp_r fun hz => ax_outT hz rfl rfl rfl rfl
      · refine sp_b fun x15 ex15 => ?_
        refine sp_m (G' := AW (KX2_cityLine l D h0 o) p13.2 (43) ls (.ref x15 :: .ref (gZ p5) :: .ref (gZ p5) :: .int (gI p5 x10 9) :: .ref x9 :: [])) (fun kk => aw_callV_n (As := []) (metX2_newName _ _ ep13) (rcv_o okX2 s14) rfl mok_X2_newName q787 q789 qs18 q117 q790 (Nat.le_of_ble_eq_true rfl) (Nat.le_of_ble_eq_true rfl) rfl hl.1 rfl (Nat.le_of_ble_eq_true rfl) (pc := 40) dX2_cityLine_40  (kk_ref ex15 kk)) ?_
        refine sp_m (aw_aload_n (pc := 43) dX2_cityLine_43 rfl (lv_at hl 0 rfl)) ?_
        refine sp_g fun s17 => ?_
        refine sp_b fun x18 ex18 => ?_
        refine sp_m (aw_get (k := 9) okX2 s17 (by decide) q244 (Or.inl rfl) (congrArg va_rf ex18) (pc := 44) dX2_cityLine_44) ?_
        refine sp_g fun s19 => ?_
        refine sp_m (aw_get (k := 9) okX8 s19 (by decide) q510 (Or.inl rfl) rfl (pc := 47) dX2_cityLine_47) ?_
        refine sp_b fun p20 ep20 => ?_
        refine sp_m (G' := AW (KX2_cityLine l D h0 o) p20 (53) ls (.ref (gZ p5) :: .int (gI p5 x10 9) :: .ref x9 :: [])) (fun kk => aw_callI (As := [.ref x15, .int (gI p13.2 x18 9)]) (metX19_init _ _ ep20) mok_X19_init rfl q897 q898 q142 q899 (Nat.le_of_ble_eq_true rfl) (Nat.le_of_ble_eq_true rfl) rfl hl.1 rfl (Nat.le_of_ble_eq_true rfl) (pc := 50) dX2_cityLine_50 kk) ?_
        refine sp_g fun s21 => ?_
        refine sp_g fun s22 => ?_
        refine sp_g fun i23 => ?_
        refine sp_t fun h24 eh240 => ?_
        have eh24 : gS h24 = gS p20 := by rw [eh240]; rfl
        refine sp_m (G' := AW (KX2_cityLine l D h0 o) h24 (54) ls ([])) (fun kk => aw_aast (t := 7) (Cc := "ElephantLine$City") s22 (by decide) rfl rfl okX19 s21 (Or.inl rfl) i23 (pc := 53) dX2_cityLine_53 (AWe eh240 kk)) ?_
        refine sp_m (aw_aload_n (pc := 54) dX2_cityLine_54 rfl (lv_at hl 0 rfl)) ?_
        refine sp_g fun s25 => ?_
        refine sp_b fun x26 ex26 => ?_
        refine sp_m (aw_get (k := 9) okX2 s25 (by decide) q244 (Or.inl rfl) (congrArg va_rf ex26) (pc := 55) dX2_cityLine_55) ?_
        refine sp_m (aw_dup (pc := 58) dX2_cityLine_58 rfl) ?_
        refine sp_g fun s27 => ?_
        refine sp_m (aw_get (k := 9) okX8 s27 (by decide) q510 (Or.inl rfl) rfl (pc := 59) dX2_cityLine_59) ?_
        refine sp_m (aw_iconst (v := 1) (pc := 62) dX2_cityLine_62 rfl) ?_
        refine sp_m (aw_iadd (pc := 63) dX2_cityLine_63) ?_
        refine sp_t fun h28 eh280 => ?_
        have eh28 : gS h28 = gS h24 := by rw [eh280]; rfl
        refine sp_m (aw_put (k := 9) okX8 opX8 s27 (by decide) q510 (Or.inl rfl) (Or.inl rfl) (hasV_I' eh280) rfl rfl (pc := 64) dX2_cityLine_64) ?_
        exact sp_r fun hz => aw_vretT hz rfl rfl rfl (pc := 67) dX2_cityLine_67
  refine sp_if (fun c30 => ?_) (fun c30 => ?_)
  · refine sp_m (aw_icmp_ge_t (tgt := 17) (pc := 10) dX2_cityLine_10 (by decide) c30) ?_
    refine sp_m (aw_iconst (v := 0) (pc := 17) dX2_cityLine_17 rfl) ?_
    exact hj18_1 0 ls (lv_sub hl [0] rfl)
  · refine sp_m (aw_icmp_ge_f (tgt := 17) (pc := 10) dX2_cityLine_10 (by decide) c30) ?_
    refine sp_m (aw_iconst (v := 1) (pc := 13) dX2_cityLine_13 rfl) ?_
    refine sp_m (aw_goto (tgt := 18) (pc := 14) dX2_cityLine_14 (by decide)) ?_
    exact hj18_1 1 ls (lv_sub hl [0] rfl)
theorem mok_X2_fieldLine : mOK yX2_fieldLine 0 := ⟨⟨by decide +kernel, by decide +kernel⟩, by decide +kernel⟩
abbrev KX2_fieldLine (l : Launch) (D : DD) (h0 : AH) (o : (AH) ⊕ (Nat × AH)) : KT := (l, yX2_fieldLine, cX2_fieldLine, 2, none, RX2, 9, D, h0, tE (fun p : AH => p) o, tV (fun _ : AH => none) "ElephantLine$Refused" o, true, [])
theorem metX2_fieldLine (l : Launch) (D : DD) {a0 : Nat} {h0 : AH} {o : (AH) ⊕ (Nat × AH)} (hr : fX2_fieldLine a0 h0 = some o) : AMetX (KX2_fieldLine l D h0 o) [.ref a0] := by
  refine AMetX.of (K := (KX2_fieldLine l D h0 o)) rfl rfl rfl rfl (Nat.le_of_ble_eq_true rfl) (fun ls hl => ?_)
  have hl : lv_has ls 2 [(0, .ref a0)] := hl
  suffices hsp : SP (fX2_fieldLine a0 h0) (fun z => z = o) (AW (KX2_fieldLine l D h0 o) h0 0 ls []) from hsp _ hr rfl
  unfold fX2_fieldLine
  refine sp_m (aw_aload_n (pc := 0) dX2_fieldLine_0 rfl (lv_at hl 0 rfl)) ?_
  refine sp_g fun s1 => ?_
  refine sp_b fun x2 ex2 => ?_
  refine sp_m (aw_get (k := 9) okX2 s1 (by decide) q244 (Or.inl rfl) (congrArg va_rf ex2) (pc := 1) dX2_fieldLine_1) ?_
  refine sp_g fun s3 => ?_
  refine sp_m (aw_get (k := 5) okX8 s3 (by decide) q495 (Or.inl rfl) rfl (pc := 4) dX2_fieldLine_4) ?_
  refine sp_if (fun c4 => ?_) (fun c4 => ?_)
  · refine sp_m (aw_if_le_t (tgt := 16) (pc := 7) dX2_fieldLine_7 (by decide) c4) ?_
    refine sp_m (aw_aload_n (pc := 16) dX2_fieldLine_16 rfl (lv_at hl 0 rfl)) ?_
    refine sp_b fun p5 ep5 => ?_
    refine sp_m (G' := AW (KX2_fieldLine l D h0 o) p5 (20) ls ([])) (fun kk => aw_callV (As := []) (metX2_next _ _ ep5) (rcv_o okX2 s1) rfl mok_X2_next q540 q542 qs4 q117 q543 (Nat.le_of_ble_eq_true rfl) (Nat.le_of_ble_eq_true rfl) rfl hl.1 rfl (Nat.le_of_ble_eq_true rfl) (pc := 17) dX2_fieldLine_17 kk) ?_
    refine sp_m (aw_aload_n (pc := 20) dX2_fieldLine_20 rfl (lv_at hl 0 rfl)) ?_
    refine sp_b fun x6 ex6 => ?_
    refine sp_m (aw_ldcS sk_X2_167 ex6 (pc := 21) dX2_fieldLine_21) ?_
    refine sp_m (aw_iconst (v := 2) (pc := 23) dX2_fieldLine_23 rfl) ?_
    refine sp_m (aw_bipush (v := 6) (pc := 24) dX2_fieldLine_24 rfl) ?_
    refine sp_g fun s8 => ?_
    refine sp_bx (fun q20t ep7 => ?_) (fun p7 ep7 => ?_)
    · refine sp_m (G' := AX (KX2_fieldLine l D h0 o) q20t.2 (26) ls ([]) "ElephantLine$Refused" q20t.1) (fun kk => aw_callV_t (As := [.ref x6, .int 2, .int 6]) (metX2_after _ _ ep7) (rcv_o okX2 s8) rfl mok_X2_after q718 q720 qs9 q117 q721 (Nat.le_of_ble_eq_true rfl) (Nat.le_of_ble_eq_true rfl) rfl hl.1 rfl (Nat.le_of_ble_eq_true rfl) (pc := 26) dX2_fieldLine_26  kk) ?_
      exact sp_r fun hz => ax_outT hz rfl rfl rfl rfl
    · refine sp_m (G' := AW (KX2_fieldLine l D h0 o) p7.2 (29) ls (.int p7.1 :: [])) (fun kk => aw_callV_n (As := [.ref x6, .int 2, .int 6]) (metX2_after _ _ ep7) (rcv_o okX2 s8) rfl mok_X2_after q718 q720 qs9 q117 q721 (Nat.le_of_ble_eq_true rfl) (Nat.le_of_ble_eq_true rfl) rfl hl.1 rfl (Nat.le_of_ble_eq_true rfl) (pc := 26) dX2_fieldLine_26  kk) ?_
      refine sp_m (aw_istore_n (lv' := [(1, .int p7.1), (0, .ref a0)]) (pc := 29) dX2_fieldLine_29 rfl hl (by decide) rfl) (sp_all fun ls hl => ?_)
      refine sp_m (aw_aload_n (pc := 30) dX2_fieldLine_30 rfl (lv_at hl 1 rfl)) ?_
      refine sp_g fun s9 => ?_
      refine sp_b fun x10 ex10 => ?_
      refine sp_m (aw_get (k := 9) okX2 s9 (by decide) q244 (Or.inl rfl) (congrArg va_rf ex10) (pc := 31) dX2_fieldLine_31) ?_
      refine sp_m (aw_aload_n (pc := 34) dX2_fieldLine_34 rfl (lv_at hl 1 rfl)) ?_
      refine sp_b fun x11 ex11 => ?_
      refine sp_m (aw_ldcS sk_X2_172 ex11 (pc := 35) dX2_fieldLine_35) ?_
      refine sp_m (aw_iconst (v := 1) (pc := 37) dX2_fieldLine_37 rfl) ?_
      refine sp_m (aw_iconst (v := 5) (pc := 38) dX2_fieldLine_38 rfl) ?_
      refine sp_bx (fun q19t ep12 => ?_) (fun p12 ep12 => ?_)
      · refine sp_m (G' := AX (KX2_fieldLine l D h0 o) q19t.2 (39) ls (.ref x10 :: []) "ElephantLine$Refused" q19t.1) (fun kk => aw_callV_t (As := [.ref x11, .int 1, .int 5]) (metX2_after _ _ ep12) (rcv_o okX2 s9) rfl mok_X2_after q718 q720 qs9 q117 q721 (Nat.le_of_ble_eq_true rfl) (Nat.le_of_ble_eq_true rfl) rfl hl.1 rfl (Nat.le_of_ble_eq_true rfl) (pc := 39) dX2_fieldLine_39  kk) ?_
        exact sp_r fun hz => ax_outT hz rfl rfl rfl rfl
      · refine sp_m (G' := AW (KX2_fieldLine l D h0 o) p12.2 (42) ls (.int p12.1 :: .ref x10 :: [])) (fun kk => aw_callV_n (As := [.ref x11, .int 1, .int 5]) (metX2_after _ _ ep12) (rcv_o okX2 s9) rfl mok_X2_after q718 q720 qs9 q117 q721 (Nat.le_of_ble_eq_true rfl) (Nat.le_of_ble_eq_true rfl) rfl hl.1 rfl (Nat.le_of_ble_eq_true rfl) (pc := 39) dX2_fieldLine_39  kk) ?_
        refine sp_g fun s13 => ?_
        refine sp_t fun h14 eh140 => ?_
        have eh14 : gS h14 = gS p12.2 := by rw [eh140]; rfl
        refine sp_m (aw_put (k := 6) okX8 opX8 s13 (by decide) q498 (Or.inl rfl) (Or.inl rfl) (hasV_I' eh140) rfl rfl (pc := 42) dX2_fieldLine_42) ?_
        refine sp_m (aw_aload_n (pc := 45) dX2_fieldLine_45 rfl (lv_at hl 1 rfl)) ?_
        refine sp_g fun s15 => ?_
        refine sp_b fun x16 ex16 => ?_
        refine sp_m (aw_get (k := 9) okX2 s15 (by decide) q244 (Or.inl rfl) (congrArg va_rf ex16) (pc := 46) dX2_fieldLine_46) ?_
        refine sp_m (aw_iload_n (pc := 49) dX2_fieldLine_49 rfl (lv_at hl 0 rfl)) ?_
        refine sp_g fun s17 => ?_
        refine sp_t fun h18 eh180 => ?_
        have eh18 : gS h18 = gS h14 := by rw [eh180]; rfl
        refine sp_m (aw_put (k := 5) okX8 opX8 s17 (by decide) q495 (Or.inl rfl) (Or.inl rfl) (hasV_I' eh180) rfl rfl (pc := 50) dX2_fieldLine_50) ?_
        exact sp_r fun hz => aw_vretT hz rfl rfl rfl (pc := 53) dX2_fieldLine_53
  · refine sp_m (aw_if_le_f (tgt := 16) (pc := 7) dX2_fieldLine_7 (by decide) c4) ?_
    refine sp_m (aw_aload_n (pc := 10) dX2_fieldLine_10 rfl (lv_at hl 0 rfl)) ?_
    refine sp_m (aw_iconst (v := 3) (pc := 11) dX2_fieldLine_11 rfl) ?_
    refine sp_b fun p21 ep21 => ?_
    refine sp_b fun x22 ex22 => ?_
    refine sp_m (G' := AW (KX2_fieldLine l D h0 o) p21.2 (15) ls (.ref x22 :: [])) (fun kk => aw_callV (As := [.int 3]) (metX2_fail _ _ ep21) (rcv_o okX2 s1) rfl mok_X2_fail q638 q640 qs7 q117 q641 (Nat.le_of_ble_eq_true rfl) (Nat.le_of_ble_eq_true rfl) rfl hl.1 rfl (Nat.le_of_ble_eq_true rfl) (pc := 12) dX2_fieldLine_12 (kk_ref ex22 kk)) ?_
    refine sp_g fun s23 => ?_
    exact sp_r fun hz => aw_throwT okX3 s23 hz rfl rfl rfl rfl (pc := 15) dX2_fieldLine_15
theorem mok_X9_init : mOK yX9_init 0 := ⟨⟨by decide +kernel, by decide +kernel⟩, by decide +kernel⟩
abbrev KX9_init (l : Launch) (D : DD) (h0 : AH) : KT := (l, yX9_init, cX9_init, 1, none, RX9, 1, D, h0, h0, .inl (none), false, [])
theorem metX9_init (l : Launch) (D : DD) {a0 : Nat} {h0 : AH}  (hr : fX9_init a0 h0 = some ()) : AMet (KX9_init l D h0) [.ref a0] := by
  refine AMet.of (K := (KX9_init l D h0)) rfl ⟨_, rfl⟩ rfl rfl rfl (Nat.le_of_ble_eq_true rfl) (fun ls hl => ?_)
  have hl : lv_has ls 1 [(0, .ref a0)] := hl
  suffices hsp : SP (fX9_init a0 h0) (fun z => z = ()) (AW (KX9_init l D h0) h0 0 ls []) from hsp _ hr rfl
  unfold fX9_init
  refine sp_m (aw_aload_n (pc := 0) dX9_init_0 rfl (lv_at hl 0 rfl)) ?_
  refine sp_m (aw_objInit hl.1 q757 q153 q154 (Nat.le_of_ble_eq_true rfl) rfl (pc := 1) dX9_init_1) ?_
  exact sp_r fun hz => aw_vret rfl rfl rfl rfl (pc := 4) dX9_init_4
theorem mok_X11_init : mOK yX11_init 0 := ⟨⟨by decide +kernel, by decide +kernel⟩, by decide +kernel⟩
abbrev KX11_init (l : Launch) (D : DD) (h0 : AH) : KT := (l, yX11_init, cX11_init, 1, none, RX11, 2, D, h0, h0, .inl (none), false, [])
theorem metX11_init (l : Launch) (D : DD) {a0 : Nat} {h0 : AH}  (hr : fX11_init a0 h0 = some ()) : AMet (KX11_init l D h0) [.ref a0] := by
  refine AMet.of (K := (KX11_init l D h0)) rfl ⟨_, rfl⟩ rfl rfl rfl (Nat.le_of_ble_eq_true rfl) (fun ls hl => ?_)
  have hl : lv_has ls 1 [(0, .ref a0)] := hl
  suffices hsp : SP (fX11_init a0 h0) (fun z => z = ()) (AW (KX11_init l D h0) h0 0 ls []) from hsp _ hr rfl
  unfold fX11_init
  refine sp_m (aw_aload_n (pc := 0) dX11_init_0 rfl (lv_at hl 0 rfl)) ?_
  refine sp_b fun p1 ep1 => ?_
  refine sp_m (G' := AW (KX11_init l D h0) h0 (4) ls ([])) (fun kk => aw_callIN (As := []) (host := "ElephantLine") (metX9_init _ _ ep1) mok_X9_init rfl nq773 q755 q132 q756 (Nat.le_of_ble_eq_true rfl) (Nat.le_of_ble_eq_true rfl) rfl hl.1 rfl (Nat.le_of_ble_eq_true rfl) (pc := 1) dX11_init_1 kk) ?_
  exact sp_r fun hz => aw_vret rfl rfl rfl rfl (pc := 4) dX11_init_4
theorem mok_X12_init : mOK yX12_init 0 := ⟨⟨by decide +kernel, by decide +kernel⟩, by decide +kernel⟩
abbrev KX12_init (l : Launch) (D : DD) (h0 : AH) : KT := (l, yX12_init, cX12_init, 1, none, RX12, 2, D, h0, h0, .inl (none), false, [])
theorem metX12_init (l : Launch) (D : DD) {a0 : Nat} {h0 : AH}  (hr : fX12_init a0 h0 = some ()) : AMet (KX12_init l D h0) [.ref a0] := by
  refine AMet.of (K := (KX12_init l D h0)) rfl ⟨_, rfl⟩ rfl rfl rfl (Nat.le_of_ble_eq_true rfl) (fun ls hl => ?_)
  have hl : lv_has ls 1 [(0, .ref a0)] := hl
  suffices hsp : SP (fX12_init a0 h0) (fun z => z = ()) (AW (KX12_init l D h0) h0 0 ls []) from hsp _ hr rfl
  unfold fX12_init
  refine sp_m (aw_aload_n (pc := 0) dX12_init_0 rfl (lv_at hl 0 rfl)) ?_
  refine sp_b fun p1 ep1 => ?_
  refine sp_m (G' := AW (KX12_init l D h0) h0 (4) ls ([])) (fun kk => aw_callIN (As := []) (host := "ElephantLine") (metX9_init _ _ ep1) mok_X9_init rfl nq781 q755 q132 q756 (Nat.le_of_ble_eq_true rfl) (Nat.le_of_ble_eq_true rfl) rfl hl.1 rfl (Nat.le_of_ble_eq_true rfl) (pc := 1) dX12_init_1 kk) ?_
  exact sp_r fun hz => aw_vret rfl rfl rfl rfl (pc := 4) dX12_init_4
theorem mok_X10_init : mOK yX10_init 0 := ⟨⟨by decide +kernel, by decide +kernel⟩, by decide +kernel⟩
abbrev KX10_init (l : Launch) (D : DD) (h0 : AH) : KT := (l, yX10_init, cX10_init, 1, none, RX10, 2, D, h0, h0, .inl (none), false, [])
theorem metX10_init (l : Launch) (D : DD) {a0 : Nat} {h0 : AH}  (hr : fX10_init a0 h0 = some ()) : AMet (KX10_init l D h0) [.ref a0] := by
  refine AMet.of (K := (KX10_init l D h0)) rfl ⟨_, rfl⟩ rfl rfl rfl (Nat.le_of_ble_eq_true rfl) (fun ls hl => ?_)
  have hl : lv_has ls 1 [(0, .ref a0)] := hl
  suffices hsp : SP (fX10_init a0 h0) (fun z => z = ()) (AW (KX10_init l D h0) h0 0 ls []) from hsp _ hr rfl
  unfold fX10_init
  refine sp_m (aw_aload_n (pc := 0) dX10_init_0 rfl (lv_at hl 0 rfl)) ?_
  refine sp_b fun p1 ep1 => ?_
  refine sp_m (G' := AW (KX10_init l D h0) h0 (4) ls ([])) (fun kk => aw_callIN (As := []) (host := "ElephantLine") (metX9_init _ _ ep1) mok_X9_init rfl nq765 q755 q132 q756 (Nat.le_of_ble_eq_true rfl) (Nat.le_of_ble_eq_true rfl) rfl hl.1 rfl (Nat.le_of_ble_eq_true rfl) (pc := 1) dX10_init_1 kk) ?_
  exact sp_r fun hz => aw_vret rfl rfl rfl rfl (pc := 4) dX10_init_4
theorem mok_X2_standOf : mOK yX2_standOf 1 := ⟨⟨by decide +kernel, by decide +kernel⟩, by decide +kernel⟩
abbrev KX2_standOf (l : Launch) (D : DD) (h0 : AH) (o : (Option Nat × AH) ⊕ (Nat × AH)) : KT := (l, yX2_standOf, cX2_standOf, 2, (some (.object "ElephantLine$Stand")), RX2, 9, D, h0, tE (fun p : Option Nat × AH => p.2) o, tV (fun p : Option Nat × AH => some (va_rf p.1)) "ElephantLine$Refused" o, true, [])
theorem metX2_standOf (l : Launch) (D : DD) {a0 : Nat} {a1 : Int32} {h0 : AH} {o : (Option Nat × AH) ⊕ (Nat × AH)} (hr : fX2_standOf a0 a1 h0 = some o) : AMetX (KX2_standOf l D h0 o) [.ref a0, .int a1] := by
  refine AMetX.of (K := (KX2_standOf l D h0 o)) rfl rfl rfl rfl (Nat.le_of_ble_eq_true rfl) (fun ls hl => ?_)
  have hl : lv_has ls 2 [(0, .ref a0), (1, .int a1)] := hl
  suffices hsp : SP (fX2_standOf a0 a1 h0) (fun z => z = o) (AW (KX2_standOf l D h0 o) h0 0 ls []) from hsp _ hr rfl
  unfold fX2_standOf
  refine sp_m (aw_aload_n (pc := 0) dX2_standOf_0 rfl (lv_at hl 0 rfl)) ?_
  refine sp_b fun x1 ex1 => ?_
  refine sp_m (aw_ldcS sk_X2_176 ex1 (pc := 1) dX2_standOf_1) ?_
  refine sp_g fun s3 => ?_
  refine sp_b fun p2 ep2 => ?_
  refine sp_m (G' := AW (KX2_standOf l D h0 o) p2.2 (6) ls (.int p2.1 :: [])) (fun kk => aw_callV (As := [.ref x1]) (metX2_takes _ _ ep2) (rcv_o okX2 s3) rfl mok_X2_takes q726 q728 qs11 q117 q729 (Nat.le_of_ble_eq_true rfl) (Nat.le_of_ble_eq_true rfl) rfl hl.1 rfl (Nat.le_of_ble_eq_true rfl) (pc := 3) dX2_standOf_3 kk) ?_
  refine sp_if (fun c4 => ?_) (fun c4 => ?_)
  · refine sp_m (aw_if_eq_t (tgt := 17) (pc := 6) dX2_standOf_6 (by decide) c4) ?_
    refine sp_m (aw_aload_n (pc := 17) dX2_standOf_17 rfl (lv_at hl 0 rfl)) ?_
    refine sp_b fun x5 ex5 => ?_
    refine sp_m (aw_ldcS sk_X2_178 ex5 (pc := 18) dX2_standOf_18) ?_
    refine sp_g fun s7 => ?_
    refine sp_b fun p6 ep6 => ?_
    refine sp_m (G' := AW (KX2_standOf l D h0 o) p6.2 (23) ls (.int p6.1 :: [])) (fun kk => aw_callV (As := [.ref x5]) (metX2_takes _ _ ep6) (rcv_o okX2 s7) rfl mok_X2_takes q726 q728 qs11 q117 q729 (Nat.le_of_ble_eq_true rfl) (Nat.le_of_ble_eq_true rfl) rfl hl.1 rfl (Nat.le_of_ble_eq_true rfl) (pc := 20) dX2_standOf_20 kk) ?_
    refine sp_if (fun c8 => ?_) (fun c8 => ?_)
    · refine sp_m (aw_if_eq_t (tgt := 34) (pc := 23) dX2_standOf_23 (by decide) c8) ?_
      refine sp_m (aw_aload_n (pc := 34) dX2_standOf_34 rfl (lv_at hl 0 rfl)) ?_
      refine sp_b fun x9 ex9 => ?_
      refine sp_m (aw_ldcS sk_X2_183 ex9 (pc := 35) dX2_standOf_35) ?_
      refine sp_g fun s11 => ?_
      refine sp_b fun p10 ep10 => ?_
      refine sp_m (G' := AW (KX2_standOf l D h0 o) p10.2 (40) ls (.int p10.1 :: [])) (fun kk => aw_callV (As := [.ref x9]) (metX2_takes _ _ ep10) (rcv_o okX2 s11) rfl mok_X2_takes q726 q728 qs11 q117 q729 (Nat.le_of_ble_eq_true rfl) (Nat.le_of_ble_eq_true rfl) rfl hl.1 rfl (Nat.le_of_ble_eq_true rfl) (pc := 37) dX2_standOf_37 kk) ?_
      refine sp_if (fun c12 => ?_) (fun c12 => ?_)
      · refine sp_m (aw_if_eq_t (tgt := 67) (pc := 40) dX2_standOf_40 (by decide) c12) ?_
        refine sp_m (aw_aload_n (pc := 67) dX2_standOf_67 rfl (lv_at hl 0 rfl)) ?_
        refine sp_g fun s13 => ?_
        refine sp_b fun x14 ex14 => ?_
        refine sp_m (aw_get (k := 9) okX2 s13 (by decide) q244 (Or.inl rfl) (congrArg va_rf ex14) (pc := 68) dX2_standOf_68) ?_
        refine sp_g fun s15 => ?_
        refine sp_b fun x16 ex16 => ?_
        refine sp_m (aw_get (k := 1) okX8 s15 (by decide) q485 (Or.inl rfl) (congrArg va_rf ex16) (pc := 71) dX2_standOf_71) ?_
        refine sp_m (aw_iload_n (pc := 74) dX2_standOf_74 rfl (lv_at hl 1 rfl)) ?_
        refine sp_m (aw_aload_n (pc := 75) dX2_standOf_75 rfl (lv_at hl 0 rfl)) ?_
        refine sp_b fun x17 ex17 => ?_
        refine sp_m (aw_ldcS sk_X2_192 ex17 (pc := 76) dX2_standOf_76) ?_
        refine sp_m (aw_iconst (v := 0) (pc := 78) dX2_standOf_78 rfl) ?_
        refine sp_m (aw_bipush (v := 30) (pc := 79) dX2_standOf_79 rfl) ?_
        refine sp_bx (fun q24t ep18 => ?_) (fun p18 ep18 => ?_)
        · refine sp_m (G' := AX (KX2_standOf l D h0 o) q24t.2 (81) ls (.int a1 :: .ref x16 :: []) "ElephantLine$Refused" q24t.1) (fun kk => aw_callV_t (As := [.ref x17, .int 0, .int 30]) (metX2_after _ _ ep18) (rcv_o okX2 s13) rfl mok_X2_after q718 q720 qs9 q117 q721 (Nat.le_of_ble_eq_true rfl) (Nat.le_of_ble_eq_true rfl) rfl hl.1 rfl (Nat.le_of_ble_eq_true rfl) (pc := 81) dX2_standOf_81  kk) ?_
          exact sp_r fun hz => ax_outT hz rfl rfl rfl rfl
        · refine sp_m (G' := AW (KX2_standOf l D h0 o) p18.2 (84) ls (.int p18.1 :: .int a1 :: .ref x16 :: [])) (fun kk => aw_callV_n (As := [.ref x17, .int 0, .int 30]) (metX2_after _ _ ep18) (rcv_o okX2 s13) rfl mok_X2_after q718 q720 qs9 q117 q721 (Nat.le_of_ble_eq_true rfl) (Nat.le_of_ble_eq_true rfl) rfl hl.1 rfl (Nat.le_of_ble_eq_true rfl) (pc := 81) dX2_standOf_81  kk) ?_
          refine sp_g fun s19 => ?_
          refine sp_g fun i20 => ?_
          refine sp_t fun h21 eh210 => ?_
          have eh21 : gS h21 = gS p18.2 := by rw [eh210]; rfl
          refine sp_m (fun kk => aw_iast s19 i20 (pc := 84) dX2_standOf_84 (AWe eh210 kk)) ?_
          refine sp_t fun h22 eh220 => ?_
          refine sp_m (fun kk => aw_new okX12 opX12 odX12 q776 q777 q135 (pc := 85) dX2_standOf_85 (AWe eh220 kk)) ?_
          refine sp_m (aw_dup (pc := 88) dX2_standOf_88 rfl) ?_
          refine sp_b fun p23 ep23 => ?_
          refine sp_m (G' := AW (KX2_standOf l D h0 o) h22 (92) ls (.ref (gZ h21) :: [])) (fun kk => aw_callIN (As := []) (host := "ElephantLine") (metX12_init _ _ ep23) mok_X12_init rfl nq778 q779 q135 q780 (Nat.le_of_ble_eq_true rfl) (Nat.le_of_ble_eq_true rfl) rfl hl.1 rfl (Nat.le_of_ble_eq_true rfl) (pc := 89) dX2_standOf_89 kk) ?_
          exact sp_r fun hz => aw_aretT rfl hz rfl rfl rfl (Or.inl ⟨_, rfl⟩) (pc := 92) dX2_standOf_92
      · refine sp_m (aw_if_eq_f (tgt := 67) (pc := 40) dX2_standOf_40 (by decide) c12) ?_
        refine sp_m (aw_aload_n (pc := 43) dX2_standOf_43 rfl (lv_at hl 0 rfl)) ?_
        refine sp_g fun s25 => ?_
        refine sp_b fun x26 ex26 => ?_
        refine sp_m (aw_get (k := 9) okX2 s25 (by decide) q244 (Or.inl rfl) (congrArg va_rf ex26) (pc := 44) dX2_standOf_44) ?_
        refine sp_g fun s27 => ?_
        refine sp_b fun x28 ex28 => ?_
        refine sp_m (aw_get (k := 1) okX8 s27 (by decide) q485 (Or.inl rfl) (congrArg va_rf ex28) (pc := 47) dX2_standOf_47) ?_
        refine sp_m (aw_iload_n (pc := 50) dX2_standOf_50 rfl (lv_at hl 1 rfl)) ?_
        refine sp_m (aw_aload_n (pc := 51) dX2_standOf_51 rfl (lv_at hl 0 rfl)) ?_
        refine sp_m (aw_iconst (v := 0) (pc := 52) dX2_standOf_52 rfl) ?_
        refine sp_m (aw_bipush (v := 60) (pc := 53) dX2_standOf_53 rfl) ?_
        refine sp_bx (fun q35t ep29 => ?_) (fun p29 ep29 => ?_)
        · refine sp_m (G' := AX (KX2_standOf l D h0 o) q35t.2 (55) ls (.int a1 :: .ref x28 :: []) "ElephantLine$Refused" q35t.1) (fun kk => aw_callV_t (As := [.int 0, .int 60]) (metX2_number _ _ ep29) (rcv_o okX2 s25) rfl mok_X2_number q730 q732 qs12 q117 q733 (Nat.le_of_ble_eq_true rfl) (Nat.le_of_ble_eq_true rfl) rfl hl.1 rfl (Nat.le_of_ble_eq_true rfl) (pc := 55) dX2_standOf_55  kk) ?_
          exact sp_r fun hz => ax_outT hz rfl rfl rfl rfl
        · refine sp_m (G' := AW (KX2_standOf l D h0 o) p29.2 (58) ls (.int p29.1 :: .int a1 :: .ref x28 :: [])) (fun kk => aw_callV_n (As := [.int 0, .int 60]) (metX2_number _ _ ep29) (rcv_o okX2 s25) rfl mok_X2_number q730 q732 qs12 q117 q733 (Nat.le_of_ble_eq_true rfl) (Nat.le_of_ble_eq_true rfl) rfl hl.1 rfl (Nat.le_of_ble_eq_true rfl) (pc := 55) dX2_standOf_55  kk) ?_
          refine sp_g fun s30 => ?_
          refine sp_g fun i31 => ?_
          refine sp_t fun h32 eh320 => ?_
          have eh32 : gS h32 = gS p29.2 := by rw [eh320]; rfl
          refine sp_m (fun kk => aw_iast s30 i31 (pc := 58) dX2_standOf_58 (AWe eh320 kk)) ?_
          refine sp_t fun h33 eh330 => ?_
          refine sp_m (fun kk => aw_new okX11 opX11 odX11 q768 q769 q134 (pc := 59) dX2_standOf_59 (AWe eh330 kk)) ?_
          refine sp_m (aw_dup (pc := 62) dX2_standOf_62 rfl) ?_
          refine sp_b fun p34 ep34 => ?_
          refine sp_m (G' := AW (KX2_standOf l D h0 o) h33 (66) ls (.ref (gZ h32) :: [])) (fun kk => aw_callIN (As := []) (host := "ElephantLine") (metX11_init _ _ ep34) mok_X11_init rfl nq770 q771 q134 q772 (Nat.le_of_ble_eq_true rfl) (Nat.le_of_ble_eq_true rfl) rfl hl.1 rfl (Nat.le_of_ble_eq_true rfl) (pc := 63) dX2_standOf_63 kk) ?_
          exact sp_r fun hz => aw_aretT rfl hz rfl rfl rfl (Or.inl ⟨_, rfl⟩) (pc := 66) dX2_standOf_66
    · refine sp_m (aw_if_eq_f (tgt := 34) (pc := 23) dX2_standOf_23 (by decide) c8) ?_
      refine sp_t fun h36 eh360 => ?_
      refine sp_m (fun kk => aw_new okX10 opX10 odX10 q760 q761 q133 (pc := 26) dX2_standOf_26 (AWe eh360 kk)) ?_
      refine sp_m (aw_dup (pc := 29) dX2_standOf_29 rfl) ?_
      refine sp_b fun p37 ep37 => ?_
      refine sp_m (G' := AW (KX2_standOf l D h0 o) h36 (33) ls (.ref (gZ p6.2) :: [])) (fun kk => aw_callIN (As := []) (host := "ElephantLine") (metX10_init _ _ ep37) mok_X10_init rfl nq762 q763 q133 q764 (Nat.le_of_ble_eq_true rfl) (Nat.le_of_ble_eq_true rfl) rfl hl.1 rfl (Nat.le_of_ble_eq_true rfl) (pc := 30) dX2_standOf_30 kk) ?_
      exact sp_r fun hz => aw_aretT rfl hz rfl rfl rfl (Or.inl ⟨_, rfl⟩) (pc := 33) dX2_standOf_33
  · refine sp_m (aw_if_eq_f (tgt := 17) (pc := 6) dX2_standOf_6 (by decide) c4) ?_
    refine sp_t fun h38 eh380 => ?_
    refine sp_m (fun kk => aw_new okX9 opX9 odX9 q752 q753 q132 (pc := 9) dX2_standOf_9 (AWe eh380 kk)) ?_
    refine sp_m (aw_dup (pc := 12) dX2_standOf_12 rfl) ?_
    refine sp_b fun p39 ep39 => ?_
    refine sp_m (G' := AW (KX2_standOf l D h0 o) h38 (16) ls (.ref (gZ p2.2) :: [])) (fun kk => aw_callIN (As := []) (host := "ElephantLine") (metX9_init _ _ ep39) mok_X9_init rfl nq754 q755 q132 q756 (Nat.le_of_ble_eq_true rfl) (Nat.le_of_ble_eq_true rfl) rfl hl.1 rfl (Nat.le_of_ble_eq_true rfl) (pc := 13) dX2_standOf_13 kk) ?_
    exact sp_r fun hz => aw_aretT rfl hz rfl rfl rfl (Or.inl ⟨_, rfl⟩) (pc := 16) dX2_standOf_16
theorem mok_X2_laneLine : mOK yX2_laneLine 0 := ⟨⟨by decide +kernel, by decide +kernel⟩, by decide +kernel⟩
abbrev KX2_laneLine (l : Launch) (D : DD) (h0 : AH) (o : (AH) ⊕ (Nat × AH)) : KT := (l, yX2_laneLine, cX2_laneLine, 2, none, RX2, 10, D, h0, tE (fun p : AH => p) o, tV (fun _ : AH => none) "ElephantLine$Refused" o, true, [])
theorem metX2_laneLine (l : Launch) (D : DD) {a0 : Nat} {h0 : AH} {o : (AH) ⊕ (Nat × AH)} (hr : fX2_laneLine a0 h0 = some o) : AMetX (KX2_laneLine l D h0 o) [.ref a0] := by
  refine AMetX.of (K := (KX2_laneLine l D h0 o)) rfl rfl rfl rfl (Nat.le_of_ble_eq_true rfl) (fun ls hl => ?_)
  have hl : lv_has ls 2 [(0, .ref a0)] := hl
  suffices hsp : SP (fX2_laneLine a0 h0) (fun z => z = o) (AW (KX2_laneLine l D h0 o) h0 0 ls []) from hsp _ hr rfl
  unfold fX2_laneLine
  refine sp_m (aw_aload_n (pc := 0) dX2_laneLine_0 rfl (lv_at hl 0 rfl)) ?_
  refine sp_m (aw_iconst (v := 1) (pc := 1) dX2_laneLine_1 rfl) ?_
  refine sp_g fun s2 => ?_
  refine sp_bx (fun q34t ep1 => ?_) (fun p1 ep1 => ?_)
  · refine sp_m (G' := AX (KX2_laneLine l D h0 o) q34t.2 (2) ls ([]) "ElephantLine$Refused" q34t.1) (fun kk => aw_callV_t (As := [.int 1]) (metX2_begins _ _ ep1) (rcv_o okX2 s2) rfl mok_X2_begins q743 q745 qs15 q117 q746 (Nat.le_of_ble_eq_true rfl) (Nat.le_of_ble_eq_true rfl) rfl hl.1 rfl (Nat.le_of_ble_eq_true rfl) (pc := 2) dX2_laneLine_2  kk) ?_
    exact sp_r fun hz => ax_outT hz rfl rfl rfl rfl
  · refine sp_m (G' := AW (KX2_laneLine l D h0 o) p1 (5) ls ([])) (fun kk => aw_callV_n (As := [.int 1]) (metX2_begins _ _ ep1) (rcv_o okX2 s2) rfl mok_X2_begins q743 q745 qs15 q117 q746 (Nat.le_of_ble_eq_true rfl) (Nat.le_of_ble_eq_true rfl) rfl hl.1 rfl (Nat.le_of_ble_eq_true rfl) (pc := 2) dX2_laneLine_2  kk) ?_
    refine sp_m (aw_aload_n (pc := 5) dX2_laneLine_5 rfl (lv_at hl 0 rfl)) ?_
    refine sp_m (aw_iconst (v := 0) (pc := 6) dX2_laneLine_6 rfl) ?_
    refine sp_m (aw_aload_n (pc := 7) dX2_laneLine_7 rfl (lv_at hl 0 rfl)) ?_
    refine sp_g fun s3 => ?_
    refine sp_b fun x4 ex4 => ?_
    refine sp_m (aw_get (k := 9) okX2 s3 (by decide) q244 (Or.inl rfl) (congrArg va_rf ex4) (pc := 8) dX2_laneLine_8) ?_
    refine sp_g fun s5 => ?_
    refine sp_m (aw_get (k := 5) okX8 s5 (by decide) q495 (Or.inl rfl) rfl (pc := 11) dX2_laneLine_11) ?_
    refine sp_m (aw_iconst (v := 1) (pc := 14) dX2_laneLine_14 rfl) ?_
    refine sp_m (aw_isub (pc := 15) dX2_laneLine_15) ?_
    refine sp_bx (fun q33t ep6 => ?_) (fun p6 ep6 => ?_)
    · refine sp_m (G' := AX (KX2_laneLine l D h0 o) q33t.2 (16) ls ([]) "ElephantLine$Refused" q33t.1) (fun kk => aw_callV_t (As := [.int 0, .int ((gI p1 x4 5) - 1)]) (metX2_numberHere _ _ ep6) (rcv_o okX2 s3) rfl mok_X2_numberHere q734 q736 qs13 q117 q737 (Nat.le_of_ble_eq_true rfl) (Nat.le_of_ble_eq_true rfl) rfl hl.1 rfl (Nat.le_of_ble_eq_true rfl) (pc := 16) dX2_laneLine_16  kk) ?_
      exact sp_r fun hz => ax_outT hz rfl rfl rfl rfl
    · refine sp_m (G' := AW (KX2_laneLine l D h0 o) p6.2 (19) ls (.int p6.1 :: [])) (fun kk => aw_callV_n (As := [.int 0, .int ((gI p1 x4 5) - 1)]) (metX2_numberHere _ _ ep6) (rcv_o okX2 s3) rfl mok_X2_numberHere q734 q736 qs13 q117 q737 (Nat.le_of_ble_eq_true rfl) (Nat.le_of_ble_eq_true rfl) rfl hl.1 rfl (Nat.le_of_ble_eq_true rfl) (pc := 16) dX2_laneLine_16  kk) ?_
      refine sp_m (aw_istore_n (lv' := [(1, .int p6.1), (0, .ref a0)]) (pc := 19) dX2_laneLine_19 rfl hl (by decide) rfl) (sp_all fun ls hl => ?_)
      refine sp_m (aw_aload_n (pc := 20) dX2_laneLine_20 rfl (lv_at hl 1 rfl)) ?_
      refine sp_g fun s7 => ?_
      refine sp_b fun x8 ex8 => ?_
      refine sp_m (aw_get (k := 9) okX2 s7 (by decide) q244 (Or.inl rfl) (congrArg va_rf ex8) (pc := 21) dX2_laneLine_21) ?_
      refine sp_g fun s9 => ?_
      refine sp_b fun x10 ex10 => ?_
      refine sp_m (aw_get (k := 0) okX8 s9 (by decide) q481 (Or.inl rfl) (congrArg va_rf ex10) (pc := 24) dX2_laneLine_24) ?_
      refine sp_m (aw_iload_n (pc := 27) dX2_laneLine_27 rfl (lv_at hl 0 rfl)) ?_
      refine sp_g fun s11 => ?_
      refine sp_g fun i12 => ?_
      refine sp_o (fun ex13 => ?_) (fun x13 ex13 => ?_)
      · refine sp_m (aw_aald (t := 6) s11 (by decide) rfl rfl i12 (congrArg va_rf ex13) (pc := 28) dX2_laneLine_28) ?_
        refine sp_m (aw_ifnullN (tgt := 38) (pc := 29) dX2_laneLine_29 (by decide)) ?_
        refine sp_m (aw_aload_n (pc := 38) dX2_laneLine_38 rfl (lv_at hl 1 rfl)) ?_
        refine sp_b fun p17 ep17 => ?_
        refine sp_m (G' := AW (KX2_laneLine l D h0 o) p17 (42) ls ([])) (fun kk => aw_callV (As := []) (metX2_next _ _ ep17) (rcv_o okX2 s7) rfl mok_X2_next q540 q542 qs4 q117 q543 (Nat.le_of_ble_eq_true rfl) (Nat.le_of_ble_eq_true rfl) rfl hl.1 rfl (Nat.le_of_ble_eq_true rfl) (pc := 39) dX2_laneLine_39 kk) ?_
        refine sp_m (aw_aload_n (pc := 42) dX2_laneLine_42 rfl (lv_at hl 1 rfl)) ?_
        refine sp_g fun s18 => ?_
        refine sp_b fun x19 ex19 => ?_
        refine sp_m (aw_get (k := 9) okX2 s18 (by decide) q244 (Or.inl rfl) (congrArg va_rf ex19) (pc := 43) dX2_laneLine_43) ?_
        refine sp_g fun s20 => ?_
        refine sp_b fun x21 ex21 => ?_
        refine sp_m (aw_get (k := 0) okX8 s20 (by decide) q481 (Or.inl rfl) (congrArg va_rf ex21) (pc := 46) dX2_laneLine_46) ?_
        refine sp_m (aw_iload_n (pc := 49) dX2_laneLine_49 rfl (lv_at hl 0 rfl)) ?_
        refine sp_m (aw_aload_n (pc := 50) dX2_laneLine_50 rfl (lv_at hl 1 rfl)) ?_
        refine sp_m (aw_iload_n (pc := 51) dX2_laneLine_51 rfl (lv_at hl 0 rfl)) ?_
        refine sp_bx (fun q24t ep22 => ?_) (fun p22 ep22 => ?_)
        · refine sp_m (G' := AX (KX2_laneLine l D h0 o) q24t.2 (52) ls (.int p6.1 :: .ref x21 :: []) "ElephantLine$Refused" q24t.1) (fun kk => aw_callV_t (As := [.int p6.1]) (metX2_standOf _ _ ep22) (rcv_o okX2 s18) rfl mok_X2_standOf q747 q749 qs16 q117 q750 (Nat.le_of_ble_eq_true rfl) (Nat.le_of_ble_eq_true rfl) rfl hl.1 rfl (Nat.le_of_ble_eq_true rfl) (pc := 52) dX2_laneLine_52  kk) ?_
          exact sp_r fun hz => ax_outT hz rfl rfl rfl rfl
        · refine sp_b fun x23 ex23 => ?_
          refine sp_m (G' := AW (KX2_laneLine l D h0 o) p22.2 (55) ls (.ref x23 :: .int p6.1 :: .ref x21 :: [])) (fun kk => aw_callV_n (As := [.int p6.1]) (metX2_standOf _ _ ep22) (rcv_o okX2 s18) rfl mok_X2_standOf q747 q749 qs16 q117 q750 (Nat.le_of_ble_eq_true rfl) (Nat.le_of_ble_eq_true rfl) rfl hl.1 rfl (Nat.le_of_ble_eq_true rfl) (pc := 52) dX2_laneLine_52  (kk_ref ex23 kk)) ?_
          refine sp_g fun s25 => ?_
          refine sp_g fun s26 => ?_
          refine sp_g fun i27 => ?_
          refine sp_t fun h28 eh280 => ?_
          have eh28 : gS h28 = gS p22.2 := by rw [eh280]; rfl
          refine sp_m (G' := AW (KX2_laneLine l D h0 o) h28 (56) ls ([])) (fun kk => by rcases s25 with z | z | z | z; exact aw_aast (t := 6) (Cc := "ElephantLine$Stand") s26 (by decide) rfl rfl okX9 z (Or.inl rfl) i27 (pc := 55) dX2_laneLine_55 (AWe eh280 kk); exact aw_aast (t := 6) (Cc := "ElephantLine$Stand") s26 (by decide) rfl rfl okX10 z (Or.inr nq2274) i27 (pc := 55) dX2_laneLine_55 (AWe eh280 kk); exact aw_aast (t := 6) (Cc := "ElephantLine$Stand") s26 (by decide) rfl rfl okX11 z (Or.inr nq2275) i27 (pc := 55) dX2_laneLine_55 (AWe eh280 kk); exact aw_aast (t := 6) (Cc := "ElephantLine$Stand") s26 (by decide) rfl rfl okX12 z (Or.inr nq2276) i27 (pc := 55) dX2_laneLine_55 (AWe eh280 kk)) ?_
          refine sp_m (aw_aload_n (pc := 56) dX2_laneLine_56 rfl (lv_at hl 1 rfl)) ?_
          refine sp_g fun s29 => ?_
          refine sp_b fun x30 ex30 => ?_
          refine sp_m (aw_get (k := 9) okX2 s29 (by decide) q244 (Or.inl rfl) (congrArg va_rf ex30) (pc := 57) dX2_laneLine_57) ?_
          refine sp_m (aw_dup (pc := 60) dX2_laneLine_60 rfl) ?_
          refine sp_g fun s31 => ?_
          refine sp_m (aw_get (k := 7) okX8 s31 (by decide) q500 (Or.inl rfl) rfl (pc := 61) dX2_laneLine_61) ?_
          refine sp_m (aw_iconst (v := 1) (pc := 64) dX2_laneLine_64 rfl) ?_
          refine sp_m (aw_iadd (pc := 65) dX2_laneLine_65) ?_
          refine sp_t fun h32 eh320 => ?_
          have eh32 : gS h32 = gS h28 := by rw [eh320]; rfl
          refine sp_m (aw_put (k := 7) okX8 opX8 s31 (by decide) q500 (Or.inl rfl) (Or.inl rfl) (hasV_I' eh320) rfl rfl (pc := 66) dX2_laneLine_66) ?_
          exact sp_r fun hz => aw_vretT hz rfl rfl rfl (pc := 69) dX2_laneLine_69
      · refine sp_m (aw_aald (t := 6) s11 (by decide) rfl rfl i12 (congrArg va_rf ex13) (pc := 28) dX2_laneLine_28) ?_
        refine sp_m (aw_ifnull (pc := 29) dX2_laneLine_29) ?_
        refine sp_m (aw_aload_n (pc := 32) dX2_laneLine_32 rfl (lv_at hl 1 rfl)) ?_
        refine sp_m (aw_iconst (v := 3) (pc := 33) dX2_laneLine_33 rfl) ?_
        refine sp_b fun p14 ep14 => ?_
        refine sp_b fun x15 ex15 => ?_
        refine sp_m (G' := AW (KX2_laneLine l D h0 o) p14.2 (37) ls (.ref x15 :: [])) (fun kk => aw_callV (As := [.int 3]) (metX2_fail _ _ ep14) (rcv_o okX2 s7) rfl mok_X2_fail q638 q640 qs7 q117 q641 (Nat.le_of_ble_eq_true rfl) (Nat.le_of_ble_eq_true rfl) rfl hl.1 rfl (Nat.le_of_ble_eq_true rfl) (pc := 34) dX2_laneLine_34 (kk_ref ex15 kk)) ?_
        refine sp_g fun s16 => ?_
        exact sp_r fun hz => aw_throwT okX3 s16 hz rfl rfl rfl rfl (pc := 37) dX2_laneLine_37
theorem mok_X2_cityHere : mOK yX2_cityHere 0 := ⟨⟨by decide +kernel, by decide +kernel⟩, by decide +kernel⟩
abbrev KX2_cityHere (l : Launch) (D : DD) (h0 : AH) (o : (Int32 × AH) ⊕ (Nat × AH)) : KT := (l, yX2_cityHere, cX2_cityHere, 2, (some .int), RX2, 6, D, h0, tE (fun p : Int32 × AH => p.2) o, tV (fun p : Int32 × AH => some (.int p.1)) "ElephantLine$Refused" o, true, [])
theorem metX2_cityHere (l : Launch) (D : DD) {a0 : Nat} {h0 : AH} {o : (Int32 × AH) ⊕ (Nat × AH)} (hr : fX2_cityHere a0 h0 = some o) : AMetX (KX2_cityHere l D h0 o) [.ref a0] := by
  refine AMetX.of (K := (KX2_cityHere l D h0 o)) rfl rfl rfl rfl (Nat.le_of_ble_eq_true rfl) (fun ls hl => ?_)
  have hl : lv_has ls 2 [(0, .ref a0)] := hl
  suffices hsp : SP (fX2_cityHere a0 h0) (fun z => z = o) (AW (KX2_cityHere l D h0 o) h0 0 ls []) from hsp _ hr rfl
  unfold fX2_cityHere
  refine sp_m (aw_aload_n (pc := 0) dX2_cityHere_0 rfl (lv_at hl 0 rfl)) ?_
  refine sp_g fun s2 => ?_
  refine sp_bx (fun q16t ep1 => ?_) (fun p1 ep1 => ?_)
  · refine sp_m (G' := AX (KX2_cityHere l D h0 o) q16t.2 (1) ls ([]) "ElephantLine$Refused" q16t.1) (fun kk => aw_callV_t (As := []) (metX2_mustName _ _ ep1) (rcv_o okX2 s2) rfl mok_X2_mustName q791 q793 qs19 q117 q794 (Nat.le_of_ble_eq_true rfl) (Nat.le_of_ble_eq_true rfl) rfl hl.1 rfl (Nat.le_of_ble_eq_true rfl) (pc := 1) dX2_cityHere_1  kk) ?_
    exact sp_r fun hz => ax_outT hz rfl rfl rfl rfl
  · refine sp_m (G' := AW (KX2_cityHere l D h0 o) p1 (4) ls ([])) (fun kk => aw_callV_n (As := []) (metX2_mustName _ _ ep1) (rcv_o okX2 s2) rfl mok_X2_mustName q791 q793 qs19 q117 q794 (Nat.le_of_ble_eq_true rfl) (Nat.le_of_ble_eq_true rfl) rfl hl.1 rfl (Nat.le_of_ble_eq_true rfl) (pc := 1) dX2_cityHere_1  kk) ?_
    refine sp_m (aw_aload_n (pc := 4) dX2_cityHere_4 rfl (lv_at hl 0 rfl)) ?_
    refine sp_g fun s3 => ?_
    refine sp_b fun x4 ex4 => ?_
    refine sp_m (aw_get (k := 9) okX2 s3 (by decide) q244 (Or.inl rfl) (congrArg va_rf ex4) (pc := 5) dX2_cityHere_5) ?_
    refine sp_m (aw_aload_n (pc := 8) dX2_cityHere_8 rfl (lv_at hl 0 rfl)) ?_
    refine sp_b fun x5 ex5 => ?_
    refine sp_m (aw_get (k := 8) okX2 s3 (by decide) q243 (Or.inl rfl) (congrArg va_rf ex5) (pc := 9) dX2_cityHere_9) ?_
    refine sp_g fun s7 => ?_
    refine sp_b fun p6 ep6 => ?_
    refine sp_o (fun ex8 => ?_) (fun x8 ex8 => ?_)
    · refine sp_m (G' := AW (KX2_cityHere l D h0 o) p1 (15) ls (.null :: [])) (fun kk => aw_callV (As := [.ref x5]) (metX8_find _ _ ep6) (rcv_o okX8 s7) rfl mok_X8_find q795 q796 q797 q126 q798 (Nat.le_of_ble_eq_true rfl) (Nat.le_of_ble_eq_true rfl) rfl hl.1 rfl (Nat.le_of_ble_eq_true rfl) (pc := 12) dX2_cityHere_12 (kk_nul ex8 kk)) ?_
      refine sp_m (aw_astore_nN (lv' := [(1, .null), (0, .ref a0)]) (pc := 15) dX2_cityHere_15 rfl hl (by decide) rfl) (sp_all fun ls hl => ?_)
      refine sp_m (aw_aload_nN (pc := 16) dX2_cityHere_16 rfl (lv_at hl 0 rfl)) ?_
      refine sp_m (aw_instN (pc := 17) dX2_cityHere_17) ?_
      refine sp_m (aw_if_ne_f (tgt := 29) (pc := 20) dX2_cityHere_20 (by decide) (by decide)) ?_
      refine sp_m (aw_aload_n (pc := 23) dX2_cityHere_23 rfl (lv_at hl 1 rfl)) ?_
      refine sp_m (aw_iconst (v := 2) (pc := 24) dX2_cityHere_24 rfl) ?_
      refine sp_b fun p13 ep13 => ?_
      refine sp_b fun x14 ex14 => ?_
      refine sp_m (G' := AW (KX2_cityHere l D h0 o) p13.2 (28) ls (.ref x14 :: [])) (fun kk => aw_callV (As := [.int 2]) (metX2_fail _ _ ep13) (rcv_o okX2 s3) rfl mok_X2_fail q638 q640 qs7 q117 q641 (Nat.le_of_ble_eq_true rfl) (Nat.le_of_ble_eq_true rfl) rfl hl.1 rfl (Nat.le_of_ble_eq_true rfl) (pc := 25) dX2_cityHere_25 (kk_ref ex14 kk)) ?_
      refine sp_g fun s15 => ?_
      exact sp_r fun hz => aw_throwT okX3 s15 hz rfl rfl rfl rfl (pc := 28) dX2_cityHere_28
    · refine sp_m (G' := AW (KX2_cityHere l D h0 o) p1 (15) ls (.ref x8 :: [])) (fun kk => aw_callV (As := [.ref x5]) (metX8_find _ _ ep6) (rcv_o okX8 s7) rfl mok_X8_find q795 q796 q797 q126 q798 (Nat.le_of_ble_eq_true rfl) (Nat.le_of_ble_eq_true rfl) rfl hl.1 rfl (Nat.le_of_ble_eq_true rfl) (pc := 12) dX2_cityHere_12 (kk_ref ex8 kk)) ?_
      refine sp_m (aw_astore_n (lv' := [(1, .ref x8), (0, .ref a0)]) (pc := 15) dX2_cityHere_15 rfl hl (by decide) rfl) (sp_all fun ls hl => ?_)
      refine sp_m (aw_aload_n (pc := 16) dX2_cityHere_16 rfl (lv_at hl 0 rfl)) ?_
      refine sp_if (fun s9 => ?_) (fun _ => sp_g fun s9n => ?_)
      · refine sp_m (G' := AW (KX2_cityHere l D h0 o) p1 (20) ls (.int 1 :: [])) (fun kk => aw_instE (rcv_o okX19 s9) q895 (pc := 17) dX2_cityHere_17 kk) ?_
        refine sp_m (aw_if_ne_t (tgt := 29) (pc := 20) dX2_cityHere_20 (by decide) (by decide)) ?_
        refine sp_m (aw_aload_n (pc := 29) dX2_cityHere_29 rfl (lv_at hl 0 rfl)) ?_
        refine sp_m (aw_get (k := 1) okX19 s9 (by decide) q832 (Or.inl rfl) rfl (pc := 30) dX2_cityHere_30) ?_
        exact sp_r fun hz => aw_iretT hz rfl rfl rfl (pc := 33) dX2_cityHere_33
      · refine sp_m (G' := AW (KX2_cityHere l D h0 o) p1 (20) ls (.int 0 :: [])) (fun kk => by rcases s9n with z | z | z | z; exact aw_instNo (rcv_o okX15 z) nc_X15_City q895 (pc := 17) dX2_cityHere_17 kk; exact aw_instNo (rcv_o okX16 z) nc_X16_City q895 (pc := 17) dX2_cityHere_17 kk; exact aw_instNo (rcv_o okX17 z) nc_X17_City q895 (pc := 17) dX2_cityHere_17 kk; exact aw_instNo (rcv_o okX18 z) nc_X18_City q895 (pc := 17) dX2_cityHere_17 kk) ?_
        refine sp_m (aw_if_ne_f (tgt := 29) (pc := 20) dX2_cityHere_20 (by decide) (by decide)) ?_
        refine sp_m (aw_aload_n (pc := 23) dX2_cityHere_23 rfl (lv_at hl 1 rfl)) ?_
        refine sp_m (aw_iconst (v := 2) (pc := 24) dX2_cityHere_24 rfl) ?_
        refine sp_b fun p10 ep10 => ?_
        refine sp_b fun x11 ex11 => ?_
        refine sp_m (G' := AW (KX2_cityHere l D h0 o) p10.2 (28) ls (.ref x11 :: [])) (fun kk => aw_callV (As := [.int 2]) (metX2_fail _ _ ep10) (rcv_o okX2 s3) rfl mok_X2_fail q638 q640 qs7 q117 q641 (Nat.le_of_ble_eq_true rfl) (Nat.le_of_ble_eq_true rfl) rfl hl.1 rfl (Nat.le_of_ble_eq_true rfl) (pc := 25) dX2_cityHere_25 (kk_ref ex11 kk)) ?_
        refine sp_g fun s12 => ?_
        exact sp_r fun hz => aw_throwT okX3 s12 hz rfl rfl rfl rfl (pc := 28) dX2_cityHere_28
theorem mok_X2_passLine : mOK yX2_passLine 0 := ⟨⟨by decide +kernel, by decide +kernel⟩, by decide +kernel⟩
abbrev KX2_passLine (l : Launch) (D : DD) (h0 : AH) (o : (AH) ⊕ (Nat × AH)) : KT := (l, yX2_passLine, cX2_passLine, 4, none, RX2, 9, D, h0, tE (fun p : AH => p) o, tV (fun _ : AH => none) "ElephantLine$Refused" o, true, [])
theorem metX2_passLine (l : Launch) (D : DD) {a0 : Nat} {h0 : AH} {o : (AH) ⊕ (Nat × AH)} (hr : fX2_passLine a0 h0 = some o) : AMetX (KX2_passLine l D h0 o) [.ref a0] := by
  refine AMetX.of (K := (KX2_passLine l D h0 o)) rfl rfl rfl rfl (Nat.le_of_ble_eq_true rfl) (fun ls hl => ?_)
  have hl : lv_has ls 4 [(0, .ref a0)] := hl
  suffices hsp : SP (fX2_passLine a0 h0) (fun z => z = o) (AW (KX2_passLine l D h0 o) h0 0 ls []) from hsp _ hr rfl
  unfold fX2_passLine
  refine sp_m (aw_aload_n (pc := 0) dX2_passLine_0 rfl (lv_at hl 0 rfl)) ?_
  refine sp_m (aw_aload_n (pc := 1) dX2_passLine_1 rfl (lv_at hl 0 rfl)) ?_
  refine sp_g fun s1 => ?_
  refine sp_b fun x2 ex2 => ?_
  refine sp_m (aw_get (k := 9) okX2 s1 (by decide) q244 (Or.inl rfl) (congrArg va_rf ex2) (pc := 2) dX2_passLine_2) ?_
  refine sp_g fun s3 => ?_
  refine sp_m (aw_get (k := 10) okX8 s3 (by decide) q511 (Or.inl rfl) rfl (pc := 5) dX2_passLine_5) ?_
  refine sp_m (aw_bipush (v := 9) (pc := 8) dX2_passLine_8 rfl) ?_
  have hj18_1 : ∀ j4 : Int32, ∀ ls : Array Slot, lv_has ls 4 [(0, .ref a0)] → SP (X2_passLine_j18 a0 h0 j4) (fun z => z = o) (AW (KX2_passLine l D h0 o) h0 18 ls (.int j4 :: .ref a0 :: [])) := by
    intro j4 ls hl
    unfold X2_passLine_j18
    refine sp_bx (fun q45t ep5 => ?_) (fun p5 ep5 => ?_)
    · refine sp_m (G' := AX (KX2_passLine l D h0 o) q45t.2 (18) ls ([]) "ElephantLine$Refused" q45t.1) (fun kk => aw_callV_t (As := [.int j4]) (metX2_begins _ _ ep5) (rcv_o okX2 s1) rfl mok_X2_begins q743 q745 qs15 q117 q746 (Nat.le_of_ble_eq_true rfl) (Nat.le_of_ble_eq_true rfl) rfl hl.1 rfl (Nat.le_of_ble_eq_true rfl) (pc := 18) dX2_passLine_18  kk) ?_
      exact sp_r fun hz => ax_outT hz rfl rfl rfl rfl
    · refine sp_m (G' := AW (KX2_passLine l D h0 o) p5 (21) ls ([])) (fun kk => aw_callV_n (As := [.int j4]) (metX2_begins _ _ ep5) (rcv_o okX2 s1) rfl mok_X2_begins q743 q745 qs15 q117 q746 (Nat.le_of_ble_eq_true rfl) (Nat.le_of_ble_eq_true rfl) rfl hl.1 rfl (Nat.le_of_ble_eq_true rfl) (pc := 18) dX2_passLine_18  kk) ?_
      refine sp_m (aw_aload_n (pc := 21) dX2_passLine_21 rfl (lv_at hl 0 rfl)) ?_
      refine sp_g fun s7 => ?_
      refine sp_bx (fun q44t ep6 => ?_) (fun p6 ep6 => ?_)
      · refine sp_m (G' := AX (KX2_passLine l D h0 o) q44t.2 (22) ls ([]) "ElephantLine$Refused" q44t.1) (fun kk => aw_callV_t (As := []) (metX2_cityHere _ _ ep6) (rcv_o okX2 s7) rfl mok_X2_cityHere q908 q910 qs23 q117 q911 (Nat.le_of_ble_eq_true rfl) (Nat.le_of_ble_eq_true rfl) rfl hl.1 rfl (Nat.le_of_ble_eq_true rfl) (pc := 22) dX2_passLine_22  kk) ?_
        exact sp_r fun hz => ax_outT hz rfl rfl rfl rfl
      · refine sp_m (G' := AW (KX2_passLine l D h0 o) p6.2 (25) ls (.int p6.1 :: [])) (fun kk => aw_callV_n (As := []) (metX2_cityHere _ _ ep6) (rcv_o okX2 s7) rfl mok_X2_cityHere q908 q910 qs23 q117 q911 (Nat.le_of_ble_eq_true rfl) (Nat.le_of_ble_eq_true rfl) rfl hl.1 rfl (Nat.le_of_ble_eq_true rfl) (pc := 22) dX2_passLine_22  kk) ?_
        refine sp_m (aw_istore_n (lv' := [(1, .int p6.1), (0, .ref a0)]) (pc := 25) dX2_passLine_25 rfl hl (by decide) rfl) (sp_all fun ls hl => ?_)
        refine sp_m (aw_aload_n (pc := 26) dX2_passLine_26 rfl (lv_at hl 1 rfl)) ?_
        refine sp_g fun s9 => ?_
        refine sp_b fun p8 ep8 => ?_
        refine sp_m (G' := AW (KX2_passLine l D h0 o) p8 (30) ls ([])) (fun kk => aw_callV (As := []) (metX2_next _ _ ep8) (rcv_o okX2 s9) rfl mok_X2_next q540 q542 qs4 q117 q543 (Nat.le_of_ble_eq_true rfl) (Nat.le_of_ble_eq_true rfl) rfl hl.1 rfl (Nat.le_of_ble_eq_true rfl) (pc := 27) dX2_passLine_27 kk) ?_
        refine sp_m (aw_aload_n (pc := 30) dX2_passLine_30 rfl (lv_at hl 1 rfl)) ?_
        refine sp_g fun s11 => ?_
        refine sp_bx (fun q43t ep10 => ?_) (fun p10 ep10 => ?_)
        · refine sp_m (G' := AX (KX2_passLine l D h0 o) q43t.2 (31) ls ([]) "ElephantLine$Refused" q43t.1) (fun kk => aw_callV_t (As := []) (metX2_cityHere _ _ ep10) (rcv_o okX2 s11) rfl mok_X2_cityHere q908 q910 qs23 q117 q911 (Nat.le_of_ble_eq_true rfl) (Nat.le_of_ble_eq_true rfl) rfl hl.1 rfl (Nat.le_of_ble_eq_true rfl) (pc := 31) dX2_passLine_31  kk) ?_
          exact sp_r fun hz => ax_outT hz rfl rfl rfl rfl
        · refine sp_m (G' := AW (KX2_passLine l D h0 o) p10.2 (34) ls (.int p10.1 :: [])) (fun kk => aw_callV_n (As := []) (metX2_cityHere _ _ ep10) (rcv_o okX2 s11) rfl mok_X2_cityHere q908 q910 qs23 q117 q911 (Nat.le_of_ble_eq_true rfl) (Nat.le_of_ble_eq_true rfl) rfl hl.1 rfl (Nat.le_of_ble_eq_true rfl) (pc := 31) dX2_passLine_31  kk) ?_
          refine sp_m (aw_istore_n (lv' := [(2, .int p10.1), (1, .int p6.1), (0, .ref a0)]) (pc := 34) dX2_passLine_34 rfl hl (by decide) rfl) (sp_all fun ls hl => ?_)
          refine sp_m (aw_iload_n (pc := 35) dX2_passLine_35 rfl (lv_at hl 1 rfl)) ?_
          refine sp_m (aw_iload_n (pc := 36) dX2_passLine_36 rfl (lv_at hl 0 rfl)) ?_
          have hj52_2 : ∀ ls : Array Slot, lv_has ls 4 [(0, .ref a0)] → SP (X2_passLine_j52 a0 p10) (fun z => z = o) (AW (KX2_passLine l D h0 o) p10.2 52 ls ([])) := by
            intro ls hl
            unfold X2_passLine_j52
            refine sp_m (aw_aload_n (pc := 52) dX2_passLine_52 rfl (lv_at hl 0 rfl)) ?_
            refine sp_m (aw_iconst (v := 3) (pc := 53) dX2_passLine_53 rfl) ?_
            refine sp_g fun s13 => ?_
            refine sp_b fun p12 ep12 => ?_
            refine sp_b fun x14 ex14 => ?_
            refine sp_m (G' := AW (KX2_passLine l D h0 o) p12.2 (57) ls (.ref x14 :: [])) (fun kk => aw_callV (As := [.int 3]) (metX2_fail _ _ ep12) (rcv_o okX2 s13) rfl mok_X2_fail q638 q640 qs7 q117 q641 (Nat.le_of_ble_eq_true rfl) (Nat.le_of_ble_eq_true rfl) rfl hl.1 rfl (Nat.le_of_ble_eq_true rfl) (pc := 54) dX2_passLine_54 (kk_ref ex14 kk)) ?_
            refine sp_g fun s15 => ?_
            exact sp_r fun hz => aw_throwT okX3 s15 hz rfl rfl rfl rfl (pc := 57) dX2_passLine_57
          refine sp_if (fun c16 => ?_) (fun c16 => ?_)
          · refine sp_m (aw_icmp_eq_t (tgt := 52) (pc := 37) dX2_passLine_37 (by decide) c16) ?_
            exact hj52_2 ls (lv_sub hl [2] rfl)
          · refine sp_m (aw_icmp_eq_f (tgt := 52) (pc := 37) dX2_passLine_37 (by decide) c16) ?_
            refine sp_m (aw_aload_n (pc := 40) dX2_passLine_40 rfl (lv_at hl 2 rfl)) ?_
            refine sp_g fun s17 => ?_
            refine sp_b fun x18 ex18 => ?_
            refine sp_m (aw_get (k := 9) okX2 s17 (by decide) q244 (Or.inl rfl) (congrArg va_rf ex18) (pc := 41) dX2_passLine_41) ?_
            refine sp_m (aw_iload_n (pc := 44) dX2_passLine_44 rfl (lv_at hl 1 rfl)) ?_
            refine sp_m (aw_iload_n (pc := 45) dX2_passLine_45 rfl (lv_at hl 0 rfl)) ?_
            refine sp_g fun s20 => ?_
            refine sp_b fun p19 ep19 => ?_
            refine sp_m (G' := AW (KX2_passLine l D h0 o) p10.2 (49) ls (.int p19 :: [])) (fun kk => aw_callV (As := [.int p6.1, .int p10.1]) (metX8_pass _ _ ep19) (rcv_o okX8 s20) rfl mok_X8_pass q912 q913 q914 q126 q915 (Nat.le_of_ble_eq_true rfl) (Nat.le_of_ble_eq_true rfl) rfl hl.1 rfl (Nat.le_of_ble_eq_true rfl) (pc := 46) dX2_passLine_46 kk) ?_
            refine sp_if (fun c21 => ?_) (fun c21 => ?_)
            · refine sp_m (aw_if_le_t (tgt := 58) (pc := 49) dX2_passLine_49 (by decide) c21) ?_
              refine sp_m (aw_aload_n (pc := 58) dX2_passLine_58 rfl (lv_at hl 2 rfl)) ?_
              refine sp_b fun p22 ep22 => ?_
              refine sp_m (G' := AW (KX2_passLine l D h0 o) p22 (62) ls ([])) (fun kk => aw_callV (As := []) (metX2_next _ _ ep22) (rcv_o okX2 s17) rfl mok_X2_next q540 q542 qs4 q117 q543 (Nat.le_of_ble_eq_true rfl) (Nat.le_of_ble_eq_true rfl) rfl hl.1 rfl (Nat.le_of_ble_eq_true rfl) (pc := 59) dX2_passLine_59 kk) ?_
              refine sp_m (aw_aload_n (pc := 62) dX2_passLine_62 rfl (lv_at hl 2 rfl)) ?_
              refine sp_b fun x23 ex23 => ?_
              refine sp_m (aw_ldcSw sk_X2_271 ex23 (pc := 63) dX2_passLine_63) ?_
              refine sp_m (aw_iconst (v := 0) (pc := 66) dX2_passLine_66 rfl) ?_
              refine sp_m (aw_bipush (v := 99) (pc := 67) dX2_passLine_67 rfl) ?_
              refine sp_g fun s25 => ?_
              refine sp_bx (fun q42t ep24 => ?_) (fun p24 ep24 => ?_)
              · refine sp_m (G' := AX (KX2_passLine l D h0 o) q42t.2 (69) ls ([]) "ElephantLine$Refused" q42t.1) (fun kk => aw_callV_t (As := [.ref x23, .int 0, .int 99]) (metX2_after _ _ ep24) (rcv_o okX2 s25) rfl mok_X2_after q718 q720 qs9 q117 q721 (Nat.le_of_ble_eq_true rfl) (Nat.le_of_ble_eq_true rfl) rfl hl.1 rfl (Nat.le_of_ble_eq_true rfl) (pc := 69) dX2_passLine_69  kk) ?_
                exact sp_r fun hz => ax_outT hz rfl rfl rfl rfl
              · refine sp_m (G' := AW (KX2_passLine l D h0 o) p24.2 (72) ls (.int p24.1 :: [])) (fun kk => aw_callV_n (As := [.ref x23, .int 0, .int 99]) (metX2_after _ _ ep24) (rcv_o okX2 s25) rfl mok_X2_after q718 q720 qs9 q117 q721 (Nat.le_of_ble_eq_true rfl) (Nat.le_of_ble_eq_true rfl) rfl hl.1 rfl (Nat.le_of_ble_eq_true rfl) (pc := 69) dX2_passLine_69  kk) ?_
                refine sp_m (aw_istore_n (lv' := [(3, .int p24.1), (2, .int p10.1), (1, .int p6.1), (0, .ref a0)]) (pc := 72) dX2_passLine_72 rfl hl (by decide) rfl) (sp_all fun ls hl => ?_)
                refine sp_m (aw_aload_n (pc := 73) dX2_passLine_73 rfl (lv_at hl 3 rfl)) ?_
                refine sp_g fun s26 => ?_
                refine sp_b fun x27 ex27 => ?_
                refine sp_m (aw_get (k := 9) okX2 s26 (by decide) q244 (Or.inl rfl) (congrArg va_rf ex27) (pc := 74) dX2_passLine_74) ?_
                refine sp_g fun s28 => ?_
                refine sp_b fun x29 ex29 => ?_
                refine sp_m (aw_get (k := 2) okX8 s28 (by decide) q487 (Or.inl rfl) (congrArg va_rf ex29) (pc := 77) dX2_passLine_77) ?_
                refine sp_m (aw_bipush (v := 6) (pc := 80) dX2_passLine_80 rfl) ?_
                refine sp_m (aw_iload_n (pc := 82) dX2_passLine_82 rfl (lv_at hl 2 rfl)) ?_
                refine sp_m (aw_imul (pc := 83) dX2_passLine_83) ?_
                refine sp_m (aw_iload_n (pc := 84) dX2_passLine_84 rfl (lv_at hl 1 rfl)) ?_
                refine sp_m (aw_iadd (pc := 85) dX2_passLine_85) ?_
                refine sp_m (aw_iload_n (pc := 86) dX2_passLine_86 rfl (lv_at hl 0 rfl)) ?_
                refine sp_m (aw_iconst (v := 1) (pc := 87) dX2_passLine_87 rfl) ?_
                refine sp_m (aw_iadd (pc := 88) dX2_passLine_88) ?_
                refine sp_g fun s30 => ?_
                refine sp_g fun i31 => ?_
                refine sp_t fun h32 eh320 => ?_
                have eh32 : gS h32 = gS p24.2 := by rw [eh320]; rfl
                refine sp_m (fun kk => aw_iast s30 i31 (pc := 89) dX2_passLine_89 (AWe eh320 kk)) ?_
                refine sp_m (aw_aload_n (pc := 90) dX2_passLine_90 rfl (lv_at hl 3 rfl)) ?_
                refine sp_b fun x33 ex33 => ?_
                refine sp_m (aw_get (k := 9) okX2 (uS eh32 s26) (by decide) q244 (Or.inl rfl) (congrArg va_rf ex33) (pc := 91) dX2_passLine_91) ?_
                refine sp_g fun s34 => ?_
                refine sp_b fun x35 ex35 => ?_
                refine sp_m (aw_get (k := 2) okX8 s34 (by decide) q487 (Or.inl rfl) (congrArg va_rf ex35) (pc := 94) dX2_passLine_94) ?_
                refine sp_m (aw_bipush (v := 6) (pc := 97) dX2_passLine_97 rfl) ?_
                refine sp_m (aw_iload_n (pc := 99) dX2_passLine_99 rfl (lv_at hl 1 rfl)) ?_
                refine sp_m (aw_imul (pc := 100) dX2_passLine_100) ?_
                refine sp_m (aw_iload_n (pc := 101) dX2_passLine_101 rfl (lv_at hl 2 rfl)) ?_
                refine sp_m (aw_iadd (pc := 102) dX2_passLine_102) ?_
                refine sp_m (aw_iload_n (pc := 103) dX2_passLine_103 rfl (lv_at hl 0 rfl)) ?_
                refine sp_m (aw_iconst (v := 1) (pc := 104) dX2_passLine_104 rfl) ?_
                refine sp_m (aw_iadd (pc := 105) dX2_passLine_105) ?_
                refine sp_g fun s36 => ?_
                refine sp_g fun i37 => ?_
                refine sp_t fun h38 eh380 => ?_
                have eh38 : gS h38 = gS h32 := by rw [eh380]; rfl
                refine sp_m (fun kk => aw_iast s36 i37 (pc := 106) dX2_passLine_106 (AWe eh380 kk)) ?_
                refine sp_m (aw_aload_n (pc := 107) dX2_passLine_107 rfl (lv_at hl 3 rfl)) ?_
                refine sp_b fun x39 ex39 => ?_
                refine sp_m (aw_get (k := 9) okX2 (uS eh38 (uS eh32 s26)) (by decide) q244 (Or.inl rfl) (congrArg va_rf ex39) (pc := 108) dX2_passLine_108) ?_
                refine sp_m (aw_dup (pc := 111) dX2_passLine_111 rfl) ?_
                refine sp_g fun s40 => ?_
                refine sp_m (aw_get (k := 10) okX8 s40 (by decide) q511 (Or.inl rfl) rfl (pc := 112) dX2_passLine_112) ?_
                refine sp_m (aw_iconst (v := 1) (pc := 115) dX2_passLine_115 rfl) ?_
                refine sp_m (aw_iadd (pc := 116) dX2_passLine_116) ?_
                refine sp_t fun h41 eh410 => ?_
                have eh41 : gS h41 = gS h38 := by rw [eh410]; rfl
                refine sp_m (aw_put (k := 10) okX8 opX8 s40 (by decide) q511 (Or.inl rfl) (Or.inl rfl) (hasV_I' eh410) rfl rfl (pc := 117) dX2_passLine_117) ?_
                exact sp_r fun hz => aw_vretT hz rfl rfl rfl (pc := 120) dX2_passLine_120
            · refine sp_m (aw_if_le_f (tgt := 58) (pc := 49) dX2_passLine_49 (by decide) c21) ?_
              exact hj52_2 ls (lv_sub hl [2] rfl)
  refine sp_if (fun c46 => ?_) (fun c46 => ?_)
  · refine sp_m (aw_icmp_ge_t (tgt := 17) (pc := 10) dX2_passLine_10 (by decide) c46) ?_
    refine sp_m (aw_iconst (v := 0) (pc := 17) dX2_passLine_17 rfl) ?_
    exact hj18_1 0 ls (lv_sub hl [0] rfl)
  · refine sp_m (aw_icmp_ge_f (tgt := 17) (pc := 10) dX2_passLine_10 (by decide) c46) ?_
    refine sp_m (aw_iconst (v := 1) (pc := 13) dX2_passLine_13 rfl) ?_
    refine sp_m (aw_goto (tgt := 18) (pc := 14) dX2_passLine_14 (by decide)) ?_
    exact hj18_1 1 ls (lv_sub hl [0] rfl)
theorem mok_X2_turnedLine : mOK yX2_turnedLine 0 := ⟨⟨by decide +kernel, by decide +kernel⟩, by decide +kernel⟩
abbrev KX2_turnedLine (l : Launch) (D : DD) (h0 : AH) (o : (AH) ⊕ (Nat × AH)) : KT := (l, yX2_turnedLine, cX2_turnedLine, 3, none, RX2, 7, D, h0, tE (fun p : AH => p) o, tV (fun _ : AH => none) "ElephantLine$Refused" o, true, [])
theorem metX2_turnedLine (l : Launch) (D : DD) {a0 : Nat} {h0 : AH} {o : (AH) ⊕ (Nat × AH)} (hr : fX2_turnedLine a0 h0 = some o) : AMetX (KX2_turnedLine l D h0 o) [.ref a0] := by
  refine AMetX.of (K := (KX2_turnedLine l D h0 o)) rfl rfl rfl rfl (Nat.le_of_ble_eq_true rfl) (fun ls hl => ?_)
  have hl : lv_has ls 3 [(0, .ref a0)] := hl
  suffices hsp : SP (fX2_turnedLine a0 h0) (fun z => z = o) (AW (KX2_turnedLine l D h0 o) h0 0 ls []) from hsp _ hr rfl
  unfold fX2_turnedLine
  refine sp_m (aw_aload_n (pc := 0) dX2_turnedLine_0 rfl (lv_at hl 0 rfl)) ?_
  refine sp_m (aw_iconst (v := 1) (pc := 1) dX2_turnedLine_1 rfl) ?_
  refine sp_g fun s2 => ?_
  refine sp_bx (fun q30t ep1 => ?_) (fun p1 ep1 => ?_)
  · refine sp_m (G' := AX (KX2_turnedLine l D h0 o) q30t.2 (2) ls ([]) "ElephantLine$Refused" q30t.1) (fun kk => aw_callV_t (As := [.int 1]) (metX2_begins _ _ ep1) (rcv_o okX2 s2) rfl mok_X2_begins q743 q745 qs15 q117 q746 (Nat.le_of_ble_eq_true rfl) (Nat.le_of_ble_eq_true rfl) rfl hl.1 rfl (Nat.le_of_ble_eq_true rfl) (pc := 2) dX2_turnedLine_2  kk) ?_
    exact sp_r fun hz => ax_outT hz rfl rfl rfl rfl
  · refine sp_m (G' := AW (KX2_turnedLine l D h0 o) p1 (5) ls ([])) (fun kk => aw_callV_n (As := [.int 1]) (metX2_begins _ _ ep1) (rcv_o okX2 s2) rfl mok_X2_begins q743 q745 qs15 q117 q746 (Nat.le_of_ble_eq_true rfl) (Nat.le_of_ble_eq_true rfl) rfl hl.1 rfl (Nat.le_of_ble_eq_true rfl) (pc := 2) dX2_turnedLine_2  kk) ?_
    refine sp_m (aw_aload_n (pc := 5) dX2_turnedLine_5 rfl (lv_at hl 0 rfl)) ?_
    refine sp_g fun s4 => ?_
    refine sp_bx (fun q29t ep3 => ?_) (fun p3 ep3 => ?_)
    · refine sp_m (G' := AX (KX2_turnedLine l D h0 o) q29t.2 (6) ls ([]) "ElephantLine$Refused" q29t.1) (fun kk => aw_callV_t (As := []) (metX2_mustName _ _ ep3) (rcv_o okX2 s4) rfl mok_X2_mustName q791 q793 qs19 q117 q794 (Nat.le_of_ble_eq_true rfl) (Nat.le_of_ble_eq_true rfl) rfl hl.1 rfl (Nat.le_of_ble_eq_true rfl) (pc := 6) dX2_turnedLine_6  kk) ?_
      exact sp_r fun hz => ax_outT hz rfl rfl rfl rfl
    · refine sp_m (G' := AW (KX2_turnedLine l D h0 o) p3 (9) ls ([])) (fun kk => aw_callV_n (As := []) (metX2_mustName _ _ ep3) (rcv_o okX2 s4) rfl mok_X2_mustName q791 q793 qs19 q117 q794 (Nat.le_of_ble_eq_true rfl) (Nat.le_of_ble_eq_true rfl) rfl hl.1 rfl (Nat.le_of_ble_eq_true rfl) (pc := 6) dX2_turnedLine_6  kk) ?_
      refine sp_m (aw_aload_n (pc := 9) dX2_turnedLine_9 rfl (lv_at hl 0 rfl)) ?_
      refine sp_g fun s5 => ?_
      refine sp_b fun x6 ex6 => ?_
      refine sp_m (aw_get (k := 9) okX2 s5 (by decide) q244 (Or.inl rfl) (congrArg va_rf ex6) (pc := 10) dX2_turnedLine_10) ?_
      refine sp_m (aw_aload_n (pc := 13) dX2_turnedLine_13 rfl (lv_at hl 0 rfl)) ?_
      refine sp_b fun x7 ex7 => ?_
      refine sp_m (aw_get (k := 8) okX2 s5 (by decide) q243 (Or.inl rfl) (congrArg va_rf ex7) (pc := 14) dX2_turnedLine_14) ?_
      refine sp_g fun s9 => ?_
      refine sp_b fun p8 ep8 => ?_
      refine sp_o (fun ex10 => ?_) (fun x10 ex10 => ?_)
      · refine sp_m (G' := AW (KX2_turnedLine l D h0 o) p3 (20) ls (.null :: [])) (fun kk => aw_callV (As := [.ref x7]) (metX8_find _ _ ep8) (rcv_o okX8 s9) rfl mok_X8_find q795 q796 q797 q126 q798 (Nat.le_of_ble_eq_true rfl) (Nat.le_of_ble_eq_true rfl) rfl hl.1 rfl (Nat.le_of_ble_eq_true rfl) (pc := 17) dX2_turnedLine_17 (kk_nul ex10 kk)) ?_
        refine sp_m (aw_astore_nN (lv' := [(1, .null), (0, .ref a0)]) (pc := 20) dX2_turnedLine_20 rfl hl (by decide) rfl) (sp_all fun ls hl => ?_)
        refine sp_m (aw_aload_nN (pc := 21) dX2_turnedLine_21 rfl (lv_at hl 0 rfl)) ?_
        refine sp_m (aw_instN (pc := 22) dX2_turnedLine_22) ?_
        refine sp_m (aw_if_ne_f (tgt := 34) (pc := 25) dX2_turnedLine_25 (by decide) (by decide)) ?_
        refine sp_m (aw_aload_n (pc := 28) dX2_turnedLine_28 rfl (lv_at hl 1 rfl)) ?_
        refine sp_m (aw_iconst (v := 2) (pc := 29) dX2_turnedLine_29 rfl) ?_
        refine sp_b fun p26 ep26 => ?_
        refine sp_b fun x27 ex27 => ?_
        refine sp_m (G' := AW (KX2_turnedLine l D h0 o) p26.2 (33) ls (.ref x27 :: [])) (fun kk => aw_callV (As := [.int 2]) (metX2_fail _ _ ep26) (rcv_o okX2 s5) rfl mok_X2_fail q638 q640 qs7 q117 q641 (Nat.le_of_ble_eq_true rfl) (Nat.le_of_ble_eq_true rfl) rfl hl.1 rfl (Nat.le_of_ble_eq_true rfl) (pc := 30) dX2_turnedLine_30 (kk_ref ex27 kk)) ?_
        refine sp_g fun s28 => ?_
        exact sp_r fun hz => aw_throwT okX3 s28 hz rfl rfl rfl rfl (pc := 33) dX2_turnedLine_33
      · refine sp_m (G' := AW (KX2_turnedLine l D h0 o) p3 (20) ls (.ref x10 :: [])) (fun kk => aw_callV (As := [.ref x7]) (metX8_find _ _ ep8) (rcv_o okX8 s9) rfl mok_X8_find q795 q796 q797 q126 q798 (Nat.le_of_ble_eq_true rfl) (Nat.le_of_ble_eq_true rfl) rfl hl.1 rfl (Nat.le_of_ble_eq_true rfl) (pc := 17) dX2_turnedLine_17 (kk_ref ex10 kk)) ?_
        refine sp_m (aw_astore_n (lv' := [(1, .ref x10), (0, .ref a0)]) (pc := 20) dX2_turnedLine_20 rfl hl (by decide) rfl) (sp_all fun ls hl => ?_)
        refine sp_m (aw_aload_n (pc := 21) dX2_turnedLine_21 rfl (lv_at hl 0 rfl)) ?_
        refine sp_if (fun s11 => ?_) (fun _ => sp_g fun s11n => ?_)
        · refine sp_m (G' := AW (KX2_turnedLine l D h0 o) p3 (25) ls (.int 1 :: [])) (fun kk => by rcases s11 with z | z | z | z; exact aw_instY (rcv_o okX15 z) nq2251 q921 (pc := 22) dX2_turnedLine_22 kk; exact aw_instY (rcv_o okX16 z) nq2248 q921 (pc := 22) dX2_turnedLine_22 kk; exact aw_instY (rcv_o okX17 z) nq2249 q921 (pc := 22) dX2_turnedLine_22 kk; exact aw_instY (rcv_o okX18 z) nq2250 q921 (pc := 22) dX2_turnedLine_22 kk) ?_
          refine sp_m (aw_if_ne_t (tgt := 34) (pc := 25) dX2_turnedLine_25 (by decide) (by decide)) ?_
          refine sp_m (aw_aload_n (pc := 34) dX2_turnedLine_34 rfl (lv_at hl 0 rfl)) ?_
          refine sp_m (G' := AW (KX2_turnedLine l D h0 o) p3 (38) ls (.ref x10 :: [])) (fun kk => by rcases s11 with z | z | z | z; exact aw_castY (rcv_o okX15 z) nq2251 q921 (pc := 35) dX2_turnedLine_35 kk; exact aw_castY (rcv_o okX16 z) nq2248 q921 (pc := 35) dX2_turnedLine_35 kk; exact aw_castY (rcv_o okX17 z) nq2249 q921 (pc := 35) dX2_turnedLine_35 kk; exact aw_castY (rcv_o okX18 z) nq2250 q921 (pc := 35) dX2_turnedLine_35 kk) ?_
          refine sp_m (aw_astore_n (lv' := [(2, .ref x10), (1, .ref x10), (0, .ref a0)]) (pc := 38) dX2_turnedLine_38 rfl hl (by decide) rfl) (sp_all fun ls hl => ?_)
          refine sp_m (aw_aload_n (pc := 39) dX2_turnedLine_39 rfl (lv_at hl 0 rfl)) ?_
          refine sp_m (G' := AW (KX2_turnedLine l D h0 o) p3 (43) ls (.int (gI p3 x10 3) :: [])) (fun kk => by rcases s11 with z | z | z | z; exact aw_get (k := 3) okX15 z (by decide) q825 (Or.inl rfl) rfl (pc := 40) dX2_turnedLine_40 kk; exact aw_get (k := 3) okX16 z (by decide) q825 (Or.inl rfl) rfl (pc := 40) dX2_turnedLine_40 kk; exact aw_get (k := 3) okX17 z (by decide) q825 (Or.inl rfl) rfl (pc := 40) dX2_turnedLine_40 kk; exact aw_get (k := 3) okX18 z (by decide) q825 (Or.inl rfl) rfl (pc := 40) dX2_turnedLine_40 kk) ?_
          refine sp_if (fun c12 => ?_) (fun c12 => ?_)
          · refine sp_m (aw_if_eq_t (tgt := 52) (pc := 43) dX2_turnedLine_43 (by decide) c12) ?_
            refine sp_m (aw_aload_n (pc := 52) dX2_turnedLine_52 rfl (lv_at hl 2 rfl)) ?_
            refine sp_b fun p13 ep13 => ?_
            refine sp_m (G' := AW (KX2_turnedLine l D h0 o) p13 (56) ls ([])) (fun kk => aw_callV (As := []) (metX2_next _ _ ep13) (rcv_o okX2 s5) rfl mok_X2_next q540 q542 qs4 q117 q543 (Nat.le_of_ble_eq_true rfl) (Nat.le_of_ble_eq_true rfl) rfl hl.1 rfl (Nat.le_of_ble_eq_true rfl) (pc := 53) dX2_turnedLine_53 kk) ?_
            refine sp_m (aw_aload_n (pc := 56) dX2_turnedLine_56 rfl (lv_at hl 0 rfl)) ?_
            refine sp_m (aw_iconst (v := 1) (pc := 57) dX2_turnedLine_57 rfl) ?_
            refine sp_g fun s14 => ?_
            refine sp_t fun h15 eh150 => ?_
            have eh15 : gS h15 = gS p13 := by rw [eh150]; rfl
            refine sp_m (G' := AW (KX2_turnedLine l D h0 o) h15 (61) ls ([])) (fun kk => by rcases s14 with z | z | z | z; exact aw_put (k := 3) okX15 opX15 z (by decide) q825 (Or.inl rfl) (Or.inl rfl) (hasV_I' eh150) (nar_b (Or.inr rfl)) (fit_b (Or.inr rfl)) (pc := 58) dX2_turnedLine_58 kk; exact aw_put (k := 3) okX16 opX16 z (by decide) q825 (Or.inl rfl) (Or.inl rfl) (hasV_I' eh150) (nar_b (Or.inr rfl)) (fit_b (Or.inr rfl)) (pc := 58) dX2_turnedLine_58 kk; exact aw_put (k := 3) okX17 opX17 z (by decide) q825 (Or.inl rfl) (Or.inl rfl) (hasV_I' eh150) (nar_b (Or.inr rfl)) (fit_b (Or.inr rfl)) (pc := 58) dX2_turnedLine_58 kk; exact aw_put (k := 3) okX18 opX18 z (by decide) q825 (Or.inl rfl) (Or.inl rfl) (hasV_I' eh150) (nar_b (Or.inr rfl)) (fit_b (Or.inr rfl)) (pc := 58) dX2_turnedLine_58 kk) ?_
            refine sp_m (aw_aload_n (pc := 61) dX2_turnedLine_61 rfl (lv_at hl 2 rfl)) ?_
            refine sp_g fun s16 => ?_
            refine sp_b fun x17 ex17 => ?_
            refine sp_m (aw_get (k := 9) okX2 s16 (by decide) q244 (Or.inl rfl) (congrArg va_rf ex17) (pc := 62) dX2_turnedLine_62) ?_
            refine sp_m (aw_dup (pc := 65) dX2_turnedLine_65 rfl) ?_
            refine sp_g fun s18 => ?_
            refine sp_m (aw_get (k := 11) okX8 s18 (by decide) q513 (Or.inl rfl) rfl (pc := 66) dX2_turnedLine_66) ?_
            refine sp_m (aw_iconst (v := 1) (pc := 69) dX2_turnedLine_69 rfl) ?_
            refine sp_m (aw_iadd (pc := 70) dX2_turnedLine_70) ?_
            refine sp_t fun h19 eh190 => ?_
            have eh19 : gS h19 = gS h15 := by rw [eh190]; rfl
            refine sp_m (aw_put (k := 11) okX8 opX8 s18 (by decide) q513 (Or.inl rfl) (Or.inl rfl) (hasV_I' eh190) rfl rfl (pc := 71) dX2_turnedLine_71) ?_
            exact sp_r fun hz => aw_vretT hz rfl rfl rfl (pc := 74) dX2_turnedLine_74
          · refine sp_m (aw_if_eq_f (tgt := 52) (pc := 43) dX2_turnedLine_43 (by decide) c12) ?_
            refine sp_m (aw_aload_n (pc := 46) dX2_turnedLine_46 rfl (lv_at hl 2 rfl)) ?_
            refine sp_m (aw_iconst (v := 3) (pc := 47) dX2_turnedLine_47 rfl) ?_
            refine sp_b fun p20 ep20 => ?_
            refine sp_b fun x21 ex21 => ?_
            refine sp_m (G' := AW (KX2_turnedLine l D h0 o) p20.2 (51) ls (.ref x21 :: [])) (fun kk => aw_callV (As := [.int 3]) (metX2_fail _ _ ep20) (rcv_o okX2 s5) rfl mok_X2_fail q638 q640 qs7 q117 q641 (Nat.le_of_ble_eq_true rfl) (Nat.le_of_ble_eq_true rfl) rfl hl.1 rfl (Nat.le_of_ble_eq_true rfl) (pc := 48) dX2_turnedLine_48 (kk_ref ex21 kk)) ?_
            refine sp_g fun s22 => ?_
            exact sp_r fun hz => aw_throwT okX3 s22 hz rfl rfl rfl rfl (pc := 51) dX2_turnedLine_51
        · refine sp_m (G' := AW (KX2_turnedLine l D h0 o) p3 (25) ls (.int 0 :: [])) (fun kk => aw_instNo (rcv_o okX19 s11n) nc_X19_Beast q921 (pc := 22) dX2_turnedLine_22 kk) ?_
          refine sp_m (aw_if_ne_f (tgt := 34) (pc := 25) dX2_turnedLine_25 (by decide) (by decide)) ?_
          refine sp_m (aw_aload_n (pc := 28) dX2_turnedLine_28 rfl (lv_at hl 1 rfl)) ?_
          refine sp_m (aw_iconst (v := 2) (pc := 29) dX2_turnedLine_29 rfl) ?_
          refine sp_b fun p23 ep23 => ?_
          refine sp_b fun x24 ex24 => ?_
          refine sp_m (G' := AW (KX2_turnedLine l D h0 o) p23.2 (33) ls (.ref x24 :: [])) (fun kk => aw_callV (As := [.int 2]) (metX2_fail _ _ ep23) (rcv_o okX2 s5) rfl mok_X2_fail q638 q640 qs7 q117 q641 (Nat.le_of_ble_eq_true rfl) (Nat.le_of_ble_eq_true rfl) rfl hl.1 rfl (Nat.le_of_ble_eq_true rfl) (pc := 30) dX2_turnedLine_30 (kk_ref ex24 kk)) ?_
          refine sp_g fun s25 => ?_
          exact sp_r fun hz => aw_throwT okX3 s25 hz rfl rfl rfl rfl (pc := 33) dX2_turnedLine_33
theorem mok_X2_line : mOK yX2_line 0 := ⟨⟨by decide +kernel, by decide +kernel⟩, by decide +kernel⟩
abbrev KX2_line (l : Launch) (D : DD) (h0 : AH) (o : (AH) ⊕ (Nat × AH)) : KT := (l, yX2_line, cX2_line, 3, none, RX2, 11, D, h0, tE (fun p : AH => p) o, tV (fun _ : AH => none) "ElephantLine$Refused" o, true, [])
theorem metX2_line (l : Launch) (D : DD) {a0 : Nat} {h0 : AH} {o : (AH) ⊕ (Nat × AH)} (hr : fX2_line a0 h0 = some o) : AMetX (KX2_line l D h0 o) [.ref a0] := by
  refine AMetX.of (K := (KX2_line l D h0 o)) rfl rfl rfl rfl (Nat.le_of_ble_eq_true rfl) (fun ls hl => ?_)
  have hl : lv_has ls 3 [(0, .ref a0)] := hl
  suffices hsp : SP (fX2_line a0 h0) (fun z => z = o) (AW (KX2_line l D h0 o) h0 0 ls []) from hsp _ hr rfl
  unfold fX2_line
  refine sp_m (aw_aload_n (pc := 0) dX2_line_0 rfl (lv_at hl 0 rfl)) ?_
  refine sp_g fun s1 => ?_
  refine sp_m (aw_get (k := 5) okX2 s1 (by decide) q240 (Or.inl rfl) rfl (pc := 1) dX2_line_1) ?_
  refine sp_m (aw_iconst (v := 2) (pc := 4) dX2_line_4 rfl) ?_
  refine sp_if (fun c2 => ?_) (fun c2 => ?_)
  · refine sp_m (aw_icmp_eq_t (tgt := 14) (pc := 5) dX2_line_5 (by decide) c2) ?_
    refine sp_m (aw_aload_n (pc := 14) dX2_line_14 rfl (lv_at hl 0 rfl)) ?_
    refine sp_b fun x3 ex3 => ?_
    refine sp_m (aw_get (k := 8) okX2 s1 (by decide) q243 (Or.inl rfl) (congrArg va_rf ex3) (pc := 15) dX2_line_15) ?_
    refine sp_m (aw_astore_n (lv' := [(1, .ref x3), (0, .ref a0)]) (pc := 18) dX2_line_18 rfl hl (by decide) rfl) (sp_all fun ls hl => ?_)
    refine sp_m (aw_iconst (v := (-1)) (pc := 19) dX2_line_19 rfl) ?_
    refine sp_m (aw_istore_n (lv' := [(2, .int (-1)), (1, .ref x3), (0, .ref a0)]) (pc := 20) dX2_line_20 rfl hl (by decide) rfl) (sp_all fun ls hl => ?_)
    refine sp_m (aw_aload_n (pc := 21) dX2_line_21 rfl (lv_at hl 1 rfl)) ?_
    refine sp_g fun s5 => ?_
    refine sp_b fun p4 ep4 => ?_
    refine sp_m (G' := AW (KX2_line l D h0 o) p4.2 (25) ls (.int p4.1 :: [])) (fun kk => by rcases s5 with z | z; exact aw_callV (As := []) (metJ3_hashCode _ _ ep4) (rcv_o okJ3 z) rfl mok_J3_hashCode q646 q647 q648 q127 q649 (Nat.le_of_ble_eq_true rfl) (Nat.le_of_ble_eq_true rfl) rfl hl.1 rfl (Nat.le_of_ble_eq_true rfl) (pc := 22) dX2_line_22 kk; exact aw_callV (As := []) (metJ3_hashCode _ _ ep4) (rcv_k z) rfl mok_J3_hashCode q646 q647 q648 q127 q649 (Nat.le_of_ble_eq_true rfl) (Nat.le_of_ble_eq_true rfl) rfl hl.1 rfl (Nat.le_of_ble_eq_true rfl) (pc := 22) dX2_line_22 kk) ?_
    have hj165_1 : ∀ j6 : Int32, ∀ ls : Array Slot, lv_has ls 3 [(0, .ref a0), (2, .int j6)] → SP (X2_line_j165 a0 p4 j6) (fun z => z = o) (AW (KX2_line l D h0 o) p4.2 165 ls ([])) := by
      intro j6 ls hl
      unfold X2_line_j165
      refine sp_m (aw_iload_n (pc := 165) dX2_line_165 rfl (lv_at hl 1 rfl)) ?_
      refine sp_if (fun c7 => ?_) (fun c7 => ?_)
      · refine sp_m (aw_tableOut (tgt := 246) (pc := 166) dX2_line_166 (sw_out rfl rfl c7) (by decide)) ?_
        refine sp_m (aw_aload_n (pc := 246) dX2_line_246 rfl (lv_at hl 0 rfl)) ?_
        refine sp_m (aw_iconst (v := 1) (pc := 247) dX2_line_247 rfl) ?_
        refine sp_g fun s9 => ?_
        refine sp_b fun p8 ep8 => ?_
        refine sp_b fun x10 ex10 => ?_
        refine sp_m (G' := AW (KX2_line l D h0 o) p8.2 (251) ls (.ref x10 :: [])) (fun kk => aw_callV (As := [.int 1]) (metX2_fail _ _ ep8) (rcv_o okX2 s9) rfl mok_X2_fail q638 q640 qs7 q117 q641 (Nat.le_of_ble_eq_true rfl) (Nat.le_of_ble_eq_true rfl) rfl hl.1 rfl (Nat.le_of_ble_eq_true rfl) (pc := 248) dX2_line_248 (kk_ref ex10 kk)) ?_
        refine sp_g fun s11 => ?_
        exact sp_r fun hz => aw_throwT okX3 s11 hz rfl rfl rfl rfl (pc := 251) dX2_line_251
      refine sp_if (fun c12 => ?_) (fun c12 => ?_)
      · refine sp_m (aw_tableIn (tgt := 204) (pc := 166) dX2_line_166 (by rw [c12]; decide) (by rw [c12]; decide) (by rw [c12] <;> rfl) (by decide)) ?_
        refine sp_m (aw_aload_n (pc := 204) dX2_line_204 rfl (lv_at hl 0 rfl)) ?_
        refine sp_g fun s14 => ?_
        refine sp_bx (fun q15t ep13 => ?_) (fun p13 ep13 => ?_)
        · refine sp_m (G' := AX (KX2_line l D h0 o) q15t.2 (205) ls ([]) "ElephantLine$Refused" q15t.1) (fun kk => aw_callV_t (As := []) (metX2_fieldLine _ _ ep13) (rcv_o okX2 s14) rfl mok_X2_fieldLine q713 q715 qs8 q117 q716 (Nat.le_of_ble_eq_true rfl) (Nat.le_of_ble_eq_true rfl) rfl hl.1 rfl (Nat.le_of_ble_eq_true rfl) (pc := 205) dX2_line_205  kk) ?_
          exact sp_r fun hz => ax_outT hz rfl rfl rfl rfl
        · refine sp_m (G' := AW (KX2_line l D h0 o) p13 (208) ls ([])) (fun kk => aw_callV_n (As := []) (metX2_fieldLine _ _ ep13) (rcv_o okX2 s14) rfl mok_X2_fieldLine q713 q715 qs8 q117 q716 (Nat.le_of_ble_eq_true rfl) (Nat.le_of_ble_eq_true rfl) rfl hl.1 rfl (Nat.le_of_ble_eq_true rfl) (pc := 205) dX2_line_205  kk) ?_
          refine sp_m (aw_goto (tgt := 252) (pc := 208) dX2_line_208 (by decide)) ?_
          exact sp_r fun hz => aw_vretT hz rfl rfl rfl (pc := 252) dX2_line_252
      refine sp_if (fun c16 => ?_) (fun c16 => ?_)
      · refine sp_m (aw_tableIn (tgt := 211) (pc := 166) dX2_line_166 (by rw [c16]; decide) (by rw [c16]; decide) (by rw [c16] <;> rfl) (by decide)) ?_
        refine sp_m (aw_aload_n (pc := 211) dX2_line_211 rfl (lv_at hl 0 rfl)) ?_
        refine sp_g fun s18 => ?_
        refine sp_bx (fun q19t ep17 => ?_) (fun p17 ep17 => ?_)
        · refine sp_m (G' := AX (KX2_line l D h0 o) q19t.2 (212) ls ([]) "ElephantLine$Refused" q19t.1) (fun kk => aw_callV_t (As := []) (metX2_laneLine _ _ ep17) (rcv_o okX2 s18) rfl mok_X2_laneLine q739 q741 qs14 q117 q742 (Nat.le_of_ble_eq_true rfl) (Nat.le_of_ble_eq_true rfl) rfl hl.1 rfl (Nat.le_of_ble_eq_true rfl) (pc := 212) dX2_line_212  kk) ?_
          exact sp_r fun hz => ax_outT hz rfl rfl rfl rfl
        · refine sp_m (G' := AW (KX2_line l D h0 o) p17 (215) ls ([])) (fun kk => aw_callV_n (As := []) (metX2_laneLine _ _ ep17) (rcv_o okX2 s18) rfl mok_X2_laneLine q739 q741 qs14 q117 q742 (Nat.le_of_ble_eq_true rfl) (Nat.le_of_ble_eq_true rfl) rfl hl.1 rfl (Nat.le_of_ble_eq_true rfl) (pc := 212) dX2_line_212  kk) ?_
          refine sp_m (aw_goto (tgt := 252) (pc := 215) dX2_line_215 (by decide)) ?_
          exact sp_r fun hz => aw_vretT hz rfl rfl rfl (pc := 252) dX2_line_252
      refine sp_if (fun c20 => ?_) (fun c20 => ?_)
      · refine sp_m (aw_tableIn (tgt := 218) (pc := 166) dX2_line_166 (by rw [c20]; decide) (by rw [c20]; decide) (by rw [c20] <;> rfl) (by decide)) ?_
        refine sp_m (aw_aload_n (pc := 218) dX2_line_218 rfl (lv_at hl 0 rfl)) ?_
        refine sp_g fun s22 => ?_
        refine sp_bx (fun q23t ep21 => ?_) (fun p21 ep21 => ?_)
        · refine sp_m (G' := AX (KX2_line l D h0 o) q23t.2 (219) ls ([]) "ElephantLine$Refused" q23t.1) (fun kk => aw_callV_t (As := []) (metX2_beastLine _ _ ep21) (rcv_o okX2 s22) rfl mok_X2_beastLine q783 q785 qs17 q117 q786 (Nat.le_of_ble_eq_true rfl) (Nat.le_of_ble_eq_true rfl) rfl hl.1 rfl (Nat.le_of_ble_eq_true rfl) (pc := 219) dX2_line_219  kk) ?_
          exact sp_r fun hz => ax_outT hz rfl rfl rfl rfl
        · refine sp_m (G' := AW (KX2_line l D h0 o) p21 (222) ls ([])) (fun kk => aw_callV_n (As := []) (metX2_beastLine _ _ ep21) (rcv_o okX2 s22) rfl mok_X2_beastLine q783 q785 qs17 q117 q786 (Nat.le_of_ble_eq_true rfl) (Nat.le_of_ble_eq_true rfl) rfl hl.1 rfl (Nat.le_of_ble_eq_true rfl) (pc := 219) dX2_line_219  kk) ?_
          refine sp_m (aw_goto (tgt := 252) (pc := 222) dX2_line_222 (by decide)) ?_
          exact sp_r fun hz => aw_vretT hz rfl rfl rfl (pc := 252) dX2_line_252
      refine sp_if (fun c24 => ?_) (fun c24 => ?_)
      · refine sp_m (aw_tableIn (tgt := 225) (pc := 166) dX2_line_166 (by rw [c24]; decide) (by rw [c24]; decide) (by rw [c24] <;> rfl) (by decide)) ?_
        refine sp_m (aw_aload_n (pc := 225) dX2_line_225 rfl (lv_at hl 0 rfl)) ?_
        refine sp_g fun s26 => ?_
        refine sp_bx (fun q27t ep25 => ?_) (fun p25 ep25 => ?_)
        · refine sp_m (G' := AX (KX2_line l D h0 o) q27t.2 (226) ls ([]) "ElephantLine$Refused" q27t.1) (fun kk => aw_callV_t (As := []) (metX2_cityLine _ _ ep25) (rcv_o okX2 s26) rfl mok_X2_cityLine q891 q893 qs21 q117 q894 (Nat.le_of_ble_eq_true rfl) (Nat.le_of_ble_eq_true rfl) rfl hl.1 rfl (Nat.le_of_ble_eq_true rfl) (pc := 226) dX2_line_226  kk) ?_
          exact sp_r fun hz => ax_outT hz rfl rfl rfl rfl
        · refine sp_m (G' := AW (KX2_line l D h0 o) p25 (229) ls ([])) (fun kk => aw_callV_n (As := []) (metX2_cityLine _ _ ep25) (rcv_o okX2 s26) rfl mok_X2_cityLine q891 q893 qs21 q117 q894 (Nat.le_of_ble_eq_true rfl) (Nat.le_of_ble_eq_true rfl) rfl hl.1 rfl (Nat.le_of_ble_eq_true rfl) (pc := 226) dX2_line_226  kk) ?_
          refine sp_m (aw_goto (tgt := 252) (pc := 229) dX2_line_229 (by decide)) ?_
          exact sp_r fun hz => aw_vretT hz rfl rfl rfl (pc := 252) dX2_line_252
      refine sp_if (fun c28 => ?_) (fun c28 => ?_)
      · refine sp_m (aw_tableIn (tgt := 232) (pc := 166) dX2_line_166 (by rw [c28]; decide) (by rw [c28]; decide) (by rw [c28] <;> rfl) (by decide)) ?_
        refine sp_m (aw_aload_n (pc := 232) dX2_line_232 rfl (lv_at hl 0 rfl)) ?_
        refine sp_g fun s30 => ?_
        refine sp_bx (fun q31t ep29 => ?_) (fun p29 ep29 => ?_)
        · refine sp_m (G' := AX (KX2_line l D h0 o) q31t.2 (233) ls ([]) "ElephantLine$Refused" q31t.1) (fun kk => aw_callV_t (As := []) (metX2_passLine _ _ ep29) (rcv_o okX2 s30) rfl mok_X2_passLine q904 q906 qs22 q117 q907 (Nat.le_of_ble_eq_true rfl) (Nat.le_of_ble_eq_true rfl) rfl hl.1 rfl (Nat.le_of_ble_eq_true rfl) (pc := 233) dX2_line_233  kk) ?_
          exact sp_r fun hz => ax_outT hz rfl rfl rfl rfl
        · refine sp_m (G' := AW (KX2_line l D h0 o) p29 (236) ls ([])) (fun kk => aw_callV_n (As := []) (metX2_passLine _ _ ep29) (rcv_o okX2 s30) rfl mok_X2_passLine q904 q906 qs22 q117 q907 (Nat.le_of_ble_eq_true rfl) (Nat.le_of_ble_eq_true rfl) rfl hl.1 rfl (Nat.le_of_ble_eq_true rfl) (pc := 233) dX2_line_233  kk) ?_
          refine sp_m (aw_goto (tgt := 252) (pc := 236) dX2_line_236 (by decide)) ?_
          exact sp_r fun hz => aw_vretT hz rfl rfl rfl (pc := 252) dX2_line_252
      refine sp_if (fun c32 => ?_) (fun c32 => ?_)
      · refine sp_m (aw_tableIn (tgt := 239) (pc := 166) dX2_line_166 (by rw [c32]; decide) (by rw [c32]; decide) (by rw [c32] <;> rfl) (by decide)) ?_
        refine sp_m (aw_aload_n (pc := 239) dX2_line_239 rfl (lv_at hl 0 rfl)) ?_
        refine sp_g fun s34 => ?_
        refine sp_bx (fun q35t ep33 => ?_) (fun p33 ep33 => ?_)
        · refine sp_m (G' := AX (KX2_line l D h0 o) q35t.2 (240) ls ([]) "ElephantLine$Refused" q35t.1) (fun kk => aw_callV_t (As := []) (metX2_turnedLine _ _ ep33) (rcv_o okX2 s34) rfl mok_X2_turnedLine q917 q919 qs24 q117 q920 (Nat.le_of_ble_eq_true rfl) (Nat.le_of_ble_eq_true rfl) rfl hl.1 rfl (Nat.le_of_ble_eq_true rfl) (pc := 240) dX2_line_240  kk) ?_
          exact sp_r fun hz => ax_outT hz rfl rfl rfl rfl
        · refine sp_m (G' := AW (KX2_line l D h0 o) p33 (243) ls ([])) (fun kk => aw_callV_n (As := []) (metX2_turnedLine _ _ ep33) (rcv_o okX2 s34) rfl mok_X2_turnedLine q917 q919 qs24 q117 q920 (Nat.le_of_ble_eq_true rfl) (Nat.le_of_ble_eq_true rfl) rfl hl.1 rfl (Nat.le_of_ble_eq_true rfl) (pc := 240) dX2_line_240  kk) ?_
          refine sp_m (aw_goto (tgt := 252) (pc := 243) dX2_line_243 (by decide)) ?_
          exact sp_r fun hz => aw_vretT hz rfl rfl rfl (pc := 252) dX2_line_252
      exact sp_n
    refine sp_if (fun c36 => ?_) (fun c36 => ?_)
    · refine sp_m (aw_lookup (tgt := 154) (pc := 25) dX2_line_25 (by decide) (by rw [c36] <;> rfl) (by decide)) ?_
      refine sp_m (aw_aload_n (pc := 154) dX2_line_154 rfl (lv_at hl 1 rfl)) ?_
      refine sp_b fun x37 ex37 => ?_
      refine sp_m (aw_ldcS sk_X2_100 ex37 (pc := 155) dX2_line_155) ?_
      refine sp_g fun s39 => ?_
      refine sp_b fun p38 ep38 => ?_
      refine sp_m (G' := AW (KX2_line l D h0 o) p4.2 (160) ls (.int p38 :: [])) (fun kk => by rcases s39 with z | z; exact aw_callV (As := [.ref x37]) (metJ3_equals _ _ ep38) (rcv_o okJ3 z) rfl mok_J3_equals q700 q701 q702 q127 q703 (Nat.le_of_ble_eq_true rfl) (Nat.le_of_ble_eq_true rfl) rfl hl.1 rfl (Nat.le_of_ble_eq_true rfl) (pc := 157) dX2_line_157 kk; exact aw_callV (As := [.ref x37]) (metJ3_equals _ _ ep38) (rcv_k z) rfl mok_J3_equals q700 q701 q702 q127 q703 (Nat.le_of_ble_eq_true rfl) (Nat.le_of_ble_eq_true rfl) rfl hl.1 rfl (Nat.le_of_ble_eq_true rfl) (pc := 157) dX2_line_157 kk) ?_
      refine sp_if (fun c40 => ?_) (fun c40 => ?_)
      · refine sp_m (aw_if_eq_t (tgt := 165) (pc := 160) dX2_line_160 (by decide) c40) ?_
        exact hj165_1 (-1) ls (lv_sub hl [2, 0] rfl)
      · refine sp_m (aw_if_eq_f (tgt := 165) (pc := 160) dX2_line_160 (by decide) c40) ?_
        refine sp_m (aw_iconst (v := 5) (pc := 163) dX2_line_163 rfl) ?_
        refine sp_m (aw_istore_n (lv' := [(2, .int 5), (1, .ref x3), (0, .ref a0)]) (pc := 164) dX2_line_164 rfl hl (by decide) rfl) (sp_all fun ls hl => ?_)
        exact hj165_1 5 ls (lv_sub hl [2, 0] rfl)
    refine sp_if (fun c41 => ?_) (fun c41 => ?_)
    · refine sp_m (aw_lookup (tgt := 126) (pc := 25) dX2_line_25 (by decide) (by rw [c41] <;> rfl) (by decide)) ?_
      refine sp_m (aw_aload_n (pc := 126) dX2_line_126 rfl (lv_at hl 1 rfl)) ?_
      refine sp_b fun x42 ex42 => ?_
      refine sp_m (aw_ldcS sk_X2_96 ex42 (pc := 127) dX2_line_127) ?_
      refine sp_g fun s44 => ?_
      refine sp_b fun p43 ep43 => ?_
      refine sp_m (G' := AW (KX2_line l D h0 o) p4.2 (132) ls (.int p43 :: [])) (fun kk => by rcases s44 with z | z; exact aw_callV (As := [.ref x42]) (metJ3_equals _ _ ep43) (rcv_o okJ3 z) rfl mok_J3_equals q700 q701 q702 q127 q703 (Nat.le_of_ble_eq_true rfl) (Nat.le_of_ble_eq_true rfl) rfl hl.1 rfl (Nat.le_of_ble_eq_true rfl) (pc := 129) dX2_line_129 kk; exact aw_callV (As := [.ref x42]) (metJ3_equals _ _ ep43) (rcv_k z) rfl mok_J3_equals q700 q701 q702 q127 q703 (Nat.le_of_ble_eq_true rfl) (Nat.le_of_ble_eq_true rfl) rfl hl.1 rfl (Nat.le_of_ble_eq_true rfl) (pc := 129) dX2_line_129 kk) ?_
      refine sp_if (fun c45 => ?_) (fun c45 => ?_)
      · refine sp_m (aw_if_eq_t (tgt := 165) (pc := 132) dX2_line_132 (by decide) c45) ?_
        exact hj165_1 (-1) ls (lv_sub hl [2, 0] rfl)
      · refine sp_m (aw_if_eq_f (tgt := 165) (pc := 132) dX2_line_132 (by decide) c45) ?_
        refine sp_m (aw_iconst (v := 3) (pc := 135) dX2_line_135 rfl) ?_
        refine sp_m (aw_istore_n (lv' := [(2, .int 3), (1, .ref x3), (0, .ref a0)]) (pc := 136) dX2_line_136 rfl hl (by decide) rfl) (sp_all fun ls hl => ?_)
        refine sp_m (aw_goto (tgt := 165) (pc := 137) dX2_line_137 (by decide)) ?_
        exact hj165_1 3 ls (lv_sub hl [2, 0] rfl)
    refine sp_if (fun c46 => ?_) (fun c46 => ?_)
    · refine sp_m (aw_lookup (tgt := 98) (pc := 25) dX2_line_25 (by decide) (by rw [c46] <;> rfl) (by decide)) ?_
      refine sp_m (aw_aload_n (pc := 98) dX2_line_98 rfl (lv_at hl 1 rfl)) ?_
      refine sp_b fun x47 ex47 => ?_
      refine sp_m (aw_ldcS sk_X2_92 ex47 (pc := 99) dX2_line_99) ?_
      refine sp_g fun s49 => ?_
      refine sp_b fun p48 ep48 => ?_
      refine sp_m (G' := AW (KX2_line l D h0 o) p4.2 (104) ls (.int p48 :: [])) (fun kk => by rcases s49 with z | z; exact aw_callV (As := [.ref x47]) (metJ3_equals _ _ ep48) (rcv_o okJ3 z) rfl mok_J3_equals q700 q701 q702 q127 q703 (Nat.le_of_ble_eq_true rfl) (Nat.le_of_ble_eq_true rfl) rfl hl.1 rfl (Nat.le_of_ble_eq_true rfl) (pc := 101) dX2_line_101 kk; exact aw_callV (As := [.ref x47]) (metJ3_equals _ _ ep48) (rcv_k z) rfl mok_J3_equals q700 q701 q702 q127 q703 (Nat.le_of_ble_eq_true rfl) (Nat.le_of_ble_eq_true rfl) rfl hl.1 rfl (Nat.le_of_ble_eq_true rfl) (pc := 101) dX2_line_101 kk) ?_
      refine sp_if (fun c50 => ?_) (fun c50 => ?_)
      · refine sp_m (aw_if_eq_t (tgt := 165) (pc := 104) dX2_line_104 (by decide) c50) ?_
        exact hj165_1 (-1) ls (lv_sub hl [2, 0] rfl)
      · refine sp_m (aw_if_eq_f (tgt := 165) (pc := 104) dX2_line_104 (by decide) c50) ?_
        refine sp_m (aw_iconst (v := 1) (pc := 107) dX2_line_107 rfl) ?_
        refine sp_m (aw_istore_n (lv' := [(2, .int 1), (1, .ref x3), (0, .ref a0)]) (pc := 108) dX2_line_108 rfl hl (by decide) rfl) (sp_all fun ls hl => ?_)
        refine sp_m (aw_goto (tgt := 165) (pc := 109) dX2_line_109 (by decide)) ?_
        exact hj165_1 1 ls (lv_sub hl [2, 0] rfl)
    refine sp_if (fun c51 => ?_) (fun c51 => ?_)
    · refine sp_m (aw_lookup (tgt := 140) (pc := 25) dX2_line_25 (by decide) (by rw [c51] <;> rfl) (by decide)) ?_
      refine sp_m (aw_aload_n (pc := 140) dX2_line_140 rfl (lv_at hl 1 rfl)) ?_
      refine sp_b fun x52 ex52 => ?_
      refine sp_m (aw_ldcS sk_X2_98 ex52 (pc := 141) dX2_line_141) ?_
      refine sp_g fun s54 => ?_
      refine sp_b fun p53 ep53 => ?_
      refine sp_m (G' := AW (KX2_line l D h0 o) p4.2 (146) ls (.int p53 :: [])) (fun kk => by rcases s54 with z | z; exact aw_callV (As := [.ref x52]) (metJ3_equals _ _ ep53) (rcv_o okJ3 z) rfl mok_J3_equals q700 q701 q702 q127 q703 (Nat.le_of_ble_eq_true rfl) (Nat.le_of_ble_eq_true rfl) rfl hl.1 rfl (Nat.le_of_ble_eq_true rfl) (pc := 143) dX2_line_143 kk; exact aw_callV (As := [.ref x52]) (metJ3_equals _ _ ep53) (rcv_k z) rfl mok_J3_equals q700 q701 q702 q127 q703 (Nat.le_of_ble_eq_true rfl) (Nat.le_of_ble_eq_true rfl) rfl hl.1 rfl (Nat.le_of_ble_eq_true rfl) (pc := 143) dX2_line_143 kk) ?_
      refine sp_if (fun c55 => ?_) (fun c55 => ?_)
      · refine sp_m (aw_if_eq_t (tgt := 165) (pc := 146) dX2_line_146 (by decide) c55) ?_
        exact hj165_1 (-1) ls (lv_sub hl [2, 0] rfl)
      · refine sp_m (aw_if_eq_f (tgt := 165) (pc := 146) dX2_line_146 (by decide) c55) ?_
        refine sp_m (aw_iconst (v := 4) (pc := 149) dX2_line_149 rfl) ?_
        refine sp_m (aw_istore_n (lv' := [(2, .int 4), (1, .ref x3), (0, .ref a0)]) (pc := 150) dX2_line_150 rfl hl (by decide) rfl) (sp_all fun ls hl => ?_)
        refine sp_m (aw_goto (tgt := 165) (pc := 151) dX2_line_151 (by decide)) ?_
        exact hj165_1 4 ls (lv_sub hl [2, 0] rfl)
    refine sp_if (fun c56 => ?_) (fun c56 => ?_)
    · refine sp_m (aw_lookup (tgt := 112) (pc := 25) dX2_line_25 (by decide) (by rw [c56] <;> rfl) (by decide)) ?_
      refine sp_m (aw_aload_n (pc := 112) dX2_line_112 rfl (lv_at hl 1 rfl)) ?_
      refine sp_b fun x57 ex57 => ?_
      refine sp_m (aw_ldcS sk_X2_94 ex57 (pc := 113) dX2_line_113) ?_
      refine sp_g fun s59 => ?_
      refine sp_b fun p58 ep58 => ?_
      refine sp_m (G' := AW (KX2_line l D h0 o) p4.2 (118) ls (.int p58 :: [])) (fun kk => by rcases s59 with z | z; exact aw_callV (As := [.ref x57]) (metJ3_equals _ _ ep58) (rcv_o okJ3 z) rfl mok_J3_equals q700 q701 q702 q127 q703 (Nat.le_of_ble_eq_true rfl) (Nat.le_of_ble_eq_true rfl) rfl hl.1 rfl (Nat.le_of_ble_eq_true rfl) (pc := 115) dX2_line_115 kk; exact aw_callV (As := [.ref x57]) (metJ3_equals _ _ ep58) (rcv_k z) rfl mok_J3_equals q700 q701 q702 q127 q703 (Nat.le_of_ble_eq_true rfl) (Nat.le_of_ble_eq_true rfl) rfl hl.1 rfl (Nat.le_of_ble_eq_true rfl) (pc := 115) dX2_line_115 kk) ?_
      refine sp_if (fun c60 => ?_) (fun c60 => ?_)
      · refine sp_m (aw_if_eq_t (tgt := 165) (pc := 118) dX2_line_118 (by decide) c60) ?_
        exact hj165_1 (-1) ls (lv_sub hl [2, 0] rfl)
      · refine sp_m (aw_if_eq_f (tgt := 165) (pc := 118) dX2_line_118 (by decide) c60) ?_
        refine sp_m (aw_iconst (v := 2) (pc := 121) dX2_line_121 rfl) ?_
        refine sp_m (aw_istore_n (lv' := [(2, .int 2), (1, .ref x3), (0, .ref a0)]) (pc := 122) dX2_line_122 rfl hl (by decide) rfl) (sp_all fun ls hl => ?_)
        refine sp_m (aw_goto (tgt := 165) (pc := 123) dX2_line_123 (by decide)) ?_
        exact hj165_1 2 ls (lv_sub hl [2, 0] rfl)
    refine sp_if (fun c61 => ?_) (fun c61 => ?_)
    · refine sp_m (aw_lookup (tgt := 84) (pc := 25) dX2_line_25 (by decide) (by rw [c61] <;> rfl) (by decide)) ?_
      refine sp_m (aw_aload_n (pc := 84) dX2_line_84 rfl (lv_at hl 1 rfl)) ?_
      refine sp_b fun x62 ex62 => ?_
      refine sp_m (aw_ldcS sk_X2_90 ex62 (pc := 85) dX2_line_85) ?_
      refine sp_g fun s64 => ?_
      refine sp_b fun p63 ep63 => ?_
      refine sp_m (G' := AW (KX2_line l D h0 o) p4.2 (90) ls (.int p63 :: [])) (fun kk => by rcases s64 with z | z; exact aw_callV (As := [.ref x62]) (metJ3_equals _ _ ep63) (rcv_o okJ3 z) rfl mok_J3_equals q700 q701 q702 q127 q703 (Nat.le_of_ble_eq_true rfl) (Nat.le_of_ble_eq_true rfl) rfl hl.1 rfl (Nat.le_of_ble_eq_true rfl) (pc := 87) dX2_line_87 kk; exact aw_callV (As := [.ref x62]) (metJ3_equals _ _ ep63) (rcv_k z) rfl mok_J3_equals q700 q701 q702 q127 q703 (Nat.le_of_ble_eq_true rfl) (Nat.le_of_ble_eq_true rfl) rfl hl.1 rfl (Nat.le_of_ble_eq_true rfl) (pc := 87) dX2_line_87 kk) ?_
      refine sp_if (fun c65 => ?_) (fun c65 => ?_)
      · refine sp_m (aw_if_eq_t (tgt := 165) (pc := 90) dX2_line_90 (by decide) c65) ?_
        exact hj165_1 (-1) ls (lv_sub hl [2, 0] rfl)
      · refine sp_m (aw_if_eq_f (tgt := 165) (pc := 90) dX2_line_90 (by decide) c65) ?_
        refine sp_m (aw_iconst (v := 0) (pc := 93) dX2_line_93 rfl) ?_
        refine sp_m (aw_istore_n (lv' := [(2, .int 0), (1, .ref x3), (0, .ref a0)]) (pc := 94) dX2_line_94 rfl hl (by decide) rfl) (sp_all fun ls hl => ?_)
        refine sp_m (aw_goto (tgt := 165) (pc := 95) dX2_line_95 (by decide)) ?_
        exact hj165_1 0 ls (lv_sub hl [2, 0] rfl)
    refine sp_m (aw_lookup (tgt := 165) (off := 140) (pc := 25) dX2_line_25 (by decide) (Eq.trans (lv_osw c36 rfl) (Eq.trans (lv_osw c41 rfl) (Eq.trans (lv_osw c46 rfl) (Eq.trans (lv_osw c51 rfl) (Eq.trans (lv_osw c56 rfl) (Eq.trans (lv_osw c61 rfl) rfl)))))) (by decide)) ?_
    exact hj165_1 (-1) ls (lv_sub hl [2, 0] rfl)
  · refine sp_m (aw_icmp_eq_f (tgt := 14) (pc := 5) dX2_line_5 (by decide) c2) ?_
    refine sp_m (aw_aload_n (pc := 8) dX2_line_8 rfl (lv_at hl 0 rfl)) ?_
    refine sp_m (aw_iconst (v := 1) (pc := 9) dX2_line_9 rfl) ?_
    refine sp_b fun p66 ep66 => ?_
    refine sp_b fun x67 ex67 => ?_
    refine sp_m (G' := AW (KX2_line l D h0 o) p66.2 (13) ls (.ref x67 :: [])) (fun kk => aw_callV (As := [.int 1]) (metX2_fail _ _ ep66) (rcv_o okX2 s1) rfl mok_X2_fail q638 q640 qs7 q117 q641 (Nat.le_of_ble_eq_true rfl) (Nat.le_of_ble_eq_true rfl) rfl hl.1 rfl (Nat.le_of_ble_eq_true rfl) (pc := 10) dX2_line_10 (kk_ref ex67 kk)) ?_
    refine sp_g fun s68 => ?_
    exact sp_r fun hz => aw_throwT okX3 s68 hz rfl rfl rfl rfl (pc := 13) dX2_line_13
theorem mok_X8_init : mOK yX8_init 0 := ⟨⟨by decide +kernel, by decide +kernel⟩, by decide +kernel⟩
abbrev KX8_init (l : Launch) (D : DD) (h0 hE : AH) : KT := (l, yX8_init, cX8_init, 1, none, RX8, 1, D, h0, hE, .inl (none), false, [])
theorem metX8_init (l : Launch) (D : DD) {a0 : Nat} {h0 : AH} {hE : AH} (hr : fX8_init a0 h0 = some hE) : AMet (KX8_init l D h0 hE) [.ref a0] := by
  refine AMet.of (K := (KX8_init l D h0 hE)) rfl ⟨_, rfl⟩ rfl rfl rfl (Nat.le_of_ble_eq_true rfl) (fun ls hl => ?_)
  have hl : lv_has ls 1 [(0, .ref a0)] := hl
  suffices hsp : SP (fX8_init a0 h0) (fun z => z = hE) (AW (KX8_init l D h0 hE) h0 0 ls []) from hsp _ hr rfl
  unfold fX8_init
  refine sp_m (aw_aload_n (pc := 0) dX8_init_0 rfl (lv_at hl 0 rfl)) ?_
  refine sp_m (aw_objInit hl.1 q472 q153 q154 (Nat.le_of_ble_eq_true rfl) rfl (pc := 1) dX8_init_1) ?_
  refine sp_m (aw_aload_n (pc := 4) dX8_init_4 rfl (lv_at hl 0 rfl)) ?_
  refine sp_m (aw_bipush (v := 6) (pc := 5) dX8_init_5 rfl) ?_
  refine sp_t fun h1 eh10 => ?_
  refine sp_m (fun kk => aw_newq (t := 6) (Cc := "ElephantLine$Stand") (by decide) rfl rfl q473 (by decide) (by decide) (by decide) (pc := 7) dX8_init_7 (AWe eh10 kk)) ?_
  refine sp_g fun s2 => ?_
  refine sp_t fun h3 eh30 => ?_
  have eh3 : gS h3 = gS h1 := by rw [eh30]; rfl
  refine sp_m (aw_put (k := 0) okX8 opX8 s2 (by decide) q479 (Or.inl rfl) (Or.inr ⟨rfl, rfl, rfl⟩) (hasV_R' eh30) rfl rfl (pc := 10) dX8_init_10) ?_
  refine sp_m (aw_aload_n (pc := 13) dX8_init_13 rfl (lv_at hl 0 rfl)) ?_
  refine sp_m (aw_bipush (v := 6) (pc := 14) dX8_init_14 rfl) ?_
  refine sp_t fun h4 eh40 => ?_
  refine sp_m (fun kk => aw_newI q313 (by decide) (by decide) (pc := 16) dX8_init_16 (AWe eh40 kk)) ?_
  refine sp_g fun s5 => ?_
  refine sp_t fun h6 eh60 => ?_
  have eh6 : gS h6 = gS h4 := by rw [eh60]; rfl
  refine sp_m (aw_put (k := 1) okX8 opX8 s5 (by decide) q483 (Or.inl rfl) (Or.inr ⟨rfl, rfl, rfl⟩) (hasV_R' eh60) rfl rfl (pc := 18) dX8_init_18) ?_
  refine sp_m (aw_aload_n (pc := 21) dX8_init_21 rfl (lv_at hl 0 rfl)) ?_
  refine sp_m (aw_bipush (v := 36) (pc := 22) dX8_init_22 rfl) ?_
  refine sp_t fun h7 eh70 => ?_
  refine sp_m (fun kk => aw_newI q313 (by decide) (by decide) (pc := 24) dX8_init_24 (AWe eh70 kk)) ?_
  refine sp_g fun s8 => ?_
  refine sp_t fun h9 eh90 => ?_
  have eh9 : gS h9 = gS h7 := by rw [eh90]; rfl
  refine sp_m (aw_put (k := 2) okX8 opX8 s8 (by decide) q486 (Or.inl rfl) (Or.inr ⟨rfl, rfl, rfl⟩) (hasV_R' eh90) rfl rfl (pc := 26) dX8_init_26) ?_
  refine sp_m (aw_aload_n (pc := 29) dX8_init_29 rfl (lv_at hl 0 rfl)) ?_
  refine sp_m (aw_iconst (v := 5) (pc := 30) dX8_init_30 rfl) ?_
  refine sp_t fun h10 eh100 => ?_
  refine sp_m (fun kk => aw_newq (t := 5) (Cc := "ElephantLine$Beast") (by decide) rfl rfl q475 (by decide) (by decide) (by decide) (pc := 31) dX8_init_31 (AWe eh100 kk)) ?_
  refine sp_g fun s11 => ?_
  refine sp_t fun h12 eh120 => ?_
  have eh12 : gS h12 = gS h10 := by rw [eh120]; rfl
  refine sp_m (aw_put (k := 3) okX8 opX8 s11 (by decide) q488 (Or.inl rfl) (Or.inr ⟨rfl, rfl, rfl⟩) (hasV_R' eh120) rfl rfl (pc := 34) dX8_init_34) ?_
  refine sp_m (aw_aload_n (pc := 37) dX8_init_37 rfl (lv_at hl 0 rfl)) ?_
  refine sp_m (aw_bipush (v := 6) (pc := 38) dX8_init_38 rfl) ?_
  refine sp_t fun h13 eh130 => ?_
  refine sp_m (fun kk => aw_newq (t := 7) (Cc := "ElephantLine$City") (by decide) rfl rfl q477 (by decide) (by decide) (by decide) (pc := 40) dX8_init_40 (AWe eh130 kk)) ?_
  refine sp_g fun s14 => ?_
  refine sp_t fun h15 eh150 => ?_
  have eh15 : gS h15 = gS h13 := by rw [eh150]; rfl
  refine sp_m (aw_put (k := 4) okX8 opX8 s14 (by decide) q492 (Or.inl rfl) (Or.inr ⟨rfl, rfl, rfl⟩) (hasV_R' eh150) rfl rfl (pc := 43) dX8_init_43) ?_
  exact sp_r fun hz => aw_vret hz rfl rfl rfl (pc := 46) dX8_init_46
theorem mok_X2_read : mOK yX2_read 1 := ⟨⟨by decide +kernel, by decide +kernel⟩, by decide +kernel⟩
abbrev KX2_read (l : Launch) (D : DD) (h0 : AH) (o : (Option Nat × AH) ⊕ (Nat × AH)) : KT := (l, yX2_read, cX2_read, 3, (some (.object "ElephantLine$War")), RX2, 12, D, h0, tE (fun p : Option Nat × AH => p.2) o, tV (fun p : Option Nat × AH => some (va_rf p.1)) "ElephantLine$Refused" o, true, [])
theorem metX2_read (l : Launch) (D : DD) {a0 : Nat} {a1 : Int32} {h0 : AH} {o : (Option Nat × AH) ⊕ (Nat × AH)} (hr : fX2_read a0 a1 h0 = some o) : AMetX (KX2_read l D h0 o) [.ref a0, .int a1] := by
  refine AMetX.of (K := (KX2_read l D h0 o)) rfl rfl rfl rfl (Nat.le_of_ble_eq_true rfl) (fun ls hl => ?_)
  have hl : lv_has ls 3 [(0, .ref a0), (1, .int a1)] := hl
  suffices hsp : SP (fX2_read a0 a1 h0) (fun z => z = o) (AW (KX2_read l D h0 o) h0 0 ls []) from hsp _ hr rfl
  unfold fX2_read
  refine sp_m (aw_aload_n (pc := 0) dX2_read_0 rfl (lv_at hl 0 rfl)) ?_
  refine sp_m (aw_iload_n (pc := 1) dX2_read_1 rfl (lv_at hl 1 rfl)) ?_
  refine sp_g fun s1 => ?_
  refine sp_t fun h2 eh20 => ?_
  have eh2 : gS h2 = gS h0 := by rw [eh20]; rfl
  refine sp_m (aw_put (k := 3) okX2 opX2 s1 (by decide) q238 (Or.inl rfl) (Or.inl rfl) (hasV_I' eh20) rfl rfl (pc := 2) dX2_read_2) ?_
  refine sp_m (aw_aload_n (pc := 5) dX2_read_5 rfl (lv_at hl 0 rfl)) ?_
  refine sp_m (aw_iconst (v := 0) (pc := 6) dX2_read_6 rfl) ?_
  refine sp_t fun h3 eh30 => ?_
  have eh3 : gS h3 = gS h2 := by rw [eh30]; rfl
  refine sp_m (aw_put (k := 4) okX2 opX2 (uS eh2 s1) (by decide) q239 (Or.inl rfl) (Or.inl rfl) (hasV_I' eh30) rfl rfl (pc := 7) dX2_read_7) ?_
  refine sp_m (aw_aload_n (pc := 10) dX2_read_10 rfl (lv_at hl 0 rfl)) ?_
  refine sp_t fun h4 eh40 => ?_
  refine sp_m (fun kk => aw_new okX8 opX8 odX8 q467 q468 q126 (pc := 11) dX2_read_11 (AWe eh40 kk)) ?_
  refine sp_m (aw_dup (pc := 14) dX2_read_14 rfl) ?_
  refine sp_b fun p5 ep5 => ?_
  refine sp_m (G' := AW (KX2_read l D h0 o) p5 (18) ls (.ref (gZ h3) :: .ref a0 :: [])) (fun kk => aw_callIN (As := []) (host := "ElephantLine") (metX8_init _ _ ep5) mok_X8_init rfl nq469 q470 q126 q471 (Nat.le_of_ble_eq_true rfl) (Nat.le_of_ble_eq_true rfl) rfl hl.1 rfl (Nat.le_of_ble_eq_true rfl) (pc := 15) dX2_read_15 kk) ?_
  refine sp_g fun s6 => ?_
  refine sp_t fun h7 eh70 => ?_
  have eh7 : gS h7 = gS p5 := by rw [eh70]; rfl
  refine sp_m (aw_put (k := 9) okX2 opX2 s6 (by decide) q244 (Or.inl rfl) (Or.inl rfl) (hasV_R' eh70) rfl rfl (pc := 18) dX2_read_18) ?_
  refine sp_m (aw_aload_n (pc := 21) dX2_read_21 rfl (lv_at hl 0 rfl)) ?_
  refine sp_b fun p8 ep8 => ?_
  refine sp_m (G' := AW (KX2_read l D h0 o) p8 (25) ls ([])) (fun kk => aw_callV (As := []) (metX2_next _ _ ep8) (rcv_o okX2 (uS eh7 s6)) rfl mok_X2_next q540 q542 qs4 q117 q543 (Nat.le_of_ble_eq_true rfl) (Nat.le_of_ble_eq_true rfl) rfl hl.1 rfl (Nat.le_of_ble_eq_true rfl) (pc := 22) dX2_read_22 kk) ?_
  refine sp_m (aw_aload_n (pc := 25) dX2_read_25 rfl (lv_at hl 0 rfl)) ?_
  refine sp_g fun s10 => ?_
  refine sp_bx (fun q52t ep9 => ?_) (fun p9 ep9 => ?_)
  · refine sp_m (G' := AX (KX2_read l D h0 o) q52t.2 (26) ls ([]) "ElephantLine$Refused" q52t.1) (fun kk => aw_callV_t (As := []) (metX2_line _ _ ep9) (rcv_o okX2 s10) rfl mok_X2_line q634 q636 qs6 q117 q637 (Nat.le_of_ble_eq_true rfl) (Nat.le_of_ble_eq_true rfl) rfl hl.1 rfl (Nat.le_of_ble_eq_true rfl) (pc := 26) dX2_read_26  kk) ?_
    exact sp_r fun hz => ax_outT hz rfl rfl rfl rfl
  · refine sp_m (G' := AW (KX2_read l D h0 o) p9 (29) ls ([])) (fun kk => aw_callV_n (As := []) (metX2_line _ _ ep9) (rcv_o okX2 s10) rfl mok_X2_line q634 q636 qs6 q117 q637 (Nat.le_of_ble_eq_true rfl) (Nat.le_of_ble_eq_true rfl) rfl hl.1 rfl (Nat.le_of_ble_eq_true rfl) (pc := 26) dX2_read_26  kk) ?_
    let P11 : AH → Prop := aLP (KX2_read l D h0 o) 3 29 (fun s11v : AH => [(0, .ref a0)]) (fun s11v => s11v)
    refine sp_loop (P := P11) (fun s11v => sp_all fun ls hl => ?_) (fun k => k ls (lv_sub hl [0] rfl))
    have hl : lv_has ls 3 [(0, .ref a0)] := hl
    show SP _ _ (AW (KX2_read l D h0 o) s11v 29 ls [])
    unfold X2_read_L29
    refine sp_m (aw_aload_n (pc := 29) dX2_read_29 rfl (lv_at hl 0 rfl)) ?_
    refine sp_g fun s12 => ?_
    refine sp_m (aw_get (k := 5) okX2 s12 (by decide) q240 (Or.inl rfl) rfl (pc := 30) dX2_read_30) ?_
    refine sp_m (aw_bipush (v := 59) (pc := 33) dX2_read_33 rfl) ?_
    refine sp_if (fun c13 => ?_) (fun c13 => ?_)
    · refine sp_m (aw_icmp_ne_t (tgt := 49) (pc := 35) dX2_read_35 (by decide) c13) ?_
      refine sp_m (aw_aload_n (pc := 49) dX2_read_49 rfl (lv_at hl 0 rfl)) ?_
      refine sp_m (aw_get (k := 5) okX2 s12 (by decide) q240 (Or.inl rfl) rfl (pc := 50) dX2_read_50) ?_
      refine sp_if (fun c14 => ?_) (fun c14 => ?_)
      · refine sp_m (aw_if_eq_t (tgt := 62) (pc := 53) dX2_read_53 (by decide) c14) ?_
        refine sp_m (aw_aload_n (pc := 62) dX2_read_62 rfl (lv_at hl 0 rfl)) ?_
        refine sp_b fun x15 ex15 => ?_
        refine sp_m (aw_get (k := 9) okX2 s12 (by decide) q244 (Or.inl rfl) (congrArg va_rf ex15) (pc := 63) dX2_read_63) ?_
        refine sp_g fun s16 => ?_
        refine sp_m (aw_get (k := 5) okX8 s16 (by decide) q495 (Or.inl rfl) rfl (pc := 66) dX2_read_66) ?_
        have hj82_1 : ∀ ls : Array Slot, lv_has ls 3 [(0, .ref a0)] → SP (X2_read_j82 a0 s11v) (ZL P11 (fun z => z = o)) (AW (KX2_read l D h0 o) s11v 82 ls ([])) := by
          intro ls hl
          unfold X2_read_j82
          refine sp_m (aw_aload_n (pc := 82) dX2_read_82 rfl (lv_at hl 0 rfl)) ?_
          refine sp_m (aw_bipush (v := 6) (pc := 83) dX2_read_83 rfl) ?_
          refine sp_b fun p17 ep17 => ?_
          refine sp_b fun x18 ex18 => ?_
          refine sp_m (G' := AW (KX2_read l D h0 o) p17.2 (88) ls (.ref x18 :: [])) (fun kk => aw_callV (As := [.int 6]) (metX2_fail _ _ ep17) (rcv_o okX2 s12) rfl mok_X2_fail q638 q640 qs7 q117 q641 (Nat.le_of_ble_eq_true rfl) (Nat.le_of_ble_eq_true rfl) rfl hl.1 rfl (Nat.le_of_ble_eq_true rfl) (pc := 85) dX2_read_85 (kk_ref ex18 kk)) ?_
          refine sp_g fun s19 => ?_
          exact sp_r fun hz => aw_throwT okX3 s19 hz rfl rfl rfl rfl (pc := 88) dX2_read_88
        refine sp_if (fun c20 => ?_) (fun c20 => ?_)
        · refine sp_m (aw_if_eq_t (tgt := 82) (pc := 69) dX2_read_69 (by decide) c20) ?_
          exact hj82_1 ls (lv_sub hl [0] rfl)
        · refine sp_m (aw_if_eq_f (tgt := 82) (pc := 69) dX2_read_69 (by decide) c20) ?_
          refine sp_m (aw_aload_n (pc := 72) dX2_read_72 rfl (lv_at hl 0 rfl)) ?_
          refine sp_b fun x21 ex21 => ?_
          refine sp_m (aw_get (k := 9) okX2 s12 (by decide) q244 (Or.inl rfl) (congrArg va_rf ex21) (pc := 73) dX2_read_73) ?_
          refine sp_g fun s22 => ?_
          refine sp_m (aw_get (k := 8) okX8 s22 (by decide) q506 (Or.inl rfl) rfl (pc := 76) dX2_read_76) ?_
          refine sp_if (fun c23 => ?_) (fun c23 => ?_)
          · refine sp_m (aw_if_ne_t (tgt := 89) (pc := 79) dX2_read_79 (by decide) c23) ?_
            refine sp_m (aw_iconst (v := 0) (pc := 89) dX2_read_89 rfl) ?_
            refine sp_m (aw_istore_n (lv' := [(2, .int 0), (0, .ref a0)]) (pc := 90) dX2_read_90 rfl hl (by decide) rfl) (sp_all fun ls hl => ?_)
            let P24 : Int32 × AH → Prop := aLP (KX2_read l D h0 o) 3 91 (fun s24v : Int32 × AH => [(0, .ref a0), (2, .int s24v.1)]) (fun s24v => s24v.2)
            let E24 : AH → Prop := aLP (KX2_read l D h0 o) 3 136 (fun r24v : AH => [(0, .ref a0)]) (fun r24v => r24v)
            refine sp_bl (P := P24) (E := E24) (fun s24v => sp_all fun ls hl => ?_) (fun k => k ls (lv_sub hl [1, 0] rfl)) (fun r24v => sp_all fun ls hl => ?_)
            · have hl : lv_has ls 3 [(0, .ref a0), (2, .int s24v.1)] := hl
              show SP _ _ (AW (KX2_read l D h0 o) s24v.2 91 ls [])
              unfold X2_read_L91
              refine sp_m (aw_iload_n (pc := 91) dX2_read_91 rfl (lv_at hl 1 rfl)) ?_
              refine sp_m (aw_aload_n (pc := 92) dX2_read_92 rfl (lv_at hl 0 rfl)) ?_
              refine sp_g fun s25 => ?_
              refine sp_b fun x26 ex26 => ?_
              refine sp_m (aw_get (k := 9) okX2 s25 (by decide) q244 (Or.inl rfl) (congrArg va_rf ex26) (pc := 93) dX2_read_93) ?_
              refine sp_g fun s27 => ?_
              refine sp_m (aw_get (k := 5) okX8 s27 (by decide) q495 (Or.inl rfl) rfl (pc := 96) dX2_read_96) ?_
              refine sp_if (fun c28 => ?_) (fun c28 => ?_)
              · refine sp_m (aw_icmp_ge_t (tgt := 136) (pc := 99) dX2_read_99 (by decide) c28) ?_
                exact sp_r fun hz => hz ls (lv_sub hl [0] rfl)
              · refine sp_m (aw_icmp_ge_f (tgt := 136) (pc := 99) dX2_read_99 (by decide) c28) ?_
                refine sp_m (aw_aload_n (pc := 102) dX2_read_102 rfl (lv_at hl 0 rfl)) ?_
                refine sp_b fun x29 ex29 => ?_
                refine sp_m (aw_get (k := 9) okX2 s25 (by decide) q244 (Or.inl rfl) (congrArg va_rf ex29) (pc := 103) dX2_read_103) ?_
                refine sp_g fun s30 => ?_
                refine sp_b fun x31 ex31 => ?_
                refine sp_m (aw_get (k := 0) okX8 s30 (by decide) q481 (Or.inl rfl) (congrArg va_rf ex31) (pc := 106) dX2_read_106) ?_
                refine sp_m (aw_iload_n (pc := 109) dX2_read_109 rfl (lv_at hl 1 rfl)) ?_
                refine sp_g fun s32 => ?_
                refine sp_g fun i33 => ?_
                refine sp_o (fun ex34 => ?_) (fun x34 ex34 => ?_)
                · refine sp_m (aw_aald (t := 6) s32 (by decide) rfl rfl i33 (congrArg va_rf ex34) (pc := 110) dX2_read_110) ?_
                  refine sp_m (aw_ifnonnullN (pc := 111) dX2_read_111) ?_
                  refine sp_m (aw_aload_n (pc := 114) dX2_read_114 rfl (lv_at hl 0 rfl)) ?_
                  refine sp_b fun x35 ex35 => ?_
                  refine sp_m (aw_get (k := 9) okX2 s25 (by decide) q244 (Or.inl rfl) (congrArg va_rf ex35) (pc := 115) dX2_read_115) ?_
                  refine sp_g fun s36 => ?_
                  refine sp_b fun x37 ex37 => ?_
                  refine sp_m (aw_get (k := 0) okX8 s36 (by decide) q481 (Or.inl rfl) (congrArg va_rf ex37) (pc := 118) dX2_read_118) ?_
                  refine sp_m (aw_iload_n (pc := 121) dX2_read_121 rfl (lv_at hl 1 rfl)) ?_
                  refine sp_t fun h38 eh380 => ?_
                  refine sp_m (fun kk => aw_new okX9 opX9 odX9 q752 q753 q132 (pc := 122) dX2_read_122 (AWe eh380 kk)) ?_
                  refine sp_m (aw_dup (pc := 125) dX2_read_125 rfl) ?_
                  refine sp_b fun p39 ep39 => ?_
                  refine sp_m (G' := AW (KX2_read l D h0 o) h38 (129) ls (.ref (gZ s24v.2) :: .int s24v.1 :: .ref x37 :: [])) (fun kk => aw_callIN (As := []) (host := "ElephantLine") (metX9_init _ _ ep39) mok_X9_init rfl nq754 q755 q132 q756 (Nat.le_of_ble_eq_true rfl) (Nat.le_of_ble_eq_true rfl) rfl hl.1 rfl (Nat.le_of_ble_eq_true rfl) (pc := 126) dX2_read_126 kk) ?_
                  refine sp_g fun s40 => ?_
                  refine sp_g fun i41 => ?_
                  refine sp_t fun h42 eh420 => ?_
                  have eh42 : gS h42 = gS h38 := by rw [eh420]; rfl
                  refine sp_m (G' := AW (KX2_read l D h0 o) h42 (130) ls ([])) (fun kk => aw_aast (t := 6) (Cc := "ElephantLine$Stand") s40 (by decide) rfl rfl okX9 (nC_S eh380) (Or.inl rfl) i41 (pc := 129) dX2_read_129 (AWe eh420 kk)) ?_
                  refine sp_m (aw_iinc (v := s24v.1 + 1) (lv' := [(2, .int (s24v.1 + 1)), (0, .ref a0)]) (pc := 130) dX2_read_130 hl (k := 1) rfl rfl (by decide) rfl) (sp_all fun ls hl => ?_)
                  refine sp_m (aw_goto (tgt := 91) (pc := 133) dX2_read_133 (by decide)) ?_
                  exact sp_r fun hz => hz ls (lv_sub hl [1, 0] rfl)
                · refine sp_m (aw_aald (t := 6) s32 (by decide) rfl rfl i33 (congrArg va_rf ex34) (pc := 110) dX2_read_110) ?_
                  refine sp_m (aw_ifnonnull (tgt := 130) (pc := 111) dX2_read_111 (by decide)) ?_
                  refine sp_m (aw_iinc (v := s24v.1 + 1) (lv' := [(2, .int (s24v.1 + 1)), (0, .ref a0)]) (pc := 130) dX2_read_130 hl (k := 1) rfl rfl (by decide) rfl) (sp_all fun ls hl => ?_)
                  refine sp_m (aw_goto (tgt := 91) (pc := 133) dX2_read_133 (by decide)) ?_
                  exact sp_r fun hz => hz ls (lv_sub hl [1, 0] rfl)
            · have hl : lv_has ls 3 [(0, .ref a0)] := hl
              show SP _ _ (AW (KX2_read l D h0 o) r24v 136 ls [])
              refine sp_m (aw_aload_n (pc := 136) dX2_read_136 rfl (lv_at hl 0 rfl)) ?_
              refine sp_g fun s43 => ?_
              refine sp_b fun x44 ex44 => ?_
              refine sp_m (aw_get (k := 9) okX2 s43 (by decide) q244 (Or.inl rfl) (congrArg va_rf ex44) (pc := 137) dX2_read_137) ?_
              exact sp_r fun hz => aw_aretT rfl hz rfl rfl rfl (Or.inl ⟨_, rfl⟩) (pc := 140) dX2_read_140
          · refine sp_m (aw_if_ne_f (tgt := 89) (pc := 79) dX2_read_79 (by decide) (Decidable.not_not.mp c23)) ?_
            exact hj82_1 ls (lv_sub hl [0] rfl)
      · refine sp_m (aw_if_eq_f (tgt := 62) (pc := 53) dX2_read_53 (by decide) c14) ?_
        refine sp_m (aw_aload_n (pc := 56) dX2_read_56 rfl (lv_at hl 0 rfl)) ?_
        refine sp_m (aw_iconst (v := 1) (pc := 57) dX2_read_57 rfl) ?_
        refine sp_b fun p45 ep45 => ?_
        refine sp_b fun x46 ex46 => ?_
        refine sp_m (G' := AW (KX2_read l D h0 o) p45.2 (61) ls (.ref x46 :: [])) (fun kk => aw_callV (As := [.int 1]) (metX2_fail _ _ ep45) (rcv_o okX2 s12) rfl mok_X2_fail q638 q640 qs7 q117 q641 (Nat.le_of_ble_eq_true rfl) (Nat.le_of_ble_eq_true rfl) rfl hl.1 rfl (Nat.le_of_ble_eq_true rfl) (pc := 58) dX2_read_58 (kk_ref ex46 kk)) ?_
        refine sp_g fun s47 => ?_
        exact sp_r fun hz => aw_throwT okX3 s47 hz rfl rfl rfl rfl (pc := 61) dX2_read_61
    · refine sp_m (aw_icmp_ne_f (tgt := 49) (pc := 35) dX2_read_35 (by decide) (Decidable.not_not.mp c13)) ?_
      refine sp_m (aw_aload_n (pc := 38) dX2_read_38 rfl (lv_at hl 0 rfl)) ?_
      refine sp_b fun p48 ep48 => ?_
      refine sp_m (G' := AW (KX2_read l D h0 o) p48 (42) ls ([])) (fun kk => aw_callV (As := []) (metX2_next _ _ ep48) (rcv_o okX2 s12) rfl mok_X2_next q540 q542 qs4 q117 q543 (Nat.le_of_ble_eq_true rfl) (Nat.le_of_ble_eq_true rfl) rfl hl.1 rfl (Nat.le_of_ble_eq_true rfl) (pc := 39) dX2_read_39 kk) ?_
      refine sp_m (aw_aload_n (pc := 42) dX2_read_42 rfl (lv_at hl 0 rfl)) ?_
      refine sp_g fun s50 => ?_
      refine sp_bx (fun q51t ep49 => ?_) (fun p49 ep49 => ?_)
      · refine sp_m (G' := AX (KX2_read l D h0 o) q51t.2 (43) ls ([]) "ElephantLine$Refused" q51t.1) (fun kk => aw_callV_t (As := []) (metX2_line _ _ ep49) (rcv_o okX2 s50) rfl mok_X2_line q634 q636 qs6 q117 q637 (Nat.le_of_ble_eq_true rfl) (Nat.le_of_ble_eq_true rfl) rfl hl.1 rfl (Nat.le_of_ble_eq_true rfl) (pc := 43) dX2_read_43  kk) ?_
        exact sp_r fun hz => ax_outT hz rfl rfl rfl rfl
      · refine sp_m (G' := AW (KX2_read l D h0 o) p49 (46) ls ([])) (fun kk => aw_callV_n (As := []) (metX2_line _ _ ep49) (rcv_o okX2 s50) rfl mok_X2_line q634 q636 qs6 q117 q637 (Nat.le_of_ble_eq_true rfl) (Nat.le_of_ble_eq_true rfl) rfl hl.1 rfl (Nat.le_of_ble_eq_true rfl) (pc := 43) dX2_read_43  kk) ?_
        refine sp_m (aw_goto (tgt := 29) (pc := 46) dX2_read_46 (by decide)) ?_
        exact sp_r fun hz => hz ls (lv_sub hl [0] rfl)
theorem mok_X1_war : mOK yX1_war 1 := ⟨⟨by decide +kernel, by decide +kernel⟩, by decide +kernel⟩
abbrev KX1_war (l : Launch) (D : DD) (h0 hE : AH) (v : Int32) : KT := (l, yX1_war, cX1_war, 3, (some .int), RX1, 13, D, h0, hE, .inl (some (.int v)), false, [(32, 44, 47, 110)])
theorem metX1_war (l : Launch) (D : DD) {a0 : Nat} {a1 : Int32} {h0 : AH} {hE : AH} {v : Int32} (hr : fX1_war a0 a1 h0 = some (v, hE)) : AMetH (KX1_war l D h0 hE v) [.ref a0, .int a1] := by
  refine AMetH.of (K := (KX1_war l D h0 hE v)) rfl ⟨_, rfl⟩ rfl rfl (Nat.le_of_ble_eq_true rfl) (fun ls hl => ?_)
  have hl : lv_has ls 3 [(0, .ref a0), (1, .int a1)] := hl
  suffices hsp : SP (fX1_war a0 a1 h0) (fun z => z = (v, hE)) (AW (KX1_war l D h0 hE v) h0 0 ls []) from hsp _ hr rfl
  unfold fX1_war
  refine sp_m (aw_aload_n (pc := 0) dX1_war_0 rfl (lv_at hl 0 rfl)) ?_
  refine sp_g fun s2 => ?_
  refine sp_b fun p1 ep1 => ?_
  refine sp_m (G' := AW (KX1_war l D h0 hE v) p1 (4) ls ([])) (fun kk => aw_callV (As := []) (metX1_anew _ _ ep1) (rcv_o okX1 s2) rfl mok_X1_anew q452 q454 qs2 q116 q455 (Nat.le_of_ble_eq_true rfl) (Nat.le_of_ble_eq_true rfl) rfl hl.1 rfl (Nat.le_of_ble_eq_true rfl) (pc := 1) dX1_war_1 kk) ?_
  refine sp_m (aw_iload_n (pc := 4) dX1_war_4 rfl (lv_at hl 1 rfl)) ?_
  refine sp_m (aw_iconst (v := 0) (pc := 5) dX1_war_5 rfl) ?_
  refine sp_m (aw_aload_n (pc := 6) dX1_war_6 rfl (lv_at hl 0 rfl)) ?_
  refine sp_g fun s3 => ?_
  refine sp_m (aw_get (k := 1) okX1 s3 (by decide) q367 (Or.inl rfl) rfl (pc := 7) dX1_war_7) ?_
  refine sp_b fun p4 ep4 => ?_
  refine sp_m (G' := AW (KX1_war l D h0 hE v) p1 (13) ls (.int p4 :: [])) (fun kk => aw_callS (As := [.int a1, .int 0, .int (gI p1 a0 1)]) (metX1_in _ _ ep4) mok_X1_in q456 q457 q116 q458 (Nat.le_of_ble_eq_true rfl) (Nat.le_of_ble_eq_true rfl) rfl hl.1 rfl (Nat.le_of_ble_eq_true rfl) (pc := 10) dX1_war_10 kk) ?_
  refine sp_if (fun c5 => ?_) (fun c5 => ?_)
  · refine sp_m (aw_if_ne_t (tgt := 22) (pc := 13) dX1_war_13 (by decide) c5) ?_
    refine sp_m (aw_aload_n (pc := 22) dX1_war_22 rfl (lv_at hl 0 rfl)) ?_
    refine sp_m (aw_iconst (v := 0) (pc := 23) dX1_war_23 rfl) ?_
    refine sp_t fun h6 eh60 => ?_
    have eh6 : gS h6 = gS p1 := by rw [eh60]; rfl
    refine sp_m (aw_put (k := 1) okX1 opX1 s3 (by decide) q367 (Or.inl rfl) (Or.inl rfl) (hasV_I' eh60) rfl rfl (pc := 24) dX1_war_24) ?_
    refine sp_m (aw_aload_n (pc := 27) dX1_war_27 rfl (lv_at hl 0 rfl)) ?_
    refine sp_m (aw_iconst (v := 0) (pc := 28) dX1_war_28 rfl) ?_
    refine sp_t fun h7 eh70 => ?_
    have eh7 : gS h7 = gS h6 := by rw [eh70]; rfl
    refine sp_m (aw_put (k := 5) okX1 opX1 (uS eh6 s3) (by decide) q371 (Or.inl rfl) (Or.inl rfl) (hasV_I' eh70) rfl rfl (pc := 29) dX1_war_29) ?_
    refine sp_m (aw_aload_n (pc := 32) dX1_war_32 rfl (lv_at hl 0 rfl)) ?_
    refine sp_m (aw_aload_n (pc := 33) dX1_war_33 rfl (lv_at hl 0 rfl)) ?_
    refine sp_b fun x8 ex8 => ?_
    refine sp_m (aw_get (k := 2) okX1 (uS eh7 (uS eh6 s3)) (by decide) q368 (Or.inl rfl) (congrArg va_rf ex8) (pc := 34) dX1_war_34) ?_
    refine sp_m (aw_iload_n (pc := 37) dX1_war_37 rfl (lv_at hl 1 rfl)) ?_
    refine sp_g fun s10 => ?_
    refine sp_bx (fun q12t ep9 => ?_) (fun p9 ep9 => ?_)
    · refine sp_m (G' := AX (KX1_war l D h0 hE v) q12t.2 (38) ls (.ref a0 :: []) "ElephantLine$Refused" q12t.1) (fun kk => aw_callV_t (As := [.int a1]) (metX2_read _ _ ep9) (rcv_o okX2 s10) rfl mok_X2_read q463 q464 q465 q117 q466 (Nat.le_of_ble_eq_true rfl) (Nat.le_of_ble_eq_true rfl) rfl hl.1 rfl (Nat.le_of_ble_eq_true rfl) (pc := 38) dX1_war_38  kk) ?_
      refine sp_m (ax_catch (32, 44, 47, 110) rfl (by decide) (by decide) rfl q451 nq163) ?_
      refine sp_m (aw_astore_n (lv' := [(2, .ref q12t.1), (0, .ref a0), (1, .int a1)]) (pc := 47) dX1_war_47 rfl hl (by decide) rfl) (sp_all fun ls hl => ?_)
      refine sp_m (aw_aload_n (pc := 48) dX1_war_48 rfl (lv_at hl 1 rfl)) ?_
      refine sp_m (aw_aload_n (pc := 49) dX1_war_49 rfl (lv_at hl 0 rfl)) ?_
      refine sp_g fun s13 => ?_
      refine sp_m (aw_get (k := 6) okX3 s13 (by decide) q214 (Or.inl rfl) rfl (pc := 50) dX1_war_50) ?_
      refine sp_g fun s14 => ?_
      refine sp_t fun h15 eh150 => ?_
      have eh15 : gS h15 = gS q12t.2 := by rw [eh150]; rfl
      refine sp_m (aw_put (k := 5) okX1 opX1 s14 (by decide) q371 (Or.inl rfl) (Or.inl rfl) (hasV_I' eh150) rfl rfl (pc := 53) dX1_war_53) ?_
      refine sp_m (aw_aload_n (pc := 56) dX1_war_56 rfl (lv_at hl 1 rfl)) ?_
      refine sp_m (aw_aload_n (pc := 57) dX1_war_57 rfl (lv_at hl 0 rfl)) ?_
      refine sp_m (aw_get (k := 7) okX3 (uS eh15 s13) (by decide) q216 (Or.inl rfl) rfl (pc := 58) dX1_war_58) ?_
      refine sp_t fun h16 eh160 => ?_
      have eh16 : gS h16 = gS h15 := by rw [eh160]; rfl
      refine sp_m (aw_put (k := 6) okX1 opX1 (uS eh15 s14) (by decide) q372 (Or.inl rfl) (Or.inl rfl) (hasV_I' eh160) rfl rfl (pc := 61) dX1_war_61) ?_
      refine sp_m (aw_aload_n (pc := 64) dX1_war_64 rfl (lv_at hl 1 rfl)) ?_
      refine sp_m (aw_iconst (v := 4) (pc := 65) dX1_war_65 rfl) ?_
      refine sp_b fun p17 ep17 => ?_
      refine sp_m (G' := AW (KX1_war l D h0 hE v) p17.2 (69) ls (.int p17.1 :: [])) (fun kk => aw_callV (As := [.int 4]) (metX1_no _ _ ep17) (rcv_o okX1 (uS eh16 (uS eh15 s14))) rfl mok_X1_no q459 q461 qs3 q116 q462 (Nat.le_of_ble_eq_true rfl) (Nat.le_of_ble_eq_true rfl) rfl hl.1 rfl (Nat.le_of_ble_eq_true rfl) (pc := 66) dX1_war_66 kk) ?_
      exact sp_r fun hz => aw_iret hz rfl rfl rfl (pc := 69) dX1_war_69
    · refine sp_b fun x11 ex11 => ?_
      refine sp_m (G' := AW (KX1_war l D h0 hE v) p9.2 (41) ls (.ref x11 :: .ref a0 :: [])) (fun kk => aw_callV_n (As := [.int a1]) (metX2_read _ _ ep9) (rcv_o okX2 s10) rfl mok_X2_read q463 q464 q465 q117 q466 (Nat.le_of_ble_eq_true rfl) (Nat.le_of_ble_eq_true rfl) rfl hl.1 rfl (Nat.le_of_ble_eq_true rfl) (pc := 38) dX1_war_38  (kk_ref ex11 kk)) ?_
      refine sp_g fun s18 => ?_
      refine sp_t fun h19 eh190 => ?_
      have eh19 : gS h19 = gS p9.2 := by rw [eh190]; rfl
      refine sp_m (aw_put (k := 3) okX1 opX1 s18 (by decide) q369 (Or.inl rfl) (Or.inl rfl) (hasV_R' eh190) rfl rfl (pc := 41) dX1_war_41) ?_
      refine sp_m (aw_goto (tgt := 70) (pc := 44) dX1_war_44 (by decide)) ?_
      refine sp_m (aw_aload_n (pc := 70) dX1_war_70 rfl (lv_at hl 0 rfl)) ?_
      refine sp_b fun x20 ex20 => ?_
      refine sp_m (aw_get (k := 9) okX1 (uS eh19 s18) (by decide) q375 (Or.inl rfl) (congrArg va_rf ex20) (pc := 71) dX1_war_71) ?_
      refine sp_m (aw_aload_n (pc := 74) dX1_war_74 rfl (lv_at hl 0 rfl)) ?_
      refine sp_b fun x21 ex21 => ?_
      refine sp_m (aw_get (k := 3) okX1 (uS eh19 s18) (by decide) q369 (Or.inl rfl) (congrArg va_rf ex21) (pc := 75) dX1_war_75) ?_
      refine sp_g fun s23 => ?_
      refine sp_b fun p22 ep22 => ?_
      refine sp_m (G' := AW (KX1_war l D h0 hE v) p22 (81) ls ([])) (fun kk => aw_callV (As := [.ref x21]) (metX4_begin _ _ ep22) (rcv_o okX4 s23) rfl mok_X4_begin q922 q923 q924 q122 q925 (Nat.le_of_ble_eq_true rfl) (Nat.le_of_ble_eq_true rfl) rfl hl.1 rfl (Nat.le_of_ble_eq_true rfl) (pc := 78) dX1_war_78 kk) ?_
      refine sp_m (aw_aload_n (pc := 81) dX1_war_81 rfl (lv_at hl 0 rfl)) ?_
      refine sp_m (aw_iconst (v := 0) (pc := 82) dX1_war_82 rfl) ?_
      refine sp_g fun s24 => ?_
      refine sp_t fun h25 eh250 => ?_
      have eh25 : gS h25 = gS p22 := by rw [eh250]; rfl
      refine sp_m (aw_put (k := 8) okX1 opX1 s24 (by decide) q374 (Or.inl rfl) (Or.inl rfl) (hasV_I' eh250) rfl rfl (pc := 83) dX1_war_83) ?_
      refine sp_m (aw_aload_n (pc := 86) dX1_war_86 rfl (lv_at hl 0 rfl)) ?_
      refine sp_m (aw_iconst (v := 0) (pc := 87) dX1_war_87 rfl) ?_
      refine sp_t fun h26 eh260 => ?_
      have eh26 : gS h26 = gS h25 := by rw [eh260]; rfl
      refine sp_m (aw_put (k := 7) okX1 opX1 (uS eh25 s24) (by decide) q373 (Or.inl rfl) (Or.inl rfl) (hasV_I' eh260) rfl rfl (pc := 88) dX1_war_88) ?_
      refine sp_m (aw_aload_n (pc := 91) dX1_war_91 rfl (lv_at hl 0 rfl)) ?_
      refine sp_b fun x27 ex27 => ?_
      refine sp_m (aw_get (k := 3) okX1 (uS eh26 (uS eh25 s24)) (by decide) q369 (Or.inl rfl) (congrArg va_rf ex27) (pc := 92) dX1_war_92) ?_
      refine sp_g fun s28 => ?_
      refine sp_m (aw_get (k := 8) okX8 s28 (by decide) q505 (Or.inl rfl) rfl (pc := 95) dX1_war_95) ?_
      exact sp_r fun hz => aw_iret hz rfl rfl rfl (pc := 98) dX1_war_98
  · refine sp_m (aw_if_ne_f (tgt := 22) (pc := 13) dX1_war_13 (by decide) (Decidable.not_not.mp c5)) ?_
    refine sp_m (aw_aload_n (pc := 16) dX1_war_16 rfl (lv_at hl 0 rfl)) ?_
    refine sp_m (aw_iconst (v := 2) (pc := 17) dX1_war_17 rfl) ?_
    refine sp_b fun p29 ep29 => ?_
    refine sp_m (G' := AW (KX1_war l D h0 hE v) p29.2 (21) ls (.int p29.1 :: [])) (fun kk => aw_callV (As := [.int 2]) (metX1_no _ _ ep29) (rcv_o okX1 s3) rfl mok_X1_no q459 q461 qs3 q116 q462 (Nat.le_of_ble_eq_true rfl) (Nat.le_of_ble_eq_true rfl) rfl hl.1 rfl (Nat.le_of_ble_eq_true rfl) (pc := 18) dX1_war_18 kk) ?_
    exact sp_r fun hz => aw_iret hz rfl rfl rfl (pc := 21) dX1_war_21
theorem mok_X1_weeks : mOK yX1_weeks 1 := ⟨⟨by decide +kernel, by decide +kernel⟩, by decide +kernel⟩
abbrev KX1_weeks (l : Launch) (D : DD) (h0 hE : AH) (v : Int32) : KT := (l, yX1_weeks, cX1_weeks, 3, (some .int), RX1, 8, D, h0, hE, .inl (some (.int v)), false, [])
theorem metX1_weeks (l : Launch) (D : DD) {a0 : Nat} {a1 : Int32} {h0 : AH} {hE : AH} {v : Int32} (hr : fX1_weeks a0 a1 h0 = some (v, hE)) : AMet (KX1_weeks l D h0 hE v) [.ref a0, .int a1] := by
  refine AMet.of (K := (KX1_weeks l D h0 hE v)) rfl ⟨_, rfl⟩ rfl rfl rfl (Nat.le_of_ble_eq_true rfl) (fun ls hl => ?_)
  have hl : lv_has ls 3 [(0, .ref a0), (1, .int a1)] := hl
  suffices hsp : SP (fX1_weeks a0 a1 h0) (fun z => z = (v, hE)) (AW (KX1_weeks l D h0 hE v) h0 0 ls []) from hsp _ hr rfl
  unfold fX1_weeks
  refine sp_m (aw_aload_n (pc := 0) dX1_weeks_0 rfl (lv_at hl 0 rfl)) ?_
  refine sp_g fun s2 => ?_
  refine sp_b fun p1 ep1 => ?_
  refine sp_m (G' := AW (KX1_weeks l D h0 hE v) p1 (4) ls ([])) (fun kk => aw_callV (As := []) (metX1_anew _ _ ep1) (rcv_o okX1 s2) rfl mok_X1_anew q452 q454 qs2 q116 q455 (Nat.le_of_ble_eq_true rfl) (Nat.le_of_ble_eq_true rfl) rfl hl.1 rfl (Nat.le_of_ble_eq_true rfl) (pc := 1) dX1_weeks_1 kk) ?_
  refine sp_m (aw_aload_n (pc := 4) dX1_weeks_4 rfl (lv_at hl 0 rfl)) ?_
  refine sp_m (aw_iload_n (pc := 5) dX1_weeks_5 rfl (lv_at hl 1 rfl)) ?_
  refine sp_g fun s4 => ?_
  refine sp_b fun p3 ep3 => ?_
  refine sp_m (G' := AW (KX1_weeks l D h0 hE v) p1 (9) ls (.int p3 :: [])) (fun kk => aw_callV (As := [.int a1]) (metX1_isLane _ _ ep3) (rcv_o okX1 s4) rfl mok_X1_isLane q941 q943 qs25 q116 q944 (Nat.le_of_ble_eq_true rfl) (Nat.le_of_ble_eq_true rfl) rfl hl.1 rfl (Nat.le_of_ble_eq_true rfl) (pc := 6) dX1_weeks_6 kk) ?_
  refine sp_if (fun c5 => ?_) (fun c5 => ?_)
  · refine sp_m (aw_if_ne_t (tgt := 18) (pc := 9) dX1_weeks_9 (by decide) c5) ?_
    refine sp_m (aw_aload_n (pc := 18) dX1_weeks_18 rfl (lv_at hl 0 rfl)) ?_
    refine sp_m (aw_iload_n (pc := 19) dX1_weeks_19 rfl (lv_at hl 1 rfl)) ?_
    refine sp_b fun p6 ep6 => ?_
    refine sp_m (G' := AW (KX1_weeks l D h0 hE v) p1 (23) ls (.int p6 :: [])) (fun kk => aw_callV (As := [.int a1]) (metX1_isHorse _ _ ep6) (rcv_o okX1 s4) rfl mok_X1_isHorse q1243 q1245 qs35 q116 q1246 (Nat.le_of_ble_eq_true rfl) (Nat.le_of_ble_eq_true rfl) rfl hl.1 rfl (Nat.le_of_ble_eq_true rfl) (pc := 20) dX1_weeks_20 kk) ?_
    refine sp_if (fun c7 => ?_) (fun c7 => ?_)
    · refine sp_m (aw_if_ne_t (tgt := 32) (pc := 23) dX1_weeks_23 (by decide) c7) ?_
      refine sp_m (aw_iconst (v := 0) (pc := 32) dX1_weeks_32 rfl) ?_
      refine sp_m (aw_istore_n (lv' := [(2, .int 0), (0, .ref a0), (1, .int a1)]) (pc := 33) dX1_weeks_33 rfl hl (by decide) rfl) (sp_all fun ls hl => ?_)
      let P8 : Int32 × AH → Prop := aLP (KX1_weeks l D h0 hE v) 3 34 (fun s8v : Int32 × AH => [(0, .ref a0), (1, .int a1), (2, .int s8v.1)]) (fun s8v => s8v.2)
      refine sp_loop (P := P8) (fun s8v => sp_all fun ls hl => ?_) (fun k => k ls (lv_sub hl [1, 2, 0] rfl))
      have hl : lv_has ls 3 [(0, .ref a0), (1, .int a1), (2, .int s8v.1)] := hl
      show SP _ _ (AW (KX1_weeks l D h0 hE v) s8v.2 34 ls [])
      unfold X1_weeks_L34
      refine sp_m (aw_iload_n (pc := 34) dX1_weeks_34 rfl (lv_at hl 2 rfl)) ?_
      refine sp_m (aw_bipush (v := 30) (pc := 35) dX1_weeks_35 rfl) ?_
      refine sp_if (fun c9 => ?_) (fun c9 => ?_)
      · refine sp_m (aw_icmp_gt_t (tgt := 57) (pc := 37) dX1_weeks_37 (by decide) c9) ?_
        refine sp_m (aw_bipush (v := (-2)) (pc := 57) dX1_weeks_57 rfl) ?_
        exact sp_r fun hz => aw_iret hz rfl rfl rfl (pc := 59) dX1_weeks_59
      · refine sp_m (aw_icmp_gt_f (tgt := 57) (pc := 37) dX1_weeks_37 (by decide) c9) ?_
        refine sp_m (aw_aload_n (pc := 40) dX1_weeks_40 rfl (lv_at hl 0 rfl)) ?_
        refine sp_m (aw_iload_n (pc := 41) dX1_weeks_41 rfl (lv_at hl 1 rfl)) ?_
        refine sp_m (aw_iload_n (pc := 42) dX1_weeks_42 rfl (lv_at hl 2 rfl)) ?_
        refine sp_g fun s11 => ?_
        refine sp_b fun p10 ep10 => ?_
        refine sp_m (G' := AW (KX1_weeks l D h0 hE v) p10.2 (46) ls (.int p10.1 :: [])) (fun kk => aw_callV (As := [.int a1, .int s8v.1]) (metX1_isHeld _ _ ep10) (rcv_o okX1 s11) rfl mok_X1_isHeld q1248 q1250 qs36 q116 q1251 (Nat.le_of_ble_eq_true rfl) (Nat.le_of_ble_eq_true rfl) rfl hl.1 rfl (Nat.le_of_ble_eq_true rfl) (pc := 43) dX1_weeks_43 kk) ?_
        refine sp_if (fun c12 => ?_) (fun c12 => ?_)
        · refine sp_m (aw_if_eq_t (tgt := 51) (pc := 46) dX1_weeks_46 (by decide) c12) ?_
          refine sp_m (aw_iinc (v := s8v.1 + 1) (lv' := [(2, .int (s8v.1 + 1)), (0, .ref a0), (1, .int a1)]) (pc := 51) dX1_weeks_51 hl (k := 2) rfl rfl (by decide) rfl) (sp_all fun ls hl => ?_)
          refine sp_m (aw_goto (tgt := 34) (pc := 54) dX1_weeks_54 (by decide)) ?_
          exact sp_r fun hz => hz ls (lv_sub hl [1, 2, 0] rfl)
        · refine sp_m (aw_if_eq_f (tgt := 51) (pc := 46) dX1_weeks_46 (by decide) c12) ?_
          refine sp_m (aw_iload_n (pc := 49) dX1_weeks_49 rfl (lv_at hl 2 rfl)) ?_
          exact sp_r fun hz => aw_iret hz rfl rfl rfl (pc := 50) dX1_weeks_50
    · refine sp_m (aw_if_ne_f (tgt := 32) (pc := 23) dX1_weeks_23 (by decide) (Decidable.not_not.mp c7)) ?_
      refine sp_m (aw_aload_n (pc := 26) dX1_weeks_26 rfl (lv_at hl 0 rfl)) ?_
      refine sp_m (aw_iconst (v := 5) (pc := 27) dX1_weeks_27 rfl) ?_
      refine sp_b fun p13 ep13 => ?_
      refine sp_m (G' := AW (KX1_weeks l D h0 hE v) p13.2 (31) ls (.int p13.1 :: [])) (fun kk => aw_callV (As := [.int 5]) (metX1_no _ _ ep13) (rcv_o okX1 s4) rfl mok_X1_no q459 q461 qs3 q116 q462 (Nat.le_of_ble_eq_true rfl) (Nat.le_of_ble_eq_true rfl) rfl hl.1 rfl (Nat.le_of_ble_eq_true rfl) (pc := 28) dX1_weeks_28 kk) ?_
      exact sp_r fun hz => aw_iret hz rfl rfl rfl (pc := 31) dX1_weeks_31
  · refine sp_m (aw_if_ne_f (tgt := 18) (pc := 9) dX1_weeks_9 (by decide) (Decidable.not_not.mp c5)) ?_
    refine sp_m (aw_aload_n (pc := 12) dX1_weeks_12 rfl (lv_at hl 0 rfl)) ?_
    refine sp_m (aw_iconst (v := 1) (pc := 13) dX1_weeks_13 rfl) ?_
    refine sp_b fun p14 ep14 => ?_
    refine sp_m (G' := AW (KX1_weeks l D h0 hE v) p14.2 (17) ls (.int p14.1 :: [])) (fun kk => aw_callV (As := [.int 1]) (metX1_no _ _ ep14) (rcv_o okX1 s4) rfl mok_X1_no q459 q461 qs3 q116 q462 (Nat.le_of_ble_eq_true rfl) (Nat.le_of_ble_eq_true rfl) rfl hl.1 rfl (Nat.le_of_ble_eq_true rfl) (pc := 14) dX1_weeks_14 kk) ?_
    exact sp_r fun hz => aw_iret hz rfl rfl rfl (pc := 17) dX1_weeks_17
theorem mok_X1_where : mOK yX1_where 0 := ⟨⟨by decide +kernel, by decide +kernel⟩, by decide +kernel⟩
abbrev KX1_where (l : Launch) (D : DD) (h0 : AH) (v : Int32) : KT := (l, yX1_where, cX1_where, 1, (some .int), RX1, 1, D, h0, h0, .inl (some (.int v)), false, [])
theorem metX1_where (l : Launch) (D : DD) {a0 : Nat} {h0 : AH} {v : Int32} (hr : fX1_where a0 h0 = some v) : AMet (KX1_where l D h0 v) [.ref a0] := by
  refine AMet.of (K := (KX1_where l D h0 v)) rfl ⟨_, rfl⟩ rfl rfl rfl (Nat.le_of_ble_eq_true rfl) (fun ls hl => ?_)
  have hl : lv_has ls 1 [(0, .ref a0)] := hl
  suffices hsp : SP (fX1_where a0 h0) (fun z => z = v) (AW (KX1_where l D h0 v) h0 0 ls []) from hsp _ hr rfl
  unfold fX1_where
  refine sp_m (aw_aload_n (pc := 0) dX1_where_0 rfl (lv_at hl 0 rfl)) ?_
  refine sp_g fun s1 => ?_
  refine sp_m (aw_get (k := 4) okX1 s1 (by decide) q370 (Or.inl rfl) rfl (pc := 1) dX1_where_1) ?_
  refine sp_m (aw_iconst (v := 4) (pc := 4) dX1_where_4 rfl) ?_
  refine sp_if (fun c2 => ?_) (fun c2 => ?_)
  · refine sp_m (aw_icmp_ne_t (tgt := 15) (pc := 5) dX1_where_5 (by decide) c2) ?_
    refine sp_m (aw_iconst (v := (-1)) (pc := 15) dX1_where_15 rfl) ?_
    exact sp_r fun hz => aw_iret (congrArg (fun z => (z, h0)) hz) rfl rfl rfl (pc := 16) dX1_where_16
  · refine sp_m (aw_icmp_ne_f (tgt := 15) (pc := 5) dX1_where_5 (by decide) (Decidable.not_not.mp c2)) ?_
    refine sp_m (aw_aload_n (pc := 8) dX1_where_8 rfl (lv_at hl 0 rfl)) ?_
    refine sp_m (aw_get (k := 6) okX1 s1 (by decide) q372 (Or.inl rfl) rfl (pc := 9) dX1_where_9) ?_
    refine sp_m (aw_goto (tgt := 16) (pc := 12) dX1_where_12 (by decide)) ?_
    exact sp_r fun hz => aw_iret (congrArg (fun z => (z, h0)) hz) rfl rfl rfl (pc := 16) dX1_where_16
theorem mok_X1_won : mOK yX1_won 2 := ⟨⟨by decide +kernel, by decide +kernel⟩, by decide +kernel⟩
abbrev KX1_won (l : Launch) (D : DD) (h0 hE : AH) (v : Int32) : KT := (l, yX1_won, cX1_won, 4, (some .int), RX1, 7, D, h0, hE, .inl (some (.int v)), false, [])
theorem metX1_won (l : Launch) (D : DD) {a0 : Nat} {a1 : Int32} {a2 : Int32} {h0 : AH} {hE : AH} {v : Int32} (hr : fX1_won a0 a1 a2 h0 = some (v, hE)) : AMet (KX1_won l D h0 hE v) [.ref a0, .int a1, .int a2] := by
  refine AMet.of (K := (KX1_won l D h0 hE v)) rfl ⟨_, rfl⟩ rfl rfl rfl (Nat.le_of_ble_eq_true rfl) (fun ls hl => ?_)
  have hl : lv_has ls 4 [(0, .ref a0), (1, .int a1), (2, .int a2)] := hl
  suffices hsp : SP (fX1_won a0 a1 a2 h0) (fun z => z = (v, hE)) (AW (KX1_won l D h0 hE v) h0 0 ls []) from hsp _ hr rfl
  unfold fX1_won
  refine sp_m (aw_aload_n (pc := 0) dX1_won_0 rfl (lv_at hl 0 rfl)) ?_
  refine sp_g fun s2 => ?_
  refine sp_b fun p1 ep1 => ?_
  refine sp_m (G' := AW (KX1_won l D h0 hE v) p1 (4) ls ([])) (fun kk => aw_callV (As := []) (metX1_anew _ _ ep1) (rcv_o okX1 s2) rfl mok_X1_anew q452 q454 qs2 q116 q455 (Nat.le_of_ble_eq_true rfl) (Nat.le_of_ble_eq_true rfl) rfl hl.1 rfl (Nat.le_of_ble_eq_true rfl) (pc := 1) dX1_won_1 kk) ?_
  refine sp_m (aw_aload_n (pc := 4) dX1_won_4 rfl (lv_at hl 0 rfl)) ?_
  refine sp_m (aw_aload_n (pc := 5) dX1_won_5 rfl (lv_at hl 0 rfl)) ?_
  refine sp_g fun s3 => ?_
  refine sp_o (fun ex4 => ?_) (fun x4 ex4 => ?_)
  · refine sp_m (aw_get (k := 3) okX1 s3 (by decide) q369 (Or.inl rfl) (congrArg va_rf ex4) (pc := 6) dX1_won_6) ?_
    refine sp_m (aw_ifnullN (tgt := 16) (pc := 9) dX1_won_9 (by decide)) ?_
    refine sp_m (aw_iconst (v := 0) (pc := 16) dX1_won_16 rfl) ?_
    refine sp_m (aw_iload_n (pc := 17) dX1_won_17 rfl (lv_at hl 1 rfl)) ?_
    refine sp_m (aw_iload_n (pc := 18) dX1_won_18 rfl (lv_at hl 2 rfl)) ?_
    refine sp_b fun p10 ep10 => ?_
    refine sp_m (G' := AW (KX1_won l D h0 hE v) p10.2 (22) ls (.int p10.1 :: [])) (fun kk => aw_callV (As := [.int 0, .int a1, .int a2]) (metX1_battleWhy _ _ ep10) (rcv_o okX1 s3) rfl mok_X1_battleWhy q1373 q1375 qs45 q116 q1376 (Nat.le_of_ble_eq_true rfl) (Nat.le_of_ble_eq_true rfl) rfl hl.1 rfl (Nat.le_of_ble_eq_true rfl) (pc := 19) dX1_won_19 kk) ?_
    refine sp_m (aw_istore_n (lv' := [(3, .int p10.1), (0, .ref a0), (1, .int a1), (2, .int a2)]) (pc := 22) dX1_won_22 rfl hl (by decide) rfl) (sp_all fun ls hl => ?_)
    refine sp_m (aw_iload_n (pc := 23) dX1_won_23 rfl (lv_at hl 0 rfl)) ?_
    refine sp_if (fun c11 => ?_) (fun c11 => ?_)
    · refine sp_m (aw_if_eq_t (tgt := 35) (pc := 24) dX1_won_24 (by decide) c11) ?_
      refine sp_m (aw_aload_n (pc := 35) dX1_won_35 rfl (lv_at hl 1 rfl)) ?_
      refine sp_g fun s12 => ?_
      refine sp_m (aw_get (k := 22) okX1 s12 (by decide) q388 (Or.inl rfl) rfl (pc := 36) dX1_won_36) ?_
      exact sp_r fun hz => aw_iret hz rfl rfl rfl (pc := 39) dX1_won_39
    · refine sp_m (aw_if_eq_f (tgt := 35) (pc := 24) dX1_won_24 (by decide) c11) ?_
      refine sp_m (aw_aload_n (pc := 27) dX1_won_27 rfl (lv_at hl 1 rfl)) ?_
      refine sp_m (aw_iload_n (pc := 28) dX1_won_28 rfl (lv_at hl 0 rfl)) ?_
      refine sp_g fun s14 => ?_
      refine sp_b fun p13 ep13 => ?_
      refine sp_m (G' := AW (KX1_won l D h0 hE v) p13.2 (32) ls (.int p13.1 :: [])) (fun kk => aw_callV (As := [.int p10.1]) (metX1_no _ _ ep13) (rcv_o okX1 s14) rfl mok_X1_no q459 q461 qs3 q116 q462 (Nat.le_of_ble_eq_true rfl) (Nat.le_of_ble_eq_true rfl) rfl hl.1 rfl (Nat.le_of_ble_eq_true rfl) (pc := 29) dX1_won_29 kk) ?_
      refine sp_m (aw_goto (tgt := 39) (pc := 32) dX1_won_32 (by decide)) ?_
      exact sp_r fun hz => aw_iret hz rfl rfl rfl (pc := 39) dX1_won_39
  · refine sp_m (aw_get (k := 3) okX1 s3 (by decide) q369 (Or.inl rfl) (congrArg va_rf ex4) (pc := 6) dX1_won_6) ?_
    refine sp_m (aw_ifnull (pc := 9) dX1_won_9) ?_
    refine sp_m (aw_iconst (v := 1) (pc := 12) dX1_won_12 rfl) ?_
    refine sp_m (aw_goto (tgt := 17) (pc := 13) dX1_won_13 (by decide)) ?_
    refine sp_m (aw_iload_n (pc := 17) dX1_won_17 rfl (lv_at hl 1 rfl)) ?_
    refine sp_m (aw_iload_n (pc := 18) dX1_won_18 rfl (lv_at hl 2 rfl)) ?_
    refine sp_b fun p5 ep5 => ?_
    refine sp_m (G' := AW (KX1_won l D h0 hE v) p5.2 (22) ls (.int p5.1 :: [])) (fun kk => aw_callV (As := [.int 1, .int a1, .int a2]) (metX1_battleWhy _ _ ep5) (rcv_o okX1 s3) rfl mok_X1_battleWhy q1373 q1375 qs45 q116 q1376 (Nat.le_of_ble_eq_true rfl) (Nat.le_of_ble_eq_true rfl) rfl hl.1 rfl (Nat.le_of_ble_eq_true rfl) (pc := 19) dX1_won_19 kk) ?_
    refine sp_m (aw_istore_n (lv' := [(3, .int p5.1), (0, .ref a0), (1, .int a1), (2, .int a2)]) (pc := 22) dX1_won_22 rfl hl (by decide) rfl) (sp_all fun ls hl => ?_)
    refine sp_m (aw_iload_n (pc := 23) dX1_won_23 rfl (lv_at hl 0 rfl)) ?_
    refine sp_if (fun c6 => ?_) (fun c6 => ?_)
    · refine sp_m (aw_if_eq_t (tgt := 35) (pc := 24) dX1_won_24 (by decide) c6) ?_
      refine sp_m (aw_aload_n (pc := 35) dX1_won_35 rfl (lv_at hl 1 rfl)) ?_
      refine sp_g fun s7 => ?_
      refine sp_m (aw_get (k := 22) okX1 s7 (by decide) q388 (Or.inl rfl) rfl (pc := 36) dX1_won_36) ?_
      exact sp_r fun hz => aw_iret hz rfl rfl rfl (pc := 39) dX1_won_39
    · refine sp_m (aw_if_eq_f (tgt := 35) (pc := 24) dX1_won_24 (by decide) c6) ?_
      refine sp_m (aw_aload_n (pc := 27) dX1_won_27 rfl (lv_at hl 1 rfl)) ?_
      refine sp_m (aw_iload_n (pc := 28) dX1_won_28 rfl (lv_at hl 0 rfl)) ?_
      refine sp_g fun s9 => ?_
      refine sp_b fun p8 ep8 => ?_
      refine sp_m (G' := AW (KX1_won l D h0 hE v) p8.2 (32) ls (.int p8.1 :: [])) (fun kk => aw_callV (As := [.int p5.1]) (metX1_no _ _ ep8) (rcv_o okX1 s9) rfl mok_X1_no q459 q461 qs3 q116 q462 (Nat.le_of_ble_eq_true rfl) (Nat.le_of_ble_eq_true rfl) rfl hl.1 rfl (Nat.le_of_ble_eq_true rfl) (pc := 29) dX1_won_29 kk) ?_
      refine sp_m (aw_goto (tgt := 39) (pc := 32) dX1_won_32 (by decide)) ?_
      exact sp_r fun hz => aw_iret hz rfl rfl rfl (pc := 39) dX1_won_39
theorem mok_X1_worst : mOK yX1_worst 0 := ⟨⟨by decide +kernel, by decide +kernel⟩, by decide +kernel⟩
abbrev KX1_worst (l : Launch) (D : DD) (h0 hE : AH) (v : Int32) : KT := (l, yX1_worst, cX1_worst, 7, (some .int), RX1, 6, D, h0, hE, .inl (some (.int v)), false, [])
theorem metX1_worst (l : Launch) (D : DD) {a0 : Nat} {h0 : AH} {hE : AH} {v : Int32} (hr : fX1_worst a0 h0 = some (v, hE)) : AMet (KX1_worst l D h0 hE v) [.ref a0] := by
  refine AMet.of (K := (KX1_worst l D h0 hE v)) rfl ⟨_, rfl⟩ rfl rfl rfl (Nat.le_of_ble_eq_true rfl) (fun ls hl => ?_)
  have hl : lv_has ls 7 [(0, .ref a0)] := hl
  suffices hsp : SP (fX1_worst a0 h0) (fun z => z = (v, hE)) (AW (KX1_worst l D h0 hE v) h0 0 ls []) from hsp _ hr rfl
  unfold fX1_worst
  refine sp_m (aw_aload_n (pc := 0) dX1_worst_0 rfl (lv_at hl 0 rfl)) ?_
  refine sp_g fun s2 => ?_
  refine sp_b fun p1 ep1 => ?_
  refine sp_m (G' := AW (KX1_worst l D h0 hE v) p1 (4) ls ([])) (fun kk => aw_callV (As := []) (metX1_anew _ _ ep1) (rcv_o okX1 s2) rfl mok_X1_anew q452 q454 qs2 q116 q455 (Nat.le_of_ble_eq_true rfl) (Nat.le_of_ble_eq_true rfl) rfl hl.1 rfl (Nat.le_of_ble_eq_true rfl) (pc := 1) dX1_worst_1 kk) ?_
  refine sp_m (aw_aload_n (pc := 4) dX1_worst_4 rfl (lv_at hl 0 rfl)) ?_
  refine sp_g fun s3 => ?_
  refine sp_o (fun ex4 => ?_) (fun x4 ex4 => ?_)
  · refine sp_m (aw_get (k := 3) okX1 s3 (by decide) q369 (Or.inl rfl) (congrArg va_rf ex4) (pc := 5) dX1_worst_5) ?_
    refine sp_m (aw_ifnonnullN (pc := 8) dX1_worst_8) ?_
    refine sp_m (aw_aload_n (pc := 11) dX1_worst_11 rfl (lv_at hl 0 rfl)) ?_
    refine sp_m (aw_iconst (v := 1) (pc := 12) dX1_worst_12 rfl) ?_
    refine sp_b fun p20 ep20 => ?_
    refine sp_m (G' := AW (KX1_worst l D h0 hE v) p20.2 (16) ls (.int p20.1 :: [])) (fun kk => aw_callV (As := [.int 1]) (metX1_no _ _ ep20) (rcv_o okX1 s3) rfl mok_X1_no q459 q461 qs3 q116 q462 (Nat.le_of_ble_eq_true rfl) (Nat.le_of_ble_eq_true rfl) rfl hl.1 rfl (Nat.le_of_ble_eq_true rfl) (pc := 13) dX1_worst_13 kk) ?_
    exact sp_r fun hz => aw_iret hz rfl rfl rfl (pc := 16) dX1_worst_16
  · refine sp_m (aw_get (k := 3) okX1 s3 (by decide) q369 (Or.inl rfl) (congrArg va_rf ex4) (pc := 5) dX1_worst_5) ?_
    refine sp_m (aw_ifnonnull (tgt := 17) (pc := 8) dX1_worst_8 (by decide)) ?_
    refine sp_m (aw_bipush (v := (-2)) (pc := 17) dX1_worst_17 rfl) ?_
    refine sp_m (aw_istore_n (lv' := [(1, .int (-2)), (0, .ref a0)]) (pc := 19) dX1_worst_19 rfl hl (by decide) rfl) (sp_all fun ls hl => ?_)
    refine sp_m (aw_lconst (v := 0) (pc := 20) dX1_worst_20 rfl) ?_
    refine sp_m (aw_lstore_n (lv' := [(2, .long 0), (1, .int (-2)), (0, .ref a0)]) (pc := 21) dX1_worst_21 rfl hl (by decide) rfl) (sp_all fun ls hl => ?_)
    refine sp_m (aw_iconst (v := 0) (pc := 22) dX1_worst_22 rfl) ?_
    refine sp_m (aw_istore (lv' := [(4, .int 0), (2, .long 0), (1, .int (-2)), (0, .ref a0)]) (pc := 23) dX1_worst_23 hl (by decide) rfl) (sp_all fun ls hl => ?_)
    let P5 : Int32 × Int64 × Int32 → Prop := aLP (KX1_worst l D h0 hE v) 7 25 (fun s5v : Int32 × Int64 × Int32 => [(0, .ref a0), (1, .int s5v.1), (2, .long s5v.2.1), (4, .int s5v.2.2)]) (fun s5v => p1)
    let E5 : Int32 → Prop := aLP (KX1_worst l D h0 hE v) 7 80 (fun r5v : Int32 => [(1, .int r5v)]) (fun r5v => p1)
    refine sp_bl (P := P5) (E := E5) (fun s5v => sp_all fun ls hl => ?_) (fun k => k ls (lv_sub hl [3, 2, 1, 0] rfl)) (fun r5v => sp_all fun ls hl => ?_)
    · have hl : lv_has ls 7 [(0, .ref a0), (1, .int s5v.1), (2, .long s5v.2.1), (4, .int s5v.2.2)] := hl
      show SP _ _ (AW (KX1_worst l D h0 hE v) p1 25 ls [])
      unfold X1_worst_L25
      refine sp_m (aw_iload (pc := 25) dX1_worst_25 (lv_at hl 3 rfl)) ?_
      refine sp_m (aw_aload_n (pc := 27) dX1_worst_27 rfl (lv_at hl 0 rfl)) ?_
      refine sp_b fun x6 ex6 => ?_
      refine sp_m (aw_get (k := 3) okX1 s3 (by decide) q369 (Or.inl rfl) (congrArg va_rf ex6) (pc := 28) dX1_worst_28) ?_
      refine sp_g fun s7 => ?_
      refine sp_m (aw_get (k := 8) okX8 s7 (by decide) q505 (Or.inl rfl) rfl (pc := 31) dX1_worst_31) ?_
      refine sp_if (fun c8 => ?_) (fun c8 => ?_)
      · refine sp_m (aw_icmp_ge_t (tgt := 80) (pc := 34) dX1_worst_34 (by decide) c8) ?_
        exact sp_r fun hz => hz ls (lv_sub hl [1] rfl)
      · refine sp_m (aw_icmp_ge_f (tgt := 80) (pc := 34) dX1_worst_34 (by decide) c8) ?_
        refine sp_m (aw_aload_n (pc := 37) dX1_worst_37 rfl (lv_at hl 0 rfl)) ?_
        refine sp_b fun x9 ex9 => ?_
        refine sp_m (aw_get (k := 9) okX1 s3 (by decide) q375 (Or.inl rfl) (congrArg va_rf ex9) (pc := 38) dX1_worst_38) ?_
        refine sp_m (aw_iload (pc := 41) dX1_worst_41 (lv_at hl 3 rfl)) ?_
        refine sp_m (aw_aload_n (pc := 43) dX1_worst_43 rfl (lv_at hl 0 rfl)) ?_
        refine sp_b fun x10 ex10 => ?_
        refine sp_m (aw_get (k := 9) okX1 s3 (by decide) q375 (Or.inl rfl) (congrArg va_rf ex10) (pc := 44) dX1_worst_44) ?_
        refine sp_g fun s11 => ?_
        refine sp_b fun x12 ex12 => ?_
        refine sp_m (aw_get (k := 0) okX4 s11 (by decide) q274 (Or.inl rfl) (congrArg va_rf ex12) (pc := 47) dX1_worst_47) ?_
        refine sp_m (aw_iload (pc := 50) dX1_worst_50 (lv_at hl 3 rfl)) ?_
        refine sp_g fun s13 => ?_
        refine sp_g fun i14 => ?_
        refine sp_m (aw_iald s13 i14 (pc := 52) dX1_worst_52) ?_
        refine sp_g fun s16 => ?_
        refine sp_b fun p15 ep15 => ?_
        refine sp_m (G' := AW (KX1_worst l D h0 hE v) p1 (56) ls (.long p15 :: [])) (fun kk => aw_callV (As := [.int s5v.2.2, .int (gI p1 x12 (ix s5v.2.2))]) (metX4_meanOwn _ _ ep15) (rcv_o okX4 s16) rfl mok_X4_meanOwn q1123 q1124 q1125 q122 q1126 (Nat.le_of_ble_eq_true rfl) (Nat.le_of_ble_eq_true rfl) rfl hl.1 rfl (Nat.le_of_ble_eq_true rfl) (pc := 53) dX1_worst_53 kk) ?_
        refine sp_m (aw_lstore (lv' := [(5, .long p15), (0, .ref a0), (1, .int s5v.1), (2, .long s5v.2.1), (4, .int s5v.2.2)]) (pc := 56) dX1_worst_56 hl (by decide) rfl) (sp_all fun ls hl => ?_)
        refine sp_m (aw_lload (pc := 58) dX1_worst_58 (lv_at hl 0 rfl)) ?_
        refine sp_m (aw_lload_n (pc := 60) dX1_worst_60 rfl (lv_at hl 3 rfl)) ?_
        refine sp_m (aw_lcmp (pc := 61) dX1_worst_61) ?_
        have hj74_1 : ∀ j17 : Int32, ∀ j18 : Int64, ∀ ls : Array Slot, lv_has ls 7 [(0, .ref a0), (1, .int j17), (2, .long j18), (4, .int s5v.2.2)] → SP (X1_worst_j74 s5v j17 j18) (ZL P5 E5) (AW (KX1_worst l D h0 hE v) p1 74 ls ([])) := by
          intro j17 j18 ls hl
          unfold X1_worst_j74
          refine sp_m (aw_iinc (v := s5v.2.2 + 1) (lv' := [(4, .int (s5v.2.2 + 1)), (0, .ref a0), (1, .int j17), (2, .long j18)]) (pc := 74) dX1_worst_74 hl (k := 3) rfl rfl (by decide) rfl) (sp_all fun ls hl => ?_)
          refine sp_m (aw_goto (tgt := 25) (pc := 77) dX1_worst_77 (by decide)) ?_
          exact sp_r fun hz => hz ls (lv_sub hl [1, 2, 3, 0] rfl)
        refine sp_if (fun c19 => ?_) (fun c19 => ?_)
        · refine sp_m (aw_if_gt_t (tgt := 68) (pc := 62) dX1_worst_62 (by decide) ((lg_cmp_gt _ _).mpr c19)) ?_
          refine sp_m (aw_iload (pc := 68) dX1_worst_68 (lv_at hl 4 rfl)) ?_
          refine sp_m (aw_istore_n (lv' := [(1, .int s5v.2.2), (5, .long p15), (0, .ref a0), (2, .long s5v.2.1), (4, .int s5v.2.2)]) (pc := 70) dX1_worst_70 rfl hl (by decide) rfl) (sp_all fun ls hl => ?_)
          refine sp_m (aw_lload (pc := 71) dX1_worst_71 (lv_at hl 1 rfl)) ?_
          refine sp_m (aw_lstore_n (lv' := [(2, .long p15), (1, .int s5v.2.2), (5, .long p15), (0, .ref a0), (4, .int s5v.2.2)]) (pc := 73) dX1_worst_73 rfl hl (by decide) rfl) (sp_all fun ls hl => ?_)
          exact hj74_1 s5v.2.2 p15 ls (lv_sub hl [3, 1, 0, 4] rfl)
        · refine sp_m (aw_if_gt_f (tgt := 68) (pc := 62) dX1_worst_62 (by decide) (fun z => c19 ((lg_cmp_gt _ _).mp z))) ?_
          refine sp_m (aw_goto (tgt := 74) (pc := 65) dX1_worst_65 (by decide)) ?_
          exact hj74_1 s5v.1 s5v.2.1 ls (lv_sub hl [1, 2, 3, 4] rfl)
    · have hl : lv_has ls 7 [(1, .int r5v)] := hl
      show SP _ _ (AW (KX1_worst l D h0 hE v) p1 80 ls [])
      refine sp_m (aw_iload_n (pc := 80) dX1_worst_80 rfl (lv_at hl 0 rfl)) ?_
      exact sp_r fun hz => aw_iret hz rfl rfl rfl (pc := 81) dX1_worst_81
theorem mok_X1_worstPass : mOK yX1_worstPass 3 := ⟨⟨by decide +kernel, by decide +kernel⟩, by decide +kernel⟩
abbrev KX1_worstPass (l : Launch) (D : DD) (h0 hE : AH) (v : Int32) : KT := (l, yX1_worstPass, cX1_worstPass, 10, (some .int), RX1, 13, D, h0, hE, .inl (some (.int v)), false, [])
theorem metX1_worstPass (l : Launch) (D : DD) {a0 : Nat} {a1 : Int32} {a2 : Int32} {a3 : Int32} {h0 : AH} {hE : AH} {v : Int32} (hr : fX1_worstPass a0 a1 a2 a3 h0 = some (v, hE)) : AMet (KX1_worstPass l D h0 hE v) [.ref a0, .int a1, .int a2, .int a3] := by
  refine AMet.of (K := (KX1_worstPass l D h0 hE v)) rfl ⟨_, rfl⟩ rfl rfl rfl (Nat.le_of_ble_eq_true rfl) (fun ls hl => ?_)
  have hl : lv_has ls 10 [(0, .ref a0), (1, .int a1), (2, .int a2), (3, .int a3)] := hl
  suffices hsp : SP (fX1_worstPass a0 a1 a2 a3 h0) (fun z => z = (v, hE)) (AW (KX1_worstPass l D h0 hE v) h0 0 ls []) from hsp _ hr rfl
  unfold fX1_worstPass
  refine sp_m (aw_aload_n (pc := 0) dX1_worstPass_0 rfl (lv_at hl 0 rfl)) ?_
  refine sp_g fun s2 => ?_
  refine sp_b fun p1 ep1 => ?_
  refine sp_m (G' := AW (KX1_worstPass l D h0 hE v) p1 (4) ls ([])) (fun kk => aw_callV (As := []) (metX1_anew _ _ ep1) (rcv_o okX1 s2) rfl mok_X1_anew q452 q454 qs2 q116 q455 (Nat.le_of_ble_eq_true rfl) (Nat.le_of_ble_eq_true rfl) rfl hl.1 rfl (Nat.le_of_ble_eq_true rfl) (pc := 1) dX1_worstPass_1 kk) ?_
  refine sp_m (aw_aload_n (pc := 4) dX1_worstPass_4 rfl (lv_at hl 0 rfl)) ?_
  refine sp_m (aw_iload_n (pc := 5) dX1_worstPass_5 rfl (lv_at hl 1 rfl)) ?_
  refine sp_m (aw_iload_n (pc := 6) dX1_worstPass_6 rfl (lv_at hl 2 rfl)) ?_
  refine sp_m (aw_iload_n (pc := 7) dX1_worstPass_7 rfl (lv_at hl 3 rfl)) ?_
  refine sp_g fun s4 => ?_
  refine sp_b fun p3 ep3 => ?_
  refine sp_m (G' := AW (KX1_worstPass l D h0 hE v) p1 (11) ls (.int p3 :: [])) (fun kk => aw_callV (As := [.int a1, .int a2, .int a3]) (metX1_marchWhy _ _ ep3) (rcv_o okX1 s4) rfl mok_X1_marchWhy q1280 q1282 qs40 q116 q1283 (Nat.le_of_ble_eq_true rfl) (Nat.le_of_ble_eq_true rfl) rfl hl.1 rfl (Nat.le_of_ble_eq_true rfl) (pc := 8) dX1_worstPass_8 kk) ?_
  refine sp_m (aw_istore (lv' := [(4, .int p3), (0, .ref a0), (1, .int a1), (2, .int a2), (3, .int a3)]) (pc := 11) dX1_worstPass_11 hl (by decide) rfl) (sp_all fun ls hl => ?_)
  refine sp_m (aw_iload (pc := 13) dX1_worstPass_13 (lv_at hl 0 rfl)) ?_
  refine sp_if (fun c5 => ?_) (fun c5 => ?_)
  · refine sp_m (aw_if_eq_t (tgt := 25) (pc := 15) dX1_worstPass_15 (by decide) c5) ?_
    refine sp_m (aw_aload_n (pc := 25) dX1_worstPass_25 rfl (lv_at hl 1 rfl)) ?_
    refine sp_b fun x6 ex6 => ?_
    refine sp_m (aw_get (k := 13) okX1 s4 (by decide) q379 (Or.inl rfl) (congrArg va_rf ex6) (pc := 26) dX1_worstPass_26) ?_
    refine sp_m (aw_aload_n (pc := 29) dX1_worstPass_29 rfl (lv_at hl 1 rfl)) ?_
    refine sp_b fun x7 ex7 => ?_
    refine sp_m (aw_get (k := 3) okX1 s4 (by decide) q369 (Or.inl rfl) (congrArg va_rf ex7) (pc := 30) dX1_worstPass_30) ?_
    refine sp_m (aw_iload_n (pc := 33) dX1_worstPass_33 rfl (lv_at hl 2 rfl)) ?_
    refine sp_m (aw_iload_n (pc := 34) dX1_worstPass_34 rfl (lv_at hl 3 rfl)) ?_
    refine sp_m (aw_iload_n (pc := 35) dX1_worstPass_35 rfl (lv_at hl 4 rfl)) ?_
    refine sp_g fun s9 => ?_
    refine sp_b fun p8 ep8 => ?_
    refine sp_m (G' := AW (KX1_worstPass l D h0 hE v) p8.2 (39) ls (.int p8.1 :: [])) (fun kk => aw_callV (As := [.ref x7, .int a1, .int a2, .int a3]) (metX6_seek _ _ ep8) (rcv_o okX6 s9) rfl mok_X6_seek q1288 q1289 q1290 q124 q1291 (Nat.le_of_ble_eq_true rfl) (Nat.le_of_ble_eq_true rfl) rfl hl.1 rfl (Nat.le_of_ble_eq_true rfl) (pc := 36) dX1_worstPass_36 kk) ?_
    refine sp_m (aw_pop (pc := 39) dX1_worstPass_39 rfl) ?_
    refine sp_m (aw_bipush (v := (-2)) (pc := 40) dX1_worstPass_40 rfl) ?_
    refine sp_m (aw_istore (lv' := [(5, .int (-2)), (4, .int p3), (0, .ref a0), (1, .int a1), (2, .int a2), (3, .int a3)]) (pc := 42) dX1_worstPass_42 hl (by decide) rfl) (sp_all fun ls hl => ?_)
    refine sp_m (aw_iconst (v := 0) (pc := 44) dX1_worstPass_44 rfl) ?_
    refine sp_m (aw_istore (lv' := [(6, .int 0), (5, .int (-2)), (4, .int p3), (0, .ref a0), (1, .int a1), (2, .int a2), (3, .int a3)]) (pc := 45) dX1_worstPass_45 hl (by decide) rfl) (sp_all fun ls hl => ?_)
    refine sp_m (aw_iload_n (pc := 47) dX1_worstPass_47 rfl (lv_at hl 6 rfl)) ?_
    refine sp_m (aw_istore (lv' := [(7, .int a3), (6, .int 0), (5, .int (-2)), (4, .int p3), (0, .ref a0), (1, .int a1), (2, .int a2), (3, .int a3)]) (pc := 48) dX1_worstPass_48 hl (by decide) rfl) (sp_all fun ls hl => ?_)
    refine sp_m (aw_iconst (v := 1) (pc := 50) dX1_worstPass_50 rfl) ?_
    refine sp_m (aw_istore (lv' := [(8, .int 1), (7, .int a3), (6, .int 0), (5, .int (-2)), (4, .int p3), (0, .ref a0), (1, .int a1), (2, .int a2), (3, .int a3)]) (pc := 51) dX1_worstPass_51 hl (by decide) rfl) (sp_all fun ls hl => ?_)
    let P10 : Int32 × Int32 × Int32 × Int32 → Prop := aLP (KX1_worstPass l D h0 hE v) 10 53 (fun s10v : Int32 × Int32 × Int32 × Int32 => [(0, .ref a0), (5, .int s10v.1), (6, .int s10v.2.1), (7, .int s10v.2.2.1), (8, .int s10v.2.2.2)]) (fun s10v => p8.2)
    let E10 : Int32 → Prop := aLP (KX1_worstPass l D h0 hE v) 10 149 (fun r10v : Int32 => [(5, .int r10v)]) (fun r10v => p8.2)
    refine sp_bl (P := P10) (E := E10) (fun s10v => sp_all fun ls hl => ?_) (fun k => k ls (lv_sub hl [5, 3, 2, 1, 0] rfl)) (fun r10v => sp_all fun ls hl => ?_)
    · have hl : lv_has ls 10 [(0, .ref a0), (5, .int s10v.1), (6, .int s10v.2.1), (7, .int s10v.2.2.1), (8, .int s10v.2.2.2)] := hl
      show SP _ _ (AW (KX1_worstPass l D h0 hE v) p8.2 53 ls [])
      unfold X1_worstPass_L53
      refine sp_m (aw_iload (pc := 53) dX1_worstPass_53 (lv_at hl 4 rfl)) ?_
      refine sp_m (aw_aload_n (pc := 55) dX1_worstPass_55 rfl (lv_at hl 0 rfl)) ?_
      refine sp_g fun s11 => ?_
      refine sp_b fun x12 ex12 => ?_
      refine sp_m (aw_get (k := 13) okX1 s11 (by decide) q379 (Or.inl rfl) (congrArg va_rf ex12) (pc := 56) dX1_worstPass_56) ?_
      refine sp_g fun s14 => ?_
      refine sp_b fun p13 ep13 => ?_
      refine sp_m (G' := AW (KX1_worstPass l D h0 hE v) p8.2 (62) ls (.int p13 :: .int s10v.2.2.2 :: [])) (fun kk => aw_callV (As := []) (metX6_size _ _ ep13) (rcv_o okX6 s14) rfl mok_X6_size q1308 q1309 q1310 q124 q1311 (Nat.le_of_ble_eq_true rfl) (Nat.le_of_ble_eq_true rfl) rfl hl.1 rfl (Nat.le_of_ble_eq_true rfl) (pc := 59) dX1_worstPass_59 kk) ?_
      refine sp_if (fun c15 => ?_) (fun c15 => ?_)
      · refine sp_m (aw_icmp_ge_t (tgt := 149) (pc := 62) dX1_worstPass_62 (by decide) c15) ?_
        exact sp_r fun hz => hz ls (lv_sub hl [1] rfl)
      · refine sp_m (aw_icmp_ge_f (tgt := 149) (pc := 62) dX1_worstPass_62 (by decide) c15) ?_
        refine sp_m (aw_aload_n (pc := 65) dX1_worstPass_65 rfl (lv_at hl 0 rfl)) ?_
        refine sp_b fun x16 ex16 => ?_
        refine sp_m (aw_get (k := 3) okX1 s11 (by decide) q369 (Or.inl rfl) (congrArg va_rf ex16) (pc := 66) dX1_worstPass_66) ?_
        refine sp_m (aw_aload_n (pc := 69) dX1_worstPass_69 rfl (lv_at hl 0 rfl)) ?_
        refine sp_b fun x17 ex17 => ?_
        refine sp_m (aw_get (k := 13) okX1 s11 (by decide) q379 (Or.inl rfl) (congrArg va_rf ex17) (pc := 70) dX1_worstPass_70) ?_
        refine sp_m (aw_iload (pc := 73) dX1_worstPass_73 (lv_at hl 4 rfl)) ?_
        refine sp_m (aw_iconst (v := 1) (pc := 75) dX1_worstPass_75 rfl) ?_
        refine sp_m (aw_isub (pc := 76) dX1_worstPass_76) ?_
        refine sp_g fun s19 => ?_
        refine sp_b fun p18 ep18 => ?_
        refine sp_m (G' := AW (KX1_worstPass l D h0 hE v) p8.2 (80) ls (.int p18 :: .ref x16 :: [])) (fun kk => aw_callV (As := [.int (s10v.2.2.2 - 1)]) (metX6_at _ _ ep18) (rcv_o okX6 s19) rfl mok_X6_at q1312 q1313 q1314 q124 q1315 (Nat.le_of_ble_eq_true rfl) (Nat.le_of_ble_eq_true rfl) rfl hl.1 rfl (Nat.le_of_ble_eq_true rfl) (pc := 77) dX1_worstPass_77 kk) ?_
        refine sp_m (aw_aload_n (pc := 80) dX1_worstPass_80 rfl (lv_at hl 0 rfl)) ?_
        refine sp_b fun x20 ex20 => ?_
        refine sp_m (aw_get (k := 13) okX1 s11 (by decide) q379 (Or.inl rfl) (congrArg va_rf ex20) (pc := 81) dX1_worstPass_81) ?_
        refine sp_m (aw_iload (pc := 84) dX1_worstPass_84 (lv_at hl 4 rfl)) ?_
        refine sp_g fun s22 => ?_
        refine sp_b fun p21 ep21 => ?_
        refine sp_m (G' := AW (KX1_worstPass l D h0 hE v) p8.2 (89) ls (.int p21 :: .int p18 :: .ref x16 :: [])) (fun kk => aw_callV (As := [.int s10v.2.2.2]) (metX6_at _ _ ep21) (rcv_o okX6 s22) rfl mok_X6_at q1312 q1313 q1314 q124 q1315 (Nat.le_of_ble_eq_true rfl) (Nat.le_of_ble_eq_true rfl) rfl hl.1 rfl (Nat.le_of_ble_eq_true rfl) (pc := 86) dX1_worstPass_86 kk) ?_
        refine sp_m (aw_iload (pc := 89) dX1_worstPass_89 (lv_at hl 3 rfl)) ?_
        refine sp_g fun s24 => ?_
        refine sp_b fun p23 ep23 => ?_
        refine sp_m (G' := AW (KX1_worstPass l D h0 hE v) p8.2 (94) ls (.int p23 :: [])) (fun kk => aw_callV (As := [.int p18, .int p21, .int s10v.2.2.1]) (metX8_lost _ _ ep23) (rcv_o okX8 s24) rfl mok_X8_lost q1324 q1300 q1301 q126 q1302 (Nat.le_of_ble_eq_true rfl) (Nat.le_of_ble_eq_true rfl) rfl hl.1 rfl (Nat.le_of_ble_eq_true rfl) (pc := 91) dX1_worstPass_91 kk) ?_
        refine sp_m (aw_istore (lv' := [(9, .int p23), (0, .ref a0), (5, .int s10v.1), (6, .int s10v.2.1), (7, .int s10v.2.2.1), (8, .int s10v.2.2.2)]) (pc := 94) dX1_worstPass_94 hl (by decide) rfl) (sp_all fun ls hl => ?_)
        refine sp_m (aw_iload (pc := 96) dX1_worstPass_96 (lv_at hl 4 rfl)) ?_
        refine sp_m (aw_iload (pc := 98) dX1_worstPass_98 (lv_at hl 0 rfl)) ?_
        refine sp_m (aw_isub (pc := 100) dX1_worstPass_100) ?_
        refine sp_m (aw_istore (lv' := [(7, .int (s10v.2.2.1 - p23)), (9, .int p23), (0, .ref a0), (5, .int s10v.1), (6, .int s10v.2.1), (8, .int s10v.2.2.2)]) (pc := 101) dX1_worstPass_101 hl (by decide) rfl) (sp_all fun ls hl => ?_)
        refine sp_m (aw_iload (pc := 103) dX1_worstPass_103 (lv_at hl 1 rfl)) ?_
        refine sp_m (aw_iload (pc := 105) dX1_worstPass_105 (lv_at hl 4 rfl)) ?_
        have hj143_1 : ∀ j25 : Int32, ∀ j26 : Int32, ∀ ls : Array Slot, lv_has ls 10 [(0, .ref a0), (5, .int j25), (6, .int j26), (7, .int (s10v.2.2.1 - p23)), (8, .int s10v.2.2.2)] → SP (X1_worstPass_j143 s10v p23 j25 j26) (ZL P10 E10) (AW (KX1_worstPass l D h0 hE v) p8.2 143 ls ([])) := by
          intro j25 j26 ls hl
          unfold X1_worstPass_j143
          refine sp_m (aw_iinc (v := s10v.2.2.2 + 1) (lv' := [(8, .int (s10v.2.2.2 + 1)), (0, .ref a0), (5, .int j25), (6, .int j26), (7, .int (s10v.2.2.1 - p23))]) (pc := 143) dX1_worstPass_143 hl (k := 4) rfl rfl (by decide) rfl) (sp_all fun ls hl => ?_)
          refine sp_m (aw_goto (tgt := 53) (pc := 146) dX1_worstPass_146 (by decide)) ?_
          exact sp_r fun hz => hz ls (lv_sub hl [1, 2, 3, 4, 0] rfl)
        refine sp_if (fun c27 => ?_) (fun c27 => ?_)
        · refine sp_m (aw_icmp_gt_t (tgt := 113) (pc := 107) dX1_worstPass_107 (by decide) c27) ?_
          refine sp_m (aw_bipush (v := 10) (pc := 113) dX1_worstPass_113 rfl) ?_
          refine sp_m (aw_aload_n (pc := 115) dX1_worstPass_115 rfl (lv_at hl 2 rfl)) ?_
          refine sp_b fun x28 ex28 => ?_
          refine sp_m (aw_get (k := 13) okX1 s11 (by decide) q379 (Or.inl rfl) (congrArg va_rf ex28) (pc := 116) dX1_worstPass_116) ?_
          refine sp_m (aw_iload (pc := 119) dX1_worstPass_119 (lv_at hl 5 rfl)) ?_
          refine sp_m (aw_iconst (v := 1) (pc := 121) dX1_worstPass_121 rfl) ?_
          refine sp_m (aw_isub (pc := 122) dX1_worstPass_122) ?_
          refine sp_g fun s30 => ?_
          refine sp_b fun p29 ep29 => ?_
          refine sp_m (G' := AW (KX1_worstPass l D h0 hE v) p8.2 (126) ls (.int p29 :: .int 10 :: [])) (fun kk => aw_callV (As := [.int (s10v.2.2.2 - 1)]) (metX6_at _ _ ep29) (rcv_o okX6 s30) rfl mok_X6_at q1312 q1313 q1314 q124 q1315 (Nat.le_of_ble_eq_true rfl) (Nat.le_of_ble_eq_true rfl) rfl hl.1 rfl (Nat.le_of_ble_eq_true rfl) (pc := 123) dX1_worstPass_123 kk) ?_
          refine sp_m (aw_imul (pc := 126) dX1_worstPass_126) ?_
          refine sp_m (aw_aload_n (pc := 127) dX1_worstPass_127 rfl (lv_at hl 2 rfl)) ?_
          refine sp_b fun x31 ex31 => ?_
          refine sp_m (aw_get (k := 13) okX1 s11 (by decide) q379 (Or.inl rfl) (congrArg va_rf ex31) (pc := 128) dX1_worstPass_128) ?_
          refine sp_m (aw_iload (pc := 131) dX1_worstPass_131 (lv_at hl 5 rfl)) ?_
          refine sp_g fun s33 => ?_
          refine sp_b fun p32 ep32 => ?_
          refine sp_m (G' := AW (KX1_worstPass l D h0 hE v) p8.2 (136) ls (.int p32 :: .int (10 * p29) :: [])) (fun kk => aw_callV (As := [.int s10v.2.2.2]) (metX6_at _ _ ep32) (rcv_o okX6 s33) rfl mok_X6_at q1312 q1313 q1314 q124 q1315 (Nat.le_of_ble_eq_true rfl) (Nat.le_of_ble_eq_true rfl) rfl hl.1 rfl (Nat.le_of_ble_eq_true rfl) (pc := 133) dX1_worstPass_133 kk) ?_
          refine sp_m (aw_iadd (pc := 136) dX1_worstPass_136) ?_
          refine sp_m (aw_istore (lv' := [(5, .int ((10 * p29) + p32)), (7, .int (s10v.2.2.1 - p23)), (9, .int p23), (0, .ref a0), (6, .int s10v.2.1), (8, .int s10v.2.2.2)]) (pc := 137) dX1_worstPass_137 hl (by decide) rfl) (sp_all fun ls hl => ?_)
          refine sp_m (aw_iload (pc := 139) dX1_worstPass_139 (lv_at hl 2 rfl)) ?_
          refine sp_m (aw_istore (lv' := [(6, .int p23), (5, .int ((10 * p29) + p32)), (7, .int (s10v.2.2.1 - p23)), (9, .int p23), (0, .ref a0), (8, .int s10v.2.2.2)]) (pc := 141) dX1_worstPass_141 hl (by decide) rfl) (sp_all fun ls hl => ?_)
          exact hj143_1 ((10 * p29) + p32) p23 ls (lv_sub hl [4, 1, 0, 2, 5] rfl)
        · refine sp_m (aw_icmp_gt_f (tgt := 113) (pc := 107) dX1_worstPass_107 (by decide) c27) ?_
          refine sp_m (aw_goto (tgt := 143) (pc := 110) dX1_worstPass_110 (by decide)) ?_
          exact hj143_1 s10v.1 s10v.2.1 ls (lv_sub hl [2, 3, 4, 0, 5] rfl)
    · have hl : lv_has ls 10 [(5, .int r10v)] := hl
      show SP _ _ (AW (KX1_worstPass l D h0 hE v) p8.2 149 ls [])
      refine sp_m (aw_iload (pc := 149) dX1_worstPass_149 (lv_at hl 0 rfl)) ?_
      exact sp_r fun hz => aw_iret hz rfl rfl rfl (pc := 151) dX1_worstPass_151
  · refine sp_m (aw_if_eq_f (tgt := 25) (pc := 15) dX1_worstPass_15 (by decide) c5) ?_
    refine sp_m (aw_aload_n (pc := 18) dX1_worstPass_18 rfl (lv_at hl 1 rfl)) ?_
    refine sp_m (aw_iload (pc := 19) dX1_worstPass_19 (lv_at hl 0 rfl)) ?_
    refine sp_b fun p34 ep34 => ?_
    refine sp_m (G' := AW (KX1_worstPass l D h0 hE v) p34.2 (24) ls (.int p34.1 :: [])) (fun kk => aw_callV (As := [.int p3]) (metX1_no _ _ ep34) (rcv_o okX1 s4) rfl mok_X1_no q459 q461 qs3 q116 q462 (Nat.le_of_ble_eq_true rfl) (Nat.le_of_ble_eq_true rfl) rfl hl.1 rfl (Nat.le_of_ble_eq_true rfl) (pc := 21) dX1_worstPass_21 kk) ?_
    exact sp_r fun hz => aw_iret hz rfl rfl rfl (pc := 24) dX1_worstPass_24
theorem mok_X1_worth : mOK yX1_worth 3 := ⟨⟨by decide +kernel, by decide +kernel⟩, by decide +kernel⟩
abbrev KX1_worth (l : Launch) (D : DD) (h0 hE : AH) (v : Int64) : KT := (l, yX1_worth, cX1_worth, 4, (some .long), RX1, 131, D, h0, hE, .inl (some (.long v)), false, [])
theorem metX1_worth (l : Launch) (D : DD) {a0 : Nat} {a1 : Int32} {a2 : Int32} {a3 : Int32} {h0 : AH} {hE : AH} {v : Int64} (hr : fX1_worth a0 a1 a2 a3 h0 = some (v, hE)) : AMet (KX1_worth l D h0 hE v) [.ref a0, .int a1, .int a2, .int a3] := by
  refine AMet.of (K := (KX1_worth l D h0 hE v)) rfl ⟨_, rfl⟩ rfl rfl rfl (Nat.le_of_ble_eq_true rfl) (fun ls hl => ?_)
  have hl : lv_has ls 4 [(0, .ref a0), (1, .int a1), (2, .int a2), (3, .int a3)] := hl
  suffices hsp : SP (fX1_worth a0 a1 a2 a3 h0) (fun z => z = (v, hE)) (AW (KX1_worth l D h0 hE v) h0 0 ls []) from hsp _ hr rfl
  unfold fX1_worth
  refine sp_m (aw_aload_n (pc := 0) dX1_worth_0 rfl (lv_at hl 0 rfl)) ?_
  refine sp_g fun s2 => ?_
  refine sp_b fun p1 ep1 => ?_
  refine sp_m (G' := AW (KX1_worth l D h0 hE v) p1 (4) ls ([])) (fun kk => aw_callV (As := []) (metX1_anew _ _ ep1) (rcv_o okX1 s2) rfl mok_X1_anew q452 q454 qs2 q116 q455 (Nat.le_of_ble_eq_true rfl) (Nat.le_of_ble_eq_true rfl) rfl hl.1 rfl (Nat.le_of_ble_eq_true rfl) (pc := 1) dX1_worth_1 kk) ?_
  refine sp_m (aw_aload_n (pc := 4) dX1_worth_4 rfl (lv_at hl 0 rfl)) ?_
  refine sp_m (aw_iload_n (pc := 5) dX1_worth_5 rfl (lv_at hl 1 rfl)) ?_
  refine sp_g fun s4 => ?_
  refine sp_b fun p3 ep3 => ?_
  refine sp_m (G' := AW (KX1_worth l D h0 hE v) p1 (9) ls (.int p3 :: [])) (fun kk => aw_callV (As := [.int a1]) (metX1_isBeast _ _ ep3) (rcv_o okX1 s4) rfl mok_X1_isBeast q974 q976 qs27 q116 q977 (Nat.le_of_ble_eq_true rfl) (Nat.le_of_ble_eq_true rfl) rfl hl.1 rfl (Nat.le_of_ble_eq_true rfl) (pc := 6) dX1_worth_6 kk) ?_
  have hj43_1 : ∀ ls : Array Slot, lv_has ls 4 [(0, .ref a0)] → SP (X1_worth_j43 a0 p1) (fun z => z = (v, hE)) (AW (KX1_worth l D h0 hE v) p1 43 ls ([])) := by
    intro ls hl
    unfold X1_worth_j43
    refine sp_m (aw_aload_n (pc := 43) dX1_worth_43 rfl (lv_at hl 0 rfl)) ?_
    refine sp_m (aw_iconst (v := 1) (pc := 44) dX1_worth_44 rfl) ?_
    refine sp_b fun p5 ep5 => ?_
    refine sp_m (G' := AW (KX1_worth l D h0 hE v) p5.2 (48) ls (.long p5.1 :: [])) (fun kk => aw_callV (As := [.int 1]) (metX1_none _ _ ep5) (rcv_o okX1 s4) rfl mok_X1_none q1145 q1147 qs29 q116 q1148 (Nat.le_of_ble_eq_true rfl) (Nat.le_of_ble_eq_true rfl) rfl hl.1 rfl (Nat.le_of_ble_eq_true rfl) (pc := 45) dX1_worth_45 kk) ?_
    exact sp_r fun hz => aw_lret hz rfl rfl rfl (pc := 48) dX1_worth_48
  refine sp_if (fun c6 => ?_) (fun c6 => ?_)
  · refine sp_m (aw_if_eq_t (tgt := 43) (pc := 9) dX1_worth_9 (by decide) c6) ?_
    exact hj43_1 ls (lv_sub hl [0] rfl)
  · refine sp_m (aw_if_eq_f (tgt := 43) (pc := 9) dX1_worth_9 (by decide) c6) ?_
    refine sp_m (aw_aload_n (pc := 12) dX1_worth_12 rfl (lv_at hl 0 rfl)) ?_
    refine sp_m (aw_iload_n (pc := 13) dX1_worth_13 rfl (lv_at hl 2 rfl)) ?_
    refine sp_b fun p7 ep7 => ?_
    refine sp_m (G' := AW (KX1_worth l D h0 hE v) p1 (17) ls (.int p7 :: [])) (fun kk => aw_callV (As := [.int a2]) (metX1_isLane _ _ ep7) (rcv_o okX1 s4) rfl mok_X1_isLane q941 q943 qs25 q116 q944 (Nat.le_of_ble_eq_true rfl) (Nat.le_of_ble_eq_true rfl) rfl hl.1 rfl (Nat.le_of_ble_eq_true rfl) (pc := 14) dX1_worth_14 kk) ?_
    refine sp_if (fun c8 => ?_) (fun c8 => ?_)
    · refine sp_m (aw_if_eq_t (tgt := 43) (pc := 17) dX1_worth_17 (by decide) c8) ?_
      exact hj43_1 ls (lv_sub hl [0] rfl)
    · refine sp_m (aw_if_eq_f (tgt := 43) (pc := 17) dX1_worth_17 (by decide) c8) ?_
      refine sp_m (aw_aload_n (pc := 20) dX1_worth_20 rfl (lv_at hl 0 rfl)) ?_
      refine sp_b fun x9 ex9 => ?_
      refine sp_m (aw_get (k := 9) okX1 s4 (by decide) q375 (Or.inl rfl) (congrArg va_rf ex9) (pc := 21) dX1_worth_21) ?_
      refine sp_m (aw_iload_n (pc := 24) dX1_worth_24 rfl (lv_at hl 1 rfl)) ?_
      refine sp_m (aw_iload_n (pc := 25) dX1_worth_25 rfl (lv_at hl 2 rfl)) ?_
      refine sp_g fun s11 => ?_
      refine sp_b fun p10 ep10 => ?_
      refine sp_m (G' := AW (KX1_worth l D h0 hE v) p1 (29) ls (.long p10 :: [])) (fun kk => aw_callV (As := [.int a1, .int a2]) (metX4_worth _ _ ep10) (rcv_o okX4 s11) rfl mok_X4_worth q1139 q1140 q1141 q122 q1142 (Nat.le_of_ble_eq_true rfl) (Nat.le_of_ble_eq_true rfl) rfl hl.1 rfl (Nat.le_of_ble_eq_true rfl) (pc := 26) dX1_worth_26 kk) ?_
      refine sp_m (aw_aload_n (pc := 29) dX1_worth_29 rfl (lv_at hl 0 rfl)) ?_
      refine sp_b fun x12 ex12 => ?_
      refine sp_m (aw_get (k := 9) okX1 s4 (by decide) q375 (Or.inl rfl) (congrArg va_rf ex12) (pc := 30) dX1_worth_30) ?_
      refine sp_g fun s14 => ?_
      refine sp_b fun p13 ep13 => ?_
      refine sp_m (G' := AW (KX1_worth l D h0 hE v) p1 (36) ls (.long p13 :: .long p10 :: [])) (fun kk => aw_callV (As := []) (metX4_of _ _ ep13) (rcv_o okX4 s14) rfl mok_X4_of q1055 q1056 q1057 q122 q1058 (Nat.le_of_ble_eq_true rfl) (Nat.le_of_ble_eq_true rfl) rfl hl.1 rfl (Nat.le_of_ble_eq_true rfl) (pc := 33) dX1_worth_33 kk) ?_
      refine sp_m (aw_iload_n (pc := 36) dX1_worth_36 rfl (lv_at hl 3 rfl)) ?_
      refine sp_b fun p15 ep15 => ?_
      refine sp_m (G' := AW (KX1_worth l D h0 hE v) p1 (40) ls (.long p15 :: [])) (fun kk => aw_callS (As := [.long p10, .long p13, .int a3]) (metX1_lowest _ _ ep15) mok_X1_lowest q1060 q1061 q116 q1062 (Nat.le_of_ble_eq_true rfl) (Nat.le_of_ble_eq_true rfl) rfl hl.1 rfl (Nat.le_of_ble_eq_true rfl) (pc := 37) dX1_worth_37 kk) ?_
      refine sp_m (aw_goto (tgt := 48) (pc := 40) dX1_worth_40 (by decide)) ?_
      exact sp_r fun hz => aw_lret hz rfl rfl rfl (pc := 48) dX1_worth_48
theorem mok_X1_worthIf : mOK yX1_worthIf 4 := ⟨⟨by decide +kernel, by decide +kernel⟩, by decide +kernel⟩
abbrev KX1_worthIf (l : Launch) (D : DD) (h0 hE : AH) (v : Int64) : KT := (l, yX1_worthIf, cX1_worthIf, 5, (some .long), RX1, 131, D, h0, hE, .inl (some (.long v)), false, [])
theorem metX1_worthIf (l : Launch) (D : DD) {a0 : Nat} {a1 : Int32} {a2 : Int32} {a3 : Int32} {a4 : Int32} {h0 : AH} {hE : AH} {v : Int64} (hr : fX1_worthIf a0 a1 a2 a3 a4 h0 = some (v, hE)) : AMet (KX1_worthIf l D h0 hE v) [.ref a0, .int a1, .int a2, .int a3, .int a4] := by
  refine AMet.of (K := (KX1_worthIf l D h0 hE v)) rfl ⟨_, rfl⟩ rfl rfl rfl (Nat.le_of_ble_eq_true rfl) (fun ls hl => ?_)
  have hl : lv_has ls 5 [(0, .ref a0), (1, .int a1), (2, .int a2), (3, .int a3), (4, .int a4)] := hl
  suffices hsp : SP (fX1_worthIf a0 a1 a2 a3 a4 h0) (fun z => z = (v, hE)) (AW (KX1_worthIf l D h0 hE v) h0 0 ls []) from hsp _ hr rfl
  unfold fX1_worthIf
  refine sp_m (aw_aload_n (pc := 0) dX1_worthIf_0 rfl (lv_at hl 0 rfl)) ?_
  refine sp_g fun s2 => ?_
  refine sp_b fun p1 ep1 => ?_
  refine sp_m (G' := AW (KX1_worthIf l D h0 hE v) p1 (4) ls ([])) (fun kk => aw_callV (As := []) (metX1_anew _ _ ep1) (rcv_o okX1 s2) rfl mok_X1_anew q452 q454 qs2 q116 q455 (Nat.le_of_ble_eq_true rfl) (Nat.le_of_ble_eq_true rfl) rfl hl.1 rfl (Nat.le_of_ble_eq_true rfl) (pc := 1) dX1_worthIf_1 kk) ?_
  refine sp_m (aw_aload_n (pc := 4) dX1_worthIf_4 rfl (lv_at hl 0 rfl)) ?_
  refine sp_m (aw_iload_n (pc := 5) dX1_worthIf_5 rfl (lv_at hl 1 rfl)) ?_
  refine sp_g fun s4 => ?_
  refine sp_b fun p3 ep3 => ?_
  refine sp_m (G' := AW (KX1_worthIf l D h0 hE v) p1 (9) ls (.int p3 :: [])) (fun kk => aw_callV (As := [.int a1]) (metX1_isBeast _ _ ep3) (rcv_o okX1 s4) rfl mok_X1_isBeast q974 q976 qs27 q116 q977 (Nat.le_of_ble_eq_true rfl) (Nat.le_of_ble_eq_true rfl) rfl hl.1 rfl (Nat.le_of_ble_eq_true rfl) (pc := 6) dX1_worthIf_6 kk) ?_
  have hj20_1 : ∀ ls : Array Slot, lv_has ls 5 [(0, .ref a0)] → SP (X1_worthIf_j20 a0 p1) (fun z => z = (v, hE)) (AW (KX1_worthIf l D h0 hE v) p1 20 ls ([])) := by
    intro ls hl
    unfold X1_worthIf_j20
    refine sp_m (aw_aload_n (pc := 20) dX1_worthIf_20 rfl (lv_at hl 0 rfl)) ?_
    refine sp_m (aw_iconst (v := 1) (pc := 21) dX1_worthIf_21 rfl) ?_
    refine sp_b fun p5 ep5 => ?_
    refine sp_m (G' := AW (KX1_worthIf l D h0 hE v) p5.2 (25) ls (.long p5.1 :: [])) (fun kk => aw_callV (As := [.int 1]) (metX1_none _ _ ep5) (rcv_o okX1 s4) rfl mok_X1_none q1145 q1147 qs29 q116 q1148 (Nat.le_of_ble_eq_true rfl) (Nat.le_of_ble_eq_true rfl) rfl hl.1 rfl (Nat.le_of_ble_eq_true rfl) (pc := 22) dX1_worthIf_22 kk) ?_
    exact sp_r fun hz => aw_lret hz rfl rfl rfl (pc := 25) dX1_worthIf_25
  refine sp_if (fun c6 => ?_) (fun c6 => ?_)
  · refine sp_m (aw_if_eq_t (tgt := 20) (pc := 9) dX1_worthIf_9 (by decide) c6) ?_
    exact hj20_1 ls (lv_sub hl [0] rfl)
  · refine sp_m (aw_if_eq_f (tgt := 20) (pc := 9) dX1_worthIf_9 (by decide) c6) ?_
    refine sp_m (aw_aload_n (pc := 12) dX1_worthIf_12 rfl (lv_at hl 0 rfl)) ?_
    refine sp_m (aw_iload_n (pc := 13) dX1_worthIf_13 rfl (lv_at hl 2 rfl)) ?_
    refine sp_b fun p7 ep7 => ?_
    refine sp_m (G' := AW (KX1_worthIf l D h0 hE v) p1 (17) ls (.int p7 :: [])) (fun kk => aw_callV (As := [.int a2]) (metX1_isLane _ _ ep7) (rcv_o okX1 s4) rfl mok_X1_isLane q941 q943 qs25 q116 q944 (Nat.le_of_ble_eq_true rfl) (Nat.le_of_ble_eq_true rfl) rfl hl.1 rfl (Nat.le_of_ble_eq_true rfl) (pc := 14) dX1_worthIf_14 kk) ?_
    refine sp_if (fun c8 => ?_) (fun c8 => ?_)
    · refine sp_m (aw_if_ne_t (tgt := 26) (pc := 17) dX1_worthIf_17 (by decide) c8) ?_
      refine sp_m (aw_aload_n (pc := 26) dX1_worthIf_26 rfl (lv_at hl 0 rfl)) ?_
      refine sp_b fun x9 ex9 => ?_
      refine sp_m (aw_get (k := 11) okX1 s4 (by decide) q377 (Or.inl rfl) (congrArg va_rf ex9) (pc := 27) dX1_worthIf_27) ?_
      refine sp_m (aw_aload_n (pc := 30) dX1_worthIf_30 rfl (lv_at hl 0 rfl)) ?_
      refine sp_b fun x10 ex10 => ?_
      refine sp_m (aw_get (k := 9) okX1 s4 (by decide) q375 (Or.inl rfl) (congrArg va_rf ex10) (pc := 31) dX1_worthIf_31) ?_
      refine sp_g fun s12 => ?_
      refine sp_b fun p11 ep11 => ?_
      refine sp_m (G' := AW (KX1_worthIf l D h0 hE v) p11 (37) ls ([])) (fun kk => aw_callV (As := [.ref x10]) (metX4_become _ _ ep11) (rcv_o okX4 s12) rfl mok_X4_become q1166 q1167 q1168 q122 q1169 (Nat.le_of_ble_eq_true rfl) (Nat.le_of_ble_eq_true rfl) rfl hl.1 rfl (Nat.le_of_ble_eq_true rfl) (pc := 34) dX1_worthIf_34 kk) ?_
      refine sp_m (aw_aload_n (pc := 37) dX1_worthIf_37 rfl (lv_at hl 0 rfl)) ?_
      refine sp_g fun s13 => ?_
      refine sp_b fun x14 ex14 => ?_
      refine sp_m (aw_get (k := 11) okX1 s13 (by decide) q377 (Or.inl rfl) (congrArg va_rf ex14) (pc := 38) dX1_worthIf_38) ?_
      refine sp_m (aw_iload_n (pc := 41) dX1_worthIf_41 rfl (lv_at hl 3 rfl)) ?_
      refine sp_g fun g15 => ?_
      refine sp_g fun s16 => ?_
      refine sp_t fun h17 eh170 => ?_
      have eh17 : gS h17 = gS p11 := by rw [eh170]; rfl
      refine sp_m (aw_put (k := 6) okX4 opX4 s16 (by decide) q285 (Or.inl rfl) (Or.inl rfl) (hasV_I' eh170) (nar_b g15) (fit_b g15) (pc := 42) dX1_worthIf_42) ?_
      refine sp_m (aw_aload_n (pc := 45) dX1_worthIf_45 rfl (lv_at hl 0 rfl)) ?_
      refine sp_b fun x18 ex18 => ?_
      refine sp_m (aw_get (k := 11) okX1 (uS eh17 s13) (by decide) q377 (Or.inl rfl) (congrArg va_rf ex18) (pc := 46) dX1_worthIf_46) ?_
      refine sp_m (aw_iload_n (pc := 49) dX1_worthIf_49 rfl (lv_at hl 1 rfl)) ?_
      refine sp_m (aw_iload_n (pc := 50) dX1_worthIf_50 rfl (lv_at hl 2 rfl)) ?_
      refine sp_g fun s20 => ?_
      refine sp_b fun p19 ep19 => ?_
      refine sp_m (G' := AW (KX1_worthIf l D h0 hE v) h17 (54) ls (.long p19 :: [])) (fun kk => aw_callV (As := [.int a1, .int a2]) (metX4_worth _ _ ep19) (rcv_o okX4 s20) rfl mok_X4_worth q1139 q1140 q1141 q122 q1142 (Nat.le_of_ble_eq_true rfl) (Nat.le_of_ble_eq_true rfl) rfl hl.1 rfl (Nat.le_of_ble_eq_true rfl) (pc := 51) dX1_worthIf_51 kk) ?_
      refine sp_m (aw_aload_n (pc := 54) dX1_worthIf_54 rfl (lv_at hl 0 rfl)) ?_
      refine sp_b fun x21 ex21 => ?_
      refine sp_m (aw_get (k := 11) okX1 (uS eh17 s13) (by decide) q377 (Or.inl rfl) (congrArg va_rf ex21) (pc := 55) dX1_worthIf_55) ?_
      refine sp_g fun s23 => ?_
      refine sp_b fun p22 ep22 => ?_
      refine sp_m (G' := AW (KX1_worthIf l D h0 hE v) h17 (61) ls (.long p22 :: .long p19 :: [])) (fun kk => aw_callV (As := []) (metX4_of _ _ ep22) (rcv_o okX4 s23) rfl mok_X4_of q1055 q1056 q1057 q122 q1058 (Nat.le_of_ble_eq_true rfl) (Nat.le_of_ble_eq_true rfl) rfl hl.1 rfl (Nat.le_of_ble_eq_true rfl) (pc := 58) dX1_worthIf_58 kk) ?_
      refine sp_m (aw_iload (pc := 61) dX1_worthIf_61 (lv_at hl 4 rfl)) ?_
      refine sp_b fun p24 ep24 => ?_
      refine sp_m (G' := AW (KX1_worthIf l D h0 hE v) h17 (66) ls (.long p24 :: [])) (fun kk => aw_callS (As := [.long p19, .long p22, .int a4]) (metX1_lowest _ _ ep24) mok_X1_lowest q1060 q1061 q116 q1062 (Nat.le_of_ble_eq_true rfl) (Nat.le_of_ble_eq_true rfl) rfl hl.1 rfl (Nat.le_of_ble_eq_true rfl) (pc := 63) dX1_worthIf_63 kk) ?_
      exact sp_r fun hz => aw_lret hz rfl rfl rfl (pc := 66) dX1_worthIf_66
    · refine sp_m (aw_if_ne_f (tgt := 26) (pc := 17) dX1_worthIf_17 (by decide) (Decidable.not_not.mp c8)) ?_
      exact hj20_1 ls (lv_sub hl [0] rfl)
theorem mok_X1_wound : mOK yX1_wound 2 := ⟨⟨by decide +kernel, by decide +kernel⟩, by decide +kernel⟩
abbrev KX1_wound (l : Launch) (D : DD) (h0 hE : AH) (v : Int32) : KT := (l, yX1_wound, cX1_wound, 3, (some .int), RX1, 4, D, h0, hE, .inl (some (.int v)), false, [])
theorem metX1_wound (l : Launch) (D : DD) {a0 : Nat} {a1 : Int32} {a2 : Int32} {h0 : AH} {hE : AH} {v : Int32} (hr : fX1_wound a0 a1 a2 h0 = some (v, hE)) : AMet (KX1_wound l D h0 hE v) [.ref a0, .int a1, .int a2] := by
  refine AMet.of (K := (KX1_wound l D h0 hE v)) rfl ⟨_, rfl⟩ rfl rfl rfl (Nat.le_of_ble_eq_true rfl) (fun ls hl => ?_)
  have hl : lv_has ls 3 [(0, .ref a0), (1, .int a1), (2, .int a2)] := hl
  suffices hsp : SP (fX1_wound a0 a1 a2 h0) (fun z => z = (v, hE)) (AW (KX1_wound l D h0 hE v) h0 0 ls []) from hsp _ hr rfl
  unfold fX1_wound
  refine sp_m (aw_aload_n (pc := 0) dX1_wound_0 rfl (lv_at hl 0 rfl)) ?_
  refine sp_g fun s2 => ?_
  refine sp_b fun p1 ep1 => ?_
  refine sp_m (G' := AW (KX1_wound l D h0 hE v) p1 (4) ls ([])) (fun kk => aw_callV (As := []) (metX1_anew _ _ ep1) (rcv_o okX1 s2) rfl mok_X1_anew q452 q454 qs2 q116 q455 (Nat.le_of_ble_eq_true rfl) (Nat.le_of_ble_eq_true rfl) rfl hl.1 rfl (Nat.le_of_ble_eq_true rfl) (pc := 1) dX1_wound_1 kk) ?_
  refine sp_m (aw_aload_n (pc := 4) dX1_wound_4 rfl (lv_at hl 0 rfl)) ?_
  refine sp_m (aw_iload_n (pc := 5) dX1_wound_5 rfl (lv_at hl 1 rfl)) ?_
  refine sp_g fun s4 => ?_
  refine sp_b fun p3 ep3 => ?_
  refine sp_m (G' := AW (KX1_wound l D h0 hE v) p1 (9) ls (.int p3 :: [])) (fun kk => aw_callV (As := [.int a1]) (metX1_isBeast _ _ ep3) (rcv_o okX1 s4) rfl mok_X1_isBeast q974 q976 qs27 q116 q977 (Nat.le_of_ble_eq_true rfl) (Nat.le_of_ble_eq_true rfl) rfl hl.1 rfl (Nat.le_of_ble_eq_true rfl) (pc := 6) dX1_wound_6 kk) ?_
  refine sp_if (fun c5 => ?_) (fun c5 => ?_)
  · refine sp_m (aw_if_ne_t (tgt := 18) (pc := 9) dX1_wound_9 (by decide) c5) ?_
    refine sp_m (aw_iload_n (pc := 18) dX1_wound_18 rfl (lv_at hl 2 rfl)) ?_
    refine sp_m (aw_iconst (v := 1) (pc := 19) dX1_wound_19 rfl) ?_
    refine sp_m (aw_bipush (v := 30) (pc := 20) dX1_wound_20 rfl) ?_
    refine sp_b fun p6 ep6 => ?_
    refine sp_m (G' := AW (KX1_wound l D h0 hE v) p1 (25) ls (.int p6 :: [])) (fun kk => aw_callS (As := [.int a2, .int 1, .int 30]) (metX1_in _ _ ep6) mok_X1_in q456 q457 q116 q458 (Nat.le_of_ble_eq_true rfl) (Nat.le_of_ble_eq_true rfl) rfl hl.1 rfl (Nat.le_of_ble_eq_true rfl) (pc := 22) dX1_wound_22 kk) ?_
    refine sp_if (fun c7 => ?_) (fun c7 => ?_)
    · refine sp_m (aw_if_ne_t (tgt := 34) (pc := 25) dX1_wound_25 (by decide) c7) ?_
      refine sp_m (aw_aload_n (pc := 34) dX1_wound_34 rfl (lv_at hl 0 rfl)) ?_
      refine sp_b fun x8 ex8 => ?_
      refine sp_m (aw_get (k := 9) okX1 s4 (by decide) q375 (Or.inl rfl) (congrArg va_rf ex8) (pc := 35) dX1_wound_35) ?_
      refine sp_m (aw_iload_n (pc := 38) dX1_wound_38 rfl (lv_at hl 1 rfl)) ?_
      refine sp_g fun s10 => ?_
      refine sp_b fun p9 ep9 => ?_
      refine sp_m (G' := AW (KX1_wound l D h0 hE v) p1 (42) ls (.int p9 :: [])) (fun kk => aw_callV (As := [.int a1]) (metX4_isDead _ _ ep9) (rcv_o okX4 s10) rfl mok_X4_isDead q963 q964 q965 q122 q966 (Nat.le_of_ble_eq_true rfl) (Nat.le_of_ble_eq_true rfl) rfl hl.1 rfl (Nat.le_of_ble_eq_true rfl) (pc := 39) dX1_wound_39 kk) ?_
      refine sp_if (fun c11 => ?_) (fun c11 => ?_)
      · refine sp_m (aw_if_eq_t (tgt := 51) (pc := 42) dX1_wound_42 (by decide) c11) ?_
        refine sp_m (aw_aload_n (pc := 51) dX1_wound_51 rfl (lv_at hl 0 rfl)) ?_
        refine sp_b fun p12 ep12 => ?_
        refine sp_m (G' := AW (KX1_wound l D h0 hE v) p12 (55) ls ([])) (fun kk => aw_callV (As := []) (metX1_note _ _ ep12) (rcv_o okX1 s4) rfl mok_X1_note q1414 q1416 qs48 q116 q1417 (Nat.le_of_ble_eq_true rfl) (Nat.le_of_ble_eq_true rfl) rfl hl.1 rfl (Nat.le_of_ble_eq_true rfl) (pc := 52) dX1_wound_52 kk) ?_
        refine sp_m (aw_aload_n (pc := 55) dX1_wound_55 rfl (lv_at hl 0 rfl)) ?_
        refine sp_g fun s13 => ?_
        refine sp_b fun x14 ex14 => ?_
        refine sp_m (aw_get (k := 9) okX1 s13 (by decide) q375 (Or.inl rfl) (congrArg va_rf ex14) (pc := 56) dX1_wound_56) ?_
        refine sp_g fun s15 => ?_
        refine sp_b fun x16 ex16 => ?_
        refine sp_m (aw_get (k := 1) okX4 s15 (by decide) q276 (Or.inl rfl) (congrArg va_rf ex16) (pc := 59) dX1_wound_59) ?_
        refine sp_m (aw_iload_n (pc := 62) dX1_wound_62 rfl (lv_at hl 1 rfl)) ?_
        refine sp_m (aw_dup2 (pc := 63) dX1_wound_63 rfl rfl) ?_
        refine sp_g fun s17 => ?_
        refine sp_g fun i18 => ?_
        refine sp_m (aw_iald s17 i18 (pc := 64) dX1_wound_64) ?_
        refine sp_m (aw_iload_n (pc := 65) dX1_wound_65 rfl (lv_at hl 2 rfl)) ?_
        refine sp_m (aw_iadd (pc := 66) dX1_wound_66) ?_
        refine sp_g fun i19 => ?_
        refine sp_t fun h20 eh200 => ?_
        have eh20 : gS h20 = gS p12 := by rw [eh200]; rfl
        refine sp_m (fun kk => aw_iast s17 i19 (pc := 67) dX1_wound_67 (AWe eh200 kk)) ?_
        refine sp_m (aw_aload_n (pc := 68) dX1_wound_68 rfl (lv_at hl 0 rfl)) ?_
        refine sp_b fun p21 ep21 => ?_
        refine sp_m (G' := AW (KX1_wound l D h0 hE v) p21.2 (72) ls (.int p21.1 :: [])) (fun kk => aw_callV (As := []) (metX1_done _ _ ep21) (rcv_o okX1 (uS eh20 s13)) rfl mok_X1_done q1418 q1420 qs49 q116 q1421 (Nat.le_of_ble_eq_true rfl) (Nat.le_of_ble_eq_true rfl) rfl hl.1 rfl (Nat.le_of_ble_eq_true rfl) (pc := 69) dX1_wound_69 kk) ?_
        refine sp_m (aw_pop (pc := 72) dX1_wound_72 rfl) ?_
        refine sp_m (aw_aload_n (pc := 73) dX1_wound_73 rfl (lv_at hl 0 rfl)) ?_
        refine sp_g fun s22 => ?_
        refine sp_b fun x23 ex23 => ?_
        refine sp_m (aw_get (k := 9) okX1 s22 (by decide) q375 (Or.inl rfl) (congrArg va_rf ex23) (pc := 74) dX1_wound_74) ?_
        refine sp_m (aw_iload_n (pc := 77) dX1_wound_77 rfl (lv_at hl 1 rfl)) ?_
        refine sp_g fun s25 => ?_
        refine sp_b fun p24 ep24 => ?_
        refine sp_m (G' := AW (KX1_wound l D h0 hE v) p21.2 (81) ls (.int p24 :: [])) (fun kk => aw_callV (As := [.int a1]) (metX4_force _ _ ep24) (rcv_o okX4 s25) rfl mok_X4_force q993 q994 q995 q122 q996 (Nat.le_of_ble_eq_true rfl) (Nat.le_of_ble_eq_true rfl) rfl hl.1 rfl (Nat.le_of_ble_eq_true rfl) (pc := 78) dX1_wound_78 kk) ?_
        exact sp_r fun hz => aw_iret hz rfl rfl rfl (pc := 81) dX1_wound_81
      · refine sp_m (aw_if_eq_f (tgt := 51) (pc := 42) dX1_wound_42 (by decide) c11) ?_
        refine sp_m (aw_aload_n (pc := 45) dX1_wound_45 rfl (lv_at hl 0 rfl)) ?_
        refine sp_m (aw_iconst (v := 5) (pc := 46) dX1_wound_46 rfl) ?_
        refine sp_b fun p26 ep26 => ?_
        refine sp_m (G' := AW (KX1_wound l D h0 hE v) p26.2 (50) ls (.int p26.1 :: [])) (fun kk => aw_callV (As := [.int 5]) (metX1_no _ _ ep26) (rcv_o okX1 s4) rfl mok_X1_no q459 q461 qs3 q116 q462 (Nat.le_of_ble_eq_true rfl) (Nat.le_of_ble_eq_true rfl) rfl hl.1 rfl (Nat.le_of_ble_eq_true rfl) (pc := 47) dX1_wound_47 kk) ?_
        exact sp_r fun hz => aw_iret hz rfl rfl rfl (pc := 50) dX1_wound_50
    · refine sp_m (aw_if_ne_f (tgt := 34) (pc := 25) dX1_wound_25 (by decide) (Decidable.not_not.mp c7)) ?_
      refine sp_m (aw_aload_n (pc := 28) dX1_wound_28 rfl (lv_at hl 0 rfl)) ?_
      refine sp_m (aw_iconst (v := 2) (pc := 29) dX1_wound_29 rfl) ?_
      refine sp_b fun p27 ep27 => ?_
      refine sp_m (G' := AW (KX1_wound l D h0 hE v) p27.2 (33) ls (.int p27.1 :: [])) (fun kk => aw_callV (As := [.int 2]) (metX1_no _ _ ep27) (rcv_o okX1 s4) rfl mok_X1_no q459 q461 qs3 q116 q462 (Nat.le_of_ble_eq_true rfl) (Nat.le_of_ble_eq_true rfl) rfl hl.1 rfl (Nat.le_of_ble_eq_true rfl) (pc := 30) dX1_wound_30 kk) ?_
      exact sp_r fun hz => aw_iret hz rfl rfl rfl (pc := 33) dX1_wound_33
  · refine sp_m (aw_if_ne_f (tgt := 18) (pc := 9) dX1_wound_9 (by decide) (Decidable.not_not.mp c5)) ?_
    refine sp_m (aw_aload_n (pc := 12) dX1_wound_12 rfl (lv_at hl 0 rfl)) ?_
    refine sp_m (aw_iconst (v := 1) (pc := 13) dX1_wound_13 rfl) ?_
    refine sp_b fun p28 ep28 => ?_
    refine sp_m (G' := AW (KX1_wound l D h0 hE v) p28.2 (17) ls (.int p28.1 :: [])) (fun kk => aw_callV (As := [.int 1]) (metX1_no _ _ ep28) (rcv_o okX1 s4) rfl mok_X1_no q459 q461 qs3 q116 q462 (Nat.le_of_ble_eq_true rfl) (Nat.le_of_ble_eq_true rfl) rfl hl.1 rfl (Nat.le_of_ble_eq_true rfl) (pc := 14) dX1_wound_14 kk) ?_
    exact sp_r fun hz => aw_iret hz rfl rfl rfl (pc := 17) dX1_wound_17
theorem mok_X0_led : mOK yX0_led 3 := ⟨⟨by decide +kernel, by decide +kernel⟩, by decide +kernel⟩
abbrev KX0_led (l : Launch) (D : DD) (h0 hE : AH) (v : Int32) : KT := (l, yX0_led, cX0_led, 4, (some .int), RX0, 9, D, h0, hE, .inl (some (.int v)), false, [(0, 9, 12, 13)])
theorem metX0_led (l : Launch) (D : DD) (hst : l.stackTraces = false) {a0 : Nat} {a1 : Int32} {a2 : Nat} {h0 : AH} {hE : AH} {v : Int32} (hr : fX0_led a0 a1 a2 h0 = some (v, hE)) : AMetH (KX0_led l D h0 hE v) [.ref a0, .int a1, .ref a2] := by
  refine AMetH.of (K := (KX0_led l D h0 hE v)) rfl ⟨_, rfl⟩ rfl rfl (Nat.le_of_ble_eq_true rfl) (fun ls hl => ?_)
  have hl : lv_has ls 4 [(0, .ref a0), (1, .int a1), (2, .ref a2)] := hl
  suffices hsp : SP (fX0_led a0 a1 a2 h0) (fun z => z = (v, hE)) (AW (KX0_led l D h0 hE v) h0 0 ls []) from hsp _ hr rfl
  unfold fX0_led
  refine sp_m (aw_aload_n (pc := 0) dX0_led_0 rfl (lv_at hl 2 rfl)) ?_
  refine sp_m (aw_iconst (v := 0) (pc := 1) dX0_led_1 rfl) ?_
  refine sp_m (aw_aload_n (pc := 2) dX0_led_2 rfl (lv_at hl 0 rfl)) ?_
  refine sp_m (aw_iload_n (pc := 3) dX0_led_3 rfl (lv_at hl 1 rfl)) ?_
  refine sp_g fun s2 => ?_
  refine sp_bx (fun q6t ep1 => ?_) (fun p1 ep1 => ?_)
  · refine sp_m (G' := AX (KX0_led l D h0 hE v) q6t.2 (4) ls (.int 0 :: .ref a2 :: []) "java/util/NoSuchElementException" q6t.1) (fun kk => aw_callV_t (As := [.int a1]) (metX1_led _ _ hst ep1) (rcv_o okX1 s2) rfl mok_X1_led q1471 q1472 q1473 q116 q1474 (Nat.le_of_ble_eq_true rfl) (Nat.le_of_ble_eq_true rfl) rfl hl.1 rfl (Nat.le_of_ble_eq_true rfl) (pc := 4) dX0_led_4  kk) ?_
    refine sp_m (ax_catch (0, 9, 12, 13) rfl (by decide) (by decide) rfl q1470 nq1477) ?_
    refine sp_m (aw_astore_n (lv' := [(3, .ref q6t.1), (0, .ref a0), (1, .int a1), (2, .ref a2)]) (pc := 12) dX0_led_12 rfl hl (by decide) rfl) (sp_all fun ls hl => ?_)
    refine sp_m (aw_iconst (v := 1) (pc := 13) dX0_led_13 rfl) ?_
    exact sp_r fun hz => aw_iret hz rfl rfl rfl (pc := 14) dX0_led_14
  · refine sp_m (G' := AW (KX0_led l D h0 hE v) p1.2 (7) ls (.int p1.1 :: .int 0 :: .ref a2 :: [])) (fun kk => aw_callV_n (As := [.int a1]) (metX1_led _ _ hst ep1) (rcv_o okX1 s2) rfl mok_X1_led q1471 q1472 q1473 q116 q1474 (Nat.le_of_ble_eq_true rfl) (Nat.le_of_ble_eq_true rfl) rfl hl.1 rfl (Nat.le_of_ble_eq_true rfl) (pc := 4) dX0_led_4  kk) ?_
    refine sp_m (aw_i2l (pc := 7) dX0_led_7) ?_
    refine sp_g fun s3 => ?_
    refine sp_g fun i4 => ?_
    refine sp_t fun h5 eh50 => ?_
    have eh5 : gS h5 = gS p1.2 := by rw [eh50]; rfl
    refine sp_m (fun kk => aw_last s3 i4 (pc := 8) dX0_led_8 (AWe eh50 kk)) ?_
    refine sp_m (aw_goto (tgt := 15) (pc := 9) dX0_led_9 (by decide)) ?_
    refine sp_m (aw_iconst (v := 0) (pc := 15) dX0_led_15 rfl) ?_
    exact sp_r fun hz => aw_iret hz rfl rfl rfl (pc := 16) dX0_led_16
theorem mok_X7_init : mOK yX7_init 0 := ⟨⟨by decide +kernel, by decide +kernel⟩, by decide +kernel⟩
abbrev KX7_init (l : Launch) (D : DD) (h0 hE : AH) : KT := (l, yX7_init, cX7_init, 1, none, RX7, 1, D, h0, hE, .inl (none), false, [])
theorem metX7_init (l : Launch) (D : DD) {a0 : Nat} {h0 : AH} {hE : AH} (hr : fX7_init a0 h0 = some hE) : AMet (KX7_init l D h0 hE) [.ref a0] := by
  refine AMet.of (K := (KX7_init l D h0 hE)) rfl ⟨_, rfl⟩ rfl rfl rfl (Nat.le_of_ble_eq_true rfl) (fun ls hl => ?_)
  have hl : lv_has ls 1 [(0, .ref a0)] := hl
  suffices hsp : SP (fX7_init a0 h0) (fun z => z = hE) (AW (KX7_init l D h0 hE) h0 0 ls []) from hsp _ hr rfl
  unfold fX7_init
  refine sp_m (aw_aload_n (pc := 0) dX7_init_0 rfl (lv_at hl 0 rfl)) ?_
  refine sp_m (aw_objInit hl.1 q1501 q153 q154 (Nat.le_of_ble_eq_true rfl) rfl (pc := 1) dX7_init_1) ?_
  refine sp_m (aw_aload_n (pc := 4) dX7_init_4 rfl (lv_at hl 0 rfl)) ?_
  refine sp_m (aw_iconst (v := (-1)) (pc := 5) dX7_init_5 rfl) ?_
  refine sp_g fun s1 => ?_
  refine sp_t fun h2 eh20 => ?_
  have eh2 : gS h2 = gS h0 := by rw [eh20]; rfl
  refine sp_m (aw_put (k := 2) okX7 opX7 s1 (by decide) q1504 (Or.inl rfl) (Or.inl rfl) (hasV_I' eh20) rfl rfl (pc := 6) dX7_init_6) ?_
  refine sp_m (aw_aload_n (pc := 9) dX7_init_9 rfl (lv_at hl 0 rfl)) ?_
  refine sp_m (aw_sipush (v := 900) (pc := 10) dX7_init_10 rfl) ?_
  refine sp_t fun h3 eh30 => ?_
  refine sp_m (fun kk => aw_newB q234 (by decide) (by decide) (pc := 13) dX7_init_13 (AWe eh30 kk)) ?_
  refine sp_g fun s4 => ?_
  refine sp_t fun h5 eh50 => ?_
  have eh5 : gS h5 = gS h3 := by rw [eh50]; rfl
  refine sp_m (aw_put (k := 5) okX7 opX7 s4 (by decide) q1507 (Or.inl rfl) (Or.inr ⟨rfl, rfl, rfl⟩) (hasV_R' eh50) rfl rfl (pc := 15) dX7_init_15) ?_
  refine sp_m (aw_aload_n (pc := 18) dX7_init_18 rfl (lv_at hl 0 rfl)) ?_
  refine sp_m (aw_bipush (v := 19) (pc := 19) dX7_init_19 rfl) ?_
  refine sp_t fun h6 eh60 => ?_
  refine sp_m (fun kk => aw_newI q313 (by decide) (by decide) (pc := 21) dX7_init_21 (AWe eh60 kk)) ?_
  refine sp_g fun s7 => ?_
  refine sp_t fun h8 eh80 => ?_
  have eh8 : gS h8 = gS h6 := by rw [eh80]; rfl
  refine sp_m (aw_put (k := 16) okX7 opX7 s7 (by decide) q1518 (Or.inl rfl) (Or.inr ⟨rfl, rfl, rfl⟩) (hasV_R' eh80) rfl rfl (pc := 23) dX7_init_23) ?_
  refine sp_m (aw_aload_n (pc := 26) dX7_init_26 rfl (lv_at hl 0 rfl)) ?_
  refine sp_m (aw_bipush (v := 19) (pc := 27) dX7_init_27 rfl) ?_
  refine sp_t fun h9 eh90 => ?_
  refine sp_m (fun kk => aw_newI q313 (by decide) (by decide) (pc := 29) dX7_init_29 (AWe eh90 kk)) ?_
  refine sp_g fun s10 => ?_
  refine sp_t fun h11 eh110 => ?_
  have eh11 : gS h11 = gS h9 := by rw [eh110]; rfl
  refine sp_m (aw_put (k := 17) okX7 opX7 s10 (by decide) q1519 (Or.inl rfl) (Or.inr ⟨rfl, rfl, rfl⟩) (hasV_R' eh110) rfl rfl (pc := 31) dX7_init_31) ?_
  refine sp_m (aw_aload_n (pc := 34) dX7_init_34 rfl (lv_at hl 0 rfl)) ?_
  refine sp_m (aw_sipush (v := 304) (pc := 35) dX7_init_35 rfl) ?_
  refine sp_t fun h12 eh120 => ?_
  refine sp_m (fun kk => aw_newI q313 (by decide) (by decide) (pc := 38) dX7_init_38 (AWe eh120 kk)) ?_
  refine sp_g fun s13 => ?_
  refine sp_t fun h14 eh140 => ?_
  have eh14 : gS h14 = gS h12 := by rw [eh140]; rfl
  refine sp_m (aw_put (k := 18) okX7 opX7 s13 (by decide) q1520 (Or.inl rfl) (Or.inr ⟨rfl, rfl, rfl⟩) (hasV_R' eh140) rfl rfl (pc := 40) dX7_init_40) ?_
  refine sp_m (aw_aload_n (pc := 43) dX7_init_43 rfl (lv_at hl 0 rfl)) ?_
  refine sp_m (aw_bipush (v := 57) (pc := 44) dX7_init_44 rfl) ?_
  refine sp_t fun h15 eh150 => ?_
  refine sp_m (fun kk => aw_newI q313 (by decide) (by decide) (pc := 46) dX7_init_46 (AWe eh150 kk)) ?_
  refine sp_g fun s16 => ?_
  refine sp_t fun h17 eh170 => ?_
  have eh17 : gS h17 = gS h15 := by rw [eh170]; rfl
  refine sp_m (aw_put (k := 19) okX7 opX7 s16 (by decide) q1521 (Or.inl rfl) (Or.inr ⟨rfl, rfl, rfl⟩) (hasV_R' eh170) rfl rfl (pc := 48) dX7_init_48) ?_
  refine sp_m (aw_aload_n (pc := 51) dX7_init_51 rfl (lv_at hl 0 rfl)) ?_
  refine sp_m (aw_iconst (v := 5) (pc := 52) dX7_init_52 rfl) ?_
  refine sp_t fun h18 eh180 => ?_
  refine sp_m (fun kk => aw_newI q313 (by decide) (by decide) (pc := 53) dX7_init_53 (AWe eh180 kk)) ?_
  refine sp_g fun s19 => ?_
  refine sp_t fun h20 eh200 => ?_
  have eh20 : gS h20 = gS h18 := by rw [eh200]; rfl
  refine sp_m (aw_put (k := 22) okX7 opX7 s19 (by decide) q1524 (Or.inl rfl) (Or.inr ⟨rfl, rfl, rfl⟩) (hasV_R' eh200) rfl rfl (pc := 55) dX7_init_55) ?_
  refine sp_m (aw_aload_n (pc := 58) dX7_init_58 rfl (lv_at hl 0 rfl)) ?_
  refine sp_m (aw_iconst (v := 5) (pc := 59) dX7_init_59 rfl) ?_
  refine sp_t fun h21 eh210 => ?_
  refine sp_m (fun kk => aw_newI q313 (by decide) (by decide) (pc := 60) dX7_init_60 (AWe eh210 kk)) ?_
  refine sp_g fun s22 => ?_
  refine sp_t fun h23 eh230 => ?_
  have eh23 : gS h23 = gS h21 := by rw [eh230]; rfl
  refine sp_m (aw_put (k := 23) okX7 opX7 s22 (by decide) q1525 (Or.inl rfl) (Or.inr ⟨rfl, rfl, rfl⟩) (hasV_R' eh230) rfl rfl (pc := 62) dX7_init_62) ?_
  refine sp_m (aw_aload_n (pc := 65) dX7_init_65 rfl (lv_at hl 0 rfl)) ?_
  refine sp_m (aw_bipush (v := 6) (pc := 66) dX7_init_66 rfl) ?_
  refine sp_t fun h24 eh240 => ?_
  refine sp_m (fun kk => aw_newI q313 (by decide) (by decide) (pc := 68) dX7_init_68 (AWe eh240 kk)) ?_
  refine sp_g fun s25 => ?_
  refine sp_t fun h26 eh260 => ?_
  have eh26 : gS h26 = gS h24 := by rw [eh260]; rfl
  refine sp_m (aw_put (k := 25) okX7 opX7 s25 (by decide) q1527 (Or.inl rfl) (Or.inr ⟨rfl, rfl, rfl⟩) (hasV_R' eh260) rfl rfl (pc := 70) dX7_init_70) ?_
  refine sp_m (aw_aload_n (pc := 73) dX7_init_73 rfl (lv_at hl 0 rfl)) ?_
  refine sp_m (aw_bipush (v := 6) (pc := 74) dX7_init_74 rfl) ?_
  refine sp_t fun h27 eh270 => ?_
  refine sp_m (fun kk => aw_newI q313 (by decide) (by decide) (pc := 76) dX7_init_76 (AWe eh270 kk)) ?_
  refine sp_g fun s28 => ?_
  refine sp_t fun h29 eh290 => ?_
  have eh29 : gS h29 = gS h27 := by rw [eh290]; rfl
  refine sp_m (aw_put (k := 26) okX7 opX7 s28 (by decide) q1528 (Or.inl rfl) (Or.inr ⟨rfl, rfl, rfl⟩) (hasV_R' eh290) rfl rfl (pc := 78) dX7_init_78) ?_
  refine sp_m (aw_aload_n (pc := 81) dX7_init_81 rfl (lv_at hl 0 rfl)) ?_
  refine sp_m (aw_bipush (v := 6) (pc := 82) dX7_init_82 rfl) ?_
  refine sp_t fun h30 eh300 => ?_
  refine sp_m (fun kk => aw_newI q313 (by decide) (by decide) (pc := 84) dX7_init_84 (AWe eh300 kk)) ?_
  refine sp_g fun s31 => ?_
  refine sp_t fun h32 eh320 => ?_
  have eh32 : gS h32 = gS h30 := by rw [eh320]; rfl
  refine sp_m (aw_put (k := 27) okX7 opX7 s31 (by decide) q1529 (Or.inl rfl) (Or.inr ⟨rfl, rfl, rfl⟩) (hasV_R' eh320) rfl rfl (pc := 86) dX7_init_86) ?_
  refine sp_m (aw_aload_n (pc := 89) dX7_init_89 rfl (lv_at hl 0 rfl)) ?_
  refine sp_m (aw_iconst (v := 5) (pc := 90) dX7_init_90 rfl) ?_
  refine sp_t fun h33 eh330 => ?_
  refine sp_m (fun kk => aw_newI q313 (by decide) (by decide) (pc := 91) dX7_init_91 (AWe eh330 kk)) ?_
  refine sp_g fun s34 => ?_
  refine sp_t fun h35 eh350 => ?_
  have eh35 : gS h35 = gS h33 := by rw [eh350]; rfl
  refine sp_m (aw_put (k := 30) okX7 opX7 s34 (by decide) q1532 (Or.inl rfl) (Or.inr ⟨rfl, rfl, rfl⟩) (hasV_R' eh350) rfl rfl (pc := 93) dX7_init_93) ?_
  exact sp_r fun hz => aw_vret hz rfl rfl rfl (pc := 96) dX7_init_96
theorem mok_X7_common : mOK yX7_common 2 := ⟨⟨by decide +kernel, by decide +kernel⟩, by decide +kernel⟩
abbrev KX7_common (l : Launch) (D : DD) (h0 : AH) (v : Int64) : KT := (l, yX7_common, cX7_common, 10, (some .long), RX7, 1, D, h0, h0, .inl (some (.long v)), false, [])
theorem metX7_common (l : Launch) (D : DD) {a0 : Int64} {a1 : Int64} {h0 : AH} {v : Int64} (hr : fX7_common a0 a1 h0 = some v) : AMet (KX7_common l D h0 v) [.long a0, .long a1] := by
  refine AMet.of (K := (KX7_common l D h0 v)) rfl ⟨_, rfl⟩ rfl rfl rfl (Nat.le_of_ble_eq_true rfl) (fun ls hl => ?_)
  have hl : lv_has ls 10 [(0, .long a0), (2, .long a1)] := hl
  suffices hsp : SP (fX7_common a0 a1 h0) (fun z => z = v) (AW (KX7_common l D h0 v) h0 0 ls []) from hsp _ hr rfl
  unfold fX7_common
  refine sp_m (aw_lload_n (pc := 0) dX7_common_0 rfl (lv_at hl 0 rfl)) ?_
  refine sp_m (aw_lconst (v := 0) (pc := 1) dX7_common_1 rfl) ?_
  refine sp_m (aw_lcmp (pc := 2) dX7_common_2) ?_
  have hj12_1 : ∀ j1 : Int64, ∀ ls : Array Slot, lv_has ls 10 [(2, .long a1)] → SP (X7_common_j12 a1 j1) (fun z => z = v) (AW (KX7_common l D h0 v) h0 12 ls (.long j1 :: [])) := by
    intro j1 ls hl
    unfold X7_common_j12
    refine sp_m (aw_lstore (lv' := [(4, .long j1), (2, .long a1)]) (pc := 12) dX7_common_12 hl (by decide) rfl) (sp_all fun ls hl => ?_)
    refine sp_m (aw_lload_n (pc := 14) dX7_common_14 rfl (lv_at hl 1 rfl)) ?_
    refine sp_m (aw_lstore (lv' := [(6, .long a1), (4, .long j1), (2, .long a1)]) (pc := 15) dX7_common_15 hl (by decide) rfl) (sp_all fun ls hl => ?_)
    let P2 : Int64 × Int64 → Prop := aLP (KX7_common l D h0 v) 10 17 (fun s2v : Int64 × Int64 => [(4, .long s2v.1), (6, .long s2v.2)]) (fun s2v => h0)
    let E2 : Int64 → Prop := aLP (KX7_common l D h0 v) 10 42 (fun r2v : Int64 => [(4, .long r2v)]) (fun r2v => h0)
    refine sp_bl (P := P2) (E := E2) (fun s2v => sp_all fun ls hl => ?_) (fun k => k ls (lv_sub hl [1, 0] rfl)) (fun r2v => sp_all fun ls hl => ?_)
    · have hl : lv_has ls 10 [(4, .long s2v.1), (6, .long s2v.2)] := hl
      show SP _ _ (AW (KX7_common l D h0 v) h0 17 ls [])
      unfold X7_common_L17
      refine sp_m (aw_lload (pc := 17) dX7_common_17 (lv_at hl 1 rfl)) ?_
      refine sp_m (aw_lconst (v := 0) (pc := 19) dX7_common_19 rfl) ?_
      refine sp_m (aw_lcmp (pc := 20) dX7_common_20) ?_
      refine sp_if (fun c3 => ?_) (fun c3 => ?_)
      · refine sp_m (aw_if_eq_t (tgt := 42) (pc := 21) dX7_common_21 (by decide) ((lg_cmp_eq _ _).mpr c3)) ?_
        exact sp_r fun hz => hz ls (lv_sub hl [0] rfl)
      · refine sp_m (aw_if_eq_f (tgt := 42) (pc := 21) dX7_common_21 (by decide) (fun z => c3 ((lg_cmp_eq _ _).mp z))) ?_
        refine sp_m (aw_lload (pc := 24) dX7_common_24 (lv_at hl 0 rfl)) ?_
        refine sp_m (aw_lload (pc := 26) dX7_common_26 (lv_at hl 1 rfl)) ?_
        refine sp_g fun s4 => ?_
        refine sp_m (aw_lrem (pc := 28) dX7_common_28 s4) ?_
        refine sp_m (aw_lstore (lv' := [(8, .long (s2v.1 - s2v.1 / s2v.2 * s2v.2)), (4, .long s2v.1), (6, .long s2v.2)]) (pc := 29) dX7_common_29 hl (by decide) rfl) (sp_all fun ls hl => ?_)
        refine sp_m (aw_lload (pc := 31) dX7_common_31 (lv_at hl 2 rfl)) ?_
        refine sp_m (aw_lstore (lv' := [(4, .long s2v.2), (8, .long (s2v.1 - s2v.1 / s2v.2 * s2v.2)), (6, .long s2v.2)]) (pc := 33) dX7_common_33 hl (by decide) rfl) (sp_all fun ls hl => ?_)
        refine sp_m (aw_lload (pc := 35) dX7_common_35 (lv_at hl 1 rfl)) ?_
        refine sp_m (aw_lstore (lv' := [(6, .long (s2v.1 - s2v.1 / s2v.2 * s2v.2)), (4, .long s2v.2), (8, .long (s2v.1 - s2v.1 / s2v.2 * s2v.2))]) (pc := 37) dX7_common_37 hl (by decide) rfl) (sp_all fun ls hl => ?_)
        refine sp_m (aw_goto (tgt := 17) (pc := 39) dX7_common_39 (by decide)) ?_
        exact sp_r fun hz => hz ls (lv_sub hl [1, 0] rfl)
    · have hl : lv_has ls 10 [(4, .long r2v)] := hl
      show SP _ _ (AW (KX7_common l D h0 v) h0 42 ls [])
      refine sp_m (aw_lload (pc := 42) dX7_common_42 (lv_at hl 0 rfl)) ?_
      exact sp_r fun hz => aw_lret (congrArg (fun z => (z, h0)) hz) rfl rfl rfl (pc := 44) dX7_common_44
  refine sp_if (fun c5 => ?_) (fun c5 => ?_)
  · refine sp_m (aw_if_ge_t (tgt := 11) (pc := 3) dX7_common_3 (by decide) ((lg_cmp_ge _ _).mpr c5)) ?_
    refine sp_m (aw_lload_n (pc := 11) dX7_common_11 rfl (lv_at hl 0 rfl)) ?_
    exact hj12_1 a0 ls (lv_sub hl [1] rfl)
  · refine sp_m (aw_if_ge_f (tgt := 11) (pc := 3) dX7_common_3 (by decide) (fun z => c5 ((lg_cmp_ge _ _).mp z))) ?_
    refine sp_m (aw_lload_n (pc := 6) dX7_common_6 rfl (lv_at hl 0 rfl)) ?_
    refine sp_m (aw_lneg (pc := 7) dX7_common_7) ?_
    refine sp_m (aw_goto (tgt := 12) (pc := 8) dX7_common_8 (by decide)) ?_
    exact hj12_1 (-a0) ls (lv_sub hl [1] rfl)
theorem mok_X7_good : mOK yX7_good 1 := ⟨⟨by decide +kernel, by decide +kernel⟩, by decide +kernel⟩
abbrev KX7_good (l : Launch) (D : DD) (h0 hE : AH) (v : Int32) : KT := (l, yX7_good, cX7_good, 2, (some .int), RX7, 1, D, h0, hE, .inl (some (.int v)), false, [])
theorem metX7_good (l : Launch) (D : DD) {a0 : Nat} {a1 : Int32} {h0 : AH} {hE : AH} {v : Int32} (hr : fX7_good a0 a1 h0 = some (v, hE)) : AMet (KX7_good l D h0 hE v) [.ref a0, .int a1] := by
  refine AMet.of (K := (KX7_good l D h0 hE v)) rfl ⟨_, rfl⟩ rfl rfl rfl (Nat.le_of_ble_eq_true rfl) (fun ls hl => ?_)
  have hl : lv_has ls 2 [(0, .ref a0), (1, .int a1)] := hl
  suffices hsp : SP (fX7_good a0 a1 h0) (fun z => z = (v, hE)) (AW (KX7_good l D h0 hE v) h0 0 ls []) from hsp _ hr rfl
  unfold fX7_good
  refine sp_m (aw_aload_n (pc := 0) dX7_good_0 rfl (lv_at hl 0 rfl)) ?_
  refine sp_m (aw_iconst (v := 0) (pc := 1) dX7_good_1 rfl) ?_
  refine sp_g fun s1 => ?_
  refine sp_t fun h2 eh20 => ?_
  have eh2 : gS h2 = gS h0 := by rw [eh20]; rfl
  refine sp_m (aw_put (k := 1) okX7 opX7 s1 (by decide) q1503 (Or.inl rfl) (Or.inl rfl) (hasV_I' eh20) rfl rfl (pc := 2) dX7_good_2) ?_
  refine sp_m (aw_aload_n (pc := 5) dX7_good_5 rfl (lv_at hl 0 rfl)) ?_
  refine sp_m (aw_iconst (v := (-1)) (pc := 6) dX7_good_6 rfl) ?_
  refine sp_t fun h3 eh30 => ?_
  have eh3 : gS h3 = gS h2 := by rw [eh30]; rfl
  refine sp_m (aw_put (k := 2) okX7 opX7 (uS eh2 s1) (by decide) q1504 (Or.inl rfl) (Or.inl rfl) (hasV_I' eh30) rfl rfl (pc := 7) dX7_good_7) ?_
  refine sp_m (aw_iload_n (pc := 10) dX7_good_10 rfl (lv_at hl 1 rfl)) ?_
  exact sp_r fun hz => aw_iret hz rfl rfl rfl (pc := 11) dX7_good_11
theorem mok_X7_fraction : mOK yX7_fraction 3 := ⟨⟨by decide +kernel, by decide +kernel⟩, by decide +kernel⟩
abbrev KX7_fraction (l : Launch) (D : DD) (h0 hE : AH) (v : Int64) : KT := (l, yX7_fraction, cX7_fraction, 6, (some .long), RX7, 2, D, h0, hE, .inl (some (.long v)), false, [])
theorem metX7_fraction (l : Launch) (D : DD) {a0 : Nat} {a1 : Int64} {a2 : Int64} {a3 : Int32} {h0 : AH} {hE : AH} {v : Int64} (hr : fX7_fraction a0 a1 a2 a3 h0 = some (v, hE)) : AMet (KX7_fraction l D h0 hE v) [.ref a0, .long a1, .long a2, .int a3] := by
  refine AMet.of (K := (KX7_fraction l D h0 hE v)) rfl ⟨_, rfl⟩ rfl rfl rfl (Nat.le_of_ble_eq_true rfl) (fun ls hl => ?_)
  have hl : lv_has ls 6 [(0, .ref a0), (1, .long a1), (3, .long a2), (5, .int a3)] := hl
  suffices hsp : SP (fX7_fraction a0 a1 a2 a3 h0) (fun z => z = (v, hE)) (AW (KX7_fraction l D h0 hE v) h0 0 ls []) from hsp _ hr rfl
  unfold fX7_fraction
  refine sp_m (aw_aload_n (pc := 0) dX7_fraction_0 rfl (lv_at hl 0 rfl)) ?_
  refine sp_m (aw_iconst (v := 0) (pc := 1) dX7_fraction_1 rfl) ?_
  refine sp_g fun s2 => ?_
  refine sp_b fun p1 ep1 => ?_
  refine sp_m (G' := AW (KX7_fraction l D h0 hE v) p1.2 (5) ls (.int p1.1 :: [])) (fun kk => aw_callV (As := [.int 0]) (metX7_good _ _ ep1) (rcv_o okX7 s2) rfl mok_X7_good q1865 q1867 qs73 q125 q1868 (Nat.le_of_ble_eq_true rfl) (Nat.le_of_ble_eq_true rfl) rfl hl.1 rfl (Nat.le_of_ble_eq_true rfl) (pc := 2) dX7_fraction_2 kk) ?_
  refine sp_m (aw_pop (pc := 5) dX7_fraction_5 rfl) ?_
  refine sp_m (aw_iload (pc := 6) dX7_fraction_6 (lv_at hl 3 rfl)) ?_
  have hj16_1 : ∀ j3 : Int64, ∀ ls : Array Slot, lv_has ls 6 [(1, .long a1), (3, .long a2)] → SP (X7_fraction_j16 a1 a2 p1 j3) (fun z => z = (v, hE)) (AW (KX7_fraction l D h0 hE v) p1.2 16 ls (.long j3 :: [])) := by
    intro j3 ls hl
    unfold X7_fraction_j16
    refine sp_m (aw_lload_n (pc := 16) dX7_fraction_16 rfl (lv_at hl 0 rfl)) ?_
    refine sp_m (aw_lload_n (pc := 17) dX7_fraction_17 rfl (lv_at hl 1 rfl)) ?_
    refine sp_b fun p4 ep4 => ?_
    refine sp_m (G' := AW (KX7_fraction l D h0 hE v) p1.2 (21) ls (.long p4 :: .long j3 :: [])) (fun kk => aw_callS (As := [.long a1, .long a2]) (metX7_common _ _ ep4) mok_X7_common q1929 q1930 q125 q1931 (Nat.le_of_ble_eq_true rfl) (Nat.le_of_ble_eq_true rfl) rfl hl.1 rfl (Nat.le_of_ble_eq_true rfl) (pc := 18) dX7_fraction_18 kk) ?_
    refine sp_g fun s5 => ?_
    refine sp_m (aw_ldiv (pc := 21) dX7_fraction_21 s5) ?_
    exact sp_r fun hz => aw_lret hz rfl rfl rfl (pc := 22) dX7_fraction_22
  refine sp_if (fun c6 => ?_) (fun c6 => ?_)
  · refine sp_m (aw_if_eq_t (tgt := 15) (pc := 8) dX7_fraction_8 (by decide) c6) ?_
    refine sp_m (aw_lload_n (pc := 15) dX7_fraction_15 rfl (lv_at hl 1 rfl)) ?_
    exact hj16_1 a1 ls (lv_sub hl [1, 2] rfl)
  · refine sp_m (aw_if_eq_f (tgt := 15) (pc := 8) dX7_fraction_8 (by decide) c6) ?_
    refine sp_m (aw_lload_n (pc := 11) dX7_fraction_11 rfl (lv_at hl 2 rfl)) ?_
    refine sp_m (aw_goto (tgt := 16) (pc := 12) dX7_fraction_12 (by decide)) ?_
    exact hj16_1 a2 ls (lv_sub hl [1, 2] rfl)
theorem mok_X7_holdBy : mOK yX7_holdBy 3 := ⟨⟨by decide +kernel, by decide +kernel⟩, by decide +kernel⟩
abbrev KX7_holdBy (l : Launch) (D : DD) (h0 : AH) (v : Int32) : KT := (l, yX7_holdBy, cX7_holdBy, 4, (some .int), RX7, 1, D, h0, h0, .inl (some (.int v)), false, [])
theorem metX7_holdBy (l : Launch) (D : DD) {a0 : Nat} {a1 : Int32} {a2 : Int32} {a3 : Int32} {h0 : AH} {v : Int32} (hr : fX7_holdBy a0 a1 a2 a3 h0 = some v) : AMet (KX7_holdBy l D h0 v) [.ref a0, .int a1, .int a2, .int a3] := by
  refine AMet.of (K := (KX7_holdBy l D h0 v)) rfl ⟨_, rfl⟩ rfl rfl rfl (Nat.le_of_ble_eq_true rfl) (fun ls hl => ?_)
  have hl : lv_has ls 4 [(0, .ref a0), (1, .int a1), (2, .int a2), (3, .int a3)] := hl
  suffices hsp : SP (fX7_holdBy a0 a1 a2 a3 h0) (fun z => z = v) (AW (KX7_holdBy l D h0 v) h0 0 ls []) from hsp _ hr rfl
  unfold fX7_holdBy
  refine sp_m (aw_aload_n (pc := 0) dX7_holdBy_0 rfl (lv_at hl 0 rfl)) ?_
  refine sp_g fun s1 => ?_
  refine sp_b fun x2 ex2 => ?_
  refine sp_m (aw_get (k := 3) okX7 s1 (by decide) q1505 (Or.inl rfl) (congrArg va_rf ex2) (pc := 1) dX7_holdBy_1) ?_
  refine sp_g fun s3 => ?_
  refine sp_b fun x4 ex4 => ?_
  refine sp_m (aw_getN (k := 10) okX20 s3 (by decide) nq1656 rfl (congrArg va_rf ex4) (pc := 4) dX7_holdBy_4) ?_
  refine sp_m (aw_iload_n (pc := 7) dX7_holdBy_7 rfl (lv_at hl 1 rfl)) ?_
  refine sp_g fun s5 => ?_
  refine sp_g fun i6 => ?_
  refine sp_m (aw_iald s5 i6 (pc := 8) dX7_holdBy_8) ?_
  refine sp_if (fun c7 => ?_) (fun c7 => ?_)
  · refine sp_m (aw_tableOut (tgt := 79) (pc := 9) dX7_holdBy_9 (sw_out rfl rfl c7) (by decide)) ?_
    refine sp_m (aw_iload_n (pc := 79) dX7_holdBy_79 rfl (lv_at hl 2 rfl)) ?_
    exact sp_r fun hz => aw_iret (congrArg (fun z => (z, h0)) hz) rfl rfl rfl (pc := 80) dX7_holdBy_80
  refine sp_if (fun c8 => ?_) (fun c8 => ?_)
  · refine sp_m (aw_tableIn (tgt := 36) (pc := 9) dX7_holdBy_9 (by rw [c8]; decide) (by rw [c8]; decide) (by rw [c8] <;> rfl) (by decide)) ?_
    refine sp_m (aw_iload_n (pc := 36) dX7_holdBy_36 rfl (lv_at hl 2 rfl)) ?_
    refine sp_m (aw_bipush (v := 20) (pc := 37) dX7_holdBy_37 rfl) ?_
    refine sp_if (fun c9 => ?_) (fun c9 => ?_)
    · refine sp_m (aw_icmp_le_t (tgt := 49) (pc := 39) dX7_holdBy_39 (by decide) c9) ?_
      refine sp_m (aw_iconst (v := 0) (pc := 49) dX7_holdBy_49 rfl) ?_
      exact sp_r fun hz => aw_iret (congrArg (fun z => (z, h0)) hz) rfl rfl rfl (pc := 50) dX7_holdBy_50
    · refine sp_m (aw_icmp_le_f (tgt := 49) (pc := 39) dX7_holdBy_39 (by decide) c9) ?_
      refine sp_m (aw_iload_n (pc := 42) dX7_holdBy_42 rfl (lv_at hl 2 rfl)) ?_
      refine sp_m (aw_bipush (v := 20) (pc := 43) dX7_holdBy_43 rfl) ?_
      refine sp_m (aw_isub (pc := 45) dX7_holdBy_45) ?_
      refine sp_m (aw_goto (tgt := 50) (pc := 46) dX7_holdBy_46 (by decide)) ?_
      exact sp_r fun hz => aw_iret (congrArg (fun z => (z, h0)) hz) rfl rfl rfl (pc := 50) dX7_holdBy_50
  refine sp_if (fun c10 => ?_) (fun c10 => ?_)
  · refine sp_m (aw_tableIn (tgt := 51) (pc := 9) dX7_holdBy_9 (by rw [c10]; decide) (by rw [c10]; decide) (by rw [c10] <;> rfl) (by decide)) ?_
    refine sp_m (aw_iload_n (pc := 51) dX7_holdBy_51 rfl (lv_at hl 2 rfl)) ?_
    refine sp_m (aw_bipush (v := 80) (pc := 52) dX7_holdBy_52 rfl) ?_
    refine sp_if (fun c11 => ?_) (fun c11 => ?_)
    · refine sp_m (aw_icmp_ge_t (tgt := 64) (pc := 54) dX7_holdBy_54 (by decide) c11) ?_
      refine sp_m (aw_bipush (v := 100) (pc := 64) dX7_holdBy_64 rfl) ?_
      exact sp_r fun hz => aw_iret (congrArg (fun z => (z, h0)) hz) rfl rfl rfl (pc := 66) dX7_holdBy_66
    · refine sp_m (aw_icmp_ge_f (tgt := 64) (pc := 54) dX7_holdBy_54 (by decide) c11) ?_
      refine sp_m (aw_iload_n (pc := 57) dX7_holdBy_57 rfl (lv_at hl 2 rfl)) ?_
      refine sp_m (aw_bipush (v := 20) (pc := 58) dX7_holdBy_58 rfl) ?_
      refine sp_m (aw_iadd (pc := 60) dX7_holdBy_60) ?_
      refine sp_m (aw_goto (tgt := 66) (pc := 61) dX7_holdBy_61 (by decide)) ?_
      exact sp_r fun hz => aw_iret (congrArg (fun z => (z, h0)) hz) rfl rfl rfl (pc := 66) dX7_holdBy_66
  refine sp_if (fun c12 => ?_) (fun c12 => ?_)
  · refine sp_m (aw_tableIn (tgt := 67) (pc := 9) dX7_holdBy_9 (by rw [c12]; decide) (by rw [c12]; decide) (by rw [c12] <;> rfl) (by decide)) ?_
    refine sp_m (aw_iload_n (pc := 67) dX7_holdBy_67 rfl (lv_at hl 3 rfl)) ?_
    refine sp_if (fun c13 => ?_) (fun c13 => ?_)
    · refine sp_m (aw_if_eq_t (tgt := 77) (pc := 68) dX7_holdBy_68 (by decide) c13) ?_
      refine sp_m (aw_iload_n (pc := 77) dX7_holdBy_77 rfl (lv_at hl 2 rfl)) ?_
      exact sp_r fun hz => aw_iret (congrArg (fun z => (z, h0)) hz) rfl rfl rfl (pc := 78) dX7_holdBy_78
    · refine sp_m (aw_if_eq_f (tgt := 77) (pc := 68) dX7_holdBy_68 (by decide) c13) ?_
      refine sp_m (aw_iload_n (pc := 71) dX7_holdBy_71 rfl (lv_at hl 2 rfl)) ?_
      refine sp_m (aw_iconst (v := 2) (pc := 72) dX7_holdBy_72 rfl) ?_
      refine sp_m (aw_idiv (pc := 73) dX7_holdBy_73 (by decide)) ?_
      refine sp_m (aw_goto (tgt := 78) (pc := 74) dX7_holdBy_74 (by decide)) ?_
      exact sp_r fun hz => aw_iret (congrArg (fun z => (z, h0)) hz) rfl rfl rfl (pc := 78) dX7_holdBy_78
  exact sp_n
theorem mok_X7_holdOf : mOK yX7_holdOf 1 := ⟨⟨by decide +kernel, by decide +kernel⟩, by decide +kernel⟩
abbrev KX7_holdOf (l : Launch) (D : DD) (h0 : AH) (v : Int32) : KT := (l, yX7_holdOf, cX7_holdOf, 2, (some .int), RX7, 2, D, h0, h0, .inl (some (.int v)), false, [])
theorem metX7_holdOf (l : Launch) (D : DD) {a0 : Nat} {a1 : Int32} {h0 : AH} {v : Int32} (hr : fX7_holdOf a0 a1 h0 = some v) : AMet (KX7_holdOf l D h0 v) [.ref a0, .int a1] := by
  refine AMet.of (K := (KX7_holdOf l D h0 v)) rfl ⟨_, rfl⟩ rfl rfl rfl (Nat.le_of_ble_eq_true rfl) (fun ls hl => ?_)
  have hl : lv_has ls 2 [(0, .ref a0), (1, .int a1)] := hl
  suffices hsp : SP (fX7_holdOf a0 a1 h0) (fun z => z = v) (AW (KX7_holdOf l D h0 v) h0 0 ls []) from hsp _ hr rfl
  unfold fX7_holdOf
  refine sp_m (aw_aload_n (pc := 0) dX7_holdOf_0 rfl (lv_at hl 0 rfl)) ?_
  refine sp_m (aw_iload_n (pc := 1) dX7_holdOf_1 rfl (lv_at hl 1 rfl)) ?_
  refine sp_m (aw_aload_n (pc := 2) dX7_holdOf_2 rfl (lv_at hl 0 rfl)) ?_
  refine sp_g fun s1 => ?_
  refine sp_b fun x2 ex2 => ?_
  refine sp_m (aw_get (k := 3) okX7 s1 (by decide) q1505 (Or.inl rfl) (congrArg va_rf ex2) (pc := 3) dX7_holdOf_3) ?_
  refine sp_g fun s3 => ?_
  refine sp_b fun x4 ex4 => ?_
  refine sp_m (aw_getN (k := 12) okX20 s3 (by decide) nq1660 rfl (congrArg va_rf ex4) (pc := 6) dX7_holdOf_6) ?_
  refine sp_m (aw_iload_n (pc := 9) dX7_holdOf_9 rfl (lv_at hl 1 rfl)) ?_
  refine sp_g fun s5 => ?_
  refine sp_g fun i6 => ?_
  refine sp_m (aw_iald s5 i6 (pc := 10) dX7_holdOf_10) ?_
  refine sp_m (aw_aload_n (pc := 11) dX7_holdOf_11 rfl (lv_at hl 0 rfl)) ?_
  refine sp_b fun x7 ex7 => ?_
  refine sp_m (aw_get (k := 16) okX7 s1 (by decide) q1518 (Or.inl rfl) (congrArg va_rf ex7) (pc := 12) dX7_holdOf_12) ?_
  refine sp_m (aw_bipush (v := 17) (pc := 15) dX7_holdOf_15 rfl) ?_
  refine sp_g fun s8 => ?_
  refine sp_g fun i9 => ?_
  refine sp_m (aw_iald s8 i9 (pc := 17) dX7_holdOf_17) ?_
  refine sp_m (aw_iconst (v := 1) (pc := 18) dX7_holdOf_18 rfl) ?_
  have hj27_1 : ∀ j10 : Int32, ∀ ls : Array Slot, lv_has ls 2 [] → SP (X7_holdOf_j27 a0 a1 h0 x4 j10) (fun z => z = v) (AW (KX7_holdOf l D h0 v) h0 27 ls (.int j10 :: .int (gI h0 x4 (ix a1)) :: .int a1 :: .ref a0 :: [])) := by
    intro j10 ls hl
    unfold X7_holdOf_j27
    refine sp_b fun p11 ep11 => ?_
    refine sp_m (G' := AW (KX7_holdOf l D h0 v) h0 (30) ls (.int p11 :: [])) (fun kk => aw_callV (As := [.int a1, .int (gI h0 x4 (ix a1)), .int j10]) (metX7_holdBy _ _ ep11) (rcv_o okX7 s1) rfl mok_X7_holdBy q1905 q1907 qs79 q125 q1908 (Nat.le_of_ble_eq_true rfl) (Nat.le_of_ble_eq_true rfl) rfl hl.1 rfl (Nat.le_of_ble_eq_true rfl) (pc := 27) dX7_holdOf_27 kk) ?_
    exact sp_r fun hz => aw_iret (congrArg (fun z => (z, h0)) hz) rfl rfl rfl (pc := 30) dX7_holdOf_30
  refine sp_if (fun c12 => ?_) (fun c12 => ?_)
  · refine sp_m (aw_icmp_ne_t (tgt := 26) (pc := 19) dX7_holdOf_19 (by decide) c12) ?_
    refine sp_m (aw_iconst (v := 0) (pc := 26) dX7_holdOf_26 rfl) ?_
    exact hj27_1 0 ls (lv_sub hl [] rfl)
  · refine sp_m (aw_icmp_ne_f (tgt := 26) (pc := 19) dX7_holdOf_19 (by decide) (Decidable.not_not.mp c12)) ?_
    refine sp_m (aw_iconst (v := 1) (pc := 22) dX7_holdOf_22 rfl) ?_
    refine sp_m (aw_goto (tgt := 27) (pc := 23) dX7_holdOf_23 (by decide)) ?_
    exact hj27_1 1 ls (lv_sub hl [] rfl)
theorem mok_X7_bit : mOK yX7_bit 2 := ⟨⟨by decide +kernel, by decide +kernel⟩, by decide +kernel⟩
abbrev KX7_bit (l : Launch) (D : DD) (h0 : AH) (v : Int32) : KT := (l, yX7_bit, cX7_bit, 2, (some .boolean), RX7, 1, D, h0, h0, .inl (some (.int v)), false, [])
theorem metX7_bit (l : Launch) (D : DD) {a0 : Int32} {a1 : Int32} {h0 : AH} {v : Int32} (hr : fX7_bit a0 a1 h0 = some v) : AMet (KX7_bit l D h0 v) [.int a0, .int a1] := by
  refine AMet.of (K := (KX7_bit l D h0 v)) rfl ⟨_, rfl⟩ rfl rfl rfl (Nat.le_of_ble_eq_true rfl) (fun ls hl => ?_)
  have hl : lv_has ls 2 [(0, .int a0), (1, .int a1)] := hl
  suffices hsp : SP (fX7_bit a0 a1 h0) (fun z => z = v) (AW (KX7_bit l D h0 v) h0 0 ls []) from hsp _ hr rfl
  unfold fX7_bit
  refine sp_m (aw_iload_n (pc := 0) dX7_bit_0 rfl (lv_at hl 0 rfl)) ?_
  refine sp_m (aw_iload_n (pc := 1) dX7_bit_1 rfl (lv_at hl 1 rfl)) ?_
  refine sp_m (aw_ishr (pc := 2) dX7_bit_2) ?_
  refine sp_m (aw_iconst (v := 1) (pc := 3) dX7_bit_3 rfl) ?_
  refine sp_m (aw_iand (pc := 4) dX7_bit_4) ?_
  refine sp_m (aw_iconst (v := 1) (pc := 5) dX7_bit_5 rfl) ?_
  refine sp_if (fun c1 => ?_) (fun c1 => ?_)
  · refine sp_m (aw_icmp_ne_t (tgt := 13) (pc := 6) dX7_bit_6 (by decide) c1) ?_
    refine sp_m (aw_iconst (v := 0) (pc := 13) dX7_bit_13 rfl) ?_
    exact sp_r fun hz => aw_zret (nar_b (Or.inl rfl)) (congrArg (fun z => (z, h0)) hz) rfl rfl rfl (pc := 14) dX7_bit_14
  · refine sp_m (aw_icmp_ne_f (tgt := 13) (pc := 6) dX7_bit_6 (by decide) (Decidable.not_not.mp c1)) ?_
    refine sp_m (aw_iconst (v := 1) (pc := 9) dX7_bit_9 rfl) ?_
    refine sp_m (aw_goto (tgt := 14) (pc := 10) dX7_bit_10 (by decide)) ?_
    exact sp_r fun hz => aw_zret (nar_b (Or.inr rfl)) (congrArg (fun z => (z, h0)) hz) rfl rfl rfl (pc := 14) dX7_bit_14
theorem mok_X7_isDead : mOK yX7_isDead 1 := ⟨⟨by decide +kernel, by decide +kernel⟩, by decide +kernel⟩
abbrev KX7_isDead (l : Launch) (D : DD) (h0 : AH) (v : Int32) : KT := (l, yX7_isDead, cX7_isDead, 2, (some .boolean), RX7, 2, D, h0, h0, .inl (some (.int v)), false, [])
theorem metX7_isDead (l : Launch) (D : DD) {a0 : Nat} {a1 : Int32} {h0 : AH} {v : Int32} (hr : fX7_isDead a0 a1 h0 = some v) : AMet (KX7_isDead l D h0 v) [.ref a0, .int a1] := by
  refine AMet.of (K := (KX7_isDead l D h0 v)) rfl ⟨_, rfl⟩ rfl rfl rfl (Nat.le_of_ble_eq_true rfl) (fun ls hl => ?_)
  have hl : lv_has ls 2 [(0, .ref a0), (1, .int a1)] := hl
  suffices hsp : SP (fX7_isDead a0 a1 h0) (fun z => z = v) (AW (KX7_isDead l D h0 v) h0 0 ls []) from hsp _ hr rfl
  unfold fX7_isDead
  refine sp_m (aw_aload_n (pc := 0) dX7_isDead_0 rfl (lv_at hl 0 rfl)) ?_
  refine sp_g fun s1 => ?_
  refine sp_b fun x2 ex2 => ?_
  refine sp_m (aw_get (k := 16) okX7 s1 (by decide) q1518 (Or.inl rfl) (congrArg va_rf ex2) (pc := 1) dX7_isDead_1) ?_
  refine sp_m (aw_bipush (v := 10) (pc := 4) dX7_isDead_4 rfl) ?_
  refine sp_g fun s3 => ?_
  refine sp_g fun i4 => ?_
  refine sp_m (aw_iald s3 i4 (pc := 6) dX7_isDead_6) ?_
  refine sp_m (aw_iload_n (pc := 7) dX7_isDead_7 rfl (lv_at hl 1 rfl)) ?_
  refine sp_b fun p5 ep5 => ?_
  refine sp_m (G' := AW (KX7_isDead l D h0 v) h0 (11) ls (.int p5 :: [])) (fun kk => aw_callS (As := [.int (gI h0 x2 (ix 10)), .int a1]) (metX7_bit _ _ ep5) mok_X7_bit q1806 q1807 q125 q1808 (Nat.le_of_ble_eq_true rfl) (Nat.le_of_ble_eq_true rfl) rfl hl.1 rfl (Nat.le_of_ble_eq_true rfl) (pc := 8) dX7_isDead_8 kk) ?_
  refine sp_g fun g6 => ?_
  exact sp_r fun hz => aw_zret (nar_b g6) (congrArg (fun z => (z, h0)) hz) rfl rfl rfl (pc := 11) dX7_isDead_11
theorem mok_X7_power : mOK yX7_power 2 := ⟨⟨by decide +kernel, by decide +kernel⟩, by decide +kernel⟩
abbrev KX7_power (l : Launch) (D : DD) (h0 : AH) (v : Int64) : KT := (l, yX7_power, cX7_power, 6, (some .long), RX7, 1, D, h0, h0, .inl (some (.long v)), false, [])
theorem metX7_power (l : Launch) (D : DD) {a0 : Int64} {a1 : Int32} {h0 : AH} {v : Int64} (hr : fX7_power a0 a1 h0 = some v) : AMet (KX7_power l D h0 v) [.long a0, .int a1] := by
  refine AMet.of (K := (KX7_power l D h0 v)) rfl ⟨_, rfl⟩ rfl rfl rfl (Nat.le_of_ble_eq_true rfl) (fun ls hl => ?_)
  have hl : lv_has ls 6 [(0, .long a0), (2, .int a1)] := hl
  suffices hsp : SP (fX7_power a0 a1 h0) (fun z => z = v) (AW (KX7_power l D h0 v) h0 0 ls []) from hsp _ hr rfl
  unfold fX7_power
  refine sp_m (aw_lconst (v := 1) (pc := 0) dX7_power_0 rfl) ?_
  refine sp_m (aw_lstore_n (lv' := [(3, .long 1), (0, .long a0), (2, .int a1)]) (pc := 1) dX7_power_1 rfl hl (by decide) rfl) (sp_all fun ls hl => ?_)
  refine sp_m (aw_iconst (v := 0) (pc := 2) dX7_power_2 rfl) ?_
  refine sp_m (aw_istore (lv' := [(5, .int 0), (3, .long 1), (0, .long a0), (2, .int a1)]) (pc := 3) dX7_power_3 hl (by decide) rfl) (sp_all fun ls hl => ?_)
  let P1 : Int64 × Int32 → Prop := aLP (KX7_power l D h0 v) 6 5 (fun s1v : Int64 × Int32 => [(0, .long a0), (2, .int a1), (3, .long s1v.1), (5, .int s1v.2)]) (fun s1v => h0)
  let E1 : Int64 → Prop := aLP (KX7_power l D h0 v) 6 21 (fun r1v : Int64 => [(3, .long r1v)]) (fun r1v => h0)
  refine sp_bl (P := P1) (E := E1) (fun s1v => sp_all fun ls hl => ?_) (fun k => k ls (lv_sub hl [2, 3, 1, 0] rfl)) (fun r1v => sp_all fun ls hl => ?_)
  · have hl : lv_has ls 6 [(0, .long a0), (2, .int a1), (3, .long s1v.1), (5, .int s1v.2)] := hl
    show SP _ _ (AW (KX7_power l D h0 v) h0 5 ls [])
    unfold X7_power_L5
    refine sp_m (aw_iload (pc := 5) dX7_power_5 (lv_at hl 3 rfl)) ?_
    refine sp_m (aw_iload_n (pc := 7) dX7_power_7 rfl (lv_at hl 1 rfl)) ?_
    refine sp_if (fun c2 => ?_) (fun c2 => ?_)
    · refine sp_m (aw_icmp_ge_t (tgt := 21) (pc := 8) dX7_power_8 (by decide) c2) ?_
      exact sp_r fun hz => hz ls (lv_sub hl [2] rfl)
    · refine sp_m (aw_icmp_ge_f (tgt := 21) (pc := 8) dX7_power_8 (by decide) c2) ?_
      refine sp_m (aw_lload_n (pc := 11) dX7_power_11 rfl (lv_at hl 2 rfl)) ?_
      refine sp_m (aw_lload_n (pc := 12) dX7_power_12 rfl (lv_at hl 0 rfl)) ?_
      refine sp_m (aw_lmul (pc := 13) dX7_power_13) ?_
      refine sp_m (aw_lstore_n (lv' := [(3, .long (s1v.1 * a0)), (0, .long a0), (2, .int a1), (5, .int s1v.2)]) (pc := 14) dX7_power_14 rfl hl (by decide) rfl) (sp_all fun ls hl => ?_)
      refine sp_m (aw_iinc (v := s1v.2 + 1) (lv' := [(5, .int (s1v.2 + 1)), (3, .long (s1v.1 * a0)), (0, .long a0), (2, .int a1)]) (pc := 15) dX7_power_15 hl (k := 3) rfl rfl (by decide) rfl) (sp_all fun ls hl => ?_)
      refine sp_m (aw_goto (tgt := 5) (pc := 18) dX7_power_18 (by decide)) ?_
      exact sp_r fun hz => hz ls (lv_sub hl [2, 3, 1, 0] rfl)
  · have hl : lv_has ls 6 [(3, .long r1v)] := hl
    show SP _ _ (AW (KX7_power l D h0 v) h0 21 ls [])
    refine sp_m (aw_lload_n (pc := 21) dX7_power_21 rfl (lv_at hl 0 rfl)) ?_
    exact sp_r fun hz => aw_lret (congrArg (fun z => (z, h0)) hz) rfl rfl rfl (pc := 22) dX7_power_22
theorem mok_X7_holds : mOK yX7_holds 1 := ⟨⟨by decide +kernel, by decide +kernel⟩, by decide +kernel⟩
abbrev KX7_holds (l : Launch) (D : DD) (h0 : AH) (v : Int64) : KT := (l, yX7_holds, cX7_holds, 2, (some .long), RX7, 3, D, h0, h0, .inl (some (.long v)), false, [])
theorem metX7_holds (l : Launch) (D : DD) {a0 : Nat} {a1 : Int32} {h0 : AH} {v : Int64} (hr : fX7_holds a0 a1 h0 = some v) : AMet (KX7_holds l D h0 v) [.ref a0, .int a1] := by
  refine AMet.of (K := (KX7_holds l D h0 v)) rfl ⟨_, rfl⟩ rfl rfl rfl (Nat.le_of_ble_eq_true rfl) (fun ls hl => ?_)
  have hl : lv_has ls 2 [(0, .ref a0), (1, .int a1)] := hl
  suffices hsp : SP (fX7_holds a0 a1 h0) (fun z => z = v) (AW (KX7_holds l D h0 v) h0 0 ls []) from hsp _ hr rfl
  unfold fX7_holds
  refine sp_m (aw_aload_n (pc := 0) dX7_holds_0 rfl (lv_at hl 0 rfl)) ?_
  refine sp_m (aw_iload_n (pc := 1) dX7_holds_1 rfl (lv_at hl 1 rfl)) ?_
  refine sp_g fun s2 => ?_
  refine sp_b fun p1 ep1 => ?_
  refine sp_m (G' := AW (KX7_holds l D h0 v) h0 (5) ls (.int p1 :: [])) (fun kk => aw_callV (As := [.int a1]) (metX7_isDead _ _ ep1) (rcv_o okX7 s2) rfl mok_X7_isDead q1885 q1887 qs75 q125 q1888 (Nat.le_of_ble_eq_true rfl) (Nat.le_of_ble_eq_true rfl) rfl hl.1 rfl (Nat.le_of_ble_eq_true rfl) (pc := 2) dX7_holds_2 kk) ?_
  refine sp_if (fun c3 => ?_) (fun c3 => ?_)
  · refine sp_m (aw_if_eq_t (tgt := 12) (pc := 5) dX7_holds_5 (by decide) c3) ?_
    refine sp_m (aw_aload_n (pc := 12) dX7_holds_12 rfl (lv_at hl 0 rfl)) ?_
    refine sp_m (aw_iload_n (pc := 13) dX7_holds_13 rfl (lv_at hl 1 rfl)) ?_
    refine sp_b fun p4 ep4 => ?_
    refine sp_m (G' := AW (KX7_holds l D h0 v) h0 (17) ls (.int p4 :: [])) (fun kk => aw_callV (As := [.int a1]) (metX7_holdOf _ _ ep4) (rcv_o okX7 s2) rfl mok_X7_holdOf q1901 q1903 qs78 q125 q1904 (Nat.le_of_ble_eq_true rfl) (Nat.le_of_ble_eq_true rfl) rfl hl.1 rfl (Nat.le_of_ble_eq_true rfl) (pc := 14) dX7_holds_14 kk) ?_
    refine sp_m (aw_i2l (pc := 17) dX7_holds_17) ?_
    refine sp_m (aw_aload_n (pc := 18) dX7_holds_18 rfl (lv_at hl 0 rfl)) ?_
    refine sp_b fun x5 ex5 => ?_
    refine sp_m (aw_get (k := 3) okX7 s2 (by decide) q1505 (Or.inl rfl) (congrArg va_rf ex5) (pc := 19) dX7_holds_19) ?_
    refine sp_g fun s6 => ?_
    refine sp_m (aw_getN (k := 1) okX20 s6 (by decide) nq1643 rfl rfl (pc := 22) dX7_holds_22) ?_
    refine sp_b fun p7 ep7 => ?_
    refine sp_m (G' := AW (KX7_holds l D h0 v) h0 (28) ls (.long p7 :: [])) (fun kk => aw_callS (As := [.long p4.toInt64, .int (gI h0 x5 1)]) (metX7_power _ _ ep7) mok_X7_power q1917 q1918 q125 q1919 (Nat.le_of_ble_eq_true rfl) (Nat.le_of_ble_eq_true rfl) rfl hl.1 rfl (Nat.le_of_ble_eq_true rfl) (pc := 25) dX7_holds_25 kk) ?_
    exact sp_r fun hz => aw_lret (congrArg (fun z => (z, h0)) hz) rfl rfl rfl (pc := 28) dX7_holds_28
  · refine sp_m (aw_if_eq_f (tgt := 12) (pc := 5) dX7_holds_5 (by decide) c3) ?_
    refine sp_m (aw_lconst (v := 0) (pc := 8) dX7_holds_8 rfl) ?_
    refine sp_m (aw_goto (tgt := 28) (pc := 9) dX7_holds_9 (by decide)) ?_
    exact sp_r fun hz => aw_lret (congrArg (fun z => (z, h0)) hz) rfl rfl rfl (pc := 28) dX7_holds_28
theorem mok_X7_isBeast : mOK yX7_isBeast 1 := ⟨⟨by decide +kernel, by decide +kernel⟩, by decide +kernel⟩
abbrev KX7_isBeast (l : Launch) (D : DD) (h0 : AH) (v : Int32) : KT := (l, yX7_isBeast, cX7_isBeast, 2, (some .boolean), RX7, 1, D, h0, h0, .inl (some (.int v)), false, [])
theorem metX7_isBeast (l : Launch) (D : DD) {a0 : Nat} {a1 : Int32} {h0 : AH} {v : Int32} (hr : fX7_isBeast a0 a1 h0 = some v) : AMet (KX7_isBeast l D h0 v) [.ref a0, .int a1] := by
  refine AMet.of (K := (KX7_isBeast l D h0 v)) rfl ⟨_, rfl⟩ rfl rfl rfl (Nat.le_of_ble_eq_true rfl) (fun ls hl => ?_)
  have hl : lv_has ls 2 [(0, .ref a0), (1, .int a1)] := hl
  suffices hsp : SP (fX7_isBeast a0 a1 h0) (fun z => z = v) (AW (KX7_isBeast l D h0 v) h0 0 ls []) from hsp _ hr rfl
  unfold fX7_isBeast
  refine sp_m (aw_aload_n (pc := 0) dX7_isBeast_0 rfl (lv_at hl 0 rfl)) ?_
  refine sp_g fun s1 => ?_
  refine sp_o (fun ex2 => ?_) (fun x2 ex2 => ?_)
  · refine sp_m (aw_get (k := 3) okX7 s1 (by decide) q1505 (Or.inl rfl) (congrArg va_rf ex2) (pc := 1) dX7_isBeast_1) ?_
    refine sp_m (aw_ifnullN (tgt := 26) (pc := 4) dX7_isBeast_4 (by decide)) ?_
    refine sp_m (aw_iconst (v := 0) (pc := 26) dX7_isBeast_26 rfl) ?_
    exact sp_r fun hz => aw_zret (nar_b (Or.inl rfl)) (congrArg (fun z => (z, h0)) hz) rfl rfl rfl (pc := 27) dX7_isBeast_27
  · refine sp_m (aw_get (k := 3) okX7 s1 (by decide) q1505 (Or.inl rfl) (congrArg va_rf ex2) (pc := 1) dX7_isBeast_1) ?_
    refine sp_m (aw_ifnull (pc := 4) dX7_isBeast_4) ?_
    refine sp_m (aw_iload_n (pc := 7) dX7_isBeast_7 rfl (lv_at hl 1 rfl)) ?_
    refine sp_if (fun c3 => ?_) (fun c3 => ?_)
    · refine sp_m (aw_if_lt_t (tgt := 26) (pc := 8) dX7_isBeast_8 (by decide) c3) ?_
      refine sp_m (aw_iconst (v := 0) (pc := 26) dX7_isBeast_26 rfl) ?_
      exact sp_r fun hz => aw_zret (nar_b (Or.inl rfl)) (congrArg (fun z => (z, h0)) hz) rfl rfl rfl (pc := 27) dX7_isBeast_27
    · refine sp_m (aw_if_lt_f (tgt := 26) (pc := 8) dX7_isBeast_8 (by decide) c3) ?_
      refine sp_m (aw_iload_n (pc := 11) dX7_isBeast_11 rfl (lv_at hl 1 rfl)) ?_
      refine sp_m (aw_aload_n (pc := 12) dX7_isBeast_12 rfl (lv_at hl 0 rfl)) ?_
      refine sp_b fun x4 ex4 => ?_
      refine sp_m (aw_get (k := 3) okX7 s1 (by decide) q1505 (Or.inl rfl) (congrArg va_rf ex4) (pc := 13) dX7_isBeast_13) ?_
      refine sp_g fun s5 => ?_
      refine sp_m (aw_getN (k := 3) okX20 s5 (by decide) nq1645 rfl rfl (pc := 16) dX7_isBeast_16) ?_
      refine sp_if (fun c6 => ?_) (fun c6 => ?_)
      · refine sp_m (aw_icmp_ge_t (tgt := 26) (pc := 19) dX7_isBeast_19 (by decide) c6) ?_
        refine sp_m (aw_iconst (v := 0) (pc := 26) dX7_isBeast_26 rfl) ?_
        exact sp_r fun hz => aw_zret (nar_b (Or.inl rfl)) (congrArg (fun z => (z, h0)) hz) rfl rfl rfl (pc := 27) dX7_isBeast_27
      · refine sp_m (aw_icmp_ge_f (tgt := 26) (pc := 19) dX7_isBeast_19 (by decide) c6) ?_
        refine sp_m (aw_iconst (v := 1) (pc := 22) dX7_isBeast_22 rfl) ?_
        refine sp_m (aw_goto (tgt := 27) (pc := 23) dX7_isBeast_23 (by decide)) ?_
        exact sp_r fun hz => aw_zret (nar_b (Or.inr rfl)) (congrArg (fun z => (z, h0)) hz) rfl rfl rfl (pc := 27) dX7_isBeast_27
theorem mok_X7_refused : mOK yX7_refused 1 := ⟨⟨by decide +kernel, by decide +kernel⟩, by decide +kernel⟩
abbrev KX7_refused (l : Launch) (D : DD) (h0 hE : AH) (v : Int32) : KT := (l, yX7_refused, cX7_refused, 2, (some .int), RX7, 1, D, h0, hE, .inl (some (.int v)), false, [])
theorem metX7_refused (l : Launch) (D : DD) {a0 : Nat} {a1 : Int32} {h0 : AH} {hE : AH} {v : Int32} (hr : fX7_refused a0 a1 h0 = some (v, hE)) : AMet (KX7_refused l D h0 hE v) [.ref a0, .int a1] := by
  refine AMet.of (K := (KX7_refused l D h0 hE v)) rfl ⟨_, rfl⟩ rfl rfl rfl (Nat.le_of_ble_eq_true rfl) (fun ls hl => ?_)
  have hl : lv_has ls 2 [(0, .ref a0), (1, .int a1)] := hl
  suffices hsp : SP (fX7_refused a0 a1 h0) (fun z => z = (v, hE)) (AW (KX7_refused l D h0 hE v) h0 0 ls []) from hsp _ hr rfl
  unfold fX7_refused
  refine sp_m (aw_aload_n (pc := 0) dX7_refused_0 rfl (lv_at hl 0 rfl)) ?_
  refine sp_m (aw_iload_n (pc := 1) dX7_refused_1 rfl (lv_at hl 1 rfl)) ?_
  refine sp_g fun s1 => ?_
  refine sp_t fun h2 eh20 => ?_
  have eh2 : gS h2 = gS h0 := by rw [eh20]; rfl
  refine sp_m (aw_put (k := 1) okX7 opX7 s1 (by decide) q1503 (Or.inl rfl) (Or.inl rfl) (hasV_I' eh20) rfl rfl (pc := 2) dX7_refused_2) ?_
  refine sp_m (aw_aload_n (pc := 5) dX7_refused_5 rfl (lv_at hl 0 rfl)) ?_
  refine sp_m (aw_iconst (v := (-1)) (pc := 6) dX7_refused_6 rfl) ?_
  refine sp_t fun h3 eh30 => ?_
  have eh3 : gS h3 = gS h2 := by rw [eh30]; rfl
  refine sp_m (aw_put (k := 2) okX7 opX7 (uS eh2 s1) (by decide) q1504 (Or.inl rfl) (Or.inl rfl) (hasV_I' eh30) rfl rfl (pc := 7) dX7_refused_7) ?_
  refine sp_m (aw_iconst (v := (-1)) (pc := 10) dX7_refused_10 rfl) ?_
  exact sp_r fun hz => aw_iret hz rfl rfl rfl (pc := 11) dX7_refused_11
theorem mok_X7_whole : mOK yX7_whole 0 := ⟨⟨by decide +kernel, by decide +kernel⟩, by decide +kernel⟩
abbrev KX7_whole (l : Launch) (D : DD) (h0 : AH) (v : Int64) : KT := (l, yX7_whole, cX7_whole, 1, (some .long), RX7, 2, D, h0, h0, .inl (some (.long v)), false, [])
theorem metX7_whole (l : Launch) (D : DD) {a0 : Nat} {h0 : AH} {v : Int64} (hr : fX7_whole a0 h0 = some v) : AMet (KX7_whole l D h0 v) [.ref a0] := by
  refine AMet.of (K := (KX7_whole l D h0 v)) rfl ⟨_, rfl⟩ rfl rfl rfl (Nat.le_of_ble_eq_true rfl) (fun ls hl => ?_)
  have hl : lv_has ls 1 [(0, .ref a0)] := hl
  suffices hsp : SP (fX7_whole a0 h0) (fun z => z = v) (AW (KX7_whole l D h0 v) h0 0 ls []) from hsp _ hr rfl
  unfold fX7_whole
  refine sp_m (aw_ldc2 q1924 (pc := 0) dX7_whole_0) ?_
  refine sp_m (aw_aload_n (pc := 3) dX7_whole_3 rfl (lv_at hl 0 rfl)) ?_
  refine sp_g fun s1 => ?_
  refine sp_b fun x2 ex2 => ?_
  refine sp_m (aw_get (k := 3) okX7 s1 (by decide) q1505 (Or.inl rfl) (congrArg va_rf ex2) (pc := 4) dX7_whole_4) ?_
  refine sp_g fun s3 => ?_
  refine sp_m (aw_getN (k := 1) okX20 s3 (by decide) nq1643 rfl rfl (pc := 7) dX7_whole_7) ?_
  refine sp_b fun p4 ep4 => ?_
  refine sp_m (G' := AW (KX7_whole l D h0 v) h0 (13) ls (.long p4 :: [])) (fun kk => aw_callS (As := [.long 100, .int (gI h0 x2 1)]) (metX7_power _ _ ep4) mok_X7_power q1917 q1918 q125 q1919 (Nat.le_of_ble_eq_true rfl) (Nat.le_of_ble_eq_true rfl) rfl hl.1 rfl (Nat.le_of_ble_eq_true rfl) (pc := 10) dX7_whole_10 kk) ?_
  exact sp_r fun hz => aw_lret (congrArg (fun z => (z, h0)) hz) rfl rfl rfl (pc := 13) dX7_whole_13
theorem mok_X7_across : mOK yX7_across 2 := ⟨⟨by decide +kernel, by decide +kernel⟩, by decide +kernel⟩
abbrev KX7_across (l : Launch) (D : DD) (h0 hE : AH) (v : Int64) : KT := (l, yX7_across, cX7_across, 3, (some .long), RX7, 4, D, h0, hE, .inl (some (.long v)), false, [])
theorem metX7_across (l : Launch) (D : DD) {a0 : Nat} {a1 : Int32} {a2 : Int32} {h0 : AH} {hE : AH} {v : Int64} (hr : fX7_across a0 a1 a2 h0 = some (v, hE)) : AMet (KX7_across l D h0 hE v) [.ref a0, .int a1, .int a2] := by
  refine AMet.of (K := (KX7_across l D h0 hE v)) rfl ⟨_, rfl⟩ rfl rfl rfl (Nat.le_of_ble_eq_true rfl) (fun ls hl => ?_)
  have hl : lv_has ls 3 [(0, .ref a0), (1, .int a1), (2, .int a2)] := hl
  suffices hsp : SP (fX7_across a0 a1 a2 h0) (fun z => z = (v, hE)) (AW (KX7_across l D h0 hE v) h0 0 ls []) from hsp _ hr rfl
  unfold fX7_across
  refine sp_m (aw_aload_n (pc := 0) dX7_across_0 rfl (lv_at hl 0 rfl)) ?_
  refine sp_m (aw_iconst (v := 0) (pc := 1) dX7_across_1 rfl) ?_
  refine sp_g fun s1 => ?_
  refine sp_t fun h2 eh20 => ?_
  have eh2 : gS h2 = gS h0 := by rw [eh20]; rfl
  refine sp_m (aw_put (k := 0) okX7 opX7 s1 (by decide) q1502 (Or.inl rfl) (Or.inl rfl) (hasV_I' eh20) rfl rfl (pc := 2) dX7_across_2) ?_
  refine sp_m (aw_aload_n (pc := 5) dX7_across_5 rfl (lv_at hl 0 rfl)) ?_
  refine sp_m (aw_iload_n (pc := 6) dX7_across_6 rfl (lv_at hl 1 rfl)) ?_
  refine sp_b fun p3 ep3 => ?_
  refine sp_m (G' := AW (KX7_across l D h0 hE v) h2 (10) ls (.int p3 :: [])) (fun kk => aw_callV (As := [.int a1]) (metX7_isBeast _ _ ep3) (rcv_o okX7 (uS eh2 s1)) rfl mok_X7_isBeast q1893 q1895 qs76 q125 q1896 (Nat.le_of_ble_eq_true rfl) (Nat.le_of_ble_eq_true rfl) rfl hl.1 rfl (Nat.le_of_ble_eq_true rfl) (pc := 7) dX7_across_7 kk) ?_
  refine sp_if (fun c4 => ?_) (fun c4 => ?_)
  · refine sp_m (aw_if_eq_t (tgt := 30) (pc := 10) dX7_across_10 (by decide) c4) ?_
    refine sp_m (aw_aload_n (pc := 30) dX7_across_30 rfl (lv_at hl 0 rfl)) ?_
    refine sp_m (aw_iconst (v := 1) (pc := 31) dX7_across_31 rfl) ?_
    refine sp_b fun p5 ep5 => ?_
    refine sp_m (G' := AW (KX7_across l D h0 hE v) p5.2 (35) ls (.int p5.1 :: [])) (fun kk => aw_callV (As := [.int 1]) (metX7_refused _ _ ep5) (rcv_o okX7 (uS eh2 s1)) rfl mok_X7_refused q1632 q1634 qs50 q125 q1635 (Nat.le_of_ble_eq_true rfl) (Nat.le_of_ble_eq_true rfl) rfl hl.1 rfl (Nat.le_of_ble_eq_true rfl) (pc := 32) dX7_across_32 kk) ?_
    refine sp_m (aw_i2l (pc := 35) dX7_across_35) ?_
    exact sp_r fun hz => aw_lret hz rfl rfl rfl (pc := 36) dX7_across_36
  · refine sp_m (aw_if_eq_f (tgt := 30) (pc := 10) dX7_across_10 (by decide) c4) ?_
    refine sp_m (aw_aload_n (pc := 13) dX7_across_13 rfl (lv_at hl 0 rfl)) ?_
    refine sp_m (aw_aload_n (pc := 14) dX7_across_14 rfl (lv_at hl 0 rfl)) ?_
    refine sp_m (aw_iload_n (pc := 15) dX7_across_15 rfl (lv_at hl 1 rfl)) ?_
    refine sp_b fun p6 ep6 => ?_
    refine sp_m (G' := AW (KX7_across l D h0 hE v) h2 (19) ls (.long p6 :: .ref a0 :: [])) (fun kk => aw_callV (As := [.int a1]) (metX7_holds _ _ ep6) (rcv_o okX7 (uS eh2 s1)) rfl mok_X7_holds q1913 q1915 qs80 q125 q1916 (Nat.le_of_ble_eq_true rfl) (Nat.le_of_ble_eq_true rfl) rfl hl.1 rfl (Nat.le_of_ble_eq_true rfl) (pc := 16) dX7_across_16 kk) ?_
    refine sp_m (aw_aload_n (pc := 19) dX7_across_19 rfl (lv_at hl 0 rfl)) ?_
    refine sp_b fun p7 ep7 => ?_
    refine sp_m (G' := AW (KX7_across l D h0 hE v) h2 (23) ls (.long p7 :: .long p6 :: .ref a0 :: [])) (fun kk => aw_callV (As := []) (metX7_whole _ _ ep7) (rcv_o okX7 (uS eh2 s1)) rfl mok_X7_whole q1920 q1922 qs81 q125 q1923 (Nat.le_of_ble_eq_true rfl) (Nat.le_of_ble_eq_true rfl) rfl hl.1 rfl (Nat.le_of_ble_eq_true rfl) (pc := 20) dX7_across_20 kk) ?_
    refine sp_m (aw_iload_n (pc := 23) dX7_across_23 rfl (lv_at hl 2 rfl)) ?_
    refine sp_b fun p8 ep8 => ?_
    refine sp_m (G' := AW (KX7_across l D h0 hE v) p8.2 (27) ls (.long p8.1 :: [])) (fun kk => aw_callV (As := [.long p6, .long p7, .int a2]) (metX7_fraction _ _ ep8) (rcv_o okX7 (uS eh2 s1)) rfl mok_X7_fraction q1925 q1927 qs82 q125 q1928 (Nat.le_of_ble_eq_true rfl) (Nat.le_of_ble_eq_true rfl) rfl hl.1 rfl (Nat.le_of_ble_eq_true rfl) (pc := 24) dX7_across_24 kk) ?_
    refine sp_m (aw_goto (tgt := 36) (pc := 27) dX7_across_27 (by decide)) ?_
    exact sp_r fun hz => aw_lret hz rfl rfl rfl (pc := 36) dX7_across_36
