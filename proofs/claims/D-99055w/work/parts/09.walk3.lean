/-! WALKS (printed by wip gen/all.py) -/
set_option maxRecDepth 100000
set_option maxHeartbeats 4000000
theorem mok_X1_rests : mOK yX1_rests 1 := ⟨⟨by decide +kernel, by decide +kernel⟩, by decide +kernel⟩
abbrev KX1_rests (l : Launch) (D : DD) (h0 hE : AH) (v : Int32) : KT := (l, yX1_rests, cX1_rests, 2, (some .int), RX1, 10, D, h0, hE, .inl (some (.int v)), false, [])
theorem metX1_rests (l : Launch) (D : DD) {a0 : Nat} {a1 : Int32} {h0 : AH} {hE : AH} {v : Int32} (hr : fX1_rests a0 a1 h0 = some (v, hE)) : AMet (KX1_rests l D h0 hE v) [.ref a0, .int a1] := by
  refine AMet.of (K := (KX1_rests l D h0 hE v)) rfl ⟨_, rfl⟩ rfl rfl rfl (Nat.le_of_ble_eq_true rfl) (fun ls hl => ?_)
  have hl : lv_has ls 2 [(0, .ref a0), (1, .int a1)] := hl
  suffices hsp : SP (fX1_rests a0 a1 h0) (fun z => z = (v, hE)) (AW (KX1_rests l D h0 hE v) h0 0 ls []) from hsp _ hr rfl
  unfold fX1_rests
  refine sp_m (aw_aload_n (pc := 0) dX1_rests_0 rfl (lv_at hl 0 rfl)) ?_
  refine sp_g fun s2 => ?_
  refine sp_b fun p1 ep1 => ?_
  refine sp_m (G' := AW (KX1_rests l D h0 hE v) p1 (4) ls ([])) (fun kk => aw_callV (As := []) (metX1_anew _ _ ep1) (rcv_o okX1 s2) rfl mok_X1_anew q452 q454 qs2 q116 q455 (Nat.le_of_ble_eq_true rfl) (Nat.le_of_ble_eq_true rfl) rfl hl.1 rfl (Nat.le_of_ble_eq_true rfl) (pc := 1) dX1_rests_1 kk) ?_
  refine sp_m (aw_aload_n (pc := 4) dX1_rests_4 rfl (lv_at hl 0 rfl)) ?_
  refine sp_m (aw_iload_n (pc := 5) dX1_rests_5 rfl (lv_at hl 1 rfl)) ?_
  refine sp_g fun s4 => ?_
  refine sp_b fun p3 ep3 => ?_
  refine sp_m (G' := AW (KX1_rests l D h0 hE v) p1 (9) ls (.int p3 :: [])) (fun kk => aw_callV (As := [.int a1]) (metX1_isBeast _ _ ep3) (rcv_o okX1 s4) rfl mok_X1_isBeast q974 q976 qs27 q116 q977 (Nat.le_of_ble_eq_true rfl) (Nat.le_of_ble_eq_true rfl) rfl hl.1 rfl (Nat.le_of_ble_eq_true rfl) (pc := 6) dX1_rests_6 kk) ?_
  refine sp_if (fun c5 => ?_) (fun c5 => ?_)
  · refine sp_m (aw_if_eq_t (tgt := 20) (pc := 9) dX1_rests_9 (by decide) c5) ?_
    refine sp_m (aw_aload_n (pc := 20) dX1_rests_20 rfl (lv_at hl 0 rfl)) ?_
    refine sp_m (aw_iconst (v := 1) (pc := 21) dX1_rests_21 rfl) ?_
    refine sp_b fun p6 ep6 => ?_
    refine sp_m (G' := AW (KX1_rests l D h0 hE v) p6.2 (25) ls (.int p6.1 :: [])) (fun kk => aw_callV (As := [.int 1]) (metX1_no _ _ ep6) (rcv_o okX1 s4) rfl mok_X1_no q459 q461 qs3 q116 q462 (Nat.le_of_ble_eq_true rfl) (Nat.le_of_ble_eq_true rfl) rfl hl.1 rfl (Nat.le_of_ble_eq_true rfl) (pc := 22) dX1_rests_22 kk) ?_
    exact sp_r fun hz => aw_iret hz rfl rfl rfl (pc := 25) dX1_rests_25
  · refine sp_m (aw_if_eq_f (tgt := 20) (pc := 9) dX1_rests_9 (by decide) c5) ?_
    refine sp_m (aw_aload_n (pc := 12) dX1_rests_12 rfl (lv_at hl 0 rfl)) ?_
    refine sp_m (aw_iload_n (pc := 13) dX1_rests_13 rfl (lv_at hl 1 rfl)) ?_
    refine sp_b fun p7 ep7 => ?_
    refine sp_m (G' := AW (KX1_rests l D h0 hE v) p7.2 (17) ls (.int p7.1 :: [])) (fun kk => aw_callV (As := [.int a1]) (metX1_seekRests _ _ ep7) (rcv_o okX1 s4) rfl mok_X1_seekRests q1227 q1229 qs33 q116 q1230 (Nat.le_of_ble_eq_true rfl) (Nat.le_of_ble_eq_true rfl) rfl hl.1 rfl (Nat.le_of_ble_eq_true rfl) (pc := 14) dX1_rests_14 kk) ?_
    refine sp_m (aw_goto (tgt := 25) (pc := 17) dX1_rests_17 (by decide)) ?_
    exact sp_r fun hz => aw_iret hz rfl rfl rfl (pc := 25) dX1_rests_25
theorem mok_X1_saleOf : mOK yX1_saleOf 1 := ⟨⟨by decide +kernel, by decide +kernel⟩, by decide +kernel⟩
abbrev KX1_saleOf (l : Launch) (D : DD) (h0 : AH) (v : Int32) : KT := (l, yX1_saleOf, cX1_saleOf, 4, (some .int), RX1, 3, D, h0, h0, .inl (some (.int v)), false, [])
theorem metX1_saleOf (l : Launch) (D : DD) {a0 : Nat} {a1 : Int32} {h0 : AH} {v : Int32} (hr : fX1_saleOf a0 a1 h0 = some v) : AMet (KX1_saleOf l D h0 v) [.ref a0, .int a1] := by
  refine AMet.of (K := (KX1_saleOf l D h0 v)) rfl ⟨_, rfl⟩ rfl rfl rfl (Nat.le_of_ble_eq_true rfl) (fun ls hl => ?_)
  have hl : lv_has ls 4 [(0, .ref a0), (1, .int a1)] := hl
  suffices hsp : SP (fX1_saleOf a0 a1 h0) (fun z => z = v) (AW (KX1_saleOf l D h0 v) h0 0 ls []) from hsp _ hr rfl
  unfold fX1_saleOf
  refine sp_m (aw_bipush (v := (-2)) (pc := 0) dX1_saleOf_0 rfl) ?_
  refine sp_m (aw_istore_n (lv' := [(2, .int (-2)), (0, .ref a0), (1, .int a1)]) (pc := 2) dX1_saleOf_2 rfl hl (by decide) rfl) (sp_all fun ls hl => ?_)
  refine sp_m (aw_iconst (v := 0) (pc := 3) dX1_saleOf_3 rfl) ?_
  refine sp_m (aw_istore_n (lv' := [(3, .int 0), (2, .int (-2)), (0, .ref a0), (1, .int a1)]) (pc := 4) dX1_saleOf_4 rfl hl (by decide) rfl) (sp_all fun ls hl => ?_)
  let P1 : Int32 × Int32 → Prop := aLP (KX1_saleOf l D h0 v) 4 5 (fun s1v : Int32 × Int32 => [(0, .ref a0), (1, .int a1), (2, .int s1v.1), (3, .int s1v.2)]) (fun s1v => h0)
  let E1 : Int32 → Prop := aLP (KX1_saleOf l D h0 v) 4 64 (fun r1v : Int32 => [(2, .int r1v)]) (fun r1v => h0)
  refine sp_bl (P := P1) (E := E1) (fun s1v => sp_all fun ls hl => ?_) (fun k => k ls (lv_sub hl [2, 3, 1, 0] rfl)) (fun r1v => sp_all fun ls hl => ?_)
  · have hl : lv_has ls 4 [(0, .ref a0), (1, .int a1), (2, .int s1v.1), (3, .int s1v.2)] := hl
    show SP _ _ (AW (KX1_saleOf l D h0 v) h0 5 ls [])
    unfold X1_saleOf_L5
    refine sp_m (aw_iload_n (pc := 5) dX1_saleOf_5 rfl (lv_at hl 3 rfl)) ?_
    refine sp_m (aw_iconst (v := 1) (pc := 6) dX1_saleOf_6 rfl) ?_
    refine sp_m (aw_aload_n (pc := 7) dX1_saleOf_7 rfl (lv_at hl 0 rfl)) ?_
    refine sp_g fun s2 => ?_
    refine sp_b fun x3 ex3 => ?_
    refine sp_m (aw_get (k := 3) okX1 s2 (by decide) q369 (Or.inl rfl) (congrArg va_rf ex3) (pc := 8) dX1_saleOf_8) ?_
    refine sp_g fun s4 => ?_
    refine sp_m (aw_get (k := 8) okX8 s4 (by decide) q505 (Or.inl rfl) rfl (pc := 11) dX1_saleOf_11) ?_
    refine sp_m (aw_ishl (pc := 14) dX1_saleOf_14) ?_
    refine sp_if (fun c5 => ?_) (fun c5 => ?_)
    · refine sp_m (aw_icmp_ge_t (tgt := 64) (pc := 15) dX1_saleOf_15 (by decide) c5) ?_
      exact sp_r fun hz => hz ls (lv_sub hl [2] rfl)
    · refine sp_m (aw_icmp_ge_f (tgt := 64) (pc := 15) dX1_saleOf_15 (by decide) c5) ?_
      refine sp_m (aw_iload_n (pc := 18) dX1_saleOf_18 rfl (lv_at hl 3 rfl)) ?_
      refine sp_m (aw_aload_n (pc := 19) dX1_saleOf_19 rfl (lv_at hl 0 rfl)) ?_
      refine sp_b fun x6 ex6 => ?_
      refine sp_m (aw_get (k := 9) okX1 s2 (by decide) q375 (Or.inl rfl) (congrArg va_rf ex6) (pc := 20) dX1_saleOf_20) ?_
      refine sp_g fun s7 => ?_
      refine sp_m (aw_get (k := 4) okX4 s7 (by decide) q281 (Or.inl rfl) rfl (pc := 23) dX1_saleOf_23) ?_
      refine sp_m (aw_iand (pc := 26) dX1_saleOf_26) ?_
      have hj58_1 : ∀ j8 : Int32, ∀ ls : Array Slot, lv_has ls 4 [(0, .ref a0), (1, .int a1), (2, .int j8), (3, .int s1v.2)] → SP (X1_saleOf_j58 s1v j8) (ZL P1 E1) (AW (KX1_saleOf l D h0 v) h0 58 ls ([])) := by
        intro j8 ls hl
        unfold X1_saleOf_j58
        refine sp_m (aw_iinc (v := s1v.2 + 1) (lv' := [(3, .int (s1v.2 + 1)), (0, .ref a0), (1, .int a1), (2, .int j8)]) (pc := 58) dX1_saleOf_58 hl (k := 3) rfl rfl (by decide) rfl) (sp_all fun ls hl => ?_)
        refine sp_m (aw_goto (tgt := 5) (pc := 61) dX1_saleOf_61 (by decide)) ?_
        exact sp_r fun hz => hz ls (lv_sub hl [1, 2, 3, 0] rfl)
      refine sp_if (fun c9 => ?_) (fun c9 => ?_)
      · refine sp_m (aw_if_ne_t (tgt := 58) (pc := 27) dX1_saleOf_27 (by decide) c9) ?_
        exact hj58_1 s1v.1 ls (lv_sub hl [0, 1, 2, 3] rfl)
      · refine sp_m (aw_if_ne_f (tgt := 58) (pc := 27) dX1_saleOf_27 (by decide) (Decidable.not_not.mp c9)) ?_
        refine sp_m (aw_aload_n (pc := 30) dX1_saleOf_30 rfl (lv_at hl 0 rfl)) ?_
        refine sp_m (aw_iload_n (pc := 31) dX1_saleOf_31 rfl (lv_at hl 3 rfl)) ?_
        refine sp_b fun p10 ep10 => ?_
        refine sp_m (G' := AW (KX1_saleOf l D h0 v) h0 (35) ls (.int p10 :: [])) (fun kk => aw_callV (As := [.int s1v.2]) (metX1_priceOf _ _ ep10) (rcv_o okX1 s2) rfl mok_X1_priceOf q1264 q1266 qs39 q116 q1267 (Nat.le_of_ble_eq_true rfl) (Nat.le_of_ble_eq_true rfl) rfl hl.1 rfl (Nat.le_of_ble_eq_true rfl) (pc := 32) dX1_saleOf_32 kk) ?_
        refine sp_m (aw_iload_n (pc := 35) dX1_saleOf_35 rfl (lv_at hl 1 rfl)) ?_
        refine sp_if (fun c11 => ?_) (fun c11 => ?_)
        · refine sp_m (aw_icmp_lt_t (tgt := 58) (pc := 36) dX1_saleOf_36 (by decide) c11) ?_
          exact hj58_1 s1v.1 ls (lv_sub hl [0, 1, 2, 3] rfl)
        · refine sp_m (aw_icmp_lt_f (tgt := 58) (pc := 36) dX1_saleOf_36 (by decide) c11) ?_
          refine sp_m (aw_iload_n (pc := 39) dX1_saleOf_39 rfl (lv_at hl 2 rfl)) ?_
          refine sp_m (aw_bipush (v := (-2)) (pc := 40) dX1_saleOf_40 rfl) ?_
          have hj56_2 : ∀ ls : Array Slot, lv_has ls 4 [(0, .ref a0), (1, .int a1), (3, .int s1v.2)] → SP (X1_saleOf_j56 s1v) (ZL P1 E1) (AW (KX1_saleOf l D h0 v) h0 56 ls ([])) := by
            intro ls hl
            unfold X1_saleOf_j56
            refine sp_m (aw_iload_n (pc := 56) dX1_saleOf_56 rfl (lv_at hl 2 rfl)) ?_
            refine sp_m (aw_istore_n (lv' := [(2, .int s1v.2), (0, .ref a0), (1, .int a1), (3, .int s1v.2)]) (pc := 57) dX1_saleOf_57 rfl hl (by decide) rfl) (sp_all fun ls hl => ?_)
            exact hj58_1 s1v.2 ls (lv_sub hl [1, 2, 0, 3] rfl)
          refine sp_if (fun c12 => ?_) (fun c12 => ?_)
          · refine sp_m (aw_icmp_eq_t (tgt := 56) (pc := 42) dX1_saleOf_42 (by decide) c12) ?_
            exact hj56_2 ls (lv_sub hl [0, 1, 3] rfl)
          · refine sp_m (aw_icmp_eq_f (tgt := 56) (pc := 42) dX1_saleOf_42 (by decide) c12) ?_
            refine sp_m (aw_iload_n (pc := 45) dX1_saleOf_45 rfl (lv_at hl 3 rfl)) ?_
            refine sp_b fun p13 ep13 => ?_
            refine sp_m (G' := AW (KX1_saleOf l D h0 v) h0 (49) ls (.int p13 :: [])) (fun kk => aw_callS (As := [.int s1v.2]) (metX1_ones _ _ ep13) mok_X1_ones q1269 q1270 q116 q1271 (Nat.le_of_ble_eq_true rfl) (Nat.le_of_ble_eq_true rfl) rfl hl.1 rfl (Nat.le_of_ble_eq_true rfl) (pc := 46) dX1_saleOf_46 kk) ?_
            refine sp_m (aw_iload_n (pc := 49) dX1_saleOf_49 rfl (lv_at hl 2 rfl)) ?_
            refine sp_b fun p14 ep14 => ?_
            refine sp_m (G' := AW (KX1_saleOf l D h0 v) h0 (53) ls (.int p14 :: .int p13 :: [])) (fun kk => aw_callS (As := [.int s1v.1]) (metX1_ones _ _ ep14) mok_X1_ones q1269 q1270 q116 q1271 (Nat.le_of_ble_eq_true rfl) (Nat.le_of_ble_eq_true rfl) rfl hl.1 rfl (Nat.le_of_ble_eq_true rfl) (pc := 50) dX1_saleOf_50 kk) ?_
            refine sp_if (fun c15 => ?_) (fun c15 => ?_)
            · refine sp_m (aw_icmp_ge_t (tgt := 58) (pc := 53) dX1_saleOf_53 (by decide) c15) ?_
              exact hj58_1 s1v.1 ls (lv_sub hl [0, 1, 2, 3] rfl)
            · refine sp_m (aw_icmp_ge_f (tgt := 58) (pc := 53) dX1_saleOf_53 (by decide) c15) ?_
              exact hj56_2 ls (lv_sub hl [0, 1, 3] rfl)
  · have hl : lv_has ls 4 [(2, .int r1v)] := hl
    show SP _ _ (AW (KX1_saleOf l D h0 v) h0 64 ls [])
    refine sp_m (aw_iload_n (pc := 64) dX1_saleOf_64 rfl (lv_at hl 0 rfl)) ?_
    exact sp_r fun hz => aw_iret (congrArg (fun z => (z, h0)) hz) rfl rfl rfl (pc := 65) dX1_saleOf_65
theorem mok_X1_saleWhy : mOK yX1_saleWhy 1 := ⟨⟨by decide +kernel, by decide +kernel⟩, by decide +kernel⟩
abbrev KX1_saleWhy (l : Launch) (D : DD) (h0 : AH) (v : Int32) : KT := (l, yX1_saleWhy, cX1_saleWhy, 2, (some .int), RX1, 2, D, h0, h0, .inl (some (.int v)), false, [])
theorem metX1_saleWhy (l : Launch) (D : DD) {a0 : Nat} {a1 : Int32} {h0 : AH} {v : Int32} (hr : fX1_saleWhy a0 a1 h0 = some v) : AMet (KX1_saleWhy l D h0 v) [.ref a0, .int a1] := by
  refine AMet.of (K := (KX1_saleWhy l D h0 v)) rfl ⟨_, rfl⟩ rfl rfl rfl (Nat.le_of_ble_eq_true rfl) (fun ls hl => ?_)
  have hl : lv_has ls 2 [(0, .ref a0), (1, .int a1)] := hl
  suffices hsp : SP (fX1_saleWhy a0 a1 h0) (fun z => z = v) (AW (KX1_saleWhy l D h0 v) h0 0 ls []) from hsp _ hr rfl
  unfold fX1_saleWhy
  refine sp_m (aw_aload_n (pc := 0) dX1_saleWhy_0 rfl (lv_at hl 0 rfl)) ?_
  refine sp_g fun s1 => ?_
  refine sp_o (fun ex2 => ?_) (fun x2 ex2 => ?_)
  · refine sp_m (aw_get (k := 3) okX1 s1 (by decide) q369 (Or.inl rfl) (congrArg va_rf ex2) (pc := 1) dX1_saleWhy_1) ?_
    refine sp_m (aw_ifnonnullN (pc := 4) dX1_saleWhy_4) ?_
    refine sp_m (aw_iconst (v := 1) (pc := 7) dX1_saleWhy_7 rfl) ?_
    refine sp_m (aw_goto (tgt := 27) (pc := 8) dX1_saleWhy_8 (by decide)) ?_
    exact sp_r fun hz => aw_iret (congrArg (fun z => (z, h0)) hz) rfl rfl rfl (pc := 27) dX1_saleWhy_27
  · refine sp_m (aw_get (k := 3) okX1 s1 (by decide) q369 (Or.inl rfl) (congrArg va_rf ex2) (pc := 1) dX1_saleWhy_1) ?_
    refine sp_m (aw_ifnonnull (tgt := 11) (pc := 4) dX1_saleWhy_4 (by decide)) ?_
    refine sp_m (aw_iload_n (pc := 11) dX1_saleWhy_11 rfl (lv_at hl 1 rfl)) ?_
    refine sp_m (aw_iconst (v := 0) (pc := 12) dX1_saleWhy_12 rfl) ?_
    refine sp_m (aw_sipush (v := 500) (pc := 13) dX1_saleWhy_13 rfl) ?_
    refine sp_b fun p3 ep3 => ?_
    refine sp_m (G' := AW (KX1_saleWhy l D h0 v) h0 (19) ls (.int p3 :: [])) (fun kk => aw_callS (As := [.int a1, .int 0, .int 500]) (metX1_in _ _ ep3) mok_X1_in q456 q457 q116 q458 (Nat.le_of_ble_eq_true rfl) (Nat.le_of_ble_eq_true rfl) rfl hl.1 rfl (Nat.le_of_ble_eq_true rfl) (pc := 16) dX1_saleWhy_16 kk) ?_
    refine sp_if (fun c4 => ?_) (fun c4 => ?_)
    · refine sp_m (aw_if_eq_t (tgt := 26) (pc := 19) dX1_saleWhy_19 (by decide) c4) ?_
      refine sp_m (aw_iconst (v := 2) (pc := 26) dX1_saleWhy_26 rfl) ?_
      exact sp_r fun hz => aw_iret (congrArg (fun z => (z, h0)) hz) rfl rfl rfl (pc := 27) dX1_saleWhy_27
    · refine sp_m (aw_if_eq_f (tgt := 26) (pc := 19) dX1_saleWhy_19 (by decide) c4) ?_
      refine sp_m (aw_iconst (v := 0) (pc := 22) dX1_saleWhy_22 rfl) ?_
      refine sp_m (aw_goto (tgt := 27) (pc := 23) dX1_saleWhy_23 (by decide)) ?_
      exact sp_r fun hz => aw_iret (congrArg (fun z => (z, h0)) hz) rfl rfl rfl (pc := 27) dX1_saleWhy_27
theorem mok_X1_sale : mOK yX1_sale 1 := ⟨⟨by decide +kernel, by decide +kernel⟩, by decide +kernel⟩
abbrev KX1_sale (l : Launch) (D : DD) (h0 hE : AH) (v : Int32) : KT := (l, yX1_sale, cX1_sale, 3, (some .int), RX1, 4, D, h0, hE, .inl (some (.int v)), false, [])
theorem metX1_sale (l : Launch) (D : DD) {a0 : Nat} {a1 : Int32} {h0 : AH} {hE : AH} {v : Int32} (hr : fX1_sale a0 a1 h0 = some (v, hE)) : AMet (KX1_sale l D h0 hE v) [.ref a0, .int a1] := by
  refine AMet.of (K := (KX1_sale l D h0 hE v)) rfl ⟨_, rfl⟩ rfl rfl rfl (Nat.le_of_ble_eq_true rfl) (fun ls hl => ?_)
  have hl : lv_has ls 3 [(0, .ref a0), (1, .int a1)] := hl
  suffices hsp : SP (fX1_sale a0 a1 h0) (fun z => z = (v, hE)) (AW (KX1_sale l D h0 hE v) h0 0 ls []) from hsp _ hr rfl
  unfold fX1_sale
  refine sp_m (aw_aload_n (pc := 0) dX1_sale_0 rfl (lv_at hl 0 rfl)) ?_
  refine sp_g fun s2 => ?_
  refine sp_b fun p1 ep1 => ?_
  refine sp_m (G' := AW (KX1_sale l D h0 hE v) p1 (4) ls ([])) (fun kk => aw_callV (As := []) (metX1_anew _ _ ep1) (rcv_o okX1 s2) rfl mok_X1_anew q452 q454 qs2 q116 q455 (Nat.le_of_ble_eq_true rfl) (Nat.le_of_ble_eq_true rfl) rfl hl.1 rfl (Nat.le_of_ble_eq_true rfl) (pc := 1) dX1_sale_1 kk) ?_
  refine sp_m (aw_aload_n (pc := 4) dX1_sale_4 rfl (lv_at hl 0 rfl)) ?_
  refine sp_m (aw_iload_n (pc := 5) dX1_sale_5 rfl (lv_at hl 1 rfl)) ?_
  refine sp_g fun s4 => ?_
  refine sp_b fun p3 ep3 => ?_
  refine sp_m (G' := AW (KX1_sale l D h0 hE v) p1 (9) ls (.int p3 :: [])) (fun kk => aw_callV (As := [.int a1]) (metX1_saleWhy _ _ ep3) (rcv_o okX1 s4) rfl mok_X1_saleWhy q1256 q1258 qs37 q116 q1259 (Nat.le_of_ble_eq_true rfl) (Nat.le_of_ble_eq_true rfl) rfl hl.1 rfl (Nat.le_of_ble_eq_true rfl) (pc := 6) dX1_sale_6 kk) ?_
  refine sp_m (aw_istore_n (lv' := [(2, .int p3), (0, .ref a0), (1, .int a1)]) (pc := 9) dX1_sale_9 rfl hl (by decide) rfl) (sp_all fun ls hl => ?_)
  refine sp_m (aw_iload_n (pc := 10) dX1_sale_10 rfl (lv_at hl 0 rfl)) ?_
  refine sp_if (fun c5 => ?_) (fun c5 => ?_)
  · refine sp_m (aw_if_eq_t (tgt := 22) (pc := 11) dX1_sale_11 (by decide) c5) ?_
    refine sp_m (aw_aload_n (pc := 22) dX1_sale_22 rfl (lv_at hl 1 rfl)) ?_
    refine sp_m (aw_iload_n (pc := 23) dX1_sale_23 rfl (lv_at hl 2 rfl)) ?_
    refine sp_b fun p6 ep6 => ?_
    refine sp_m (G' := AW (KX1_sale l D h0 hE v) p1 (27) ls (.int p6 :: [])) (fun kk => aw_callV (As := [.int a1]) (metX1_saleOf _ _ ep6) (rcv_o okX1 s4) rfl mok_X1_saleOf q1260 q1262 qs38 q116 q1263 (Nat.le_of_ble_eq_true rfl) (Nat.le_of_ble_eq_true rfl) rfl hl.1 rfl (Nat.le_of_ble_eq_true rfl) (pc := 24) dX1_sale_24 kk) ?_
    exact sp_r fun hz => aw_iret hz rfl rfl rfl (pc := 27) dX1_sale_27
  · refine sp_m (aw_if_eq_f (tgt := 22) (pc := 11) dX1_sale_11 (by decide) c5) ?_
    refine sp_m (aw_aload_n (pc := 14) dX1_sale_14 rfl (lv_at hl 1 rfl)) ?_
    refine sp_m (aw_iload_n (pc := 15) dX1_sale_15 rfl (lv_at hl 0 rfl)) ?_
    refine sp_b fun p7 ep7 => ?_
    refine sp_m (G' := AW (KX1_sale l D h0 hE v) p7.2 (19) ls (.int p7.1 :: [])) (fun kk => aw_callV (As := [.int p3]) (metX1_no _ _ ep7) (rcv_o okX1 s4) rfl mok_X1_no q459 q461 qs3 q116 q462 (Nat.le_of_ble_eq_true rfl) (Nat.le_of_ble_eq_true rfl) rfl hl.1 rfl (Nat.le_of_ble_eq_true rfl) (pc := 16) dX1_sale_16 kk) ?_
    refine sp_m (aw_goto (tgt := 27) (pc := 19) dX1_sale_19 (by decide)) ?_
    exact sp_r fun hz => aw_iret hz rfl rfl rfl (pc := 27) dX1_sale_27
theorem mok_X1_saleOver : mOK yX1_saleOver 1 := ⟨⟨by decide +kernel, by decide +kernel⟩, by decide +kernel⟩
abbrev KX1_saleOver (l : Launch) (D : DD) (h0 hE : AH) (v : Int32) : KT := (l, yX1_saleOver, cX1_saleOver, 4, (some .int), RX1, 4, D, h0, hE, .inl (some (.int v)), false, [])
theorem metX1_saleOver (l : Launch) (D : DD) {a0 : Nat} {a1 : Int32} {h0 : AH} {hE : AH} {v : Int32} (hr : fX1_saleOver a0 a1 h0 = some (v, hE)) : AMet (KX1_saleOver l D h0 hE v) [.ref a0, .int a1] := by
  refine AMet.of (K := (KX1_saleOver l D h0 hE v)) rfl ⟨_, rfl⟩ rfl rfl rfl (Nat.le_of_ble_eq_true rfl) (fun ls hl => ?_)
  have hl : lv_has ls 4 [(0, .ref a0), (1, .int a1)] := hl
  suffices hsp : SP (fX1_saleOver a0 a1 h0) (fun z => z = (v, hE)) (AW (KX1_saleOver l D h0 hE v) h0 0 ls []) from hsp _ hr rfl
  unfold fX1_saleOver
  refine sp_m (aw_aload_n (pc := 0) dX1_saleOver_0 rfl (lv_at hl 0 rfl)) ?_
  refine sp_g fun s2 => ?_
  refine sp_b fun p1 ep1 => ?_
  refine sp_m (G' := AW (KX1_saleOver l D h0 hE v) p1 (4) ls ([])) (fun kk => aw_callV (As := []) (metX1_anew _ _ ep1) (rcv_o okX1 s2) rfl mok_X1_anew q452 q454 qs2 q116 q455 (Nat.le_of_ble_eq_true rfl) (Nat.le_of_ble_eq_true rfl) rfl hl.1 rfl (Nat.le_of_ble_eq_true rfl) (pc := 1) dX1_saleOver_1 kk) ?_
  refine sp_m (aw_aload_n (pc := 4) dX1_saleOver_4 rfl (lv_at hl 0 rfl)) ?_
  refine sp_m (aw_iload_n (pc := 5) dX1_saleOver_5 rfl (lv_at hl 1 rfl)) ?_
  refine sp_g fun s4 => ?_
  refine sp_b fun p3 ep3 => ?_
  refine sp_m (G' := AW (KX1_saleOver l D h0 hE v) p1 (9) ls (.int p3 :: [])) (fun kk => aw_callV (As := [.int a1]) (metX1_saleWhy _ _ ep3) (rcv_o okX1 s4) rfl mok_X1_saleWhy q1256 q1258 qs37 q116 q1259 (Nat.le_of_ble_eq_true rfl) (Nat.le_of_ble_eq_true rfl) rfl hl.1 rfl (Nat.le_of_ble_eq_true rfl) (pc := 6) dX1_saleOver_6 kk) ?_
  refine sp_m (aw_istore_n (lv' := [(2, .int p3), (0, .ref a0), (1, .int a1)]) (pc := 9) dX1_saleOver_9 rfl hl (by decide) rfl) (sp_all fun ls hl => ?_)
  refine sp_m (aw_iload_n (pc := 10) dX1_saleOver_10 rfl (lv_at hl 0 rfl)) ?_
  refine sp_if (fun c5 => ?_) (fun c5 => ?_)
  · refine sp_m (aw_if_eq_t (tgt := 20) (pc := 11) dX1_saleOver_11 (by decide) c5) ?_
    refine sp_m (aw_aload_n (pc := 20) dX1_saleOver_20 rfl (lv_at hl 1 rfl)) ?_
    refine sp_m (aw_iload_n (pc := 21) dX1_saleOver_21 rfl (lv_at hl 2 rfl)) ?_
    refine sp_b fun p6 ep6 => ?_
    refine sp_m (G' := AW (KX1_saleOver l D h0 hE v) p1 (25) ls (.int p6 :: [])) (fun kk => aw_callV (As := [.int a1]) (metX1_saleOf _ _ ep6) (rcv_o okX1 s4) rfl mok_X1_saleOf q1260 q1262 qs38 q116 q1263 (Nat.le_of_ble_eq_true rfl) (Nat.le_of_ble_eq_true rfl) rfl hl.1 rfl (Nat.le_of_ble_eq_true rfl) (pc := 22) dX1_saleOver_22 kk) ?_
    refine sp_m (aw_istore_n (lv' := [(3, .int p6), (2, .int p3), (0, .ref a0), (1, .int a1)]) (pc := 25) dX1_saleOver_25 rfl hl (by decide) rfl) (sp_all fun ls hl => ?_)
    refine sp_m (aw_iload_n (pc := 26) dX1_saleOver_26 rfl (lv_at hl 0 rfl)) ?_
    refine sp_m (aw_bipush (v := (-2)) (pc := 27) dX1_saleOver_27 rfl) ?_
    refine sp_if (fun c7 => ?_) (fun c7 => ?_)
    · refine sp_m (aw_icmp_ne_t (tgt := 41) (pc := 29) dX1_saleOver_29 (by decide) c7) ?_
      refine sp_m (aw_aload_n (pc := 41) dX1_saleOver_41 rfl (lv_at hl 2 rfl)) ?_
      refine sp_m (aw_iload_n (pc := 42) dX1_saleOver_42 rfl (lv_at hl 0 rfl)) ?_
      refine sp_b fun p8 ep8 => ?_
      refine sp_m (G' := AW (KX1_saleOver l D h0 hE v) p1 (46) ls (.int p8 :: [])) (fun kk => aw_callV (As := [.int p6]) (metX1_priceOf _ _ ep8) (rcv_o okX1 s4) rfl mok_X1_priceOf q1264 q1266 qs39 q116 q1267 (Nat.le_of_ble_eq_true rfl) (Nat.le_of_ble_eq_true rfl) rfl hl.1 rfl (Nat.le_of_ble_eq_true rfl) (pc := 43) dX1_saleOver_43 kk) ?_
      refine sp_m (aw_iload_n (pc := 46) dX1_saleOver_46 rfl (lv_at hl 3 rfl)) ?_
      refine sp_m (aw_isub (pc := 47) dX1_saleOver_47) ?_
      exact sp_r fun hz => aw_iret hz rfl rfl rfl (pc := 48) dX1_saleOver_48
    · refine sp_m (aw_icmp_ne_f (tgt := 41) (pc := 29) dX1_saleOver_29 (by decide) (Decidable.not_not.mp c7)) ?_
      refine sp_m (aw_aload_n (pc := 32) dX1_saleOver_32 rfl (lv_at hl 2 rfl)) ?_
      refine sp_m (aw_bipush (v := 6) (pc := 33) dX1_saleOver_33 rfl) ?_
      refine sp_b fun p9 ep9 => ?_
      refine sp_m (G' := AW (KX1_saleOver l D h0 hE v) p9.2 (38) ls (.int p9.1 :: [])) (fun kk => aw_callV (As := [.int 6]) (metX1_no _ _ ep9) (rcv_o okX1 s4) rfl mok_X1_no q459 q461 qs3 q116 q462 (Nat.le_of_ble_eq_true rfl) (Nat.le_of_ble_eq_true rfl) rfl hl.1 rfl (Nat.le_of_ble_eq_true rfl) (pc := 35) dX1_saleOver_35 kk) ?_
      refine sp_m (aw_goto (tgt := 48) (pc := 38) dX1_saleOver_38 (by decide)) ?_
      exact sp_r fun hz => aw_iret hz rfl rfl rfl (pc := 48) dX1_saleOver_48
  · refine sp_m (aw_if_eq_f (tgt := 20) (pc := 11) dX1_saleOver_11 (by decide) c5) ?_
    refine sp_m (aw_aload_n (pc := 14) dX1_saleOver_14 rfl (lv_at hl 1 rfl)) ?_
    refine sp_m (aw_iload_n (pc := 15) dX1_saleOver_15 rfl (lv_at hl 0 rfl)) ?_
    refine sp_b fun p10 ep10 => ?_
    refine sp_m (G' := AW (KX1_saleOver l D h0 hE v) p10.2 (19) ls (.int p10.1 :: [])) (fun kk => aw_callV (As := [.int p3]) (metX1_no _ _ ep10) (rcv_o okX1 s4) rfl mok_X1_no q459 q461 qs3 q116 q462 (Nat.le_of_ble_eq_true rfl) (Nat.le_of_ble_eq_true rfl) rfl hl.1 rfl (Nat.le_of_ble_eq_true rfl) (pc := 16) dX1_saleOver_16 kk) ?_
    exact sp_r fun hz => aw_iret hz rfl rfl rfl (pc := 19) dX1_saleOver_19
theorem mok_X1_seed : mOK yX1_seed 1 := ⟨⟨by decide +kernel, by decide +kernel⟩, by decide +kernel⟩
abbrev KX1_seed (l : Launch) (D : DD) (h0 hE : AH) (v : Int32) : KT := (l, yX1_seed, cX1_seed, 2, (some .boolean), RX1, 3, D, h0, hE, .inl (some (.int v)), false, [])
theorem metX1_seed (l : Launch) (D : DD) {a0 : Nat} {a1 : Int32} {h0 : AH} {hE : AH} {v : Int32} (hr : fX1_seed a0 a1 h0 = some (v, hE)) : AMet (KX1_seed l D h0 hE v) [.ref a0, .int a1] := by
  refine AMet.of (K := (KX1_seed l D h0 hE v)) rfl ⟨_, rfl⟩ rfl rfl rfl (Nat.le_of_ble_eq_true rfl) (fun ls hl => ?_)
  have hl : lv_has ls 2 [(0, .ref a0), (1, .int a1)] := hl
  suffices hsp : SP (fX1_seed a0 a1 h0) (fun z => z = (v, hE)) (AW (KX1_seed l D h0 hE v) h0 0 ls []) from hsp _ hr rfl
  unfold fX1_seed
  refine sp_m (aw_aload_n (pc := 0) dX1_seed_0 rfl (lv_at hl 0 rfl)) ?_
  refine sp_m (aw_aload_n (pc := 1) dX1_seed_1 rfl (lv_at hl 0 rfl)) ?_
  refine sp_g fun s1 => ?_
  refine sp_o (fun ex2 => ?_) (fun x2 ex2 => ?_)
  · refine sp_m (aw_get (k := 3) okX1 s1 (by decide) q369 (Or.inl rfl) (congrArg va_rf ex2) (pc := 2) dX1_seed_2) ?_
    refine sp_m (aw_ifnonnullN (pc := 5) dX1_seed_5) ?_
    refine sp_m (aw_iconst (v := 1) (pc := 8) dX1_seed_8 rfl) ?_
    refine sp_m (aw_goto (tgt := 28) (pc := 9) dX1_seed_9 (by decide)) ?_
    refine sp_b fun p17 ep17 => ?_
    refine sp_m (G' := AW (KX1_seed l D h0 hE v) p17.2 (31) ls (.int p17.1 :: [])) (fun kk => aw_callV (As := [.int 1]) (metX1_yes _ _ ep17) (rcv_o okX1 s1) rfl mok_X1_yes q1410 q1412 qs47 q116 q1413 (Nat.le_of_ble_eq_true rfl) (Nat.le_of_ble_eq_true rfl) rfl hl.1 rfl (Nat.le_of_ble_eq_true rfl) (pc := 28) dX1_seed_28 kk) ?_
    refine sp_if (fun c18 => ?_) (fun c18 => ?_)
    · refine sp_m (aw_if_ne_t (tgt := 36) (pc := 31) dX1_seed_31 (by decide) c18) ?_
      refine sp_m (aw_aload_n (pc := 36) dX1_seed_36 rfl (lv_at hl 0 rfl)) ?_
      refine sp_g fun s19 => ?_
      refine sp_b fun x20 ex20 => ?_
      refine sp_m (aw_get (k := 9) okX1 s19 (by decide) q375 (Or.inl rfl) (congrArg va_rf ex20) (pc := 37) dX1_seed_37) ?_
      refine sp_m (aw_iload_n (pc := 40) dX1_seed_40 rfl (lv_at hl 1 rfl)) ?_
      refine sp_g fun s21 => ?_
      refine sp_t fun h22 eh220 => ?_
      have eh22 : gS h22 = gS p17.2 := by rw [eh220]; rfl
      refine sp_m (aw_put (k := 5) okX4 opX4 s21 (by decide) q283 (Or.inl rfl) (Or.inl rfl) (hasV_I' eh220) rfl rfl (pc := 41) dX1_seed_41) ?_
      refine sp_m (aw_iconst (v := 1) (pc := 44) dX1_seed_44 rfl) ?_
      exact sp_r fun hz => aw_zret (nar_b (Or.inr rfl)) hz rfl rfl rfl (pc := 45) dX1_seed_45
    · refine sp_m (aw_if_ne_f (tgt := 36) (pc := 31) dX1_seed_31 (by decide) (Decidable.not_not.mp c18)) ?_
      refine sp_m (aw_iconst (v := 0) (pc := 34) dX1_seed_34 rfl) ?_
      exact sp_r fun hz => aw_zret (nar_b (Or.inl rfl)) hz rfl rfl rfl (pc := 35) dX1_seed_35
  · refine sp_m (aw_get (k := 3) okX1 s1 (by decide) q369 (Or.inl rfl) (congrArg va_rf ex2) (pc := 2) dX1_seed_2) ?_
    refine sp_m (aw_ifnonnull (tgt := 12) (pc := 5) dX1_seed_5 (by decide)) ?_
    refine sp_m (aw_iload_n (pc := 12) dX1_seed_12 rfl (lv_at hl 1 rfl)) ?_
    refine sp_m (aw_iconst (v := 0) (pc := 13) dX1_seed_13 rfl) ?_
    refine sp_m (aw_ldcw q1377 (pc := 14) dX1_seed_14) ?_
    refine sp_b fun p3 ep3 => ?_
    refine sp_m (G' := AW (KX1_seed l D h0 hE v) h0 (20) ls (.int p3 :: .ref a0 :: [])) (fun kk => aw_callS (As := [.int a1, .int 0, .int 65536]) (metX1_in _ _ ep3) mok_X1_in q456 q457 q116 q458 (Nat.le_of_ble_eq_true rfl) (Nat.le_of_ble_eq_true rfl) rfl hl.1 rfl (Nat.le_of_ble_eq_true rfl) (pc := 17) dX1_seed_17 kk) ?_
    refine sp_if (fun c4 => ?_) (fun c4 => ?_)
    · refine sp_m (aw_if_eq_t (tgt := 27) (pc := 20) dX1_seed_20 (by decide) c4) ?_
      refine sp_m (aw_iconst (v := 2) (pc := 27) dX1_seed_27 rfl) ?_
      refine sp_b fun p5 ep5 => ?_
      refine sp_m (G' := AW (KX1_seed l D h0 hE v) p5.2 (31) ls (.int p5.1 :: [])) (fun kk => aw_callV (As := [.int 2]) (metX1_yes _ _ ep5) (rcv_o okX1 s1) rfl mok_X1_yes q1410 q1412 qs47 q116 q1413 (Nat.le_of_ble_eq_true rfl) (Nat.le_of_ble_eq_true rfl) rfl hl.1 rfl (Nat.le_of_ble_eq_true rfl) (pc := 28) dX1_seed_28 kk) ?_
      refine sp_if (fun c6 => ?_) (fun c6 => ?_)
      · refine sp_m (aw_if_ne_t (tgt := 36) (pc := 31) dX1_seed_31 (by decide) c6) ?_
        refine sp_m (aw_aload_n (pc := 36) dX1_seed_36 rfl (lv_at hl 0 rfl)) ?_
        refine sp_g fun s7 => ?_
        refine sp_b fun x8 ex8 => ?_
        refine sp_m (aw_get (k := 9) okX1 s7 (by decide) q375 (Or.inl rfl) (congrArg va_rf ex8) (pc := 37) dX1_seed_37) ?_
        refine sp_m (aw_iload_n (pc := 40) dX1_seed_40 rfl (lv_at hl 1 rfl)) ?_
        refine sp_g fun s9 => ?_
        refine sp_t fun h10 eh100 => ?_
        have eh10 : gS h10 = gS p5.2 := by rw [eh100]; rfl
        refine sp_m (aw_put (k := 5) okX4 opX4 s9 (by decide) q283 (Or.inl rfl) (Or.inl rfl) (hasV_I' eh100) rfl rfl (pc := 41) dX1_seed_41) ?_
        refine sp_m (aw_iconst (v := 1) (pc := 44) dX1_seed_44 rfl) ?_
        exact sp_r fun hz => aw_zret (nar_b (Or.inr rfl)) hz rfl rfl rfl (pc := 45) dX1_seed_45
      · refine sp_m (aw_if_ne_f (tgt := 36) (pc := 31) dX1_seed_31 (by decide) (Decidable.not_not.mp c6)) ?_
        refine sp_m (aw_iconst (v := 0) (pc := 34) dX1_seed_34 rfl) ?_
        exact sp_r fun hz => aw_zret (nar_b (Or.inl rfl)) hz rfl rfl rfl (pc := 35) dX1_seed_35
    · refine sp_m (aw_if_eq_f (tgt := 27) (pc := 20) dX1_seed_20 (by decide) c4) ?_
      refine sp_m (aw_iconst (v := 0) (pc := 23) dX1_seed_23 rfl) ?_
      refine sp_m (aw_goto (tgt := 28) (pc := 24) dX1_seed_24 (by decide)) ?_
      refine sp_b fun p11 ep11 => ?_
      refine sp_m (G' := AW (KX1_seed l D h0 hE v) p11.2 (31) ls (.int p11.1 :: [])) (fun kk => aw_callV (As := [.int 0]) (metX1_yes _ _ ep11) (rcv_o okX1 s1) rfl mok_X1_yes q1410 q1412 qs47 q116 q1413 (Nat.le_of_ble_eq_true rfl) (Nat.le_of_ble_eq_true rfl) rfl hl.1 rfl (Nat.le_of_ble_eq_true rfl) (pc := 28) dX1_seed_28 kk) ?_
      refine sp_if (fun c12 => ?_) (fun c12 => ?_)
      · refine sp_m (aw_if_ne_t (tgt := 36) (pc := 31) dX1_seed_31 (by decide) c12) ?_
        refine sp_m (aw_aload_n (pc := 36) dX1_seed_36 rfl (lv_at hl 0 rfl)) ?_
        refine sp_g fun s13 => ?_
        refine sp_b fun x14 ex14 => ?_
        refine sp_m (aw_get (k := 9) okX1 s13 (by decide) q375 (Or.inl rfl) (congrArg va_rf ex14) (pc := 37) dX1_seed_37) ?_
        refine sp_m (aw_iload_n (pc := 40) dX1_seed_40 rfl (lv_at hl 1 rfl)) ?_
        refine sp_g fun s15 => ?_
        refine sp_t fun h16 eh160 => ?_
        have eh16 : gS h16 = gS p11.2 := by rw [eh160]; rfl
        refine sp_m (aw_put (k := 5) okX4 opX4 s15 (by decide) q283 (Or.inl rfl) (Or.inl rfl) (hasV_I' eh160) rfl rfl (pc := 41) dX1_seed_41) ?_
        refine sp_m (aw_iconst (v := 1) (pc := 44) dX1_seed_44 rfl) ?_
        exact sp_r fun hz => aw_zret (nar_b (Or.inr rfl)) hz rfl rfl rfl (pc := 45) dX1_seed_45
      · refine sp_m (aw_if_ne_f (tgt := 36) (pc := 31) dX1_seed_31 (by decide) (Decidable.not_not.mp c12)) ?_
        refine sp_m (aw_iconst (v := 0) (pc := 34) dX1_seed_34 rfl) ?_
        exact sp_r fun hz => aw_zret (nar_b (Or.inl rfl)) hz rfl rfl rfl (pc := 35) dX1_seed_35
theorem mok_X1_setOut : mOK yX1_setOut 3 := ⟨⟨by decide +kernel, by decide +kernel⟩, by decide +kernel⟩
abbrev KX1_setOut (l : Launch) (D : DD) (h0 hE : AH) (v : Int32) : KT := (l, yX1_setOut, cX1_setOut, 6, (some .int), RX1, 13, D, h0, hE, .inl (some (.int v)), false, [])
theorem metX1_setOut (l : Launch) (D : DD) {a0 : Nat} {a1 : Int32} {a2 : Int32} {a3 : Int32} {h0 : AH} {hE : AH} {v : Int32} (hr : fX1_setOut a0 a1 a2 a3 h0 = some (v, hE)) : AMet (KX1_setOut l D h0 hE v) [.ref a0, .int a1, .int a2, .int a3] := by
  refine AMet.of (K := (KX1_setOut l D h0 hE v)) rfl ⟨_, rfl⟩ rfl rfl rfl (Nat.le_of_ble_eq_true rfl) (fun ls hl => ?_)
  have hl : lv_has ls 6 [(0, .ref a0), (1, .int a1), (2, .int a2), (3, .int a3)] := hl
  suffices hsp : SP (fX1_setOut a0 a1 a2 a3 h0) (fun z => z = (v, hE)) (AW (KX1_setOut l D h0 hE v) h0 0 ls []) from hsp _ hr rfl
  unfold fX1_setOut
  refine sp_m (aw_aload_n (pc := 0) dX1_setOut_0 rfl (lv_at hl 0 rfl)) ?_
  refine sp_g fun s2 => ?_
  refine sp_b fun p1 ep1 => ?_
  refine sp_m (G' := AW (KX1_setOut l D h0 hE v) p1 (4) ls ([])) (fun kk => aw_callV (As := []) (metX1_anew _ _ ep1) (rcv_o okX1 s2) rfl mok_X1_anew q452 q454 qs2 q116 q455 (Nat.le_of_ble_eq_true rfl) (Nat.le_of_ble_eq_true rfl) rfl hl.1 rfl (Nat.le_of_ble_eq_true rfl) (pc := 1) dX1_setOut_1 kk) ?_
  refine sp_m (aw_aload_n (pc := 4) dX1_setOut_4 rfl (lv_at hl 0 rfl)) ?_
  refine sp_m (aw_iload_n (pc := 5) dX1_setOut_5 rfl (lv_at hl 1 rfl)) ?_
  refine sp_m (aw_iload_n (pc := 6) dX1_setOut_6 rfl (lv_at hl 2 rfl)) ?_
  refine sp_m (aw_iload_n (pc := 7) dX1_setOut_7 rfl (lv_at hl 3 rfl)) ?_
  refine sp_g fun s4 => ?_
  refine sp_b fun p3 ep3 => ?_
  refine sp_m (G' := AW (KX1_setOut l D h0 hE v) p1 (11) ls (.int p3 :: [])) (fun kk => aw_callV (As := [.int a1, .int a2, .int a3]) (metX1_marchWhy _ _ ep3) (rcv_o okX1 s4) rfl mok_X1_marchWhy q1280 q1282 qs40 q116 q1283 (Nat.le_of_ble_eq_true rfl) (Nat.le_of_ble_eq_true rfl) rfl hl.1 rfl (Nat.le_of_ble_eq_true rfl) (pc := 8) dX1_setOut_8 kk) ?_
  refine sp_m (aw_istore (lv' := [(4, .int p3), (0, .ref a0), (1, .int a1), (2, .int a2), (3, .int a3)]) (pc := 11) dX1_setOut_11 hl (by decide) rfl) (sp_all fun ls hl => ?_)
  refine sp_m (aw_iload (pc := 13) dX1_setOut_13 (lv_at hl 0 rfl)) ?_
  refine sp_if (fun c5 => ?_) (fun c5 => ?_)
  · refine sp_m (aw_if_eq_t (tgt := 25) (pc := 15) dX1_setOut_15 (by decide) c5) ?_
    refine sp_m (aw_iload_n (pc := 25) dX1_setOut_25 rfl (lv_at hl 4 rfl)) ?_
    refine sp_m (aw_istore (lv' := [(5, .int a3), (4, .int p3), (0, .ref a0), (1, .int a1), (2, .int a2), (3, .int a3)]) (pc := 26) dX1_setOut_26 hl (by decide) rfl) (sp_all fun ls hl => ?_)
    let P6 : Int32 × AH → Prop := aLP (KX1_setOut l D h0 hE v) 6 28 (fun s6v : Int32 × AH => [(0, .ref a0), (1, .int a1), (2, .int a2), (3, .int a3), (5, .int s6v.1)]) (fun s6v => s6v.2)
    refine sp_loop (P := P6) (fun s6v => sp_all fun ls hl => ?_) (fun k => k ls (lv_sub hl [2, 3, 4, 5, 0] rfl))
    have hl : lv_has ls 6 [(0, .ref a0), (1, .int a1), (2, .int a2), (3, .int a3), (5, .int s6v.1)] := hl
    show SP _ _ (AW (KX1_setOut l D h0 hE v) s6v.2 28 ls [])
    unfold X1_setOut_L28
    refine sp_m (aw_iload (pc := 28) dX1_setOut_28 (lv_at hl 4 rfl)) ?_
    refine sp_m (aw_sipush (v := 999) (pc := 30) dX1_setOut_30 rfl) ?_
    refine sp_if (fun c7 => ?_) (fun c7 => ?_)
    · refine sp_m (aw_icmp_gt_t (tgt := 64) (pc := 33) dX1_setOut_33 (by decide) c7) ?_
      refine sp_m (aw_bipush (v := (-2)) (pc := 64) dX1_setOut_64 rfl) ?_
      exact sp_r fun hz => aw_iret hz rfl rfl rfl (pc := 66) dX1_setOut_66
    · refine sp_m (aw_icmp_gt_f (tgt := 64) (pc := 33) dX1_setOut_33 (by decide) c7) ?_
      refine sp_m (aw_aload_n (pc := 36) dX1_setOut_36 rfl (lv_at hl 0 rfl)) ?_
      refine sp_g fun s8 => ?_
      refine sp_b fun x9 ex9 => ?_
      refine sp_m (aw_get (k := 13) okX1 s8 (by decide) q379 (Or.inl rfl) (congrArg va_rf ex9) (pc := 37) dX1_setOut_37) ?_
      refine sp_m (aw_aload_n (pc := 40) dX1_setOut_40 rfl (lv_at hl 0 rfl)) ?_
      refine sp_b fun x10 ex10 => ?_
      refine sp_m (aw_get (k := 3) okX1 s8 (by decide) q369 (Or.inl rfl) (congrArg va_rf ex10) (pc := 41) dX1_setOut_41) ?_
      refine sp_m (aw_iload_n (pc := 44) dX1_setOut_44 rfl (lv_at hl 1 rfl)) ?_
      refine sp_m (aw_iload_n (pc := 45) dX1_setOut_45 rfl (lv_at hl 2 rfl)) ?_
      refine sp_m (aw_iload (pc := 46) dX1_setOut_46 (lv_at hl 4 rfl)) ?_
      refine sp_g fun s12 => ?_
      refine sp_b fun p11 ep11 => ?_
      refine sp_m (G' := AW (KX1_setOut l D h0 hE v) p11.2 (51) ls (.int p11.1 :: [])) (fun kk => aw_callV (As := [.ref x10, .int a1, .int a2, .int s6v.1]) (metX6_seek _ _ ep11) (rcv_o okX6 s12) rfl mok_X6_seek q1288 q1289 q1290 q124 q1291 (Nat.le_of_ble_eq_true rfl) (Nat.le_of_ble_eq_true rfl) rfl hl.1 rfl (Nat.le_of_ble_eq_true rfl) (pc := 48) dX1_setOut_48 kk) ?_
      refine sp_m (aw_iload_n (pc := 51) dX1_setOut_51 rfl (lv_at hl 3 rfl)) ?_
      refine sp_if (fun c13 => ?_) (fun c13 => ?_)
      · refine sp_m (aw_icmp_lt_t (tgt := 58) (pc := 52) dX1_setOut_52 (by decide) c13) ?_
        refine sp_m (aw_iinc (v := s6v.1 + 1) (lv' := [(5, .int (s6v.1 + 1)), (0, .ref a0), (1, .int a1), (2, .int a2), (3, .int a3)]) (pc := 58) dX1_setOut_58 hl (k := 4) rfl rfl (by decide) rfl) (sp_all fun ls hl => ?_)
        refine sp_m (aw_goto (tgt := 28) (pc := 61) dX1_setOut_61 (by decide)) ?_
        exact sp_r fun hz => hz ls (lv_sub hl [1, 2, 3, 4, 0] rfl)
      · refine sp_m (aw_icmp_lt_f (tgt := 58) (pc := 52) dX1_setOut_52 (by decide) c13) ?_
        refine sp_m (aw_iload (pc := 55) dX1_setOut_55 (lv_at hl 4 rfl)) ?_
        exact sp_r fun hz => aw_iret hz rfl rfl rfl (pc := 57) dX1_setOut_57
  · refine sp_m (aw_if_eq_f (tgt := 25) (pc := 15) dX1_setOut_15 (by decide) c5) ?_
    refine sp_m (aw_aload_n (pc := 18) dX1_setOut_18 rfl (lv_at hl 1 rfl)) ?_
    refine sp_m (aw_iload (pc := 19) dX1_setOut_19 (lv_at hl 0 rfl)) ?_
    refine sp_b fun p14 ep14 => ?_
    refine sp_m (G' := AW (KX1_setOut l D h0 hE v) p14.2 (24) ls (.int p14.1 :: [])) (fun kk => aw_callV (As := [.int p3]) (metX1_no _ _ ep14) (rcv_o okX1 s4) rfl mok_X1_no q459 q461 qs3 q116 q462 (Nat.le_of_ble_eq_true rfl) (Nat.le_of_ble_eq_true rfl) rfl hl.1 rfl (Nat.le_of_ble_eq_true rfl) (pc := 21) dX1_setOut_21 kk) ?_
    exact sp_r fun hz => aw_iret hz rfl rfl rfl (pc := 24) dX1_setOut_24
theorem mok_X1_size : mOK yX1_size 1 := ⟨⟨by decide +kernel, by decide +kernel⟩, by decide +kernel⟩
abbrev KX1_size (l : Launch) (D : DD) (h0 : AH) (v : Int32) : KT := (l, yX1_size, cX1_size, 2, (some .int), RX1, 2, D, h0, h0, .inl (some (.int v)), false, [])
theorem metX1_size (l : Launch) (D : DD) {a0 : Nat} {a1 : Int32} {h0 : AH} {v : Int32} (hr : fX1_size a0 a1 h0 = some v) : AMet (KX1_size l D h0 v) [.ref a0, .int a1] := by
  refine AMet.of (K := (KX1_size l D h0 v)) rfl ⟨_, rfl⟩ rfl rfl rfl (Nat.le_of_ble_eq_true rfl) (fun ls hl => ?_)
  have hl : lv_has ls 2 [(0, .ref a0), (1, .int a1)] := hl
  suffices hsp : SP (fX1_size a0 a1 h0) (fun z => z = v) (AW (KX1_size l D h0 v) h0 0 ls []) from hsp _ hr rfl
  unfold fX1_size
  refine sp_m (aw_iload_n (pc := 0) dX1_size_0 rfl (lv_at hl 1 rfl)) ?_
  refine sp_m (aw_bipush (v := 11) (pc := 1) dX1_size_1 rfl) ?_
  refine sp_if (fun c1 => ?_) (fun c1 => ?_)
  · refine sp_m (aw_icmp_ne_t (tgt := 11) (pc := 3) dX1_size_3 (by decide) c1) ?_
    refine sp_m (aw_aload_n (pc := 11) dX1_size_11 rfl (lv_at hl 0 rfl)) ?_
    refine sp_g fun s2 => ?_
    refine sp_o (fun ex3 => ?_) (fun x3 ex3 => ?_)
    · refine sp_m (aw_get (k := 3) okX1 s2 (by decide) q369 (Or.inl rfl) (congrArg va_rf ex3) (pc := 12) dX1_size_12) ?_
      refine sp_m (aw_ifnonnullN (pc := 15) dX1_size_15) ?_
      refine sp_m (aw_iload_n (pc := 18) dX1_size_18 rfl (lv_at hl 1 rfl)) ?_
      refine sp_m (aw_iconst (v := 0) (pc := 19) dX1_size_19 rfl) ?_
      refine sp_m (aw_bipush (v := 10) (pc := 20) dX1_size_20 rfl) ?_
      refine sp_b fun p35 ep35 => ?_
      refine sp_m (G' := AW (KX1_size l D h0 v) h0 (25) ls (.int p35 :: [])) (fun kk => aw_callS (As := [.int a1, .int 0, .int 10]) (metX1_in _ _ ep35) mok_X1_in q456 q457 q116 q458 (Nat.le_of_ble_eq_true rfl) (Nat.le_of_ble_eq_true rfl) rfl hl.1 rfl (Nat.le_of_ble_eq_true rfl) (pc := 22) dX1_size_22 kk) ?_
      refine sp_if (fun c36 => ?_) (fun c36 => ?_)
      · refine sp_m (aw_if_eq_t (tgt := 32) (pc := 25) dX1_size_25 (by decide) c36) ?_
        refine sp_m (aw_iconst (v := (-1)) (pc := 32) dX1_size_32 rfl) ?_
        exact sp_r fun hz => aw_iret (congrArg (fun z => (z, h0)) hz) rfl rfl rfl (pc := 33) dX1_size_33
      · refine sp_m (aw_if_eq_f (tgt := 32) (pc := 25) dX1_size_25 (by decide) c36) ?_
        refine sp_m (aw_iconst (v := 0) (pc := 28) dX1_size_28 rfl) ?_
        refine sp_m (aw_goto (tgt := 33) (pc := 29) dX1_size_29 (by decide)) ?_
        exact sp_r fun hz => aw_iret (congrArg (fun z => (z, h0)) hz) rfl rfl rfl (pc := 33) dX1_size_33
    · refine sp_m (aw_get (k := 3) okX1 s2 (by decide) q369 (Or.inl rfl) (congrArg va_rf ex3) (pc := 12) dX1_size_12) ?_
      refine sp_m (aw_ifnonnull (tgt := 34) (pc := 15) dX1_size_15 (by decide)) ?_
      refine sp_m (aw_iload_n (pc := 34) dX1_size_34 rfl (lv_at hl 1 rfl)) ?_
      refine sp_if (fun c4 => ?_) (fun c4 => ?_)
      · refine sp_m (aw_tableOut (tgt := 182) (pc := 35) dX1_size_35 (sw_out rfl rfl c4) (by decide)) ?_
        refine sp_m (aw_iconst (v := (-1)) (pc := 182) dX1_size_182 rfl) ?_
        exact sp_r fun hz => aw_iret (congrArg (fun z => (z, h0)) hz) rfl rfl rfl (pc := 183) dX1_size_183
      refine sp_if (fun c5 => ?_) (fun c5 => ?_)
      · refine sp_m (aw_tableIn (tgt := 92) (pc := 35) dX1_size_35 (by rw [c5]; decide) (by rw [c5]; decide) (by rw [c5] <;> rfl) (by decide)) ?_
        refine sp_m (aw_aload_n (pc := 92) dX1_size_92 rfl (lv_at hl 0 rfl)) ?_
        refine sp_b fun x6 ex6 => ?_
        refine sp_m (aw_get (k := 3) okX1 s2 (by decide) q369 (Or.inl rfl) (congrArg va_rf ex6) (pc := 93) dX1_size_93) ?_
        refine sp_g fun s7 => ?_
        refine sp_m (aw_get (k := 5) okX8 s7 (by decide) q496 (Or.inl rfl) rfl (pc := 96) dX1_size_96) ?_
        exact sp_r fun hz => aw_iret (congrArg (fun z => (z, h0)) hz) rfl rfl rfl (pc := 99) dX1_size_99
      refine sp_if (fun c8 => ?_) (fun c8 => ?_)
      · refine sp_m (aw_tableIn (tgt := 100) (pc := 35) dX1_size_35 (by rw [c8]; decide) (by rw [c8]; decide) (by rw [c8] <;> rfl) (by decide)) ?_
        refine sp_m (aw_aload_n (pc := 100) dX1_size_100 rfl (lv_at hl 0 rfl)) ?_
        refine sp_b fun x9 ex9 => ?_
        refine sp_m (aw_get (k := 3) okX1 s2 (by decide) q369 (Or.inl rfl) (congrArg va_rf ex9) (pc := 101) dX1_size_101) ?_
        refine sp_g fun s10 => ?_
        refine sp_m (aw_get (k := 6) okX8 s10 (by decide) q499 (Or.inl rfl) rfl (pc := 104) dX1_size_104) ?_
        exact sp_r fun hz => aw_iret (congrArg (fun z => (z, h0)) hz) rfl rfl rfl (pc := 107) dX1_size_107
      refine sp_if (fun c11 => ?_) (fun c11 => ?_)
      · refine sp_m (aw_tableIn (tgt := 108) (pc := 35) dX1_size_35 (by rw [c11]; decide) (by rw [c11]; decide) (by rw [c11] <;> rfl) (by decide)) ?_
        refine sp_m (aw_aload_n (pc := 108) dX1_size_108 rfl (lv_at hl 0 rfl)) ?_
        refine sp_b fun x12 ex12 => ?_
        refine sp_m (aw_get (k := 3) okX1 s2 (by decide) q369 (Or.inl rfl) (congrArg va_rf ex12) (pc := 109) dX1_size_109) ?_
        refine sp_g fun s13 => ?_
        refine sp_m (aw_get (k := 7) okX8 s13 (by decide) q501 (Or.inl rfl) rfl (pc := 112) dX1_size_112) ?_
        exact sp_r fun hz => aw_iret (congrArg (fun z => (z, h0)) hz) rfl rfl rfl (pc := 115) dX1_size_115
      refine sp_if (fun c14 => ?_) (fun c14 => ?_)
      · refine sp_m (aw_tableIn (tgt := 116) (pc := 35) dX1_size_35 (by rw [c14]; decide) (by rw [c14]; decide) (by rw [c14] <;> rfl) (by decide)) ?_
        refine sp_m (aw_aload_n (pc := 116) dX1_size_116 rfl (lv_at hl 0 rfl)) ?_
        refine sp_b fun x15 ex15 => ?_
        refine sp_m (aw_get (k := 3) okX1 s2 (by decide) q369 (Or.inl rfl) (congrArg va_rf ex15) (pc := 117) dX1_size_117) ?_
        refine sp_g fun s16 => ?_
        refine sp_m (aw_get (k := 8) okX8 s16 (by decide) q505 (Or.inl rfl) rfl (pc := 120) dX1_size_120) ?_
        exact sp_r fun hz => aw_iret (congrArg (fun z => (z, h0)) hz) rfl rfl rfl (pc := 123) dX1_size_123
      refine sp_if (fun c17 => ?_) (fun c17 => ?_)
      · refine sp_m (aw_tableIn (tgt := 124) (pc := 35) dX1_size_35 (by rw [c17]; decide) (by rw [c17]; decide) (by rw [c17] <;> rfl) (by decide)) ?_
        refine sp_m (aw_aload_n (pc := 124) dX1_size_124 rfl (lv_at hl 0 rfl)) ?_
        refine sp_b fun x18 ex18 => ?_
        refine sp_m (aw_get (k := 3) okX1 s2 (by decide) q369 (Or.inl rfl) (congrArg va_rf ex18) (pc := 125) dX1_size_125) ?_
        refine sp_g fun s19 => ?_
        refine sp_m (aw_get (k := 9) okX8 s19 (by decide) q509 (Or.inl rfl) rfl (pc := 128) dX1_size_128) ?_
        exact sp_r fun hz => aw_iret (congrArg (fun z => (z, h0)) hz) rfl rfl rfl (pc := 131) dX1_size_131
      refine sp_if (fun c20 => ?_) (fun c20 => ?_)
      · refine sp_m (aw_tableIn (tgt := 132) (pc := 35) dX1_size_35 (by rw [c20]; decide) (by rw [c20]; decide) (by rw [c20] <;> rfl) (by decide)) ?_
        refine sp_m (aw_aload_n (pc := 132) dX1_size_132 rfl (lv_at hl 0 rfl)) ?_
        refine sp_b fun x21 ex21 => ?_
        refine sp_m (aw_get (k := 3) okX1 s2 (by decide) q369 (Or.inl rfl) (congrArg va_rf ex21) (pc := 133) dX1_size_133) ?_
        refine sp_g fun s22 => ?_
        refine sp_m (aw_get (k := 10) okX8 s22 (by decide) q512 (Or.inl rfl) rfl (pc := 136) dX1_size_136) ?_
        exact sp_r fun hz => aw_iret (congrArg (fun z => (z, h0)) hz) rfl rfl rfl (pc := 139) dX1_size_139
      refine sp_if (fun c23 => ?_) (fun c23 => ?_)
      · refine sp_m (aw_tableIn (tgt := 140) (pc := 35) dX1_size_35 (by rw [c23]; decide) (by rw [c23]; decide) (by rw [c23] <;> rfl) (by decide)) ?_
        refine sp_m (aw_aload_n (pc := 140) dX1_size_140 rfl (lv_at hl 0 rfl)) ?_
        refine sp_b fun x24 ex24 => ?_
        refine sp_m (aw_get (k := 3) okX1 s2 (by decide) q369 (Or.inl rfl) (congrArg va_rf ex24) (pc := 141) dX1_size_141) ?_
        refine sp_g fun s25 => ?_
        refine sp_m (aw_get (k := 11) okX8 s25 (by decide) q514 (Or.inl rfl) rfl (pc := 144) dX1_size_144) ?_
        exact sp_r fun hz => aw_iret (congrArg (fun z => (z, h0)) hz) rfl rfl rfl (pc := 147) dX1_size_147
      refine sp_if (fun c26 => ?_) (fun c26 => ?_)
      · refine sp_m (aw_tableIn (tgt := 148) (pc := 35) dX1_size_35 (by rw [c26]; decide) (by rw [c26]; decide) (by rw [c26] <;> rfl) (by decide)) ?_
        refine sp_m (aw_aload_n (pc := 148) dX1_size_148 rfl (lv_at hl 0 rfl)) ?_
        refine sp_b fun x27 ex27 => ?_
        refine sp_m (aw_get (k := 9) okX1 s2 (by decide) q375 (Or.inl rfl) (congrArg va_rf ex27) (pc := 149) dX1_size_149) ?_
        refine sp_g fun s28 => ?_
        refine sp_m (aw_get (k := 6) okX4 s28 (by decide) q285 (Or.inl rfl) rfl (pc := 152) dX1_size_152) ?_
        refine sp_if (fun c29 => ?_) (fun c29 => ?_)
        · refine sp_m (aw_if_eq_t (tgt := 162) (pc := 155) dX1_size_155 (by decide) c29) ?_
          refine sp_m (aw_iconst (v := 0) (pc := 162) dX1_size_162 rfl) ?_
          exact sp_r fun hz => aw_iret (congrArg (fun z => (z, h0)) hz) rfl rfl rfl (pc := 163) dX1_size_163
        · refine sp_m (aw_if_eq_f (tgt := 162) (pc := 155) dX1_size_155 (by decide) c29) ?_
          refine sp_m (aw_iconst (v := 1) (pc := 158) dX1_size_158 rfl) ?_
          refine sp_m (aw_goto (tgt := 163) (pc := 159) dX1_size_159 (by decide)) ?_
          exact sp_r fun hz => aw_iret (congrArg (fun z => (z, h0)) hz) rfl rfl rfl (pc := 163) dX1_size_163
      refine sp_if (fun c30 => ?_) (fun c30 => ?_)
      · refine sp_m (aw_tableIn (tgt := 164) (pc := 35) dX1_size_35 (by rw [c30]; decide) (by rw [c30]; decide) (by rw [c30] <;> rfl) (by decide)) ?_
        refine sp_m (aw_aload_n (pc := 164) dX1_size_164 rfl (lv_at hl 0 rfl)) ?_
        refine sp_b fun x31 ex31 => ?_
        refine sp_m (aw_get (k := 9) okX1 s2 (by decide) q375 (Or.inl rfl) (congrArg va_rf ex31) (pc := 165) dX1_size_165) ?_
        refine sp_g fun s32 => ?_
        refine sp_m (aw_get (k := 5) okX4 s32 (by decide) q283 (Or.inl rfl) rfl (pc := 168) dX1_size_168) ?_
        exact sp_r fun hz => aw_iret (congrArg (fun z => (z, h0)) hz) rfl rfl rfl (pc := 171) dX1_size_171
      refine sp_if (fun c33 => ?_) (fun c33 => ?_)
      · refine sp_m (aw_tableIn (tgt := 172) (pc := 35) dX1_size_35 (by rw [c33]; decide) (by rw [c33]; decide) (by rw [c33] <;> rfl) (by decide)) ?_
        refine sp_m (aw_aload_n (pc := 172) dX1_size_172 rfl (lv_at hl 0 rfl)) ?_
        refine sp_m (aw_get (k := 8) okX1 s2 (by decide) q374 (Or.inl rfl) rfl (pc := 173) dX1_size_173) ?_
        exact sp_r fun hz => aw_iret (congrArg (fun z => (z, h0)) hz) rfl rfl rfl (pc := 176) dX1_size_176
      refine sp_if (fun c34 => ?_) (fun c34 => ?_)
      · refine sp_m (aw_tableIn (tgt := 177) (pc := 35) dX1_size_35 (by rw [c34]; decide) (by rw [c34]; decide) (by rw [c34] <;> rfl) (by decide)) ?_
        refine sp_m (aw_aload_n (pc := 177) dX1_size_177 rfl (lv_at hl 0 rfl)) ?_
        refine sp_m (aw_get (k := 7) okX1 s2 (by decide) q373 (Or.inl rfl) rfl (pc := 178) dX1_size_178) ?_
        exact sp_r fun hz => aw_iret (congrArg (fun z => (z, h0)) hz) rfl rfl rfl (pc := 181) dX1_size_181
      exact sp_n
  · refine sp_m (aw_icmp_ne_f (tgt := 11) (pc := 3) dX1_size_3 (by decide) (Decidable.not_not.mp c1)) ?_
    refine sp_m (aw_aload_n (pc := 6) dX1_size_6 rfl (lv_at hl 0 rfl)) ?_
    refine sp_g fun s37 => ?_
    refine sp_m (aw_get (k := 1) okX1 s37 (by decide) q367 (Or.inl rfl) rfl (pc := 7) dX1_size_7) ?_
    exact sp_r fun hz => aw_iret (congrArg (fun z => (z, h0)) hz) rfl rfl rfl (pc := 10) dX1_size_10
theorem mok_X1_sumBy : mOK yX1_sumBy 1 := ⟨⟨by decide +kernel, by decide +kernel⟩, by decide +kernel⟩
abbrev KX1_sumBy (l : Launch) (D : DD) (h0 : AH) (v : Int64) : KT := (l, yX1_sumBy, cX1_sumBy, 5, (some .long), RX1, 8, D, h0, h0, .inl (some (.long v)), false, [])
theorem metX1_sumBy (l : Launch) (D : DD) {a0 : Nat} {a1 : Int32} {h0 : AH} {v : Int64} (hr : fX1_sumBy a0 a1 h0 = some v) : AMet (KX1_sumBy l D h0 v) [.ref a0, .int a1] := by
  refine AMet.of (K := (KX1_sumBy l D h0 v)) rfl ⟨_, rfl⟩ rfl rfl rfl (Nat.le_of_ble_eq_true rfl) (fun ls hl => ?_)
  have hl : lv_has ls 5 [(0, .ref a0), (1, .int a1)] := hl
  suffices hsp : SP (fX1_sumBy a0 a1 h0) (fun z => z = v) (AW (KX1_sumBy l D h0 v) h0 0 ls []) from hsp _ hr rfl
  unfold fX1_sumBy
  refine sp_m (aw_lconst (v := 0) (pc := 0) dX1_sumBy_0 rfl) ?_
  refine sp_m (aw_lstore_n (lv' := [(2, .long 0), (0, .ref a0), (1, .int a1)]) (pc := 1) dX1_sumBy_1 rfl hl (by decide) rfl) (sp_all fun ls hl => ?_)
  refine sp_m (aw_iconst (v := 0) (pc := 2) dX1_sumBy_2 rfl) ?_
  refine sp_m (aw_istore (lv' := [(4, .int 0), (2, .long 0), (0, .ref a0), (1, .int a1)]) (pc := 3) dX1_sumBy_3 hl (by decide) rfl) (sp_all fun ls hl => ?_)
  let P1 : Int64 × Int32 → Prop := aLP (KX1_sumBy l D h0 v) 5 5 (fun s1v : Int64 × Int32 => [(0, .ref a0), (1, .int a1), (2, .long s1v.1), (4, .int s1v.2)]) (fun s1v => h0)
  let E1 : Int64 → Prop := aLP (KX1_sumBy l D h0 v) 5 46 (fun r1v : Int64 => [(2, .long r1v)]) (fun r1v => h0)
  refine sp_bl (P := P1) (E := E1) (fun s1v => sp_all fun ls hl => ?_) (fun k => k ls (lv_sub hl [2, 3, 1, 0] rfl)) (fun r1v => sp_all fun ls hl => ?_)
  · have hl : lv_has ls 5 [(0, .ref a0), (1, .int a1), (2, .long s1v.1), (4, .int s1v.2)] := hl
    show SP _ _ (AW (KX1_sumBy l D h0 v) h0 5 ls [])
    unfold X1_sumBy_L5
    refine sp_m (aw_iload (pc := 5) dX1_sumBy_5 (lv_at hl 3 rfl)) ?_
    refine sp_m (aw_aload_n (pc := 7) dX1_sumBy_7 rfl (lv_at hl 0 rfl)) ?_
    refine sp_g fun s2 => ?_
    refine sp_b fun x3 ex3 => ?_
    refine sp_m (aw_get (k := 3) okX1 s2 (by decide) q369 (Or.inl rfl) (congrArg va_rf ex3) (pc := 8) dX1_sumBy_8) ?_
    refine sp_g fun s4 => ?_
    refine sp_m (aw_get (k := 8) okX8 s4 (by decide) q505 (Or.inl rfl) rfl (pc := 11) dX1_sumBy_11) ?_
    refine sp_if (fun c5 => ?_) (fun c5 => ?_)
    · refine sp_m (aw_icmp_ge_t (tgt := 46) (pc := 14) dX1_sumBy_14 (by decide) c5) ?_
      exact sp_r fun hz => hz ls (lv_sub hl [2] rfl)
    · refine sp_m (aw_icmp_ge_f (tgt := 46) (pc := 14) dX1_sumBy_14 (by decide) c5) ?_
      refine sp_m (aw_lload_n (pc := 17) dX1_sumBy_17 rfl (lv_at hl 2 rfl)) ?_
      refine sp_m (aw_aload_n (pc := 18) dX1_sumBy_18 rfl (lv_at hl 0 rfl)) ?_
      refine sp_b fun x6 ex6 => ?_
      refine sp_m (aw_get (k := 9) okX1 s2 (by decide) q375 (Or.inl rfl) (congrArg va_rf ex6) (pc := 19) dX1_sumBy_19) ?_
      refine sp_m (aw_iload (pc := 22) dX1_sumBy_22 (lv_at hl 3 rfl)) ?_
      refine sp_m (aw_aload_n (pc := 24) dX1_sumBy_24 rfl (lv_at hl 0 rfl)) ?_
      refine sp_b fun x7 ex7 => ?_
      refine sp_m (aw_get (k := 9) okX1 s2 (by decide) q375 (Or.inl rfl) (congrArg va_rf ex7) (pc := 25) dX1_sumBy_25) ?_
      refine sp_g fun s8 => ?_
      refine sp_b fun x9 ex9 => ?_
      refine sp_m (aw_get (k := 0) okX4 s8 (by decide) q274 (Or.inl rfl) (congrArg va_rf ex9) (pc := 28) dX1_sumBy_28) ?_
      refine sp_m (aw_iload (pc := 31) dX1_sumBy_31 (lv_at hl 3 rfl)) ?_
      refine sp_g fun s10 => ?_
      refine sp_g fun i11 => ?_
      refine sp_m (aw_iald s10 i11 (pc := 33) dX1_sumBy_33) ?_
      refine sp_m (aw_iload_n (pc := 34) dX1_sumBy_34 rfl (lv_at hl 1 rfl)) ?_
      refine sp_g fun s13 => ?_
      refine sp_b fun p12 ep12 => ?_
      refine sp_m (G' := AW (KX1_sumBy l D h0 v) h0 (38) ls (.long p12 :: .long s1v.1 :: [])) (fun kk => aw_callV (As := [.int s1v.2, .int (gI h0 x9 (ix s1v.2)), .int a1]) (metX4_worthBy _ _ ep12) (rcv_o okX4 s13) rfl mok_X4_worthBy q1182 q1183 q1184 q122 q1185 (Nat.le_of_ble_eq_true rfl) (Nat.le_of_ble_eq_true rfl) rfl hl.1 rfl (Nat.le_of_ble_eq_true rfl) (pc := 35) dX1_sumBy_35 kk) ?_
      refine sp_m (aw_ladd (pc := 38) dX1_sumBy_38) ?_
      refine sp_m (aw_lstore_n (lv' := [(2, .long (s1v.1 + p12)), (0, .ref a0), (1, .int a1), (4, .int s1v.2)]) (pc := 39) dX1_sumBy_39 rfl hl (by decide) rfl) (sp_all fun ls hl => ?_)
      refine sp_m (aw_iinc (v := s1v.2 + 1) (lv' := [(4, .int (s1v.2 + 1)), (2, .long (s1v.1 + p12)), (0, .ref a0), (1, .int a1)]) (pc := 40) dX1_sumBy_40 hl (k := 3) rfl rfl (by decide) rfl) (sp_all fun ls hl => ?_)
      refine sp_m (aw_goto (tgt := 5) (pc := 43) dX1_sumBy_43 (by decide)) ?_
      exact sp_r fun hz => hz ls (lv_sub hl [2, 3, 1, 0] rfl)
  · have hl : lv_has ls 5 [(2, .long r1v)] := hl
    show SP _ _ (AW (KX1_sumBy l D h0 v) h0 46 ls [])
    refine sp_m (aw_lload_n (pc := 46) dX1_sumBy_46 rfl (lv_at hl 0 rfl)) ?_
    exact sp_r fun hz => aw_lret (congrArg (fun z => (z, h0)) hz) rfl rfl rfl (pc := 47) dX1_sumBy_47
theorem mok_X1_sumWithout : mOK yX1_sumWithout 1 := ⟨⟨by decide +kernel, by decide +kernel⟩, by decide +kernel⟩
abbrev KX1_sumWithout (l : Launch) (D : DD) (h0 : AH) (v : Int64) : KT := (l, yX1_sumWithout, cX1_sumWithout, 2, (some .long), RX1, 9, D, h0, h0, .inl (some (.long v)), false, [])
theorem metX1_sumWithout (l : Launch) (D : DD) {a0 : Nat} {a1 : Int32} {h0 : AH} {v : Int64} (hr : fX1_sumWithout a0 a1 h0 = some v) : AMet (KX1_sumWithout l D h0 v) [.ref a0, .int a1] := by
  refine AMet.of (K := (KX1_sumWithout l D h0 v)) rfl ⟨_, rfl⟩ rfl rfl rfl (Nat.le_of_ble_eq_true rfl) (fun ls hl => ?_)
  have hl : lv_has ls 2 [(0, .ref a0), (1, .int a1)] := hl
  suffices hsp : SP (fX1_sumWithout a0 a1 h0) (fun z => z = v) (AW (KX1_sumWithout l D h0 v) h0 0 ls []) from hsp _ hr rfl
  unfold fX1_sumWithout
  refine sp_m (aw_aload_n (pc := 0) dX1_sumWithout_0 rfl (lv_at hl 0 rfl)) ?_
  refine sp_m (aw_bipush (v := (-2)) (pc := 1) dX1_sumWithout_1 rfl) ?_
  refine sp_g fun s2 => ?_
  refine sp_b fun p1 ep1 => ?_
  refine sp_m (G' := AW (KX1_sumWithout l D h0 v) h0 (6) ls (.long p1 :: [])) (fun kk => aw_callV (As := [.int (-2)]) (metX1_sumBy _ _ ep1) (rcv_o okX1 s2) rfl mok_X1_sumBy q1178 q1180 qs30 q116 q1181 (Nat.le_of_ble_eq_true rfl) (Nat.le_of_ble_eq_true rfl) rfl hl.1 rfl (Nat.le_of_ble_eq_true rfl) (pc := 3) dX1_sumWithout_3 kk) ?_
  refine sp_m (aw_aload_n (pc := 6) dX1_sumWithout_6 rfl (lv_at hl 0 rfl)) ?_
  refine sp_b fun x3 ex3 => ?_
  refine sp_m (aw_get (k := 9) okX1 s2 (by decide) q375 (Or.inl rfl) (congrArg va_rf ex3) (pc := 7) dX1_sumWithout_7) ?_
  refine sp_m (aw_iload_n (pc := 10) dX1_sumWithout_10 rfl (lv_at hl 1 rfl)) ?_
  refine sp_m (aw_aload_n (pc := 11) dX1_sumWithout_11 rfl (lv_at hl 0 rfl)) ?_
  refine sp_b fun x4 ex4 => ?_
  refine sp_m (aw_get (k := 9) okX1 s2 (by decide) q375 (Or.inl rfl) (congrArg va_rf ex4) (pc := 12) dX1_sumWithout_12) ?_
  refine sp_g fun s5 => ?_
  refine sp_b fun x6 ex6 => ?_
  refine sp_m (aw_get (k := 0) okX4 s5 (by decide) q274 (Or.inl rfl) (congrArg va_rf ex6) (pc := 15) dX1_sumWithout_15) ?_
  refine sp_m (aw_iload_n (pc := 18) dX1_sumWithout_18 rfl (lv_at hl 1 rfl)) ?_
  refine sp_g fun s7 => ?_
  refine sp_g fun i8 => ?_
  refine sp_m (aw_iald s7 i8 (pc := 19) dX1_sumWithout_19) ?_
  refine sp_g fun s10 => ?_
  refine sp_b fun p9 ep9 => ?_
  refine sp_m (G' := AW (KX1_sumWithout l D h0 v) h0 (23) ls (.long p9 :: .long p1 :: [])) (fun kk => aw_callV (As := [.int a1, .int (gI h0 x6 (ix a1))]) (metX4_worth _ _ ep9) (rcv_o okX4 s10) rfl mok_X4_worth q1139 q1140 q1141 q122 q1142 (Nat.le_of_ble_eq_true rfl) (Nat.le_of_ble_eq_true rfl) rfl hl.1 rfl (Nat.le_of_ble_eq_true rfl) (pc := 20) dX1_sumWithout_20 kk) ?_
  refine sp_m (aw_lsub (pc := 23) dX1_sumWithout_23) ?_
  exact sp_r fun hz => aw_lret (congrArg (fun z => (z, h0)) hz) rfl rfl rfl (pc := 24) dX1_sumWithout_24
theorem mok_X1_surely : mOK yX1_surely 0 := ⟨⟨by decide +kernel, by decide +kernel⟩, by decide +kernel⟩
abbrev KX1_surely (l : Launch) (D : DD) (h0 hE : AH) (v : Int32) : KT := (l, yX1_surely, cX1_surely, 1, (some .int), RX1, 6, D, h0, hE, .inl (some (.int v)), false, [])
theorem metX1_surely (l : Launch) (D : DD) {a0 : Nat} {h0 : AH} {hE : AH} {v : Int32} (hr : fX1_surely a0 h0 = some (v, hE)) : AMet (KX1_surely l D h0 hE v) [.ref a0] := by
  refine AMet.of (K := (KX1_surely l D h0 hE v)) rfl ⟨_, rfl⟩ rfl rfl rfl (Nat.le_of_ble_eq_true rfl) (fun ls hl => ?_)
  have hl : lv_has ls 1 [(0, .ref a0)] := hl
  suffices hsp : SP (fX1_surely a0 h0) (fun z => z = (v, hE)) (AW (KX1_surely l D h0 hE v) h0 0 ls []) from hsp _ hr rfl
  unfold fX1_surely
  refine sp_m (aw_aload_n (pc := 0) dX1_surely_0 rfl (lv_at hl 0 rfl)) ?_
  refine sp_g fun s2 => ?_
  refine sp_b fun p1 ep1 => ?_
  refine sp_m (G' := AW (KX1_surely l D h0 hE v) p1 (4) ls ([])) (fun kk => aw_callV (As := []) (metX1_anew _ _ ep1) (rcv_o okX1 s2) rfl mok_X1_anew q452 q454 qs2 q116 q455 (Nat.le_of_ble_eq_true rfl) (Nat.le_of_ble_eq_true rfl) rfl hl.1 rfl (Nat.le_of_ble_eq_true rfl) (pc := 1) dX1_surely_1 kk) ?_
  refine sp_m (aw_aload_n (pc := 4) dX1_surely_4 rfl (lv_at hl 0 rfl)) ?_
  refine sp_g fun s3 => ?_
  refine sp_o (fun ex4 => ?_) (fun x4 ex4 => ?_)
  · refine sp_m (aw_get (k := 3) okX1 s3 (by decide) q369 (Or.inl rfl) (congrArg va_rf ex4) (pc := 5) dX1_surely_5) ?_
    refine sp_m (aw_ifnonnullN (pc := 8) dX1_surely_8) ?_
    refine sp_m (aw_aload_n (pc := 11) dX1_surely_11 rfl (lv_at hl 0 rfl)) ?_
    refine sp_m (aw_iconst (v := 1) (pc := 12) dX1_surely_12 rfl) ?_
    refine sp_b fun p7 ep7 => ?_
    refine sp_m (G' := AW (KX1_surely l D h0 hE v) p7.2 (16) ls (.int p7.1 :: [])) (fun kk => aw_callV (As := [.int 1]) (metX1_no _ _ ep7) (rcv_o okX1 s3) rfl mok_X1_no q459 q461 qs3 q116 q462 (Nat.le_of_ble_eq_true rfl) (Nat.le_of_ble_eq_true rfl) rfl hl.1 rfl (Nat.le_of_ble_eq_true rfl) (pc := 13) dX1_surely_13 kk) ?_
    exact sp_r fun hz => aw_iret hz rfl rfl rfl (pc := 16) dX1_surely_16
  · refine sp_m (aw_get (k := 3) okX1 s3 (by decide) q369 (Or.inl rfl) (congrArg va_rf ex4) (pc := 5) dX1_surely_5) ?_
    refine sp_m (aw_ifnonnull (tgt := 17) (pc := 8) dX1_surely_8 (by decide)) ?_
    refine sp_m (aw_aload_n (pc := 17) dX1_surely_17 rfl (lv_at hl 0 rfl)) ?_
    refine sp_m (aw_iconst (v := (-1)) (pc := 18) dX1_surely_18 rfl) ?_
    refine sp_m (aw_iconst (v := 0) (pc := 19) dX1_surely_19 rfl) ?_
    refine sp_b fun p5 ep5 => ?_
    refine sp_m (G' := AW (KX1_surely l D h0 hE v) p5 (23) ls ([])) (fun kk => aw_callV (As := [.int (-1), .int 0]) (metX1_seekFits _ _ ep5) (rcv_o okX1 s3) rfl mok_X1_seekFits q1333 q1335 qs43 q116 q1336 (Nat.le_of_ble_eq_true rfl) (Nat.le_of_ble_eq_true rfl) rfl hl.1 rfl (Nat.le_of_ble_eq_true rfl) (pc := 20) dX1_surely_20 kk) ?_
    refine sp_m (aw_aload_n (pc := 23) dX1_surely_23 rfl (lv_at hl 0 rfl)) ?_
    refine sp_g fun s6 => ?_
    refine sp_m (aw_get (k := 19) okX1 s6 (by decide) q385 (Or.inl rfl) rfl (pc := 24) dX1_surely_24) ?_
    exact sp_r fun hz => aw_iret hz rfl rfl rfl (pc := 27) dX1_surely_27
theorem mok_X1_teach : mOK yX1_teach 2 := ⟨⟨by decide +kernel, by decide +kernel⟩, by decide +kernel⟩
abbrev KX1_teach (l : Launch) (D : DD) (h0 hE : AH) (v : Int32) : KT := (l, yX1_teach, cX1_teach, 3, (some .int), RX1, 3, D, h0, hE, .inl (some (.int v)), false, [])
theorem metX1_teach (l : Launch) (D : DD) {a0 : Nat} {a1 : Int32} {a2 : Int32} {h0 : AH} {hE : AH} {v : Int32} (hr : fX1_teach a0 a1 a2 h0 = some (v, hE)) : AMet (KX1_teach l D h0 hE v) [.ref a0, .int a1, .int a2] := by
  refine AMet.of (K := (KX1_teach l D h0 hE v)) rfl ⟨_, rfl⟩ rfl rfl rfl (Nat.le_of_ble_eq_true rfl) (fun ls hl => ?_)
  have hl : lv_has ls 3 [(0, .ref a0), (1, .int a1), (2, .int a2)] := hl
  suffices hsp : SP (fX1_teach a0 a1 a2 h0) (fun z => z = (v, hE)) (AW (KX1_teach l D h0 hE v) h0 0 ls []) from hsp _ hr rfl
  unfold fX1_teach
  refine sp_m (aw_aload_n (pc := 0) dX1_teach_0 rfl (lv_at hl 0 rfl)) ?_
  refine sp_g fun s2 => ?_
  refine sp_b fun p1 ep1 => ?_
  refine sp_m (G' := AW (KX1_teach l D h0 hE v) p1 (4) ls ([])) (fun kk => aw_callV (As := []) (metX1_anew _ _ ep1) (rcv_o okX1 s2) rfl mok_X1_anew q452 q454 qs2 q116 q455 (Nat.le_of_ble_eq_true rfl) (Nat.le_of_ble_eq_true rfl) rfl hl.1 rfl (Nat.le_of_ble_eq_true rfl) (pc := 1) dX1_teach_1 kk) ?_
  refine sp_m (aw_aload_n (pc := 4) dX1_teach_4 rfl (lv_at hl 0 rfl)) ?_
  refine sp_m (aw_iload_n (pc := 5) dX1_teach_5 rfl (lv_at hl 1 rfl)) ?_
  refine sp_g fun s4 => ?_
  refine sp_b fun p3 ep3 => ?_
  refine sp_m (G' := AW (KX1_teach l D h0 hE v) p1 (9) ls (.int p3 :: [])) (fun kk => aw_callV (As := [.int a1]) (metX1_isLane _ _ ep3) (rcv_o okX1 s4) rfl mok_X1_isLane q941 q943 qs25 q116 q944 (Nat.le_of_ble_eq_true rfl) (Nat.le_of_ble_eq_true rfl) rfl hl.1 rfl (Nat.le_of_ble_eq_true rfl) (pc := 6) dX1_teach_6 kk) ?_
  refine sp_if (fun c5 => ?_) (fun c5 => ?_)
  · refine sp_m (aw_if_ne_t (tgt := 18) (pc := 9) dX1_teach_9 (by decide) c5) ?_
    refine sp_m (aw_iload_n (pc := 18) dX1_teach_18 rfl (lv_at hl 2 rfl)) ?_
    refine sp_m (aw_iconst (v := 1) (pc := 19) dX1_teach_19 rfl) ?_
    refine sp_m (aw_bipush (v := 30) (pc := 20) dX1_teach_20 rfl) ?_
    refine sp_b fun p6 ep6 => ?_
    refine sp_m (G' := AW (KX1_teach l D h0 hE v) p1 (25) ls (.int p6 :: [])) (fun kk => aw_callS (As := [.int a2, .int 1, .int 30]) (metX1_in _ _ ep6) mok_X1_in q456 q457 q116 q458 (Nat.le_of_ble_eq_true rfl) (Nat.le_of_ble_eq_true rfl) rfl hl.1 rfl (Nat.le_of_ble_eq_true rfl) (pc := 22) dX1_teach_22 kk) ?_
    refine sp_if (fun c7 => ?_) (fun c7 => ?_)
    · refine sp_m (aw_if_ne_t (tgt := 34) (pc := 25) dX1_teach_25 (by decide) c7) ?_
      refine sp_m (aw_aload_n (pc := 34) dX1_teach_34 rfl (lv_at hl 0 rfl)) ?_
      refine sp_m (aw_iload_n (pc := 35) dX1_teach_35 rfl (lv_at hl 1 rfl)) ?_
      refine sp_b fun p8 ep8 => ?_
      refine sp_m (G' := AW (KX1_teach l D h0 hE v) p1 (39) ls (.int p8 :: [])) (fun kk => aw_callV (As := [.int a1]) (metX1_isHorse _ _ ep8) (rcv_o okX1 s4) rfl mok_X1_isHorse q1243 q1245 qs35 q116 q1246 (Nat.le_of_ble_eq_true rfl) (Nat.le_of_ble_eq_true rfl) rfl hl.1 rfl (Nat.le_of_ble_eq_true rfl) (pc := 36) dX1_teach_36 kk) ?_
      refine sp_if (fun c9 => ?_) (fun c9 => ?_)
      · refine sp_m (aw_if_ne_t (tgt := 48) (pc := 39) dX1_teach_39 (by decide) c9) ?_
        refine sp_m (aw_aload_n (pc := 48) dX1_teach_48 rfl (lv_at hl 0 rfl)) ?_
        refine sp_b fun p10 ep10 => ?_
        refine sp_m (G' := AW (KX1_teach l D h0 hE v) p10 (52) ls ([])) (fun kk => aw_callV (As := []) (metX1_note _ _ ep10) (rcv_o okX1 s4) rfl mok_X1_note q1414 q1416 qs48 q116 q1417 (Nat.le_of_ble_eq_true rfl) (Nat.le_of_ble_eq_true rfl) rfl hl.1 rfl (Nat.le_of_ble_eq_true rfl) (pc := 49) dX1_teach_49 kk) ?_
        refine sp_m (aw_aload_n (pc := 52) dX1_teach_52 rfl (lv_at hl 0 rfl)) ?_
        refine sp_g fun s11 => ?_
        refine sp_b fun x12 ex12 => ?_
        refine sp_m (aw_get (k := 9) okX1 s11 (by decide) q375 (Or.inl rfl) (congrArg va_rf ex12) (pc := 53) dX1_teach_53) ?_
        refine sp_g fun s13 => ?_
        refine sp_b fun x14 ex14 => ?_
        refine sp_m (aw_get (k := 2) okX4 s13 (by decide) q278 (Or.inl rfl) (congrArg va_rf ex14) (pc := 56) dX1_teach_56) ?_
        refine sp_m (aw_iload_n (pc := 59) dX1_teach_59 rfl (lv_at hl 1 rfl)) ?_
        refine sp_m (aw_bipush (v := 30) (pc := 60) dX1_teach_60 rfl) ?_
        refine sp_m (aw_aload_n (pc := 62) dX1_teach_62 rfl (lv_at hl 0 rfl)) ?_
        refine sp_b fun x15 ex15 => ?_
        refine sp_m (aw_get (k := 9) okX1 s11 (by decide) q375 (Or.inl rfl) (congrArg va_rf ex15) (pc := 63) dX1_teach_63) ?_
        refine sp_g fun s16 => ?_
        refine sp_b fun x17 ex17 => ?_
        refine sp_m (aw_get (k := 2) okX4 s16 (by decide) q278 (Or.inl rfl) (congrArg va_rf ex17) (pc := 66) dX1_teach_66) ?_
        refine sp_m (aw_iload_n (pc := 69) dX1_teach_69 rfl (lv_at hl 1 rfl)) ?_
        refine sp_g fun s18 => ?_
        refine sp_g fun i19 => ?_
        refine sp_m (aw_iald s18 i19 (pc := 70) dX1_teach_70) ?_
        refine sp_m (aw_iload_n (pc := 71) dX1_teach_71 rfl (lv_at hl 2 rfl)) ?_
        refine sp_m (aw_iadd (pc := 72) dX1_teach_72) ?_
        refine sp_m (aw_mmin hl.1 q1434 q1035 q145 q1036 (Nat.le_of_ble_eq_true rfl) (Nat.le_of_ble_eq_true rfl) (pc := 73) dX1_teach_73) ?_
        refine sp_g fun s20 => ?_
        refine sp_g fun i21 => ?_
        refine sp_t fun h22 eh220 => ?_
        have eh22 : gS h22 = gS p10 := by rw [eh220]; rfl
        refine sp_m (fun kk => aw_iast s20 i21 (pc := 76) dX1_teach_76 (AWe eh220 kk)) ?_
        refine sp_m (aw_aload_n (pc := 77) dX1_teach_77 rfl (lv_at hl 0 rfl)) ?_
        refine sp_b fun p23 ep23 => ?_
        refine sp_m (G' := AW (KX1_teach l D h0 hE v) p23.2 (81) ls (.int p23.1 :: [])) (fun kk => aw_callV (As := []) (metX1_done _ _ ep23) (rcv_o okX1 (uS eh22 s11)) rfl mok_X1_done q1418 q1420 qs49 q116 q1421 (Nat.le_of_ble_eq_true rfl) (Nat.le_of_ble_eq_true rfl) rfl hl.1 rfl (Nat.le_of_ble_eq_true rfl) (pc := 78) dX1_teach_78 kk) ?_
        refine sp_m (aw_pop (pc := 81) dX1_teach_81 rfl) ?_
        refine sp_m (aw_aload_n (pc := 82) dX1_teach_82 rfl (lv_at hl 0 rfl)) ?_
        refine sp_g fun s24 => ?_
        refine sp_b fun x25 ex25 => ?_
        refine sp_m (aw_get (k := 9) okX1 s24 (by decide) q375 (Or.inl rfl) (congrArg va_rf ex25) (pc := 83) dX1_teach_83) ?_
        refine sp_g fun s26 => ?_
        refine sp_b fun x27 ex27 => ?_
        refine sp_m (aw_get (k := 2) okX4 s26 (by decide) q278 (Or.inl rfl) (congrArg va_rf ex27) (pc := 86) dX1_teach_86) ?_
        refine sp_m (aw_iload_n (pc := 89) dX1_teach_89 rfl (lv_at hl 1 rfl)) ?_
        refine sp_g fun s28 => ?_
        refine sp_g fun i29 => ?_
        refine sp_m (aw_iald s28 i29 (pc := 90) dX1_teach_90) ?_
        exact sp_r fun hz => aw_iret hz rfl rfl rfl (pc := 91) dX1_teach_91
      · refine sp_m (aw_if_ne_f (tgt := 48) (pc := 39) dX1_teach_39 (by decide) (Decidable.not_not.mp c9)) ?_
        refine sp_m (aw_aload_n (pc := 42) dX1_teach_42 rfl (lv_at hl 0 rfl)) ?_
        refine sp_m (aw_iconst (v := 5) (pc := 43) dX1_teach_43 rfl) ?_
        refine sp_b fun p30 ep30 => ?_
        refine sp_m (G' := AW (KX1_teach l D h0 hE v) p30.2 (47) ls (.int p30.1 :: [])) (fun kk => aw_callV (As := [.int 5]) (metX1_no _ _ ep30) (rcv_o okX1 s4) rfl mok_X1_no q459 q461 qs3 q116 q462 (Nat.le_of_ble_eq_true rfl) (Nat.le_of_ble_eq_true rfl) rfl hl.1 rfl (Nat.le_of_ble_eq_true rfl) (pc := 44) dX1_teach_44 kk) ?_
        exact sp_r fun hz => aw_iret hz rfl rfl rfl (pc := 47) dX1_teach_47
    · refine sp_m (aw_if_ne_f (tgt := 34) (pc := 25) dX1_teach_25 (by decide) (Decidable.not_not.mp c7)) ?_
      refine sp_m (aw_aload_n (pc := 28) dX1_teach_28 rfl (lv_at hl 0 rfl)) ?_
      refine sp_m (aw_iconst (v := 2) (pc := 29) dX1_teach_29 rfl) ?_
      refine sp_b fun p31 ep31 => ?_
      refine sp_m (G' := AW (KX1_teach l D h0 hE v) p31.2 (33) ls (.int p31.1 :: [])) (fun kk => aw_callV (As := [.int 2]) (metX1_no _ _ ep31) (rcv_o okX1 s4) rfl mok_X1_no q459 q461 qs3 q116 q462 (Nat.le_of_ble_eq_true rfl) (Nat.le_of_ble_eq_true rfl) rfl hl.1 rfl (Nat.le_of_ble_eq_true rfl) (pc := 30) dX1_teach_30 kk) ?_
      exact sp_r fun hz => aw_iret hz rfl rfl rfl (pc := 33) dX1_teach_33
  · refine sp_m (aw_if_ne_f (tgt := 18) (pc := 9) dX1_teach_9 (by decide) (Decidable.not_not.mp c5)) ?_
    refine sp_m (aw_aload_n (pc := 12) dX1_teach_12 rfl (lv_at hl 0 rfl)) ?_
    refine sp_m (aw_iconst (v := 1) (pc := 13) dX1_teach_13 rfl) ?_
    refine sp_b fun p32 ep32 => ?_
    refine sp_m (G' := AW (KX1_teach l D h0 hE v) p32.2 (17) ls (.int p32.1 :: [])) (fun kk => aw_callV (As := [.int 1]) (metX1_no _ _ ep32) (rcv_o okX1 s4) rfl mok_X1_no q459 q461 qs3 q116 q462 (Nat.le_of_ble_eq_true rfl) (Nat.le_of_ble_eq_true rfl) rfl hl.1 rfl (Nat.le_of_ble_eq_true rfl) (pc := 14) dX1_teach_14 kk) ?_
    exact sp_r fun hz => aw_iret hz rfl rfl rfl (pc := 17) dX1_teach_17
theorem mok_X1_toHammer : mOK yX1_toHammer 0 := ⟨⟨by decide +kernel, by decide +kernel⟩, by decide +kernel⟩
abbrev KX1_toHammer (l : Launch) (D : DD) (h0 hE : AH) (v : Int32) : KT := (l, yX1_toHammer, cX1_toHammer, 5, (some .int), RX1, 10, D, h0, hE, .inl (some (.int v)), false, [])
theorem metX1_toHammer (l : Launch) (D : DD) {a0 : Nat} {h0 : AH} {hE : AH} {v : Int32} (hr : fX1_toHammer a0 h0 = some (v, hE)) : AMet (KX1_toHammer l D h0 hE v) [.ref a0] := by
  refine AMet.of (K := (KX1_toHammer l D h0 hE v)) rfl ⟨_, rfl⟩ rfl rfl rfl (Nat.le_of_ble_eq_true rfl) (fun ls hl => ?_)
  have hl : lv_has ls 5 [(0, .ref a0)] := hl
  suffices hsp : SP (fX1_toHammer a0 h0) (fun z => z = (v, hE)) (AW (KX1_toHammer l D h0 hE v) h0 0 ls []) from hsp _ hr rfl
  unfold fX1_toHammer
  refine sp_m (aw_aload_n (pc := 0) dX1_toHammer_0 rfl (lv_at hl 0 rfl)) ?_
  refine sp_g fun s2 => ?_
  refine sp_b fun p1 ep1 => ?_
  refine sp_m (G' := AW (KX1_toHammer l D h0 hE v) p1 (4) ls ([])) (fun kk => aw_callV (As := []) (metX1_anew _ _ ep1) (rcv_o okX1 s2) rfl mok_X1_anew q452 q454 qs2 q116 q455 (Nat.le_of_ble_eq_true rfl) (Nat.le_of_ble_eq_true rfl) rfl hl.1 rfl (Nat.le_of_ble_eq_true rfl) (pc := 1) dX1_toHammer_1 kk) ?_
  refine sp_m (aw_aload_n (pc := 4) dX1_toHammer_4 rfl (lv_at hl 0 rfl)) ?_
  refine sp_g fun s3 => ?_
  refine sp_o (fun ex4 => ?_) (fun x4 ex4 => ?_)
  · refine sp_m (aw_get (k := 3) okX1 s3 (by decide) q369 (Or.inl rfl) (congrArg va_rf ex4) (pc := 5) dX1_toHammer_5) ?_
    refine sp_m (aw_ifnonnullN (pc := 8) dX1_toHammer_8) ?_
    refine sp_m (aw_aload_n (pc := 11) dX1_toHammer_11 rfl (lv_at hl 0 rfl)) ?_
    refine sp_m (aw_iconst (v := 1) (pc := 12) dX1_toHammer_12 rfl) ?_
    refine sp_b fun p15 ep15 => ?_
    refine sp_m (G' := AW (KX1_toHammer l D h0 hE v) p15.2 (16) ls (.int p15.1 :: [])) (fun kk => aw_callV (As := [.int 1]) (metX1_no _ _ ep15) (rcv_o okX1 s3) rfl mok_X1_no q459 q461 qs3 q116 q462 (Nat.le_of_ble_eq_true rfl) (Nat.le_of_ble_eq_true rfl) rfl hl.1 rfl (Nat.le_of_ble_eq_true rfl) (pc := 13) dX1_toHammer_13 kk) ?_
    exact sp_r fun hz => aw_iret hz rfl rfl rfl (pc := 16) dX1_toHammer_16
  · refine sp_m (aw_get (k := 3) okX1 s3 (by decide) q369 (Or.inl rfl) (congrArg va_rf ex4) (pc := 5) dX1_toHammer_5) ?_
    refine sp_m (aw_ifnonnull (tgt := 17) (pc := 8) dX1_toHammer_8 (by decide)) ?_
    refine sp_m (aw_bipush (v := (-2)) (pc := 17) dX1_toHammer_17 rfl) ?_
    refine sp_m (aw_istore_n (lv' := [(1, .int (-2)), (0, .ref a0)]) (pc := 19) dX1_toHammer_19 rfl hl (by decide) rfl) (sp_all fun ls hl => ?_)
    refine sp_m (aw_aload_n (pc := 20) dX1_toHammer_20 rfl (lv_at hl 1 rfl)) ?_
    refine sp_m (aw_bipush (v := (-2)) (pc := 21) dX1_toHammer_21 rfl) ?_
    refine sp_b fun p5 ep5 => ?_
    refine sp_m (G' := AW (KX1_toHammer l D h0 hE v) p1 (26) ls (.long p5 :: [])) (fun kk => aw_callV (As := [.int (-2)]) (metX1_sumBy _ _ ep5) (rcv_o okX1 s3) rfl mok_X1_sumBy q1178 q1180 qs30 q116 q1181 (Nat.le_of_ble_eq_true rfl) (Nat.le_of_ble_eq_true rfl) rfl hl.1 rfl (Nat.le_of_ble_eq_true rfl) (pc := 23) dX1_toHammer_23 kk) ?_
    refine sp_m (aw_lstore_n (lv' := [(2, .long p5), (1, .int (-2)), (0, .ref a0)]) (pc := 26) dX1_toHammer_26 rfl hl (by decide) rfl) (sp_all fun ls hl => ?_)
    refine sp_m (aw_iconst (v := 0) (pc := 27) dX1_toHammer_27 rfl) ?_
    refine sp_m (aw_istore (lv' := [(4, .int 0), (2, .long p5), (1, .int (-2)), (0, .ref a0)]) (pc := 28) dX1_toHammer_28 hl (by decide) rfl) (sp_all fun ls hl => ?_)
    let P6 : Int32 × Int64 × Int32 → Prop := aLP (KX1_toHammer l D h0 hE v) 5 30 (fun s6v : Int32 × Int64 × Int32 => [(0, .ref a0), (1, .int s6v.1), (2, .long s6v.2.1), (4, .int s6v.2.2)]) (fun s6v => p1)
    let E6 : Int32 → Prop := aLP (KX1_toHammer l D h0 hE v) 5 72 (fun r6v : Int32 => [(1, .int r6v)]) (fun r6v => p1)
    refine sp_bl (P := P6) (E := E6) (fun s6v => sp_all fun ls hl => ?_) (fun k => k ls (lv_sub hl [3, 2, 1, 0] rfl)) (fun r6v => sp_all fun ls hl => ?_)
    · have hl : lv_has ls 5 [(0, .ref a0), (1, .int s6v.1), (2, .long s6v.2.1), (4, .int s6v.2.2)] := hl
      show SP _ _ (AW (KX1_toHammer l D h0 hE v) p1 30 ls [])
      unfold X1_toHammer_L30
      refine sp_m (aw_iload (pc := 30) dX1_toHammer_30 (lv_at hl 3 rfl)) ?_
      refine sp_m (aw_aload_n (pc := 32) dX1_toHammer_32 rfl (lv_at hl 0 rfl)) ?_
      refine sp_b fun x7 ex7 => ?_
      refine sp_m (aw_get (k := 3) okX1 s3 (by decide) q369 (Or.inl rfl) (congrArg va_rf ex7) (pc := 33) dX1_toHammer_33) ?_
      refine sp_g fun s8 => ?_
      refine sp_m (aw_get (k := 8) okX8 s8 (by decide) q505 (Or.inl rfl) rfl (pc := 36) dX1_toHammer_36) ?_
      refine sp_if (fun c9 => ?_) (fun c9 => ?_)
      · refine sp_m (aw_icmp_ge_t (tgt := 72) (pc := 39) dX1_toHammer_39 (by decide) c9) ?_
        exact sp_r fun hz => hz ls (lv_sub hl [1] rfl)
      · refine sp_m (aw_icmp_ge_f (tgt := 72) (pc := 39) dX1_toHammer_39 (by decide) c9) ?_
        refine sp_m (aw_aload_n (pc := 42) dX1_toHammer_42 rfl (lv_at hl 0 rfl)) ?_
        refine sp_m (aw_iload (pc := 43) dX1_toHammer_43 (lv_at hl 3 rfl)) ?_
        refine sp_b fun p10 ep10 => ?_
        refine sp_m (G' := AW (KX1_toHammer l D h0 hE v) p1 (48) ls (.long p10 :: [])) (fun kk => aw_callV (As := [.int s6v.2.2]) (metX1_sumWithout _ _ ep10) (rcv_o okX1 s3) rfl mok_X1_sumWithout q1187 q1189 qs31 q116 q1190 (Nat.le_of_ble_eq_true rfl) (Nat.le_of_ble_eq_true rfl) rfl hl.1 rfl (Nat.le_of_ble_eq_true rfl) (pc := 45) dX1_toHammer_45 kk) ?_
        refine sp_m (aw_lload_n (pc := 48) dX1_toHammer_48 rfl (lv_at hl 2 rfl)) ?_
        refine sp_m (aw_lcmp (pc := 49) dX1_toHammer_49) ?_
        have hj66_1 : ∀ j11 : Int32, ∀ j12 : Int64, ∀ ls : Array Slot, lv_has ls 5 [(0, .ref a0), (1, .int j11), (2, .long j12), (4, .int s6v.2.2)] → SP (X1_toHammer_j66 s6v j11 j12) (ZL P6 E6) (AW (KX1_toHammer l D h0 hE v) p1 66 ls ([])) := by
          intro j11 j12 ls hl
          unfold X1_toHammer_j66
          refine sp_m (aw_iinc (v := s6v.2.2 + 1) (lv' := [(4, .int (s6v.2.2 + 1)), (0, .ref a0), (1, .int j11), (2, .long j12)]) (pc := 66) dX1_toHammer_66 hl (k := 3) rfl rfl (by decide) rfl) (sp_all fun ls hl => ?_)
          refine sp_m (aw_goto (tgt := 30) (pc := 69) dX1_toHammer_69 (by decide)) ?_
          exact sp_r fun hz => hz ls (lv_sub hl [1, 2, 3, 0] rfl)
        refine sp_if (fun c13 => ?_) (fun c13 => ?_)
        · refine sp_m (aw_if_gt_t (tgt := 56) (pc := 50) dX1_toHammer_50 (by decide) ((lg_cmp_gt _ _).mpr c13)) ?_
          refine sp_m (aw_iload (pc := 56) dX1_toHammer_56 (lv_at hl 3 rfl)) ?_
          refine sp_m (aw_istore_n (lv' := [(1, .int s6v.2.2), (0, .ref a0), (2, .long s6v.2.1), (4, .int s6v.2.2)]) (pc := 58) dX1_toHammer_58 rfl hl (by decide) rfl) (sp_all fun ls hl => ?_)
          refine sp_m (aw_aload_n (pc := 59) dX1_toHammer_59 rfl (lv_at hl 1 rfl)) ?_
          refine sp_m (aw_iload (pc := 60) dX1_toHammer_60 (lv_at hl 3 rfl)) ?_
          refine sp_b fun p14 ep14 => ?_
          refine sp_m (G' := AW (KX1_toHammer l D h0 hE v) p1 (65) ls (.long p14 :: [])) (fun kk => aw_callV (As := [.int s6v.2.2]) (metX1_sumWithout _ _ ep14) (rcv_o okX1 s3) rfl mok_X1_sumWithout q1187 q1189 qs31 q116 q1190 (Nat.le_of_ble_eq_true rfl) (Nat.le_of_ble_eq_true rfl) rfl hl.1 rfl (Nat.le_of_ble_eq_true rfl) (pc := 62) dX1_toHammer_62 kk) ?_
          refine sp_m (aw_lstore_n (lv' := [(2, .long p14), (1, .int s6v.2.2), (0, .ref a0), (4, .int s6v.2.2)]) (pc := 65) dX1_toHammer_65 rfl hl (by decide) rfl) (sp_all fun ls hl => ?_)
          exact hj66_1 s6v.2.2 p14 ls (lv_sub hl [2, 1, 0, 3] rfl)
        · refine sp_m (aw_if_gt_f (tgt := 56) (pc := 50) dX1_toHammer_50 (by decide) (fun z => c13 ((lg_cmp_gt _ _).mp z))) ?_
          refine sp_m (aw_goto (tgt := 66) (pc := 53) dX1_toHammer_53 (by decide)) ?_
          exact hj66_1 s6v.1 s6v.2.1 ls (lv_sub hl [0, 1, 2, 3] rfl)
    · have hl : lv_has ls 5 [(1, .int r6v)] := hl
      show SP _ _ (AW (KX1_toHammer l D h0 hE v) p1 72 ls [])
      refine sp_m (aw_iload_n (pc := 72) dX1_toHammer_72 rfl (lv_at hl 0 rfl)) ?_
      exact sp_r fun hz => aw_iret hz rfl rfl rfl (pc := 73) dX1_toHammer_73
theorem mok_X1_toOpen : mOK yX1_toOpen 0 := ⟨⟨by decide +kernel, by decide +kernel⟩, by decide +kernel⟩
abbrev KX1_toOpen (l : Launch) (D : DD) (h0 hE : AH) (v : Int32) : KT := (l, yX1_toOpen, cX1_toOpen, 5, (some .int), RX1, 9, D, h0, hE, .inl (some (.int v)), false, [])
theorem metX1_toOpen (l : Launch) (D : DD) {a0 : Nat} {h0 : AH} {hE : AH} {v : Int32} (hr : fX1_toOpen a0 h0 = some (v, hE)) : AMet (KX1_toOpen l D h0 hE v) [.ref a0] := by
  refine AMet.of (K := (KX1_toOpen l D h0 hE v)) rfl ⟨_, rfl⟩ rfl rfl rfl (Nat.le_of_ble_eq_true rfl) (fun ls hl => ?_)
  have hl : lv_has ls 5 [(0, .ref a0)] := hl
  suffices hsp : SP (fX1_toOpen a0 h0) (fun z => z = (v, hE)) (AW (KX1_toOpen l D h0 hE v) h0 0 ls []) from hsp _ hr rfl
  unfold fX1_toOpen
  refine sp_m (aw_aload_n (pc := 0) dX1_toOpen_0 rfl (lv_at hl 0 rfl)) ?_
  refine sp_g fun s2 => ?_
  refine sp_b fun p1 ep1 => ?_
  refine sp_m (G' := AW (KX1_toOpen l D h0 hE v) p1 (4) ls ([])) (fun kk => aw_callV (As := []) (metX1_anew _ _ ep1) (rcv_o okX1 s2) rfl mok_X1_anew q452 q454 qs2 q116 q455 (Nat.le_of_ble_eq_true rfl) (Nat.le_of_ble_eq_true rfl) rfl hl.1 rfl (Nat.le_of_ble_eq_true rfl) (pc := 1) dX1_toOpen_1 kk) ?_
  refine sp_m (aw_aload_n (pc := 4) dX1_toOpen_4 rfl (lv_at hl 0 rfl)) ?_
  refine sp_g fun s3 => ?_
  refine sp_o (fun ex4 => ?_) (fun x4 ex4 => ?_)
  · refine sp_m (aw_get (k := 3) okX1 s3 (by decide) q369 (Or.inl rfl) (congrArg va_rf ex4) (pc := 5) dX1_toOpen_5) ?_
    refine sp_m (aw_ifnonnullN (pc := 8) dX1_toOpen_8) ?_
    refine sp_m (aw_aload_n (pc := 11) dX1_toOpen_11 rfl (lv_at hl 0 rfl)) ?_
    refine sp_m (aw_iconst (v := 1) (pc := 12) dX1_toOpen_12 rfl) ?_
    refine sp_b fun p15 ep15 => ?_
    refine sp_m (G' := AW (KX1_toOpen l D h0 hE v) p15.2 (16) ls (.int p15.1 :: [])) (fun kk => aw_callV (As := [.int 1]) (metX1_no _ _ ep15) (rcv_o okX1 s3) rfl mok_X1_no q459 q461 qs3 q116 q462 (Nat.le_of_ble_eq_true rfl) (Nat.le_of_ble_eq_true rfl) rfl hl.1 rfl (Nat.le_of_ble_eq_true rfl) (pc := 13) dX1_toOpen_13 kk) ?_
    exact sp_r fun hz => aw_iret hz rfl rfl rfl (pc := 16) dX1_toOpen_16
  · refine sp_m (aw_get (k := 3) okX1 s3 (by decide) q369 (Or.inl rfl) (congrArg va_rf ex4) (pc := 5) dX1_toOpen_5) ?_
    refine sp_m (aw_ifnonnull (tgt := 17) (pc := 8) dX1_toOpen_8 (by decide)) ?_
    refine sp_m (aw_bipush (v := (-2)) (pc := 17) dX1_toOpen_17 rfl) ?_
    refine sp_m (aw_istore_n (lv' := [(1, .int (-2)), (0, .ref a0)]) (pc := 19) dX1_toOpen_19 rfl hl (by decide) rfl) (sp_all fun ls hl => ?_)
    refine sp_m (aw_aload_n (pc := 20) dX1_toOpen_20 rfl (lv_at hl 1 rfl)) ?_
    refine sp_m (aw_bipush (v := (-2)) (pc := 21) dX1_toOpen_21 rfl) ?_
    refine sp_b fun p5 ep5 => ?_
    refine sp_m (G' := AW (KX1_toOpen l D h0 hE v) p1 (26) ls (.long p5 :: [])) (fun kk => aw_callV (As := [.int (-2)]) (metX1_sumBy _ _ ep5) (rcv_o okX1 s3) rfl mok_X1_sumBy q1178 q1180 qs30 q116 q1181 (Nat.le_of_ble_eq_true rfl) (Nat.le_of_ble_eq_true rfl) rfl hl.1 rfl (Nat.le_of_ble_eq_true rfl) (pc := 23) dX1_toOpen_23 kk) ?_
    refine sp_m (aw_lstore_n (lv' := [(2, .long p5), (1, .int (-2)), (0, .ref a0)]) (pc := 26) dX1_toOpen_26 rfl hl (by decide) rfl) (sp_all fun ls hl => ?_)
    refine sp_m (aw_iconst (v := 0) (pc := 27) dX1_toOpen_27 rfl) ?_
    refine sp_m (aw_istore (lv' := [(4, .int 0), (2, .long p5), (1, .int (-2)), (0, .ref a0)]) (pc := 28) dX1_toOpen_28 hl (by decide) rfl) (sp_all fun ls hl => ?_)
    let P6 : Int32 × Int64 × Int32 → Prop := aLP (KX1_toOpen l D h0 hE v) 5 30 (fun s6v : Int32 × Int64 × Int32 => [(0, .ref a0), (1, .int s6v.1), (2, .long s6v.2.1), (4, .int s6v.2.2)]) (fun s6v => p1)
    let E6 : Int32 → Prop := aLP (KX1_toOpen l D h0 hE v) 5 72 (fun r6v : Int32 => [(1, .int r6v)]) (fun r6v => p1)
    refine sp_bl (P := P6) (E := E6) (fun s6v => sp_all fun ls hl => ?_) (fun k => k ls (lv_sub hl [3, 2, 1, 0] rfl)) (fun r6v => sp_all fun ls hl => ?_)
    · have hl : lv_has ls 5 [(0, .ref a0), (1, .int s6v.1), (2, .long s6v.2.1), (4, .int s6v.2.2)] := hl
      show SP _ _ (AW (KX1_toOpen l D h0 hE v) p1 30 ls [])
      unfold X1_toOpen_L30
      refine sp_m (aw_iload (pc := 30) dX1_toOpen_30 (lv_at hl 3 rfl)) ?_
      refine sp_m (aw_aload_n (pc := 32) dX1_toOpen_32 rfl (lv_at hl 0 rfl)) ?_
      refine sp_b fun x7 ex7 => ?_
      refine sp_m (aw_get (k := 3) okX1 s3 (by decide) q369 (Or.inl rfl) (congrArg va_rf ex7) (pc := 33) dX1_toOpen_33) ?_
      refine sp_g fun s8 => ?_
      refine sp_m (aw_get (k := 5) okX8 s8 (by decide) q496 (Or.inl rfl) rfl (pc := 36) dX1_toOpen_36) ?_
      refine sp_if (fun c9 => ?_) (fun c9 => ?_)
      · refine sp_m (aw_icmp_ge_t (tgt := 72) (pc := 39) dX1_toOpen_39 (by decide) c9) ?_
        exact sp_r fun hz => hz ls (lv_sub hl [1] rfl)
      · refine sp_m (aw_icmp_ge_f (tgt := 72) (pc := 39) dX1_toOpen_39 (by decide) c9) ?_
        refine sp_m (aw_aload_n (pc := 42) dX1_toOpen_42 rfl (lv_at hl 0 rfl)) ?_
        refine sp_m (aw_iload (pc := 43) dX1_toOpen_43 (lv_at hl 3 rfl)) ?_
        refine sp_b fun p10 ep10 => ?_
        refine sp_m (G' := AW (KX1_toOpen l D h0 hE v) p1 (48) ls (.long p10 :: [])) (fun kk => aw_callV (As := [.int s6v.2.2]) (metX1_sumBy _ _ ep10) (rcv_o okX1 s3) rfl mok_X1_sumBy q1178 q1180 qs30 q116 q1181 (Nat.le_of_ble_eq_true rfl) (Nat.le_of_ble_eq_true rfl) rfl hl.1 rfl (Nat.le_of_ble_eq_true rfl) (pc := 45) dX1_toOpen_45 kk) ?_
        refine sp_m (aw_lload_n (pc := 48) dX1_toOpen_48 rfl (lv_at hl 2 rfl)) ?_
        refine sp_m (aw_lcmp (pc := 49) dX1_toOpen_49) ?_
        have hj66_1 : ∀ j11 : Int32, ∀ j12 : Int64, ∀ ls : Array Slot, lv_has ls 5 [(0, .ref a0), (1, .int j11), (2, .long j12), (4, .int s6v.2.2)] → SP (X1_toOpen_j66 s6v j11 j12) (ZL P6 E6) (AW (KX1_toOpen l D h0 hE v) p1 66 ls ([])) := by
          intro j11 j12 ls hl
          unfold X1_toOpen_j66
          refine sp_m (aw_iinc (v := s6v.2.2 + 1) (lv' := [(4, .int (s6v.2.2 + 1)), (0, .ref a0), (1, .int j11), (2, .long j12)]) (pc := 66) dX1_toOpen_66 hl (k := 3) rfl rfl (by decide) rfl) (sp_all fun ls hl => ?_)
          refine sp_m (aw_goto (tgt := 30) (pc := 69) dX1_toOpen_69 (by decide)) ?_
          exact sp_r fun hz => hz ls (lv_sub hl [1, 2, 3, 0] rfl)
        refine sp_if (fun c13 => ?_) (fun c13 => ?_)
        · refine sp_m (aw_if_lt_t (tgt := 56) (pc := 50) dX1_toOpen_50 (by decide) ((lg_cmp_lt _ _).mpr c13)) ?_
          refine sp_m (aw_iload (pc := 56) dX1_toOpen_56 (lv_at hl 3 rfl)) ?_
          refine sp_m (aw_istore_n (lv' := [(1, .int s6v.2.2), (0, .ref a0), (2, .long s6v.2.1), (4, .int s6v.2.2)]) (pc := 58) dX1_toOpen_58 rfl hl (by decide) rfl) (sp_all fun ls hl => ?_)
          refine sp_m (aw_aload_n (pc := 59) dX1_toOpen_59 rfl (lv_at hl 1 rfl)) ?_
          refine sp_m (aw_iload (pc := 60) dX1_toOpen_60 (lv_at hl 3 rfl)) ?_
          refine sp_b fun p14 ep14 => ?_
          refine sp_m (G' := AW (KX1_toOpen l D h0 hE v) p1 (65) ls (.long p14 :: [])) (fun kk => aw_callV (As := [.int s6v.2.2]) (metX1_sumBy _ _ ep14) (rcv_o okX1 s3) rfl mok_X1_sumBy q1178 q1180 qs30 q116 q1181 (Nat.le_of_ble_eq_true rfl) (Nat.le_of_ble_eq_true rfl) rfl hl.1 rfl (Nat.le_of_ble_eq_true rfl) (pc := 62) dX1_toOpen_62 kk) ?_
          refine sp_m (aw_lstore_n (lv' := [(2, .long p14), (1, .int s6v.2.2), (0, .ref a0), (4, .int s6v.2.2)]) (pc := 65) dX1_toOpen_65 rfl hl (by decide) rfl) (sp_all fun ls hl => ?_)
          exact hj66_1 s6v.2.2 p14 ls (lv_sub hl [2, 1, 0, 3] rfl)
        · refine sp_m (aw_if_lt_f (tgt := 56) (pc := 50) dX1_toOpen_50 (by decide) (fun z => c13 ((lg_cmp_lt _ _).mp z))) ?_
          refine sp_m (aw_goto (tgt := 66) (pc := 53) dX1_toOpen_53 (by decide)) ?_
          exact hj66_1 s6v.1 s6v.2.1 ls (lv_sub hl [0, 1, 2, 3] rfl)
    · have hl : lv_has ls 5 [(1, .int r6v)] := hl
      show SP _ _ (AW (KX1_toOpen l D h0 hE v) p1 72 ls [])
      refine sp_m (aw_iload_n (pc := 72) dX1_toOpen_72 rfl (lv_at hl 0 rfl)) ?_
      exact sp_r fun hz => aw_iret hz rfl rfl rfl (pc := 73) dX1_toOpen_73
theorem mok_X1_trouble : mOK yX1_trouble 0 := ⟨⟨by decide +kernel, by decide +kernel⟩, by decide +kernel⟩
abbrev KX1_trouble (l : Launch) (D : DD) (h0 : AH) (v : Int32) : KT := (l, yX1_trouble, cX1_trouble, 1, (some .int), RX1, 1, D, h0, h0, .inl (some (.int v)), false, [])
theorem metX1_trouble (l : Launch) (D : DD) {a0 : Nat} {h0 : AH} {v : Int32} (hr : fX1_trouble a0 h0 = some v) : AMet (KX1_trouble l D h0 v) [.ref a0] := by
  refine AMet.of (K := (KX1_trouble l D h0 v)) rfl ⟨_, rfl⟩ rfl rfl rfl (Nat.le_of_ble_eq_true rfl) (fun ls hl => ?_)
  have hl : lv_has ls 1 [(0, .ref a0)] := hl
  suffices hsp : SP (fX1_trouble a0 h0) (fun z => z = v) (AW (KX1_trouble l D h0 v) h0 0 ls []) from hsp _ hr rfl
  unfold fX1_trouble
  refine sp_m (aw_aload_n (pc := 0) dX1_trouble_0 rfl (lv_at hl 0 rfl)) ?_
  refine sp_g fun s1 => ?_
  refine sp_m (aw_get (k := 4) okX1 s1 (by decide) q370 (Or.inl rfl) rfl (pc := 1) dX1_trouble_1) ?_
  exact sp_r fun hz => aw_iret (congrArg (fun z => (z, h0)) hz) rfl rfl rfl (pc := 4) dX1_trouble_4
theorem mok_X1_turnedBy : mOK yX1_turnedBy 1 := ⟨⟨by decide +kernel, by decide +kernel⟩, by decide +kernel⟩
abbrev KX1_turnedBy (l : Launch) (D : DD) (h0 hE : AH) (v : Int32) : KT := (l, yX1_turnedBy, cX1_turnedBy, 2, (some .int), RX1, 5, D, h0, hE, .inl (some (.int v)), false, [])
theorem metX1_turnedBy (l : Launch) (D : DD) {a0 : Nat} {a1 : Int32} {h0 : AH} {hE : AH} {v : Int32} (hr : fX1_turnedBy a0 a1 h0 = some (v, hE)) : AMet (KX1_turnedBy l D h0 hE v) [.ref a0, .int a1] := by
  refine AMet.of (K := (KX1_turnedBy l D h0 hE v)) rfl ⟨_, rfl⟩ rfl rfl rfl (Nat.le_of_ble_eq_true rfl) (fun ls hl => ?_)
  have hl : lv_has ls 2 [(0, .ref a0), (1, .int a1)] := hl
  suffices hsp : SP (fX1_turnedBy a0 a1 h0) (fun z => z = (v, hE)) (AW (KX1_turnedBy l D h0 hE v) h0 0 ls []) from hsp _ hr rfl
  unfold fX1_turnedBy
  refine sp_m (aw_aload_n (pc := 0) dX1_turnedBy_0 rfl (lv_at hl 0 rfl)) ?_
  refine sp_g fun s2 => ?_
  refine sp_b fun p1 ep1 => ?_
  refine sp_m (G' := AW (KX1_turnedBy l D h0 hE v) p1 (4) ls ([])) (fun kk => aw_callV (As := []) (metX1_anew _ _ ep1) (rcv_o okX1 s2) rfl mok_X1_anew q452 q454 qs2 q116 q455 (Nat.le_of_ble_eq_true rfl) (Nat.le_of_ble_eq_true rfl) rfl hl.1 rfl (Nat.le_of_ble_eq_true rfl) (pc := 1) dX1_turnedBy_1 kk) ?_
  refine sp_m (aw_aload_n (pc := 4) dX1_turnedBy_4 rfl (lv_at hl 0 rfl)) ?_
  refine sp_m (aw_iload_n (pc := 5) dX1_turnedBy_5 rfl (lv_at hl 1 rfl)) ?_
  refine sp_g fun s4 => ?_
  refine sp_b fun p3 ep3 => ?_
  refine sp_m (G' := AW (KX1_turnedBy l D h0 hE v) p1 (9) ls (.int p3 :: [])) (fun kk => aw_callV (As := [.int a1]) (metX1_isBeast _ _ ep3) (rcv_o okX1 s4) rfl mok_X1_isBeast q974 q976 qs27 q116 q977 (Nat.le_of_ble_eq_true rfl) (Nat.le_of_ble_eq_true rfl) rfl hl.1 rfl (Nat.le_of_ble_eq_true rfl) (pc := 6) dX1_turnedBy_6 kk) ?_
  refine sp_if (fun c5 => ?_) (fun c5 => ?_)
  · refine sp_m (aw_if_eq_t (tgt := 25) (pc := 9) dX1_turnedBy_9 (by decide) c5) ?_
    refine sp_m (aw_aload_n (pc := 25) dX1_turnedBy_25 rfl (lv_at hl 0 rfl)) ?_
    refine sp_m (aw_iconst (v := 1) (pc := 26) dX1_turnedBy_26 rfl) ?_
    refine sp_b fun p6 ep6 => ?_
    refine sp_m (G' := AW (KX1_turnedBy l D h0 hE v) p6.2 (30) ls (.int p6.1 :: [])) (fun kk => aw_callV (As := [.int 1]) (metX1_no _ _ ep6) (rcv_o okX1 s4) rfl mok_X1_no q459 q461 qs3 q116 q462 (Nat.le_of_ble_eq_true rfl) (Nat.le_of_ble_eq_true rfl) rfl hl.1 rfl (Nat.le_of_ble_eq_true rfl) (pc := 27) dX1_turnedBy_27 kk) ?_
    exact sp_r fun hz => aw_iret hz rfl rfl rfl (pc := 30) dX1_turnedBy_30
  · refine sp_m (aw_if_eq_f (tgt := 25) (pc := 9) dX1_turnedBy_9 (by decide) c5) ?_
    refine sp_m (aw_aload_n (pc := 12) dX1_turnedBy_12 rfl (lv_at hl 0 rfl)) ?_
    refine sp_b fun x7 ex7 => ?_
    refine sp_m (aw_get (k := 9) okX1 s4 (by decide) q375 (Or.inl rfl) (congrArg va_rf ex7) (pc := 13) dX1_turnedBy_13) ?_
    refine sp_m (aw_iconst (v := 1) (pc := 16) dX1_turnedBy_16 rfl) ?_
    refine sp_m (aw_iload_n (pc := 17) dX1_turnedBy_17 rfl (lv_at hl 1 rfl)) ?_
    refine sp_m (aw_ishl (pc := 18) dX1_turnedBy_18) ?_
    refine sp_g fun s9 => ?_
    refine sp_b fun p8 ep8 => ?_
    refine sp_m (G' := AW (KX1_turnedBy l D h0 hE v) p1 (22) ls (.int p8 :: [])) (fun kk => aw_callV (As := [.int (1 <<< (a1 &&& 31))]) (metX4_turnedBy _ _ ep8) (rcv_o okX4 s9) rfl mok_X4_turnedBy q1337 q1338 q1339 q122 q1340 (Nat.le_of_ble_eq_true rfl) (Nat.le_of_ble_eq_true rfl) rfl hl.1 rfl (Nat.le_of_ble_eq_true rfl) (pc := 19) dX1_turnedBy_19 kk) ?_
    refine sp_m (aw_goto (tgt := 30) (pc := 22) dX1_turnedBy_22 (by decide)) ?_
    exact sp_r fun hz => aw_iret hz rfl rfl rfl (pc := 30) dX1_turnedBy_30
theorem mok_X1_undo : mOK yX1_undo 0 := ⟨⟨by decide +kernel, by decide +kernel⟩, by decide +kernel⟩
abbrev KX1_undo (l : Launch) (D : DD) (h0 hE : AH) (v : Int32) : KT := (l, yX1_undo, cX1_undo, 1, (some .boolean), RX1, 3, D, h0, hE, .inl (some (.int v)), false, [])
theorem metX1_undo (l : Launch) (D : DD) {a0 : Nat} {h0 : AH} {hE : AH} {v : Int32} (hr : fX1_undo a0 h0 = some (v, hE)) : AMet (KX1_undo l D h0 hE v) [.ref a0] := by
  refine AMet.of (K := (KX1_undo l D h0 hE v)) rfl ⟨_, rfl⟩ rfl rfl rfl (Nat.le_of_ble_eq_true rfl) (fun ls hl => ?_)
  have hl : lv_has ls 1 [(0, .ref a0)] := hl
  suffices hsp : SP (fX1_undo a0 h0) (fun z => z = (v, hE)) (AW (KX1_undo l D h0 hE v) h0 0 ls []) from hsp _ hr rfl
  unfold fX1_undo
  refine sp_m (aw_aload_n (pc := 0) dX1_undo_0 rfl (lv_at hl 0 rfl)) ?_
  refine sp_m (aw_aload_n (pc := 1) dX1_undo_1 rfl (lv_at hl 0 rfl)) ?_
  refine sp_g fun s1 => ?_
  refine sp_m (aw_get (k := 8) okX1 s1 (by decide) q374 (Or.inl rfl) rfl (pc := 2) dX1_undo_2) ?_
  have hj14_1 : ∀ j2 : Int32, ∀ ls : Array Slot, lv_has ls 1 [(0, .ref a0)] → SP (X1_undo_j14 a0 h0 j2) (fun z => z = (v, hE)) (AW (KX1_undo l D h0 hE v) h0 14 ls (.int j2 :: .ref a0 :: [])) := by
    intro j2 ls hl
    unfold X1_undo_j14
    refine sp_b fun p3 ep3 => ?_
    refine sp_m (G' := AW (KX1_undo l D h0 hE v) p3.2 (17) ls (.int p3.1 :: [])) (fun kk => aw_callV (As := [.int j2]) (metX1_yes _ _ ep3) (rcv_o okX1 s1) rfl mok_X1_yes q1410 q1412 qs47 q116 q1413 (Nat.le_of_ble_eq_true rfl) (Nat.le_of_ble_eq_true rfl) rfl hl.1 rfl (Nat.le_of_ble_eq_true rfl) (pc := 14) dX1_undo_14 kk) ?_
    refine sp_if (fun c4 => ?_) (fun c4 => ?_)
    · refine sp_m (aw_if_ne_t (tgt := 22) (pc := 17) dX1_undo_17 (by decide) c4) ?_
      refine sp_m (aw_aload_n (pc := 22) dX1_undo_22 rfl (lv_at hl 0 rfl)) ?_
      refine sp_m (aw_dup (pc := 23) dX1_undo_23 rfl) ?_
      refine sp_g fun s5 => ?_
      refine sp_m (aw_get (k := 8) okX1 s5 (by decide) q374 (Or.inl rfl) rfl (pc := 24) dX1_undo_24) ?_
      refine sp_m (aw_iconst (v := 1) (pc := 27) dX1_undo_27 rfl) ?_
      refine sp_m (aw_isub (pc := 28) dX1_undo_28) ?_
      refine sp_t fun h6 eh60 => ?_
      have eh6 : gS h6 = gS p3.2 := by rw [eh60]; rfl
      refine sp_m (aw_put (k := 8) okX1 opX1 s5 (by decide) q374 (Or.inl rfl) (Or.inl rfl) (hasV_I' eh60) rfl rfl (pc := 29) dX1_undo_29) ?_
      refine sp_m (aw_aload_n (pc := 32) dX1_undo_32 rfl (lv_at hl 0 rfl)) ?_
      refine sp_b fun x7 ex7 => ?_
      refine sp_m (aw_get (k := 9) okX1 (uS eh6 s5) (by decide) q375 (Or.inl rfl) (congrArg va_rf ex7) (pc := 33) dX1_undo_33) ?_
      refine sp_m (aw_aload_n (pc := 36) dX1_undo_36 rfl (lv_at hl 0 rfl)) ?_
      refine sp_b fun x8 ex8 => ?_
      refine sp_m (aw_get (k := 14) okX1 (uS eh6 s5) (by decide) q380 (Or.inl rfl) (congrArg va_rf ex8) (pc := 37) dX1_undo_37) ?_
      refine sp_m (aw_aload_n (pc := 40) dX1_undo_40 rfl (lv_at hl 0 rfl)) ?_
      refine sp_m (aw_get (k := 8) okX1 (uS eh6 s5) (by decide) q374 (Or.inl rfl) rfl (pc := 41) dX1_undo_41) ?_
      refine sp_g fun s9 => ?_
      refine sp_g fun i10 => ?_
      refine sp_b fun x11 ex11 => ?_
      refine sp_m (aw_aald (t := 4) s9 (by decide) rfl rfl i10 (congrArg va_rf ex11) (pc := 44) dX1_undo_44) ?_
      refine sp_g fun s13 => ?_
      refine sp_b fun p12 ep12 => ?_
      refine sp_m (G' := AW (KX1_undo l D h0 hE v) p12 (48) ls ([])) (fun kk => aw_callV (As := [.ref x11]) (metX4_become _ _ ep12) (rcv_o okX4 s13) rfl mok_X4_become q1166 q1167 q1168 q122 q1169 (Nat.le_of_ble_eq_true rfl) (Nat.le_of_ble_eq_true rfl) rfl hl.1 rfl (Nat.le_of_ble_eq_true rfl) (pc := 45) dX1_undo_45 kk) ?_
      refine sp_m (aw_iconst (v := 1) (pc := 48) dX1_undo_48 rfl) ?_
      exact sp_r fun hz => aw_zret (nar_b (Or.inr rfl)) hz rfl rfl rfl (pc := 49) dX1_undo_49
    · refine sp_m (aw_if_ne_f (tgt := 22) (pc := 17) dX1_undo_17 (by decide) (Decidable.not_not.mp c4)) ?_
      refine sp_m (aw_iconst (v := 0) (pc := 20) dX1_undo_20 rfl) ?_
      exact sp_r fun hz => aw_zret (nar_b (Or.inl rfl)) hz rfl rfl rfl (pc := 21) dX1_undo_21
  refine sp_if (fun c14 => ?_) (fun c14 => ?_)
  · refine sp_m (aw_if_ne_t (tgt := 13) (pc := 5) dX1_undo_5 (by decide) c14) ?_
    refine sp_m (aw_iconst (v := 0) (pc := 13) dX1_undo_13 rfl) ?_
    exact hj14_1 0 ls (lv_sub hl [0] rfl)
  · refine sp_m (aw_if_ne_f (tgt := 13) (pc := 5) dX1_undo_5 (by decide) (Decidable.not_not.mp c14)) ?_
    refine sp_m (aw_bipush (v := 6) (pc := 8) dX1_undo_8 rfl) ?_
    refine sp_m (aw_goto (tgt := 14) (pc := 10) dX1_undo_10 (by decide)) ?_
    exact hj14_1 6 ls (lv_sub hl [0] rfl)
theorem mok_X4_begin : mOK yX4_begin 1 := ⟨⟨by decide +kernel, by decide +kernel⟩, by decide +kernel⟩
abbrev KX4_begin (l : Launch) (D : DD) (h0 hE : AH) : KT := (l, yX4_begin, cX4_begin, 3, none, RX4, 1, D, h0, hE, .inl (none), false, [])
theorem metX4_begin (l : Launch) (D : DD) {a0 : Nat} {a1 : Nat} {h0 : AH} {hE : AH} (hr : fX4_begin a0 a1 h0 = some hE) : AMet (KX4_begin l D h0 hE) [.ref a0, .ref a1] := by
  refine AMet.of (K := (KX4_begin l D h0 hE)) rfl ⟨_, rfl⟩ rfl rfl rfl (Nat.le_of_ble_eq_true rfl) (fun ls hl => ?_)
  have hl : lv_has ls 3 [(0, .ref a0), (1, .ref a1)] := hl
  suffices hsp : SP (fX4_begin a0 a1 h0) (fun z => z = hE) (AW (KX4_begin l D h0 hE) h0 0 ls []) from hsp _ hr rfl
  unfold fX4_begin
  refine sp_m (aw_aload_n (pc := 0) dX4_begin_0 rfl (lv_at hl 0 rfl)) ?_
  refine sp_m (aw_aload_n (pc := 1) dX4_begin_1 rfl (lv_at hl 1 rfl)) ?_
  refine sp_g fun s1 => ?_
  refine sp_t fun h2 eh20 => ?_
  have eh2 : gS h2 = gS h0 := by rw [eh20]; rfl
  refine sp_m (aw_put (k := 3) okX4 opX4 s1 (by decide) q279 (Or.inl rfl) (Or.inl rfl) (hasV_R' eh20) rfl rfl (pc := 2) dX4_begin_2) ?_
  refine sp_m (aw_aload_n (pc := 5) dX4_begin_5 rfl (lv_at hl 0 rfl)) ?_
  refine sp_m (aw_iconst (v := 0) (pc := 6) dX4_begin_6 rfl) ?_
  refine sp_t fun h3 eh30 => ?_
  have eh3 : gS h3 = gS h2 := by rw [eh30]; rfl
  refine sp_m (aw_put (k := 4) okX4 opX4 (uS eh2 s1) (by decide) q280 (Or.inl rfl) (Or.inl rfl) (hasV_I' eh30) rfl rfl (pc := 7) dX4_begin_7) ?_
  refine sp_m (aw_aload_n (pc := 10) dX4_begin_10 rfl (lv_at hl 0 rfl)) ?_
  refine sp_m (aw_iconst (v := 0) (pc := 11) dX4_begin_11 rfl) ?_
  refine sp_t fun h4 eh40 => ?_
  have eh4 : gS h4 = gS h3 := by rw [eh40]; rfl
  refine sp_m (aw_put (k := 5) okX4 opX4 (uS eh3 (uS eh2 s1)) (by decide) q282 (Or.inl rfl) (Or.inl rfl) (hasV_I' eh40) rfl rfl (pc := 12) dX4_begin_12) ?_
  refine sp_m (aw_aload_n (pc := 15) dX4_begin_15 rfl (lv_at hl 0 rfl)) ?_
  refine sp_m (aw_iconst (v := 0) (pc := 16) dX4_begin_16 rfl) ?_
  refine sp_t fun h5 eh50 => ?_
  have eh5 : gS h5 = gS h4 := by rw [eh50]; rfl
  refine sp_m (aw_put (k := 6) okX4 opX4 (uS eh4 (uS eh3 (uS eh2 s1))) (by decide) q284 (Or.inl rfl) (Or.inl rfl) (hasV_I' eh50) (nar_b (Or.inl rfl)) (fit_b (Or.inl rfl)) (pc := 17) dX4_begin_17) ?_
  refine sp_m (aw_aload_n (pc := 20) dX4_begin_20 rfl (lv_at hl 1 rfl)) ?_
  refine sp_g fun s6 => ?_
  refine sp_b fun x7 ex7 => ?_
  refine sp_m (aw_get (k := 1) okX8 s6 (by decide) q484 (Or.inl rfl) (congrArg va_rf ex7) (pc := 21) dX4_begin_21) ?_
  refine sp_m (aw_iconst (v := 0) (pc := 24) dX4_begin_24 rfl) ?_
  refine sp_m (aw_aload_n (pc := 25) dX4_begin_25 rfl (lv_at hl 0 rfl)) ?_
  refine sp_b fun x8 ex8 => ?_
  refine sp_m (aw_get (k := 2) okX4 (uS eh5 (uS eh4 (uS eh3 (uS eh2 s1)))) (by decide) q277 (Or.inl rfl) (congrArg va_rf ex8) (pc := 26) dX4_begin_26) ?_
  refine sp_m (aw_iconst (v := 0) (pc := 29) dX4_begin_29 rfl) ?_
  refine sp_m (aw_bipush (v := 6) (pc := 30) dX4_begin_30 rfl) ?_
  refine sp_g fun s9 => ?_
  refine sp_g fun s10 => ?_
  refine sp_g fun g11a => ?_
  refine sp_g fun g11b => ?_
  refine sp_t fun h12 eh120 => ?_
  have eh12 : gS h12 = gS h5 := by rw [eh120]; rfl
  refine sp_m (fun kk => aw_copy hl.1 s9 s10 (by decide) (by decide) (by decide) g11a g11b q926 q928 q927 q143 (Nat.le_of_ble_eq_true rfl) rfl (pc := 32) dX4_begin_32 (AWe eh120 kk)) ?_
  refine sp_m (aw_iconst (v := 0) (pc := 35) dX4_begin_35 rfl) ?_
  refine sp_m (aw_istore_n (lv' := [(2, .int 0), (0, .ref a0), (1, .ref a1)]) (pc := 36) dX4_begin_36 rfl hl (by decide) rfl) (sp_all fun ls hl => ?_)
  let P13 : Int32 × AH → Prop := aLP (KX4_begin l D h0 hE) 3 37 (fun s13v : Int32 × AH => [(0, .ref a0), (1, .ref a1), (2, .int s13v.1)]) (fun s13v => s13v.2)
  let E13 : AH → Prop := aLP (KX4_begin l D h0 hE) 3 73 (fun r13v : AH => []) (fun r13v => r13v)
  refine sp_bl (P := P13) (E := E13) (fun s13v => sp_all fun ls hl => ?_) (fun k => k ls (lv_sub hl [1, 2, 0] rfl)) (fun r13v => sp_all fun ls hl => ?_)
  · have hl : lv_has ls 3 [(0, .ref a0), (1, .ref a1), (2, .int s13v.1)] := hl
    show SP _ _ (AW (KX4_begin l D h0 hE) s13v.2 37 ls [])
    unfold X4_begin_L37
    refine sp_m (aw_iload_n (pc := 37) dX4_begin_37 rfl (lv_at hl 2 rfl)) ?_
    refine sp_m (aw_aload_n (pc := 38) dX4_begin_38 rfl (lv_at hl 1 rfl)) ?_
    refine sp_g fun s14 => ?_
    refine sp_m (aw_get (k := 8) okX8 s14 (by decide) q503 (Or.inl rfl) rfl (pc := 39) dX4_begin_39) ?_
    refine sp_if (fun c15 => ?_) (fun c15 => ?_)
    · refine sp_m (aw_icmp_ge_t (tgt := 73) (pc := 42) dX4_begin_42 (by decide) c15) ?_
      exact sp_r fun hz => hz ls (lv_sub hl [] rfl)
    · refine sp_m (aw_icmp_ge_f (tgt := 73) (pc := 42) dX4_begin_42 (by decide) c15) ?_
      refine sp_m (aw_aload_n (pc := 45) dX4_begin_45 rfl (lv_at hl 0 rfl)) ?_
      refine sp_g fun s16 => ?_
      refine sp_b fun x17 ex17 => ?_
      refine sp_m (aw_get (k := 0) okX4 s16 (by decide) q273 (Or.inl rfl) (congrArg va_rf ex17) (pc := 46) dX4_begin_46) ?_
      refine sp_m (aw_iload_n (pc := 49) dX4_begin_49 rfl (lv_at hl 2 rfl)) ?_
      refine sp_m (aw_aload_n (pc := 50) dX4_begin_50 rfl (lv_at hl 1 rfl)) ?_
      refine sp_b fun x18 ex18 => ?_
      refine sp_m (aw_get (k := 3) okX8 s14 (by decide) q489 (Or.inl rfl) (congrArg va_rf ex18) (pc := 51) dX4_begin_51) ?_
      refine sp_m (aw_iload_n (pc := 54) dX4_begin_54 rfl (lv_at hl 2 rfl)) ?_
      refine sp_g fun s19 => ?_
      refine sp_g fun i20 => ?_
      refine sp_b fun x21 ex21 => ?_
      refine sp_m (aw_aald (t := 5) s19 (by decide) rfl rfl i20 (congrArg va_rf ex21) (pc := 55) dX4_begin_55) ?_
      refine sp_g fun s22 => ?_
      refine sp_m (G' := AW (KX4_begin l D h0 hE) s13v.2 (59) ls (.int (gI s13v.2 x21 0) :: .int s13v.1 :: .ref x17 :: [])) (fun kk => by rcases s22 with z | z | z | z; exact aw_get (k := 0) okX15 z (by decide) q817 (Or.inl rfl) rfl (pc := 56) dX4_begin_56 kk; exact aw_get (k := 0) okX16 z (by decide) q817 (Or.inl rfl) rfl (pc := 56) dX4_begin_56 kk; exact aw_get (k := 0) okX17 z (by decide) q817 (Or.inl rfl) rfl (pc := 56) dX4_begin_56 kk; exact aw_get (k := 0) okX18 z (by decide) q817 (Or.inl rfl) rfl (pc := 56) dX4_begin_56 kk) ?_
      refine sp_g fun s23 => ?_
      refine sp_g fun i24 => ?_
      refine sp_t fun h25 eh250 => ?_
      have eh25 : gS h25 = gS s13v.2 := by rw [eh250]; rfl
      refine sp_m (fun kk => aw_iast s23 i24 (pc := 59) dX4_begin_59 (AWe eh250 kk)) ?_
      refine sp_m (aw_aload_n (pc := 60) dX4_begin_60 rfl (lv_at hl 0 rfl)) ?_
      refine sp_b fun x26 ex26 => ?_
      refine sp_m (aw_get (k := 1) okX4 (uS eh25 s16) (by decide) q275 (Or.inl rfl) (congrArg va_rf ex26) (pc := 61) dX4_begin_61) ?_
      refine sp_m (aw_iload_n (pc := 64) dX4_begin_64 rfl (lv_at hl 2 rfl)) ?_
      refine sp_m (aw_iconst (v := 0) (pc := 65) dX4_begin_65 rfl) ?_
      refine sp_g fun s27 => ?_
      refine sp_g fun i28 => ?_
      refine sp_t fun h29 eh290 => ?_
      have eh29 : gS h29 = gS h25 := by rw [eh290]; rfl
      refine sp_m (fun kk => aw_iast s27 i28 (pc := 66) dX4_begin_66 (AWe eh290 kk)) ?_
      refine sp_m (aw_iinc (v := s13v.1 + 1) (lv' := [(2, .int (s13v.1 + 1)), (0, .ref a0), (1, .ref a1)]) (pc := 67) dX4_begin_67 hl (k := 2) rfl rfl (by decide) rfl) (sp_all fun ls hl => ?_)
      refine sp_m (aw_goto (tgt := 37) (pc := 70) dX4_begin_70 (by decide)) ?_
      exact sp_r fun hz => hz ls (lv_sub hl [1, 2, 0] rfl)
  · have hl : lv_has ls 3 [] := hl
    show SP _ _ (AW (KX4_begin l D h0 hE) r13v 73 ls [])
    exact sp_r fun hz => aw_vret hz rfl rfl rfl (pc := 73) dX4_begin_73
theorem mok_X3_at : mOK yX3_at 2 := ⟨⟨by decide +kernel, by decide +kernel⟩, by decide +kernel⟩
abbrev KX3_at (l : Launch) (D : DD) (h0 hE : AH) (v : Option Nat) : KT := (l, yX3_at, cX3_at, 3, (some (.object "ElephantLine$Refused")), RX3, 1, D, h0, hE, .inl (some (va_rf v)), false, [])
theorem metX3_at (l : Launch) (D : DD) {a0 : Nat} {a1 : Int32} {a2 : Int32} {h0 : AH} {hE : AH} {v : Option Nat} (hr : fX3_at a0 a1 a2 h0 = some (v, hE)) : AMet (KX3_at l D h0 hE v) [.ref a0, .int a1, .int a2] := by
  refine AMet.of (K := (KX3_at l D h0 hE v)) rfl ⟨_, rfl⟩ rfl rfl rfl (Nat.le_of_ble_eq_true rfl) (fun ls hl => ?_)
  have hl : lv_has ls 3 [(0, .ref a0), (1, .int a1), (2, .int a2)] := hl
  suffices hsp : SP (fX3_at a0 a1 a2 h0) (fun z => z = (v, hE)) (AW (KX3_at l D h0 hE v) h0 0 ls []) from hsp _ hr rfl
  unfold fX3_at
  refine sp_m (aw_aload_n (pc := 0) dX3_at_0 rfl (lv_at hl 0 rfl)) ?_
  refine sp_m (aw_iload_n (pc := 1) dX3_at_1 rfl (lv_at hl 1 rfl)) ?_
  refine sp_g fun s1 => ?_
  refine sp_t fun h2 eh20 => ?_
  have eh2 : gS h2 = gS h0 := by rw [eh20]; rfl
  refine sp_m (aw_put (k := 6) okX3 opX3 s1 (by decide) q213 (Or.inl rfl) (Or.inl rfl) (hasV_I' eh20) rfl rfl (pc := 2) dX3_at_2) ?_
  refine sp_m (aw_aload_n (pc := 5) dX3_at_5 rfl (lv_at hl 0 rfl)) ?_
  refine sp_m (aw_iload_n (pc := 6) dX3_at_6 rfl (lv_at hl 2 rfl)) ?_
  refine sp_t fun h3 eh30 => ?_
  have eh3 : gS h3 = gS h2 := by rw [eh30]; rfl
  refine sp_m (aw_put (k := 7) okX3 opX3 (uS eh2 s1) (by decide) q215 (Or.inl rfl) (Or.inl rfl) (hasV_I' eh30) rfl rfl (pc := 7) dX3_at_7) ?_
  refine sp_m (aw_aload_n (pc := 10) dX3_at_10 rfl (lv_at hl 0 rfl)) ?_
  exact sp_r fun hz => aw_aret rfl hz rfl rfl rfl (Or.inl ⟨_, rfl⟩) (pc := 11) dX3_at_11
theorem mok_X2_fail : mOK yX2_fail 1 := ⟨⟨by decide +kernel, by decide +kernel⟩, by decide +kernel⟩
abbrev KX2_fail (l : Launch) (D : DD) (h0 hE : AH) (v : Option Nat) : KT := (l, yX2_fail, cX2_fail, 2, (some (.object "ElephantLine$Refused")), RX2, 2, D, h0, hE, .inl (some (va_rf v)), false, [])
theorem metX2_fail (l : Launch) (D : DD) {a0 : Nat} {a1 : Int32} {h0 : AH} {hE : AH} {v : Option Nat} (hr : fX2_fail a0 a1 h0 = some (v, hE)) : AMet (KX2_fail l D h0 hE v) [.ref a0, .int a1] := by
  refine AMet.of (K := (KX2_fail l D h0 hE v)) rfl ⟨_, rfl⟩ rfl rfl rfl (Nat.le_of_ble_eq_true rfl) (fun ls hl => ?_)
  have hl : lv_has ls 2 [(0, .ref a0), (1, .int a1)] := hl
  suffices hsp : SP (fX2_fail a0 a1 h0) (fun z => z = (v, hE)) (AW (KX2_fail l D h0 hE v) h0 0 ls []) from hsp _ hr rfl
  unfold fX2_fail
  refine sp_m (aw_aload_n (pc := 0) dX2_fail_0 rfl (lv_at hl 0 rfl)) ?_
  refine sp_g fun s1 => ?_
  refine sp_b fun x2 ex2 => ?_
  refine sp_m (aw_get (k := 0) okX2 s1 (by decide) q235 (Or.inl rfl) (congrArg va_rf ex2) (pc := 1) dX2_fail_1) ?_
  refine sp_m (aw_iload_n (pc := 4) dX2_fail_4 rfl (lv_at hl 1 rfl)) ?_
  refine sp_m (aw_aload_n (pc := 5) dX2_fail_5 rfl (lv_at hl 0 rfl)) ?_
  refine sp_m (aw_get (k := 6) okX2 s1 (by decide) q241 (Or.inl rfl) rfl (pc := 6) dX2_fail_6) ?_
  refine sp_g fun s4 => ?_
  refine sp_b fun p3 ep3 => ?_
  refine sp_b fun x5 ex5 => ?_
  refine sp_m (G' := AW (KX2_fail l D h0 hE v) p3.2 (12) ls (.ref x5 :: [])) (fun kk => aw_callV (As := [.int a1, .int (gI h0 a0 6)]) (metX3_at _ _ ep3) (rcv_o okX3 s4) rfl mok_X3_at q642 q643 q644 q121 q645 (Nat.le_of_ble_eq_true rfl) (Nat.le_of_ble_eq_true rfl) rfl hl.1 rfl (Nat.le_of_ble_eq_true rfl) (pc := 9) dX2_fail_9 (kk_ref ex5 kk)) ?_
  exact sp_r fun hz => aw_aret rfl hz rfl rfl rfl (Or.inl ⟨_, rfl⟩) (pc := 12) dX2_fail_12
theorem mok_X2_isDigit : mOK yX2_isDigit 1 := ⟨⟨by decide +kernel, by decide +kernel⟩, by decide +kernel⟩
abbrev KX2_isDigit (l : Launch) (D : DD) (h0 : AH) (v : Int32) : KT := (l, yX2_isDigit, cX2_isDigit, 1, (some .boolean), RX2, 2, D, h0, h0, .inl (some (.int v)), false, [])
theorem metX2_isDigit (l : Launch) (D : DD) {a0 : Int32} {h0 : AH} {v : Int32} (hr : fX2_isDigit a0 h0 = some v) : AMet (KX2_isDigit l D h0 v) [.int a0] := by
  refine AMet.of (K := (KX2_isDigit l D h0 v)) rfl ⟨_, rfl⟩ rfl rfl rfl (Nat.le_of_ble_eq_true rfl) (fun ls hl => ?_)
  have hl : lv_has ls 1 [(0, .int a0)] := hl
  suffices hsp : SP (fX2_isDigit a0 h0) (fun z => z = v) (AW (KX2_isDigit l D h0 v) h0 0 ls []) from hsp _ hr rfl
  unfold fX2_isDigit
  refine sp_m (aw_iload_n (pc := 0) dX2_isDigit_0 rfl (lv_at hl 0 rfl)) ?_
  refine sp_m (aw_bipush (v := 48) (pc := 1) dX2_isDigit_1 rfl) ?_
  refine sp_m (aw_bipush (v := 57) (pc := 3) dX2_isDigit_3 rfl) ?_
  refine sp_b fun p1 ep1 => ?_
  refine sp_m (G' := AW (KX2_isDigit l D h0 v) h0 (8) ls (.int p1 :: [])) (fun kk => aw_callSN (As := [.int a0, .int 48, .int 57]) (host := "ElephantLine") (metX1_in _ _ ep1) mok_X1_in nq551 q457 q116 q458 (Nat.le_of_ble_eq_true rfl) (Nat.le_of_ble_eq_true rfl) rfl hl.1 rfl (Nat.le_of_ble_eq_true rfl) (pc := 5) dX2_isDigit_5 kk) ?_
  refine sp_g fun g2 => ?_
  exact sp_r fun hz => aw_zret (nar_b g2) (congrArg (fun z => (z, h0)) hz) rfl rfl rfl (pc := 8) dX2_isDigit_8
theorem mok_X2_isSmall : mOK yX2_isSmall 1 := ⟨⟨by decide +kernel, by decide +kernel⟩, by decide +kernel⟩
abbrev KX2_isSmall (l : Launch) (D : DD) (h0 : AH) (v : Int32) : KT := (l, yX2_isSmall, cX2_isSmall, 1, (some .boolean), RX2, 2, D, h0, h0, .inl (some (.int v)), false, [])
theorem metX2_isSmall (l : Launch) (D : DD) {a0 : Int32} {h0 : AH} {v : Int32} (hr : fX2_isSmall a0 h0 = some v) : AMet (KX2_isSmall l D h0 v) [.int a0] := by
  refine AMet.of (K := (KX2_isSmall l D h0 v)) rfl ⟨_, rfl⟩ rfl rfl rfl (Nat.le_of_ble_eq_true rfl) (fun ls hl => ?_)
  have hl : lv_has ls 1 [(0, .int a0)] := hl
  suffices hsp : SP (fX2_isSmall a0 h0) (fun z => z = v) (AW (KX2_isSmall l D h0 v) h0 0 ls []) from hsp _ hr rfl
  unfold fX2_isSmall
  refine sp_m (aw_iload_n (pc := 0) dX2_isSmall_0 rfl (lv_at hl 0 rfl)) ?_
  refine sp_m (aw_bipush (v := 97) (pc := 1) dX2_isSmall_1 rfl) ?_
  refine sp_m (aw_bipush (v := 122) (pc := 3) dX2_isSmall_3 rfl) ?_
  refine sp_b fun p1 ep1 => ?_
  refine sp_m (G' := AW (KX2_isSmall l D h0 v) h0 (8) ls (.int p1 :: [])) (fun kk => aw_callSN (As := [.int a0, .int 97, .int 122]) (host := "ElephantLine") (metX1_in _ _ ep1) mok_X1_in nq551 q457 q116 q458 (Nat.le_of_ble_eq_true rfl) (Nat.le_of_ble_eq_true rfl) rfl hl.1 rfl (Nat.le_of_ble_eq_true rfl) (pc := 5) dX2_isSmall_5 kk) ?_
  refine sp_g fun g2 => ?_
  exact sp_r fun hz => aw_zret (nar_b g2) (congrArg (fun z => (z, h0)) hz) rfl rfl rfl (pc := 8) dX2_isSmall_8
theorem mok_X2_see : mOK yX2_see 1 := ⟨⟨by decide +kernel, by decide +kernel⟩, by decide +kernel⟩
abbrev KX2_see (l : Launch) (D : DD) (h0 : AH) (v : Int32) : KT := (l, yX2_see, cX2_see, 2, (some .int), RX2, 1, D, h0, h0, .inl (some (.int v)), false, [])
theorem metX2_see (l : Launch) (D : DD) {a0 : Nat} {a1 : Int32} {h0 : AH} {v : Int32} (hr : fX2_see a0 a1 h0 = some v) : AMet (KX2_see l D h0 v) [.ref a0, .int a1] := by
  refine AMet.of (K := (KX2_see l D h0 v)) rfl ⟨_, rfl⟩ rfl rfl rfl (Nat.le_of_ble_eq_true rfl) (fun ls hl => ?_)
  have hl : lv_has ls 2 [(0, .ref a0), (1, .int a1)] := hl
  suffices hsp : SP (fX2_see a0 a1 h0) (fun z => z = v) (AW (KX2_see l D h0 v) h0 0 ls []) from hsp _ hr rfl
  unfold fX2_see
  refine sp_m (aw_iload_n (pc := 0) dX2_see_0 rfl (lv_at hl 1 rfl)) ?_
  refine sp_m (aw_aload_n (pc := 1) dX2_see_1 rfl (lv_at hl 0 rfl)) ?_
  refine sp_g fun s1 => ?_
  refine sp_m (aw_get (k := 3) okX2 s1 (by decide) q238 (Or.inl rfl) rfl (pc := 2) dX2_see_2) ?_
  refine sp_if (fun c2 => ?_) (fun c2 => ?_)
  · refine sp_m (aw_icmp_ge_t (tgt := 21) (pc := 5) dX2_see_5 (by decide) c2) ?_
    refine sp_m (aw_iconst (v := (-1)) (pc := 21) dX2_see_21 rfl) ?_
    exact sp_r fun hz => aw_iret (congrArg (fun z => (z, h0)) hz) rfl rfl rfl (pc := 22) dX2_see_22
  · refine sp_m (aw_icmp_ge_f (tgt := 21) (pc := 5) dX2_see_5 (by decide) c2) ?_
    refine sp_m (aw_aload_n (pc := 8) dX2_see_8 rfl (lv_at hl 0 rfl)) ?_
    refine sp_b fun x3 ex3 => ?_
    refine sp_m (aw_get (k := 1) okX2 s1 (by decide) q236 (Or.inl rfl) (congrArg va_rf ex3) (pc := 9) dX2_see_9) ?_
    refine sp_m (aw_iload_n (pc := 12) dX2_see_12 rfl (lv_at hl 1 rfl)) ?_
    refine sp_g fun s4 => ?_
    refine sp_g fun i5 => ?_
    refine sp_m (aw_bald s4 i5 (pc := 13) dX2_see_13) ?_
    refine sp_m (aw_sipush (v := 255) (pc := 14) dX2_see_14 rfl) ?_
    refine sp_m (aw_iand (pc := 17) dX2_see_17) ?_
    refine sp_m (aw_goto (tgt := 22) (pc := 18) dX2_see_18 (by decide)) ?_
    exact sp_r fun hz => aw_iret (congrArg (fun z => (z, h0)) hz) rfl rfl rfl (pc := 22) dX2_see_22
theorem mok_J5_coderFromArrayLen : mOK yJ5_coderFromArrayLen 2 := ⟨⟨by decide +kernel, by decide +kernel⟩, by decide +kernel⟩
abbrev KJ5_coderFromArrayLen (l : Launch) (D : DD) (h0 : AH) (v : Int32) : KT := (l, yJ5_coderFromArrayLen, cJ5_coderFromArrayLen, 2, (some .byte), RJ5, 1, D, h0, h0, .inl (some (.int v)), false, [])
theorem metJ5_coderFromArrayLen (l : Launch) (D : DD) {a0 : Nat} {a1 : Int32} {h0 : AH} {v : Int32} (hr : fJ5_coderFromArrayLen a0 a1 h0 = some v) : AMet (KJ5_coderFromArrayLen l D h0 v) [.ref a0, .int a1] := by
  refine AMet.of (K := (KJ5_coderFromArrayLen l D h0 v)) rfl ⟨_, rfl⟩ rfl rfl rfl (Nat.le_of_ble_eq_true rfl) (fun ls hl => ?_)
  have hl : lv_has ls 2 [(0, .ref a0), (1, .int a1)] := hl
  suffices hsp : SP (fJ5_coderFromArrayLen a0 a1 h0) (fun z => z = v) (AW (KJ5_coderFromArrayLen l D h0 v) h0 0 ls []) from hsp _ hr rfl
  unfold fJ5_coderFromArrayLen
  refine sp_m (aw_iload_n (pc := 0) dJ5_coderFromArrayLen_0 rfl (lv_at hl 1 rfl)) ?_
  refine sp_m (aw_aload_n (pc := 1) dJ5_coderFromArrayLen_1 rfl (lv_at hl 0 rfl)) ?_
  refine sp_g fun s1 => ?_
  refine sp_m (G' := AW (KJ5_coderFromArrayLen l D h0 v) h0 (3) ls (.int (Int32.ofNat (gN h0 a0)) :: .int a1 :: [])) (fun kk => by rcases s1 with z | z; exact aw_alen (t := 1) z (by decide) rfl (pc := 2) dJ5_coderFromArrayLen_2 kk; exact aw_alenK z rfl (pc := 2) dJ5_coderFromArrayLen_2 kk) ?_
  refine sp_m (aw_isub (pc := 3) dJ5_coderFromArrayLen_3) ?_
  refine sp_m (aw_bipush (v := 31) (pc := 4) dJ5_coderFromArrayLen_4 rfl) ?_
  refine sp_m (aw_iushr (pc := 6) dJ5_coderFromArrayLen_6) ?_
  refine sp_m (aw_i2b (pc := 7) dJ5_coderFromArrayLen_7) ?_
  exact sp_r fun hz => aw_zret (nar_y (pk_b8 _)) (congrArg (fun z => (z, h0)) hz) rfl rfl rfl (pc := 8) dJ5_coderFromArrayLen_8
theorem mok_J5_compress_2 : mOK yJ5_compress_2 5 := ⟨⟨by decide +kernel, by decide +kernel⟩, by decide +kernel⟩
abbrev KJ5_compress_2 (l : Launch) (D : DD) (h0 hE : AH) (v : Int32) : KT := (l, yJ5_compress_2, cJ5_compress_2, 7, (some .int), RJ5, 1, D, h0, hE, .inl (some (.int v)), false, [])
theorem metJ5_compress_2 (l : Launch) (D : DD) {a0 : Nat} {a1 : Int32} {a2 : Nat} {a3 : Int32} {a4 : Int32} {h0 : AH} {hE : AH} {v : Int32} (hr : fJ5_compress_2 a0 a1 a2 a3 a4 h0 = some (v, hE)) : AMet (KJ5_compress_2 l D h0 hE v) [.ref a0, .int a1, .ref a2, .int a3, .int a4] := by
  refine AMet.of (K := (KJ5_compress_2 l D h0 hE v)) rfl ⟨_, rfl⟩ rfl rfl rfl (Nat.le_of_ble_eq_true rfl) (fun ls hl => ?_)
  have hl : lv_has ls 7 [(0, .ref a0), (1, .int a1), (2, .ref a2), (3, .int a3), (4, .int a4)] := hl
  suffices hsp : SP (fJ5_compress_2 a0 a1 a2 a3 a4 h0) (fun z => z = (v, hE)) (AW (KJ5_compress_2 l D h0 hE v) h0 0 ls []) from hsp _ hr rfl
  unfold fJ5_compress_2
  refine sp_m (aw_iconst (v := 0) (pc := 0) dJ5_compress_2_0 rfl) ?_
  refine sp_m (aw_istore (lv' := [(5, .int 0), (0, .ref a0), (1, .int a1), (2, .ref a2), (3, .int a3), (4, .int a4)]) (pc := 1) dJ5_compress_2_1 hl (by decide) rfl) (sp_all fun ls hl => ?_)
  let P1 : Int32 × Int32 × Int32 × AH → Prop := aLP (KJ5_compress_2 l D h0 hE v) 7 3 (fun s1v : Int32 × Int32 × Int32 × AH => [(0, .ref a0), (1, .int s1v.1), (2, .ref a2), (3, .int s1v.2.1), (4, .int a4), (5, .int s1v.2.2.1)]) (fun s1v => s1v.2.2.2)
  refine sp_loop (P := P1) (fun s1v => sp_all fun ls hl => ?_) (fun k => k ls (lv_sub hl [1, 2, 3, 4, 5, 0] rfl))
  have hl : lv_has ls 7 [(0, .ref a0), (1, .int s1v.1), (2, .ref a2), (3, .int s1v.2.1), (4, .int a4), (5, .int s1v.2.2.1)] := hl
  show SP _ _ (AW (KJ5_compress_2 l D h0 hE v) s1v.2.2.2 3 ls [])
  unfold J5_compress_2_L3
  refine sp_m (aw_iload (pc := 3) dJ5_compress_2_3 (lv_at hl 5 rfl)) ?_
  refine sp_m (aw_iload (pc := 5) dJ5_compress_2_5 (lv_at hl 4 rfl)) ?_
  refine sp_if (fun c2 => ?_) (fun c2 => ?_)
  · refine sp_m (aw_icmp_ge_t (tgt := 44) (pc := 7) dJ5_compress_2_7 (by decide) c2) ?_
    refine sp_m (aw_iload (pc := 44) dJ5_compress_2_44 (lv_at hl 4 rfl)) ?_
    exact sp_r fun hz => aw_iret hz rfl rfl rfl (pc := 46) dJ5_compress_2_46
  · refine sp_m (aw_icmp_ge_f (tgt := 44) (pc := 7) dJ5_compress_2_7 (by decide) c2) ?_
    refine sp_m (aw_aload_n (pc := 10) dJ5_compress_2_10 rfl (lv_at hl 0 rfl)) ?_
    refine sp_m (aw_iload_n (pc := 11) dJ5_compress_2_11 rfl (lv_at hl 1 rfl)) ?_
    refine sp_g fun s3 => ?_
    refine sp_g fun i4 => ?_
    refine sp_m (aw_cald s3 i4 (pc := 12) dJ5_compress_2_12) ?_
    refine sp_m (aw_istore (lv' := [(6, .int (gI s1v.2.2.2 a0 (ix s1v.1))), (0, .ref a0), (1, .int s1v.1), (2, .ref a2), (3, .int s1v.2.1), (4, .int a4), (5, .int s1v.2.2.1)]) (pc := 13) dJ5_compress_2_13 hl (by decide) rfl) (sp_all fun ls hl => ?_)
    refine sp_m (aw_iload (pc := 15) dJ5_compress_2_15 (lv_at hl 0 rfl)) ?_
    refine sp_m (aw_sipush (v := 255) (pc := 17) dJ5_compress_2_17 rfl) ?_
    refine sp_if (fun c5 => ?_) (fun c5 => ?_)
    · refine sp_m (aw_icmp_le_t (tgt := 26) (pc := 20) dJ5_compress_2_20 (by decide) c5) ?_
      refine sp_m (aw_aload_n (pc := 26) dJ5_compress_2_26 rfl (lv_at hl 3 rfl)) ?_
      refine sp_m (aw_iload_n (pc := 27) dJ5_compress_2_27 rfl (lv_at hl 4 rfl)) ?_
      refine sp_m (aw_iload (pc := 28) dJ5_compress_2_28 (lv_at hl 0 rfl)) ?_
      refine sp_m (aw_i2b (pc := 30) dJ5_compress_2_30) ?_
      refine sp_g fun s6 => ?_
      refine sp_g fun i7 => ?_
      refine sp_t fun h8 eh80 => ?_
      have eh8 : gS h8 = gS s1v.2.2.2 := by rw [eh80]; rfl
      refine sp_m (fun kk => aw_bast s6 i7 (pc := 31) dJ5_compress_2_31 (AWe eh80 kk)) ?_
      refine sp_m (aw_iinc (v := s1v.1 + 1) (lv' := [(1, .int (s1v.1 + 1)), (6, .int (gI s1v.2.2.2 a0 (ix s1v.1))), (0, .ref a0), (2, .ref a2), (3, .int s1v.2.1), (4, .int a4), (5, .int s1v.2.2.1)]) (pc := 32) dJ5_compress_2_32 hl (k := 2) rfl rfl (by decide) rfl) (sp_all fun ls hl => ?_)
      refine sp_m (aw_iinc (v := s1v.2.1 + 1) (lv' := [(3, .int (s1v.2.1 + 1)), (1, .int (s1v.1 + 1)), (6, .int (gI s1v.2.2.2 a0 (ix s1v.1))), (0, .ref a0), (2, .ref a2), (4, .int a4), (5, .int s1v.2.2.1)]) (pc := 35) dJ5_compress_2_35 hl (k := 4) rfl rfl (by decide) rfl) (sp_all fun ls hl => ?_)
      refine sp_m (aw_iinc (v := s1v.2.2.1 + 1) (lv' := [(5, .int (s1v.2.2.1 + 1)), (3, .int (s1v.2.1 + 1)), (1, .int (s1v.1 + 1)), (6, .int (gI s1v.2.2.2 a0 (ix s1v.1))), (0, .ref a0), (2, .ref a2), (4, .int a4)]) (pc := 38) dJ5_compress_2_38 hl (k := 6) rfl rfl (by decide) rfl) (sp_all fun ls hl => ?_)
      refine sp_m (aw_goto (tgt := 3) (pc := 41) dJ5_compress_2_41 (by decide)) ?_
      exact sp_r fun hz => hz ls (lv_sub hl [4, 2, 5, 1, 6, 0] rfl)
    · refine sp_m (aw_icmp_le_f (tgt := 26) (pc := 20) dJ5_compress_2_20 (by decide) c5) ?_
      refine sp_m (aw_iload (pc := 23) dJ5_compress_2_23 (lv_at hl 6 rfl)) ?_
      exact sp_r fun hz => aw_iret hz rfl rfl rfl (pc := 25) dJ5_compress_2_25
theorem mok_J5_compress : mOK yJ5_compress 3 := ⟨⟨by decide +kernel, by decide +kernel⟩, by decide +kernel⟩
abbrev KJ5_compress (l : Launch) (D : DD) (h0 hE : AH) (v : Option Nat) : KT := (l, yJ5_compress, cJ5_compress, 6, (some (.array .byte)), RJ5, 2, D, h0, hE, .inl (some (va_rf v)), false, [])
theorem metJ5_compress (l : Launch) (D : DD) {a0 : Nat} {a1 : Int32} {a2 : Int32} {h0 : AH} {hE : AH} {v : Option Nat} (hr : fJ5_compress a0 a1 a2 h0 = some (v, hE)) : AMet (KJ5_compress l D h0 hE v) [.ref a0, .int a1, .int a2] := by
  refine AMet.of (K := (KJ5_compress l D h0 hE v)) rfl ⟨_, rfl⟩ rfl rfl rfl (Nat.le_of_ble_eq_true rfl) (fun ls hl => ?_)
  have hl : lv_has ls 6 [(0, .ref a0), (1, .int a1), (2, .int a2)] := hl
  suffices hsp : SP (fJ5_compress a0 a1 a2 h0) (fun z => z = (v, hE)) (AW (KJ5_compress l D h0 hE v) h0 0 ls []) from hsp _ hr rfl
  unfold fJ5_compress
  refine sp_m (aw_iload_n (pc := 0) dJ5_compress_0 rfl (lv_at hl 2 rfl)) ?_
  refine sp_g fun g1a => ?_
  refine sp_g fun g1b => ?_
  refine sp_t fun h2 eh20 => ?_
  refine sp_m (fun kk => aw_newB q234 g1a g1b (pc := 1) dJ5_compress_1 (AWe eh20 kk)) ?_
  refine sp_m (aw_astore_n (lv' := [(3, .ref (gZ h0)), (0, .ref a0), (1, .int a1), (2, .int a2)]) (pc := 3) dJ5_compress_3 rfl hl (by decide) rfl) (sp_all fun ls hl => ?_)
  refine sp_m (aw_aload_n (pc := 4) dJ5_compress_4 rfl (lv_at hl 1 rfl)) ?_
  refine sp_m (aw_iload_n (pc := 5) dJ5_compress_5 rfl (lv_at hl 2 rfl)) ?_
  refine sp_m (aw_aload_n (pc := 6) dJ5_compress_6 rfl (lv_at hl 0 rfl)) ?_
  refine sp_m (aw_iconst (v := 0) (pc := 7) dJ5_compress_7 rfl) ?_
  refine sp_m (aw_iload_n (pc := 8) dJ5_compress_8 rfl (lv_at hl 3 rfl)) ?_
  refine sp_b fun p3 ep3 => ?_
  refine sp_m (G' := AW (KJ5_compress l D h0 hE v) p3.2 (12) ls (.int p3.1 :: [])) (fun kk => aw_callS (As := [.ref a0, .int a1, .ref (gZ h0), .int 0, .int a2]) (metJ5_compress_2 _ _ ep3) mok_J5_compress_2 q578 q579 q129 q580 (Nat.le_of_ble_eq_true rfl) (Nat.le_of_ble_eq_true rfl) rfl hl.1 rfl (Nat.le_of_ble_eq_true rfl) (pc := 9) dJ5_compress_9 kk) ?_
  refine sp_m (aw_istore (lv' := [(4, .int p3.1), (3, .ref (gZ h0)), (0, .ref a0), (1, .int a1), (2, .int a2)]) (pc := 12) dJ5_compress_12 hl (by decide) rfl) (sp_all fun ls hl => ?_)
  refine sp_m (aw_iload (pc := 14) dJ5_compress_14 (lv_at hl 0 rfl)) ?_
  refine sp_m (aw_iload_n (pc := 16) dJ5_compress_16 rfl (lv_at hl 4 rfl)) ?_
  refine sp_if (fun c4 => ?_) (fun c4 => ?_)
  · refine sp_m (aw_icmp_eq_t (tgt := 57) (pc := 17) dJ5_compress_17 (by decide) c4) ?_
    refine sp_m (aw_aload_n (pc := 57) dJ5_compress_57 rfl (lv_at hl 1 rfl)) ?_
    exact sp_r fun hz => aw_aret rfl hz rfl rfl rfl (Or.inr ⟨_, rfl⟩) (pc := 58) dJ5_compress_58
  · refine sp_m (aw_icmp_eq_f (tgt := 57) (pc := 17) dJ5_compress_17 (by decide) c4) ?_
    refine sp_m (aw_aload_n (pc := 20) dJ5_compress_20 rfl (lv_at hl 2 rfl)) ?_
    refine sp_m (aw_iload_n (pc := 21) dJ5_compress_21 rfl (lv_at hl 3 rfl)) ?_
    refine sp_m (aw_iload_n (pc := 22) dJ5_compress_22 rfl (lv_at hl 4 rfl)) ?_
    exact sp_n
theorem mok_J3_init_2 : mOK yJ3_init_2 4 := ⟨⟨by decide +kernel, by decide +kernel⟩, by decide +kernel⟩
abbrev KJ3_init_2 (l : Launch) (D : DD) (h0 hE : AH) : KT := (l, yJ3_init_2, cJ3_init_2, 6, none, RJ3, 3, D, h0, hE, .inl (none), false, [])
theorem metJ3_init_2 (l : Launch) (D : DD) {a0 : Nat} {a1 : Nat} {a2 : Int32} {a3 : Int32} {h0 : AH} {hE : AH} (hr : fJ3_init_2 a0 a1 a2 a3 h0 = some hE) : AMet (KJ3_init_2 l D h0 hE) [.ref a0, .ref a1, .int a2, .int a3, .null] := by
  refine AMet.of (K := (KJ3_init_2 l D h0 hE)) rfl ⟨_, rfl⟩ rfl rfl rfl (Nat.le_of_ble_eq_true rfl) (fun ls hl => ?_)
  have hl : lv_has ls 6 [(0, .ref a0), (1, .ref a1), (2, .int a2), (3, .int a3), (4, .null)] := hl
  suffices hsp : SP (fJ3_init_2 a0 a1 a2 a3 h0) (fun z => z = hE) (AW (KJ3_init_2 l D h0 hE) h0 0 ls []) from hsp _ hr rfl
  unfold fJ3_init_2
  refine sp_m (aw_aload_n (pc := 0) dJ3_init_2_0 rfl (lv_at hl 0 rfl)) ?_
  refine sp_m (aw_objInit hl.1 q571 q153 q154 (Nat.le_of_ble_eq_true rfl) rfl (pc := 1) dJ3_init_2_1) ?_
  refine sp_m (aw_iload_n (pc := 4) dJ3_init_2_4 rfl (lv_at hl 3 rfl)) ?_
  refine sp_if (fun c1 => ?_) (fun c1 => ?_)
  · refine sp_m (aw_if_ne_t (tgt := 27) (pc := 5) dJ3_init_2_5 (by decide) c1) ?_
    refine sp_m (aw_sgetI sz_0 q573 (pc := 27) dJ3_init_2_27) ?_
    refine sp_m (aw_if_eq_f (tgt := 58) (pc := 30) dJ3_init_2_30 (by decide) (by decide)) ?_
    refine sp_m (aw_aload_n (pc := 33) dJ3_init_2_33 rfl (lv_at hl 1 rfl)) ?_
    refine sp_m (aw_iload_n (pc := 34) dJ3_init_2_34 rfl (lv_at hl 2 rfl)) ?_
    refine sp_m (aw_iload_n (pc := 35) dJ3_init_2_35 rfl (lv_at hl 3 rfl)) ?_
    refine sp_b fun p2 ep2 => ?_
    refine sp_b fun x3 ex3 => ?_
    refine sp_m (G' := AW (KJ3_init_2 l D h0 hE) p2.2 (39) ls (.ref x3 :: [])) (fun kk => aw_callS (As := [.ref a1, .int a2, .int a3]) (metJ5_compress _ _ ep2) mok_J5_compress q575 q576 q129 q577 (Nat.le_of_ble_eq_true rfl) (Nat.le_of_ble_eq_true rfl) rfl hl.1 rfl (Nat.le_of_ble_eq_true rfl) (pc := 36) dJ3_init_2_36 (kk_ref ex3 kk)) ?_
    refine sp_m (aw_astore (lv' := [(5, .ref x3), (0, .ref a0), (1, .ref a1), (2, .int a2), (3, .int a3), (4, .null)]) (pc := 39) dJ3_init_2_39 hl (by decide) rfl) (sp_all fun ls hl => ?_)
    refine sp_m (aw_aload_n (pc := 41) dJ3_init_2_41 rfl (lv_at hl 1 rfl)) ?_
    refine sp_m (aw_aload (pc := 42) dJ3_init_2_42 (lv_at hl 0 rfl)) ?_
    refine sp_m (aw_iload_n (pc := 44) dJ3_init_2_44 rfl (lv_at hl 4 rfl)) ?_
    refine sp_b fun p4 ep4 => ?_
    refine sp_m (G' := AW (KJ3_init_2 l D h0 hE) p2.2 (48) ls (.int p4 :: .ref a0 :: [])) (fun kk => aw_callS (As := [.ref x3, .int a3]) (metJ5_coderFromArrayLen _ _ ep4) mok_J5_coderFromArrayLen q613 q614 q129 q615 (Nat.le_of_ble_eq_true rfl) (Nat.le_of_ble_eq_true rfl) rfl hl.1 rfl (Nat.le_of_ble_eq_true rfl) (pc := 45) dJ3_init_2_45 kk) ?_
    refine sp_g fun g5 => ?_
    refine sp_g fun s6 => ?_
    refine sp_t fun h7 eh70 => ?_
    have eh7 : gS h7 = gS p2.2 := by rw [eh70]; rfl
    refine sp_m (aw_put (k := 1) okJ3 opJ3 s6 (by decide) q618 (Or.inl rfl) (Or.inr ⟨rfl, rfl, rfl⟩) (hasV_I' eh70) (nar_y g5) (fit_y g5) (pc := 48) dJ3_init_2_48) ?_
    refine sp_m (aw_aload_n (pc := 51) dJ3_init_2_51 rfl (lv_at hl 1 rfl)) ?_
    refine sp_m (aw_aload (pc := 52) dJ3_init_2_52 (lv_at hl 0 rfl)) ?_
    refine sp_t fun h8 eh80 => ?_
    have eh8 : gS h8 = gS h7 := by rw [eh80]; rfl
    refine sp_m (aw_put (k := 0) okJ3 opJ3 (uS eh7 s6) (by decide) q617 (Or.inl rfl) (Or.inr ⟨rfl, rfl, rfl⟩) (hasV_R' eh80) rfl rfl (pc := 54) dJ3_init_2_54) ?_
    exact sp_r fun hz => aw_vret hz rfl rfl rfl (pc := 57) dJ3_init_2_57
  · refine sp_m (aw_if_ne_f (tgt := 27) (pc := 5) dJ3_init_2_5 (by decide) (Decidable.not_not.mp c1)) ?_
    exact sp_n
theorem mok_J4_checkFromIndexSize : mOK yJ4_checkFromIndexSize 4 := ⟨⟨by decide +kernel, by decide +kernel⟩, by decide +kernel⟩
abbrev KJ4_checkFromIndexSize (l : Launch) (D : DD) (h0 : AH) (v : Int32) : KT := (l, yJ4_checkFromIndexSize, cJ4_checkFromIndexSize, 4, (some .int), RJ4, 1, D, h0, h0, .inl (some (.int v)), false, [])
theorem metJ4_checkFromIndexSize_n (l : Launch) (D : DD) {a0 : Int32} {a1 : Int32} {a2 : Int32} {h0 : AH} {v : Int32} (hr : fJ4_checkFromIndexSize a0 a1 a2 h0 = some v) : AMet (KJ4_checkFromIndexSize l D h0 v) [.int a0, .int a1, .int a2, .null] := by
  refine AMet.of (K := (KJ4_checkFromIndexSize l D h0 v)) rfl ⟨_, rfl⟩ rfl rfl rfl (Nat.le_of_ble_eq_true rfl) (fun ls hl => ?_)
  have hl : lv_has ls 4 [(0, .int a0), (1, .int a1), (2, .int a2), (3, .null)] := hl
  suffices hsp : SP (fJ4_checkFromIndexSize a0 a1 a2 h0) (fun z => z = v) (AW (KJ4_checkFromIndexSize l D h0 v) h0 0 ls []) from hsp _ hr rfl
  unfold fJ4_checkFromIndexSize
  refine sp_m (aw_iload_n (pc := 0) dJ4_checkFromIndexSize_0 rfl (lv_at hl 2 rfl)) ?_
  refine sp_m (aw_iload_n (pc := 1) dJ4_checkFromIndexSize_1 rfl (lv_at hl 0 rfl)) ?_
  refine sp_m (aw_ior (pc := 2) dJ4_checkFromIndexSize_2) ?_
  refine sp_m (aw_iload_n (pc := 3) dJ4_checkFromIndexSize_3 rfl (lv_at hl 1 rfl)) ?_
  refine sp_m (aw_ior (pc := 4) dJ4_checkFromIndexSize_4) ?_
  refine sp_if (fun c1 => ?_) (fun c1 => ?_)
  · refine sp_m (aw_if_lt_t (tgt := 15) (pc := 5) dJ4_checkFromIndexSize_5 (by decide) c1) ?_
    refine sp_m (aw_aload_nN (pc := 15) dJ4_checkFromIndexSize_15 rfl (lv_at hl 3 rfl)) ?_
    refine sp_m (aw_iload_n (pc := 16) dJ4_checkFromIndexSize_16 rfl (lv_at hl 0 rfl)) ?_
    refine sp_m (aw_iload_n (pc := 17) dJ4_checkFromIndexSize_17 rfl (lv_at hl 1 rfl)) ?_
    refine sp_m (aw_iload_n (pc := 18) dJ4_checkFromIndexSize_18 rfl (lv_at hl 2 rfl)) ?_
    exact sp_n
  · refine sp_m (aw_if_lt_f (tgt := 15) (pc := 5) dJ4_checkFromIndexSize_5 (by decide) c1) ?_
    refine sp_m (aw_iload_n (pc := 8) dJ4_checkFromIndexSize_8 rfl (lv_at hl 1 rfl)) ?_
    refine sp_m (aw_iload_n (pc := 9) dJ4_checkFromIndexSize_9 rfl (lv_at hl 2 rfl)) ?_
    refine sp_m (aw_iload_n (pc := 10) dJ4_checkFromIndexSize_10 rfl (lv_at hl 0 rfl)) ?_
    refine sp_m (aw_isub (pc := 11) dJ4_checkFromIndexSize_11) ?_
    refine sp_if (fun c2 => ?_) (fun c2 => ?_)
    · refine sp_m (aw_icmp_le_t (tgt := 23) (pc := 12) dJ4_checkFromIndexSize_12 (by decide) c2) ?_
      refine sp_m (aw_iload_n (pc := 23) dJ4_checkFromIndexSize_23 rfl (lv_at hl 0 rfl)) ?_
      exact sp_r fun hz => aw_iret (congrArg (fun z => (z, h0)) hz) rfl rfl rfl (pc := 24) dJ4_checkFromIndexSize_24
    · refine sp_m (aw_icmp_le_f (tgt := 23) (pc := 12) dJ4_checkFromIndexSize_12 (by decide) c2) ?_
      refine sp_m (aw_aload_nN (pc := 15) dJ4_checkFromIndexSize_15 rfl (lv_at hl 3 rfl)) ?_
      refine sp_m (aw_iload_n (pc := 16) dJ4_checkFromIndexSize_16 rfl (lv_at hl 0 rfl)) ?_
      refine sp_m (aw_iload_n (pc := 17) dJ4_checkFromIndexSize_17 rfl (lv_at hl 1 rfl)) ?_
      refine sp_m (aw_iload_n (pc := 18) dJ4_checkFromIndexSize_18 rfl (lv_at hl 2 rfl)) ?_
      exact sp_n
theorem metJ4_checkFromIndexSize_s (l : Launch) (D : DD) {a0 : Int32} {a1 : Int32} {a2 : Int32} {a3 : Nat} {h0 : AH} {v : Int32} (hr : fJ4_checkFromIndexSize a0 a1 a2 h0 = some v) : AMet (KJ4_checkFromIndexSize l D h0 v) [.int a0, .int a1, .int a2, .ref a3] := by
  refine AMet.of (K := (KJ4_checkFromIndexSize l D h0 v)) rfl ⟨_, rfl⟩ rfl rfl rfl (Nat.le_of_ble_eq_true rfl) (fun ls hl => ?_)
  have hl : lv_has ls 4 [(0, .int a0), (1, .int a1), (2, .int a2), (3, .ref a3)] := hl
  suffices hsp : SP (fJ4_checkFromIndexSize a0 a1 a2 h0) (fun z => z = v) (AW (KJ4_checkFromIndexSize l D h0 v) h0 0 ls []) from hsp _ hr rfl
  unfold fJ4_checkFromIndexSize
  refine sp_m (aw_iload_n (pc := 0) dJ4_checkFromIndexSize_0 rfl (lv_at hl 2 rfl)) ?_
  refine sp_m (aw_iload_n (pc := 1) dJ4_checkFromIndexSize_1 rfl (lv_at hl 0 rfl)) ?_
  refine sp_m (aw_ior (pc := 2) dJ4_checkFromIndexSize_2) ?_
  refine sp_m (aw_iload_n (pc := 3) dJ4_checkFromIndexSize_3 rfl (lv_at hl 1 rfl)) ?_
  refine sp_m (aw_ior (pc := 4) dJ4_checkFromIndexSize_4) ?_
  refine sp_if (fun c1 => ?_) (fun c1 => ?_)
  · refine sp_m (aw_if_lt_t (tgt := 15) (pc := 5) dJ4_checkFromIndexSize_5 (by decide) c1) ?_
    refine sp_m (aw_aload_n (pc := 15) dJ4_checkFromIndexSize_15 rfl (lv_at hl 3 rfl)) ?_
    refine sp_m (aw_iload_n (pc := 16) dJ4_checkFromIndexSize_16 rfl (lv_at hl 0 rfl)) ?_
    refine sp_m (aw_iload_n (pc := 17) dJ4_checkFromIndexSize_17 rfl (lv_at hl 1 rfl)) ?_
    refine sp_m (aw_iload_n (pc := 18) dJ4_checkFromIndexSize_18 rfl (lv_at hl 2 rfl)) ?_
    exact sp_n
  · refine sp_m (aw_if_lt_f (tgt := 15) (pc := 5) dJ4_checkFromIndexSize_5 (by decide) c1) ?_
    refine sp_m (aw_iload_n (pc := 8) dJ4_checkFromIndexSize_8 rfl (lv_at hl 1 rfl)) ?_
    refine sp_m (aw_iload_n (pc := 9) dJ4_checkFromIndexSize_9 rfl (lv_at hl 2 rfl)) ?_
    refine sp_m (aw_iload_n (pc := 10) dJ4_checkFromIndexSize_10 rfl (lv_at hl 0 rfl)) ?_
    refine sp_m (aw_isub (pc := 11) dJ4_checkFromIndexSize_11) ?_
    refine sp_if (fun c2 => ?_) (fun c2 => ?_)
    · refine sp_m (aw_icmp_le_t (tgt := 23) (pc := 12) dJ4_checkFromIndexSize_12 (by decide) c2) ?_
      refine sp_m (aw_iload_n (pc := 23) dJ4_checkFromIndexSize_23 rfl (lv_at hl 0 rfl)) ?_
      exact sp_r fun hz => aw_iret (congrArg (fun z => (z, h0)) hz) rfl rfl rfl (pc := 24) dJ4_checkFromIndexSize_24
    · refine sp_m (aw_icmp_le_f (tgt := 23) (pc := 12) dJ4_checkFromIndexSize_12 (by decide) c2) ?_
      refine sp_m (aw_aload_n (pc := 15) dJ4_checkFromIndexSize_15 rfl (lv_at hl 3 rfl)) ?_
      refine sp_m (aw_iload_n (pc := 16) dJ4_checkFromIndexSize_16 rfl (lv_at hl 0 rfl)) ?_
      refine sp_m (aw_iload_n (pc := 17) dJ4_checkFromIndexSize_17 rfl (lv_at hl 1 rfl)) ?_
      refine sp_m (aw_iload_n (pc := 18) dJ4_checkFromIndexSize_18 rfl (lv_at hl 2 rfl)) ?_
      exact sp_n
theorem mok_J3_checkBoundsOffCount : mOK yJ3_checkBoundsOffCount 3 := ⟨⟨by decide +kernel, by decide +kernel⟩, by decide +kernel⟩
abbrev KJ3_checkBoundsOffCount (l : Launch) (D : DD) (h0 : AH) (v : Int32) : KT := (l, yJ3_checkBoundsOffCount, cJ3_checkBoundsOffCount, 3, (some .int), RJ3, 2, D, h0, h0, .inl (some (.int v)), false, [])
theorem metJ3_checkBoundsOffCount (l : Launch) (D : DD) {a0 : Int32} {a1 : Int32} {a2 : Int32} {h0 : AH} {v : Int32} (hr : fJ3_checkBoundsOffCount a0 a1 a2 h0 = some v) : AMet (KJ3_checkBoundsOffCount l D h0 v) [.int a0, .int a1, .int a2] := by
  refine AMet.of (K := (KJ3_checkBoundsOffCount l D h0 v)) rfl ⟨_, rfl⟩ rfl rfl rfl (Nat.le_of_ble_eq_true rfl) (fun ls hl => ?_)
  have hl : lv_has ls 3 [(0, .int a0), (1, .int a1), (2, .int a2)] := hl
  suffices hsp : SP (fJ3_checkBoundsOffCount a0 a1 a2 h0) (fun z => z = v) (AW (KJ3_checkBoundsOffCount l D h0 v) h0 0 ls []) from hsp _ hr rfl
  unfold fJ3_checkBoundsOffCount
  refine sp_m (aw_iload_n (pc := 0) dJ3_checkBoundsOffCount_0 rfl (lv_at hl 0 rfl)) ?_
  refine sp_m (aw_iload_n (pc := 1) dJ3_checkBoundsOffCount_1 rfl (lv_at hl 1 rfl)) ?_
  refine sp_m (aw_iload_n (pc := 2) dJ3_checkBoundsOffCount_2 rfl (lv_at hl 2 rfl)) ?_
  refine sp_o (fun ex1 => ?_) (fun x1 ex1 => ?_)
  · refine sp_m (aw_sgetR sr_2 (congrArg va_rf ex1) q563 (pc := 3) dJ3_checkBoundsOffCount_3) ?_
    refine sp_b fun p2 ep2 => ?_
    refine sp_m (G' := AW (KJ3_checkBoundsOffCount l D h0 v) h0 (9) ls (.int p2 :: [])) (fun kk => aw_callS (As := [.int a0, .int a1, .int a2, .null]) (metJ4_checkFromIndexSize_n _ _ ep2) mok_J4_checkFromIndexSize q565 q566 q128 q567 (Nat.le_of_ble_eq_true rfl) (Nat.le_of_ble_eq_true rfl) rfl hl.1 rfl (Nat.le_of_ble_eq_true rfl) (pc := 6) dJ3_checkBoundsOffCount_6 kk) ?_
    exact sp_r fun hz => aw_iret (congrArg (fun z => (z, h0)) hz) rfl rfl rfl (pc := 9) dJ3_checkBoundsOffCount_9
  · refine sp_m (aw_sgetR sr_2 (congrArg va_rf ex1) q563 (pc := 3) dJ3_checkBoundsOffCount_3) ?_
    refine sp_b fun p3 ep3 => ?_
    refine sp_m (G' := AW (KJ3_checkBoundsOffCount l D h0 v) h0 (9) ls (.int p3 :: [])) (fun kk => aw_callS (As := [.int a0, .int a1, .int a2, .ref x1]) (metJ4_checkFromIndexSize_s _ _ ep3) mok_J4_checkFromIndexSize q565 q566 q128 q567 (Nat.le_of_ble_eq_true rfl) (Nat.le_of_ble_eq_true rfl) rfl hl.1 rfl (Nat.le_of_ble_eq_true rfl) (pc := 6) dJ3_checkBoundsOffCount_6 kk) ?_
    exact sp_r fun hz => aw_iret (congrArg (fun z => (z, h0)) hz) rfl rfl rfl (pc := 9) dJ3_checkBoundsOffCount_9
theorem mok_J3_rangeCheck : mOK yJ3_rangeCheck 3 := ⟨⟨by decide +kernel, by decide +kernel⟩, by decide +kernel⟩
abbrev KJ3_rangeCheck (l : Launch) (D : DD) (h0 : AH) (v : Option Nat) : KT := (l, yJ3_rangeCheck, cJ3_rangeCheck, 3, (some (.object "java/lang/Void")), RJ3, 3, D, h0, h0, .inl (some (va_rf v)), false, [])
theorem metJ3_rangeCheck (l : Launch) (D : DD) {a0 : Nat} {a1 : Int32} {a2 : Int32} {h0 : AH} {v : Option Nat} (hr : fJ3_rangeCheck a0 a1 a2 h0 = some v) : AMet (KJ3_rangeCheck l D h0 v) [.ref a0, .int a1, .int a2] := by
  refine AMet.of (K := (KJ3_rangeCheck l D h0 v)) rfl ⟨_, rfl⟩ rfl rfl rfl (Nat.le_of_ble_eq_true rfl) (fun ls hl => ?_)
  have hl : lv_has ls 3 [(0, .ref a0), (1, .int a1), (2, .int a2)] := hl
  suffices hsp : SP (fJ3_rangeCheck a0 a1 a2 h0) (fun z => z = v) (AW (KJ3_rangeCheck l D h0 v) h0 0 ls []) from hsp _ hr rfl
  unfold fJ3_rangeCheck
  refine sp_m (aw_iload_n (pc := 0) dJ3_rangeCheck_0 rfl (lv_at hl 1 rfl)) ?_
  refine sp_m (aw_iload_n (pc := 1) dJ3_rangeCheck_1 rfl (lv_at hl 2 rfl)) ?_
  refine sp_m (aw_aload_n (pc := 2) dJ3_rangeCheck_2 rfl (lv_at hl 0 rfl)) ?_
  refine sp_g fun s1 => ?_
  refine sp_m (aw_alen (t := 2) s1 (by decide) rfl (pc := 3) dJ3_rangeCheck_3) ?_
  refine sp_b fun p2 ep2 => ?_
  refine sp_m (G' := AW (KJ3_rangeCheck l D h0 v) h0 (7) ls (.int p2 :: [])) (fun kk => aw_callS (As := [.int a1, .int a2, .int (Int32.ofNat (gN h0 a0))]) (metJ3_checkBoundsOffCount _ _ ep2) mok_J3_checkBoundsOffCount q560 q561 q127 q562 (Nat.le_of_ble_eq_true rfl) (Nat.le_of_ble_eq_true rfl) rfl hl.1 rfl (Nat.le_of_ble_eq_true rfl) (pc := 4) dJ3_rangeCheck_4 kk) ?_
  refine sp_m (aw_pop (pc := 7) dJ3_rangeCheck_7 rfl) ?_
  refine sp_m (aw_null (pc := 8) dJ3_rangeCheck_8) ?_
  exact sp_r fun hz => aw_aret (h := h0) (x := none) rfl (congrArg (fun z => (z, h0)) hz) rfl rfl rfl (Or.inl ⟨_, rfl⟩) (pc := 9) dJ3_rangeCheck_9
theorem mok_J3_init : mOK yJ3_init 3 := ⟨⟨by decide +kernel, by decide +kernel⟩, by decide +kernel⟩
abbrev KJ3_init (l : Launch) (D : DD) (h0 hE : AH) : KT := (l, yJ3_init, cJ3_init, 4, none, RJ3, 4, D, h0, hE, .inl (none), false, [])
theorem metJ3_init (l : Launch) (D : DD) {a0 : Nat} {a1 : Nat} {a2 : Int32} {a3 : Int32} {h0 : AH} {hE : AH} (hr : fJ3_init a0 a1 a2 a3 h0 = some hE) : AMet (KJ3_init l D h0 hE) [.ref a0, .ref a1, .int a2, .int a3] := by
  refine AMet.of (K := (KJ3_init l D h0 hE)) rfl ⟨_, rfl⟩ rfl rfl rfl (Nat.le_of_ble_eq_true rfl) (fun ls hl => ?_)
  have hl : lv_has ls 4 [(0, .ref a0), (1, .ref a1), (2, .int a2), (3, .int a3)] := hl
  suffices hsp : SP (fJ3_init a0 a1 a2 a3 h0) (fun z => z = hE) (AW (KJ3_init l D h0 hE) h0 0 ls []) from hsp _ hr rfl
  unfold fJ3_init
  refine sp_m (aw_aload_n (pc := 0) dJ3_init_0 rfl (lv_at hl 0 rfl)) ?_
  refine sp_m (aw_aload_n (pc := 1) dJ3_init_1 rfl (lv_at hl 1 rfl)) ?_
  refine sp_m (aw_iload_n (pc := 2) dJ3_init_2 rfl (lv_at hl 2 rfl)) ?_
  refine sp_m (aw_iload_n (pc := 3) dJ3_init_3 rfl (lv_at hl 3 rfl)) ?_
  refine sp_m (aw_aload_n (pc := 4) dJ3_init_4 rfl (lv_at hl 1 rfl)) ?_
  refine sp_m (aw_iload_n (pc := 5) dJ3_init_5 rfl (lv_at hl 2 rfl)) ?_
  refine sp_m (aw_iload_n (pc := 6) dJ3_init_6 rfl (lv_at hl 3 rfl)) ?_
  refine sp_b fun p1 ep1 => ?_
  refine sp_o (fun ex2 => ?_) (fun x2 ex2 => ?_)
  · refine sp_m (G' := AW (KJ3_init l D h0 hE) h0 (10) ls (.null :: .int a3 :: .int a2 :: .ref a1 :: .ref a0 :: [])) (fun kk => aw_callS (As := [.ref a1, .int a2, .int a3]) (metJ3_rangeCheck _ _ ep1) mok_J3_rangeCheck q557 q558 q127 q559 (Nat.le_of_ble_eq_true rfl) (Nat.le_of_ble_eq_true rfl) rfl hl.1 rfl (Nat.le_of_ble_eq_true rfl) (pc := 7) dJ3_init_7 (kk_nul ex2 kk)) ?_
    refine sp_b fun p3 ep3 => ?_
    refine sp_m (G' := AW (KJ3_init l D h0 hE) p3 (13) ls ([])) (fun kk => aw_callI (As := [.ref a1, .int a2, .int a3, .null]) (metJ3_init_2 _ _ ep3) mok_J3_init_2 rfl q568 q569 q127 q570 (Nat.le_of_ble_eq_true rfl) (Nat.le_of_ble_eq_true rfl) rfl hl.1 rfl (Nat.le_of_ble_eq_true rfl) (pc := 10) dJ3_init_10 kk) ?_
    exact sp_r fun hz => aw_vret hz rfl rfl rfl (pc := 13) dJ3_init_13
  · refine sp_m (G' := AW (KJ3_init l D h0 hE) h0 (10) ls (.ref x2 :: .int a3 :: .int a2 :: .ref a1 :: .ref a0 :: [])) (fun kk => aw_callS (As := [.ref a1, .int a2, .int a3]) (metJ3_rangeCheck _ _ ep1) mok_J3_rangeCheck q557 q558 q127 q559 (Nat.le_of_ble_eq_true rfl) (Nat.le_of_ble_eq_true rfl) rfl hl.1 rfl (Nat.le_of_ble_eq_true rfl) (pc := 7) dJ3_init_7 (kk_ref ex2 kk)) ?_
    exact sp_n
theorem mok_X2_next : mOK yX2_next 0 := ⟨⟨by decide +kernel, by decide +kernel⟩, by decide +kernel⟩
abbrev KX2_next (l : Launch) (D : DD) (h0 hE : AH) : KT := (l, yX2_next, cX2_next, 3, none, RX2, 5, D, h0, hE, .inl (none), false, [])
theorem metX2_next (l : Launch) (D : DD) {a0 : Nat} {h0 : AH} {hE : AH} (hr : fX2_next a0 h0 = some hE) : AMet (KX2_next l D h0 hE) [.ref a0] := by
  refine AMet.of (K := (KX2_next l D h0 hE)) rfl ⟨_, rfl⟩ rfl rfl rfl (Nat.le_of_ble_eq_true rfl) (fun ls hl => ?_)
  have hl : lv_has ls 3 [(0, .ref a0)] := hl
  suffices hsp : SP (fX2_next a0 h0) (fun z => z = hE) (AW (KX2_next l D h0 hE) h0 0 ls []) from hsp _ hr rfl
  unfold fX2_next
  refine sp_m (aw_aload_n (pc := 0) dX2_next_0 rfl (lv_at hl 0 rfl)) ?_
  refine sp_g fun s1 => ?_
  refine sp_m (aw_get (k := 4) okX2 s1 (by decide) q239 (Or.inl rfl) rfl (pc := 1) dX2_next_1) ?_
  refine sp_m (aw_istore_n (lv' := [(1, .int (gI h0 a0 4)), (0, .ref a0)]) (pc := 4) dX2_next_4 rfl hl (by decide) rfl) (sp_all fun ls hl => ?_)
  let P2 : Int32 → Prop := aLP (KX2_next l D h0 hE) 3 5 (fun s2v : Int32 => [(0, .ref a0), (1, .int s2v)]) (fun s2v => h0)
  let E2 : Int32 → Prop := aLP (KX2_next l D h0 hE) 3 21 (fun r2v : Int32 => [(0, .ref a0), (1, .int r2v)]) (fun r2v => h0)
  refine sp_bl (P := P2) (E := E2) (fun s2v => sp_all fun ls hl => ?_) (fun k => k ls (lv_sub hl [1, 0] rfl)) (fun r2v => sp_all fun ls hl => ?_)
  · have hl : lv_has ls 3 [(0, .ref a0), (1, .int s2v)] := hl
    show SP _ _ (AW (KX2_next l D h0 hE) h0 5 ls [])
    unfold X2_next_L5
    refine sp_m (aw_aload_n (pc := 5) dX2_next_5 rfl (lv_at hl 0 rfl)) ?_
    refine sp_m (aw_iload_n (pc := 6) dX2_next_6 rfl (lv_at hl 1 rfl)) ?_
    refine sp_b fun p3 ep3 => ?_
    refine sp_m (G' := AW (KX2_next l D h0 hE) h0 (10) ls (.int p3 :: [])) (fun kk => aw_callV (As := [.int s2v]) (metX2_see _ _ ep3) (rcv_o okX2 s1) rfl mok_X2_see q544 q546 qs5 q117 q547 (Nat.le_of_ble_eq_true rfl) (Nat.le_of_ble_eq_true rfl) rfl hl.1 rfl (Nat.le_of_ble_eq_true rfl) (pc := 7) dX2_next_7 kk) ?_
    refine sp_m (aw_bipush (v := 32) (pc := 10) dX2_next_10 rfl) ?_
    refine sp_if (fun c4 => ?_) (fun c4 => ?_)
    · refine sp_m (aw_icmp_ne_t (tgt := 21) (pc := 12) dX2_next_12 (by decide) c4) ?_
      exact sp_r fun hz => hz ls (lv_sub hl [0, 1] rfl)
    · refine sp_m (aw_icmp_ne_f (tgt := 21) (pc := 12) dX2_next_12 (by decide) (Decidable.not_not.mp c4)) ?_
      refine sp_m (aw_iinc (v := s2v + 1) (lv' := [(1, .int (s2v + 1)), (0, .ref a0)]) (pc := 15) dX2_next_15 hl (k := 1) rfl rfl (by decide) rfl) (sp_all fun ls hl => ?_)
      refine sp_m (aw_goto (tgt := 5) (pc := 18) dX2_next_18 (by decide)) ?_
      exact sp_r fun hz => hz ls (lv_sub hl [1, 0] rfl)
  · have hl : lv_has ls 3 [(0, .ref a0), (1, .int r2v)] := hl
    show SP _ _ (AW (KX2_next l D h0 hE) h0 21 ls [])
    refine sp_m (aw_aload_n (pc := 21) dX2_next_21 rfl (lv_at hl 0 rfl)) ?_
    refine sp_m (aw_iload_n (pc := 22) dX2_next_22 rfl (lv_at hl 1 rfl)) ?_
    refine sp_t fun h5 eh50 => ?_
    have eh5 : gS h5 = gS h0 := by rw [eh50]; rfl
    refine sp_m (aw_put (k := 6) okX2 opX2 s1 (by decide) q241 (Or.inl rfl) (Or.inl rfl) (hasV_I' eh50) rfl rfl (pc := 23) dX2_next_23) ?_
    refine sp_m (aw_aload_n (pc := 26) dX2_next_26 rfl (lv_at hl 0 rfl)) ?_
    refine sp_m (aw_iload_n (pc := 27) dX2_next_27 rfl (lv_at hl 1 rfl)) ?_
    refine sp_m (aw_iconst (v := 1) (pc := 28) dX2_next_28 rfl) ?_
    refine sp_m (aw_iadd (pc := 29) dX2_next_29) ?_
    refine sp_t fun h6 eh60 => ?_
    have eh6 : gS h6 = gS h5 := by rw [eh60]; rfl
    refine sp_m (aw_put (k := 4) okX2 opX2 (uS eh5 s1) (by decide) q239 (Or.inl rfl) (Or.inl rfl) (hasV_I' eh60) rfl rfl (pc := 30) dX2_next_30) ?_
    refine sp_m (aw_aload_n (pc := 33) dX2_next_33 rfl (lv_at hl 0 rfl)) ?_
    refine sp_m (aw_iload_n (pc := 34) dX2_next_34 rfl (lv_at hl 1 rfl)) ?_
    refine sp_b fun p7 ep7 => ?_
    refine sp_m (G' := AW (KX2_next l D h0 hE) h6 (38) ls (.int p7 :: [])) (fun kk => aw_callV (As := [.int r2v]) (metX2_see _ _ ep7) (rcv_o okX2 (uS eh6 (uS eh5 s1))) rfl mok_X2_see q544 q546 qs5 q117 q547 (Nat.le_of_ble_eq_true rfl) (Nat.le_of_ble_eq_true rfl) rfl hl.1 rfl (Nat.le_of_ble_eq_true rfl) (pc := 35) dX2_next_35 kk) ?_
    refine sp_m (aw_istore_n (lv' := [(2, .int p7), (0, .ref a0), (1, .int r2v)]) (pc := 38) dX2_next_38 rfl hl (by decide) rfl) (sp_all fun ls hl => ?_)
    refine sp_m (aw_iload_n (pc := 39) dX2_next_39 rfl (lv_at hl 0 rfl)) ?_
    refine sp_m (aw_iconst (v := (-1)) (pc := 40) dX2_next_40 rfl) ?_
    refine sp_if (fun c8 => ?_) (fun c8 => ?_)
    · refine sp_m (aw_icmp_ne_t (tgt := 57) (pc := 41) dX2_next_41 (by decide) c8) ?_
      refine sp_m (aw_iload_n (pc := 57) dX2_next_57 rfl (lv_at hl 0 rfl)) ?_
      refine sp_b fun p9 ep9 => ?_
      refine sp_m (G' := AW (KX2_next l D h0 hE) h6 (61) ls (.int p9 :: [])) (fun kk => aw_callS (As := [.int p7]) (metX2_isSmall _ _ ep9) mok_X2_isSmall q548 q549 q117 q550 (Nat.le_of_ble_eq_true rfl) (Nat.le_of_ble_eq_true rfl) rfl hl.1 rfl (Nat.le_of_ble_eq_true rfl) (pc := 58) dX2_next_58 kk) ?_
      refine sp_if (fun c10 => ?_) (fun c10 => ?_)
      · refine sp_m (aw_if_eq_t (tgt := 185) (pc := 61) dX2_next_61 (by decide) c10) ?_
        refine sp_m (aw_iload_n (pc := 185) dX2_next_185 rfl (lv_at hl 0 rfl)) ?_
        refine sp_b fun p11 ep11 => ?_
        refine sp_m (G' := AW (KX2_next l D h0 hE) h6 (189) ls (.int p11 :: [])) (fun kk => aw_callS (As := [.int p7]) (metX2_isDigit _ _ ep11) mok_X2_isDigit q631 q632 q117 q633 (Nat.le_of_ble_eq_true rfl) (Nat.le_of_ble_eq_true rfl) rfl hl.1 rfl (Nat.le_of_ble_eq_true rfl) (pc := 186) dX2_next_186 kk) ?_
        refine sp_if (fun c12 => ?_) (fun c12 => ?_)
        · refine sp_m (aw_if_eq_t (tgt := 284) (pc := 189) dX2_next_189 (by decide) c12) ?_
          refine sp_m (aw_aload_n (pc := 284) dX2_next_284 rfl (lv_at hl 1 rfl)) ?_
          refine sp_m (aw_iload_n (pc := 285) dX2_next_285 rfl (lv_at hl 0 rfl)) ?_
          refine sp_m (aw_bipush (v := 59) (pc := 286) dX2_next_286 rfl) ?_
          have hj296_2 : ∀ j13 : Int32, ∀ ls : Array Slot, lv_has ls 3 [] → SP (X2_next_j296 a0 h6 j13) (fun z => z = hE) (AW (KX2_next l D h0 hE) h6 296 ls (.int j13 :: .ref a0 :: [])) := by
            intro j13 ls hl
            unfold X2_next_j296
            refine sp_t fun h14 eh140 => ?_
            have eh14 : gS h14 = gS h6 := by rw [eh140]; rfl
            refine sp_m (aw_put (k := 5) okX2 opX2 (uS eh6 (uS eh5 s1)) (by decide) q240 (Or.inl rfl) (Or.inl rfl) (hasV_I' eh140) rfl rfl (pc := 296) dX2_next_296) ?_
            exact sp_r fun hz => aw_vret hz rfl rfl rfl (pc := 299) dX2_next_299
          refine sp_if (fun c15 => ?_) (fun c15 => ?_)
          · refine sp_m (aw_icmp_ne_t (tgt := 295) (pc := 288) dX2_next_288 (by decide) c15) ?_
            refine sp_m (aw_iconst (v := 1) (pc := 295) dX2_next_295 rfl) ?_
            exact hj296_2 1 ls (lv_sub hl [] rfl)
          · refine sp_m (aw_icmp_ne_f (tgt := 295) (pc := 288) dX2_next_288 (by decide) (Decidable.not_not.mp c15)) ?_
            refine sp_m (aw_iload_n (pc := 291) dX2_next_291 rfl (lv_at hl 0 rfl)) ?_
            refine sp_m (aw_goto (tgt := 296) (pc := 292) dX2_next_292 (by decide)) ?_
            exact hj296_2 p7 ls (lv_sub hl [] rfl)
        · refine sp_m (aw_if_eq_f (tgt := 284) (pc := 189) dX2_next_189 (by decide) c12) ?_
          refine sp_m (aw_aload_n (pc := 192) dX2_next_192 rfl (lv_at hl 1 rfl)) ?_
          refine sp_m (aw_iconst (v := 0) (pc := 193) dX2_next_193 rfl) ?_
          refine sp_t fun h16 eh160 => ?_
          have eh16 : gS h16 = gS h6 := by rw [eh160]; rfl
          refine sp_m (aw_put (k := 7) okX2 opX2 (uS eh6 (uS eh5 s1)) (by decide) q242 (Or.inl rfl) (Or.inl rfl) (hasV_I' eh160) rfl rfl (pc := 194) dX2_next_194) ?_
          refine sp_m (aw_aload_n (pc := 197) dX2_next_197 rfl (lv_at hl 1 rfl)) ?_
          refine sp_m (aw_iload_n (pc := 198) dX2_next_198 rfl (lv_at hl 2 rfl)) ?_
          refine sp_t fun h17 eh170 => ?_
          have eh17 : gS h17 = gS h16 := by rw [eh170]; rfl
          refine sp_m (aw_put (k := 4) okX2 opX2 (uS eh16 (uS eh6 (uS eh5 s1))) (by decide) q239 (Or.inl rfl) (Or.inl rfl) (hasV_I' eh170) rfl rfl (pc := 199) dX2_next_199) ?_
          let P18 : AH → Prop := aLP (KX2_next l D h0 hE) 3 202 (fun s18v : AH => [(0, .ref a0), (1, .int r2v)]) (fun s18v => s18v)
          let E18 : AH → Prop := aLP (KX2_next l D h0 hE) 3 262 (fun r18v : AH => [(0, .ref a0), (1, .int r2v)]) (fun r18v => r18v)
          refine sp_bl (P := P18) (E := E18) (fun s18v => sp_all fun ls hl => ?_) (fun k => k ls (lv_sub hl [1, 2] rfl)) (fun r18v => sp_all fun ls hl => ?_)
          · have hl : lv_has ls 3 [(0, .ref a0), (1, .int r2v)] := hl
            show SP _ _ (AW (KX2_next l D h0 hE) s18v 202 ls [])
            unfold X2_next_L202
            refine sp_m (aw_aload_n (pc := 202) dX2_next_202 rfl (lv_at hl 0 rfl)) ?_
            refine sp_m (aw_aload_n (pc := 203) dX2_next_203 rfl (lv_at hl 0 rfl)) ?_
            refine sp_g fun s19 => ?_
            refine sp_m (aw_get (k := 4) okX2 s19 (by decide) q239 (Or.inl rfl) rfl (pc := 204) dX2_next_204) ?_
            refine sp_b fun p20 ep20 => ?_
            refine sp_m (G' := AW (KX2_next l D h0 hE) s18v (210) ls (.int p20 :: [])) (fun kk => aw_callV (As := [.int (gI s18v a0 4)]) (metX2_see _ _ ep20) (rcv_o okX2 s19) rfl mok_X2_see q544 q546 qs5 q117 q547 (Nat.le_of_ble_eq_true rfl) (Nat.le_of_ble_eq_true rfl) rfl hl.1 rfl (Nat.le_of_ble_eq_true rfl) (pc := 207) dX2_next_207 kk) ?_
            refine sp_b fun p21 ep21 => ?_
            refine sp_m (G' := AW (KX2_next l D h0 hE) s18v (213) ls (.int p21 :: [])) (fun kk => aw_callS (As := [.int p20]) (metX2_isDigit _ _ ep21) mok_X2_isDigit q631 q632 q117 q633 (Nat.le_of_ble_eq_true rfl) (Nat.le_of_ble_eq_true rfl) rfl hl.1 rfl (Nat.le_of_ble_eq_true rfl) (pc := 210) dX2_next_210 kk) ?_
            refine sp_if (fun c22 => ?_) (fun c22 => ?_)
            · refine sp_m (aw_if_eq_t (tgt := 262) (pc := 213) dX2_next_213 (by decide) c22) ?_
              exact sp_r fun hz => hz ls (lv_sub hl [0, 1] rfl)
            · refine sp_m (aw_if_eq_f (tgt := 262) (pc := 213) dX2_next_213 (by decide) c22) ?_
              refine sp_m (aw_aload_n (pc := 216) dX2_next_216 rfl (lv_at hl 0 rfl)) ?_
              refine sp_m (aw_get (k := 4) okX2 s19 (by decide) q239 (Or.inl rfl) rfl (pc := 217) dX2_next_217) ?_
              refine sp_m (aw_iload_n (pc := 220) dX2_next_220 rfl (lv_at hl 1 rfl)) ?_
              refine sp_m (aw_isub (pc := 221) dX2_next_221) ?_
              refine sp_m (aw_iconst (v := 3) (pc := 222) dX2_next_222 rfl) ?_
              have hj249_3 : ∀ h23 : AH, ∀ ls : Array Slot, lv_has ls 3 [(0, .ref a0), (1, .int r2v)] → SP (X2_next_j249 a0 h23) (ZL P18 E18) (AW (KX2_next l D h0 hE) h23 249 ls ([])) := by
                intro h23 ls hl
                unfold X2_next_j249
                refine sp_m (aw_aload_n (pc := 249) dX2_next_249 rfl (lv_at hl 0 rfl)) ?_
                refine sp_m (aw_dup (pc := 250) dX2_next_250 rfl) ?_
                refine sp_g fun s24 => ?_
                refine sp_m (aw_get (k := 4) okX2 s24 (by decide) q239 (Or.inl rfl) rfl (pc := 251) dX2_next_251) ?_
                refine sp_m (aw_iconst (v := 1) (pc := 254) dX2_next_254 rfl) ?_
                refine sp_m (aw_iadd (pc := 255) dX2_next_255) ?_
                refine sp_t fun h25 eh250 => ?_
                have eh25 : gS h25 = gS h23 := by rw [eh250]; rfl
                refine sp_m (aw_put (k := 4) okX2 opX2 s24 (by decide) q239 (Or.inl rfl) (Or.inl rfl) (hasV_I' eh250) rfl rfl (pc := 256) dX2_next_256) ?_
                refine sp_m (aw_goto (tgt := 202) (pc := 259) dX2_next_259 (by decide)) ?_
                exact sp_r fun hz => hz ls (lv_sub hl [0, 1] rfl)
              refine sp_if (fun c26 => ?_) (fun c26 => ?_)
              · refine sp_m (aw_icmp_ge_t (tgt := 249) (pc := 223) dX2_next_223 (by decide) c26) ?_
                exact hj249_3 s18v ls (lv_sub hl [0, 1] rfl)
              · refine sp_m (aw_icmp_ge_f (tgt := 249) (pc := 223) dX2_next_223 (by decide) c26) ?_
                refine sp_m (aw_aload_n (pc := 226) dX2_next_226 rfl (lv_at hl 0 rfl)) ?_
                refine sp_m (aw_bipush (v := 10) (pc := 227) dX2_next_227 rfl) ?_
                refine sp_m (aw_aload_n (pc := 229) dX2_next_229 rfl (lv_at hl 0 rfl)) ?_
                refine sp_m (aw_get (k := 7) okX2 s19 (by decide) q242 (Or.inl rfl) rfl (pc := 230) dX2_next_230) ?_
                refine sp_m (aw_imul (pc := 233) dX2_next_233) ?_
                refine sp_m (aw_aload_n (pc := 234) dX2_next_234 rfl (lv_at hl 0 rfl)) ?_
                refine sp_m (aw_aload_n (pc := 235) dX2_next_235 rfl (lv_at hl 0 rfl)) ?_
                refine sp_m (aw_get (k := 4) okX2 s19 (by decide) q239 (Or.inl rfl) rfl (pc := 236) dX2_next_236) ?_
                refine sp_b fun p27 ep27 => ?_
                refine sp_m (G' := AW (KX2_next l D h0 hE) s18v (242) ls (.int p27 :: .int (10 * (gI s18v a0 7)) :: .ref a0 :: [])) (fun kk => aw_callV (As := [.int (gI s18v a0 4)]) (metX2_see _ _ ep27) (rcv_o okX2 s19) rfl mok_X2_see q544 q546 qs5 q117 q547 (Nat.le_of_ble_eq_true rfl) (Nat.le_of_ble_eq_true rfl) rfl hl.1 rfl (Nat.le_of_ble_eq_true rfl) (pc := 239) dX2_next_239 kk) ?_
                refine sp_m (aw_iadd (pc := 242) dX2_next_242) ?_
                refine sp_m (aw_bipush (v := 48) (pc := 243) dX2_next_243 rfl) ?_
                refine sp_m (aw_isub (pc := 245) dX2_next_245) ?_
                refine sp_t fun h28 eh280 => ?_
                have eh28 : gS h28 = gS s18v := by rw [eh280]; rfl
                refine sp_m (aw_put (k := 7) okX2 opX2 s19 (by decide) q242 (Or.inl rfl) (Or.inl rfl) (hasV_I' eh280) rfl rfl (pc := 246) dX2_next_246) ?_
                exact hj249_3 h28 ls (lv_sub hl [0, 1] rfl)
          · have hl : lv_has ls 3 [(0, .ref a0), (1, .int r2v)] := hl
            show SP _ _ (AW (KX2_next l D h0 hE) r18v 262 ls [])
            refine sp_m (aw_aload_n (pc := 262) dX2_next_262 rfl (lv_at hl 0 rfl)) ?_
            refine sp_m (aw_aload_n (pc := 263) dX2_next_263 rfl (lv_at hl 0 rfl)) ?_
            refine sp_g fun s29 => ?_
            refine sp_m (aw_get (k := 4) okX2 s29 (by decide) q239 (Or.inl rfl) rfl (pc := 264) dX2_next_264) ?_
            refine sp_m (aw_iload_n (pc := 267) dX2_next_267 rfl (lv_at hl 1 rfl)) ?_
            refine sp_m (aw_isub (pc := 268) dX2_next_268) ?_
            refine sp_m (aw_iconst (v := 3) (pc := 269) dX2_next_269 rfl) ?_
            have hj278_5 : ∀ j30 : Int32, ∀ ls : Array Slot, lv_has ls 3 [] → SP (X2_next_j278 a0 r18v j30) (fun z => z = hE) (AW (KX2_next l D h0 hE) r18v 278 ls (.int j30 :: .ref a0 :: [])) := by
              intro j30 ls hl
              unfold X2_next_j278
              refine sp_t fun h31 eh310 => ?_
              have eh31 : gS h31 = gS r18v := by rw [eh310]; rfl
              refine sp_m (aw_put (k := 5) okX2 opX2 s29 (by decide) q240 (Or.inl rfl) (Or.inl rfl) (hasV_I' eh310) rfl rfl (pc := 278) dX2_next_278) ?_
              refine sp_m (aw_goto (tgt := 299) (pc := 281) dX2_next_281 (by decide)) ?_
              exact sp_r fun hz => aw_vret hz rfl rfl rfl (pc := 299) dX2_next_299
            refine sp_if (fun c32 => ?_) (fun c32 => ?_)
            · refine sp_m (aw_icmp_le_t (tgt := 277) (pc := 270) dX2_next_270 (by decide) c32) ?_
              refine sp_m (aw_iconst (v := 3) (pc := 277) dX2_next_277 rfl) ?_
              exact hj278_5 3 ls (lv_sub hl [] rfl)
            · refine sp_m (aw_icmp_le_f (tgt := 277) (pc := 270) dX2_next_270 (by decide) c32) ?_
              refine sp_m (aw_iconst (v := 1) (pc := 273) dX2_next_273 rfl) ?_
              refine sp_m (aw_goto (tgt := 278) (pc := 274) dX2_next_274 (by decide)) ?_
              exact hj278_5 1 ls (lv_sub hl [] rfl)
      · refine sp_m (aw_if_eq_f (tgt := 185) (pc := 61) dX2_next_61 (by decide) c10) ?_
        refine sp_m (aw_aload_n (pc := 64) dX2_next_64 rfl (lv_at hl 1 rfl)) ?_
        refine sp_m (aw_iload_n (pc := 65) dX2_next_65 rfl (lv_at hl 2 rfl)) ?_
        refine sp_t fun h33 eh330 => ?_
        have eh33 : gS h33 = gS h6 := by rw [eh330]; rfl
        refine sp_m (aw_put (k := 4) okX2 opX2 (uS eh6 (uS eh5 s1)) (by decide) q239 (Or.inl rfl) (Or.inl rfl) (hasV_I' eh330) rfl rfl (pc := 66) dX2_next_66) ?_
        let P34 : AH → Prop := aLP (KX2_next l D h0 hE) 3 69 (fun s34v : AH => [(0, .ref a0), (1, .int r2v)]) (fun s34v => s34v)
        let E34 : AH → Prop := aLP (KX2_next l D h0 hE) 3 127 (fun r34v : AH => [(0, .ref a0), (1, .int r2v)]) (fun r34v => r34v)
        refine sp_bl (P := P34) (E := E34) (fun s34v => sp_all fun ls hl => ?_) (fun k => k ls (lv_sub hl [1, 2] rfl)) (fun r34v => sp_all fun ls hl => ?_)
        · have hl : lv_has ls 3 [(0, .ref a0), (1, .int r2v)] := hl
          show SP _ _ (AW (KX2_next l D h0 hE) s34v 69 ls [])
          unfold X2_next_L69
          refine sp_m (aw_aload_n (pc := 69) dX2_next_69 rfl (lv_at hl 0 rfl)) ?_
          refine sp_m (aw_aload_n (pc := 70) dX2_next_70 rfl (lv_at hl 0 rfl)) ?_
          refine sp_g fun s35 => ?_
          refine sp_m (aw_get (k := 4) okX2 s35 (by decide) q239 (Or.inl rfl) rfl (pc := 71) dX2_next_71) ?_
          refine sp_b fun p36 ep36 => ?_
          refine sp_m (G' := AW (KX2_next l D h0 hE) s34v (77) ls (.int p36 :: [])) (fun kk => aw_callV (As := [.int (gI s34v a0 4)]) (metX2_see _ _ ep36) (rcv_o okX2 s35) rfl mok_X2_see q544 q546 qs5 q117 q547 (Nat.le_of_ble_eq_true rfl) (Nat.le_of_ble_eq_true rfl) rfl hl.1 rfl (Nat.le_of_ble_eq_true rfl) (pc := 74) dX2_next_74 kk) ?_
          refine sp_b fun p37 ep37 => ?_
          refine sp_m (G' := AW (KX2_next l D h0 hE) s34v (80) ls (.int p37 :: [])) (fun kk => aw_callS (As := [.int p36]) (metX2_isSmall _ _ ep37) mok_X2_isSmall q548 q549 q117 q550 (Nat.le_of_ble_eq_true rfl) (Nat.le_of_ble_eq_true rfl) rfl hl.1 rfl (Nat.le_of_ble_eq_true rfl) (pc := 77) dX2_next_77 kk) ?_
          refine sp_if (fun c38 => ?_) (fun c38 => ?_)
          · refine sp_m (aw_if_eq_t (tgt := 127) (pc := 80) dX2_next_80 (by decide) c38) ?_
            exact sp_r fun hz => hz ls (lv_sub hl [0, 1] rfl)
          · refine sp_m (aw_if_eq_f (tgt := 127) (pc := 80) dX2_next_80 (by decide) c38) ?_
            refine sp_m (aw_aload_n (pc := 83) dX2_next_83 rfl (lv_at hl 0 rfl)) ?_
            refine sp_m (aw_get (k := 4) okX2 s35 (by decide) q239 (Or.inl rfl) rfl (pc := 84) dX2_next_84) ?_
            refine sp_m (aw_iload_n (pc := 87) dX2_next_87 rfl (lv_at hl 1 rfl)) ?_
            refine sp_m (aw_isub (pc := 88) dX2_next_88) ?_
            refine sp_m (aw_bipush (v := 8) (pc := 89) dX2_next_89 rfl) ?_
            have hj114_6 : ∀ h39 : AH, ∀ ls : Array Slot, lv_has ls 3 [(0, .ref a0), (1, .int r2v)] → SP (X2_next_j114 a0 h39) (ZL P34 E34) (AW (KX2_next l D h0 hE) h39 114 ls ([])) := by
              intro h39 ls hl
              unfold X2_next_j114
              refine sp_m (aw_aload_n (pc := 114) dX2_next_114 rfl (lv_at hl 0 rfl)) ?_
              refine sp_m (aw_dup (pc := 115) dX2_next_115 rfl) ?_
              refine sp_g fun s40 => ?_
              refine sp_m (aw_get (k := 4) okX2 s40 (by decide) q239 (Or.inl rfl) rfl (pc := 116) dX2_next_116) ?_
              refine sp_m (aw_iconst (v := 1) (pc := 119) dX2_next_119 rfl) ?_
              refine sp_m (aw_iadd (pc := 120) dX2_next_120) ?_
              refine sp_t fun h41 eh410 => ?_
              have eh41 : gS h41 = gS h39 := by rw [eh410]; rfl
              refine sp_m (aw_put (k := 4) okX2 opX2 s40 (by decide) q239 (Or.inl rfl) (Or.inl rfl) (hasV_I' eh410) rfl rfl (pc := 121) dX2_next_121) ?_
              refine sp_m (aw_goto (tgt := 69) (pc := 124) dX2_next_124 (by decide)) ?_
              exact sp_r fun hz => hz ls (lv_sub hl [0, 1] rfl)
            refine sp_if (fun c42 => ?_) (fun c42 => ?_)
            · refine sp_m (aw_icmp_ge_t (tgt := 114) (pc := 91) dX2_next_91 (by decide) c42) ?_
              exact hj114_6 s34v ls (lv_sub hl [0, 1] rfl)
            · refine sp_m (aw_icmp_ge_f (tgt := 114) (pc := 91) dX2_next_91 (by decide) c42) ?_
              refine sp_m (aw_aload_n (pc := 94) dX2_next_94 rfl (lv_at hl 0 rfl)) ?_
              refine sp_b fun x43 ex43 => ?_
              refine sp_m (aw_get (k := 2) okX2 s35 (by decide) q237 (Or.inl rfl) (congrArg va_rf ex43) (pc := 95) dX2_next_95) ?_
              refine sp_m (aw_aload_n (pc := 98) dX2_next_98 rfl (lv_at hl 0 rfl)) ?_
              refine sp_m (aw_get (k := 4) okX2 s35 (by decide) q239 (Or.inl rfl) rfl (pc := 99) dX2_next_99) ?_
              refine sp_m (aw_iload_n (pc := 102) dX2_next_102 rfl (lv_at hl 1 rfl)) ?_
              refine sp_m (aw_isub (pc := 103) dX2_next_103) ?_
              refine sp_m (aw_aload_n (pc := 104) dX2_next_104 rfl (lv_at hl 0 rfl)) ?_
              refine sp_m (aw_aload_n (pc := 105) dX2_next_105 rfl (lv_at hl 0 rfl)) ?_
              refine sp_m (aw_get (k := 4) okX2 s35 (by decide) q239 (Or.inl rfl) rfl (pc := 106) dX2_next_106) ?_
              refine sp_b fun p44 ep44 => ?_
              refine sp_m (G' := AW (KX2_next l D h0 hE) s34v (112) ls (.int p44 :: .int ((gI s34v a0 4) - r2v) :: .ref x43 :: [])) (fun kk => aw_callV (As := [.int (gI s34v a0 4)]) (metX2_see _ _ ep44) (rcv_o okX2 s35) rfl mok_X2_see q544 q546 qs5 q117 q547 (Nat.le_of_ble_eq_true rfl) (Nat.le_of_ble_eq_true rfl) rfl hl.1 rfl (Nat.le_of_ble_eq_true rfl) (pc := 109) dX2_next_109 kk) ?_
              refine sp_m (aw_i2c (pc := 112) dX2_next_112) ?_
              refine sp_g fun s45 => ?_
              refine sp_g fun i46 => ?_
              refine sp_t fun h47 eh470 => ?_
              have eh47 : gS h47 = gS s34v := by rw [eh470]; rfl
              refine sp_m (fun kk => aw_cast s45 i46 (pc := 113) dX2_next_113 (AWe eh470 kk)) ?_
              exact hj114_6 h47 ls (lv_sub hl [0, 1] rfl)
        · have hl : lv_has ls 3 [(0, .ref a0), (1, .int r2v)] := hl
          show SP _ _ (AW (KX2_next l D h0 hE) r34v 127 ls [])
          refine sp_m (aw_aload_n (pc := 127) dX2_next_127 rfl (lv_at hl 0 rfl)) ?_
          refine sp_m (aw_aload_n (pc := 128) dX2_next_128 rfl (lv_at hl 0 rfl)) ?_
          refine sp_g fun s48 => ?_
          refine sp_m (aw_get (k := 4) okX2 s48 (by decide) q239 (Or.inl rfl) rfl (pc := 129) dX2_next_129) ?_
          refine sp_m (aw_iload_n (pc := 132) dX2_next_132 rfl (lv_at hl 1 rfl)) ?_
          refine sp_m (aw_isub (pc := 133) dX2_next_133) ?_
          refine sp_m (aw_bipush (v := 8) (pc := 134) dX2_next_134 rfl) ?_
          have hj144_8 : ∀ j49 : Int32, ∀ ls : Array Slot, lv_has ls 3 [(0, .ref a0), (1, .int r2v)] → SP (X2_next_j144 a0 r2v r34v j49) (fun z => z = hE) (AW (KX2_next l D h0 hE) r34v 144 ls (.int j49 :: .ref a0 :: [])) := by
            intro j49 ls hl
            unfold X2_next_j144
            refine sp_t fun h50 eh500 => ?_
            have eh50 : gS h50 = gS r34v := by rw [eh500]; rfl
            refine sp_m (aw_put (k := 5) okX2 opX2 s48 (by decide) q240 (Or.inl rfl) (Or.inl rfl) (hasV_I' eh500) rfl rfl (pc := 144) dX2_next_144) ?_
            refine sp_m (aw_aload_n (pc := 147) dX2_next_147 rfl (lv_at hl 0 rfl)) ?_
            refine sp_m (aw_aload_n (pc := 148) dX2_next_148 rfl (lv_at hl 0 rfl)) ?_
            refine sp_m (aw_get (k := 5) okX2 (uS eh50 s48) (by decide) q240 (Or.inl rfl) rfl (pc := 149) dX2_next_149) ?_
            refine sp_m (aw_iconst (v := 2) (pc := 152) dX2_next_152 rfl) ?_
            have hj179_9 : ∀ j51 : Nat, ∀ h52 : AH, ∀ ls : Array Slot, lv_has ls 3 [] → SP (X2_next_j179 a0 j51 h52) (fun z => z = hE) (AW (KX2_next l D h0 hE) h52 179 ls (.ref j51 :: .ref a0 :: [])) := by
              intro j51 h52 ls hl
              unfold X2_next_j179
              refine sp_g fun s53 => ?_
              refine sp_t fun h54 eh540 => ?_
              have eh54 : gS h54 = gS h52 := by rw [eh540]; rfl
              refine sp_m (aw_put (k := 8) okX2 opX2 s53 (by decide) q243 (Or.inl rfl) (Or.inl rfl) (hasV_R' eh540) rfl rfl (pc := 179) dX2_next_179) ?_
              refine sp_m (aw_goto (tgt := 299) (pc := 182) dX2_next_182 (by decide)) ?_
              exact sp_r fun hz => aw_vret hz rfl rfl rfl (pc := 299) dX2_next_299
            refine sp_if (fun c55 => ?_) (fun c55 => ?_)
            · refine sp_m (aw_icmp_ne_t (tgt := 177) (pc := 153) dX2_next_153 (by decide) c55) ?_
              refine sp_b fun x56 ex56 => ?_
              refine sp_m (aw_ldcS sk_X2_59 ex56 (pc := 177) dX2_next_177) ?_
              exact hj179_9 x56 h50 ls (lv_sub hl [] rfl)
            · refine sp_m (aw_icmp_ne_f (tgt := 177) (pc := 153) dX2_next_153 (by decide) (Decidable.not_not.mp c55)) ?_
              refine sp_t fun h57 eh570 => ?_
              refine sp_m (fun kk => aw_new okJ3 opJ3 odJ3 q552 q553 q127 (pc := 156) dX2_next_156 (AWe eh570 kk)) ?_
              refine sp_m (aw_dup (pc := 159) dX2_next_159 rfl) ?_
              refine sp_m (aw_aload_n (pc := 160) dX2_next_160 rfl (lv_at hl 0 rfl)) ?_
              refine sp_g fun s58 => ?_
              refine sp_b fun x59 ex59 => ?_
              refine sp_m (aw_get (k := 2) okX2 s58 (by decide) q237 (Or.inl rfl) (congrArg va_rf ex59) (pc := 161) dX2_next_161) ?_
              refine sp_m (aw_iconst (v := 0) (pc := 164) dX2_next_164 rfl) ?_
              refine sp_m (aw_aload_n (pc := 165) dX2_next_165 rfl (lv_at hl 0 rfl)) ?_
              refine sp_m (aw_get (k := 4) okX2 s58 (by decide) q239 (Or.inl rfl) rfl (pc := 166) dX2_next_166) ?_
              refine sp_m (aw_iload_n (pc := 169) dX2_next_169 rfl (lv_at hl 1 rfl)) ?_
              refine sp_m (aw_isub (pc := 170) dX2_next_170) ?_
              refine sp_b fun p60 ep60 => ?_
              refine sp_m (G' := AW (KX2_next l D h0 hE) p60 (174) ls (.ref (gZ h50) :: .ref a0 :: [])) (fun kk => aw_callI (As := [.ref x59, .int 0, .int ((gI h57 a0 4) - r2v)]) (metJ3_init _ _ ep60) mok_J3_init rfl q554 q555 q127 q556 (Nat.le_of_ble_eq_true rfl) (Nat.le_of_ble_eq_true rfl) rfl hl.1 rfl (Nat.le_of_ble_eq_true rfl) (pc := 171) dX2_next_171 kk) ?_
              refine sp_m (aw_goto (tgt := 179) (pc := 174) dX2_next_174 (by decide)) ?_
              exact hj179_9 (gZ h50) p60 ls (lv_sub hl [] rfl)
          refine sp_if (fun c61 => ?_) (fun c61 => ?_)
          · refine sp_m (aw_icmp_le_t (tgt := 143) (pc := 136) dX2_next_136 (by decide) c61) ?_
            refine sp_m (aw_iconst (v := 2) (pc := 143) dX2_next_143 rfl) ?_
            exact hj144_8 2 ls (lv_sub hl [0, 1] rfl)
          · refine sp_m (aw_icmp_le_f (tgt := 143) (pc := 136) dX2_next_136 (by decide) c61) ?_
            refine sp_m (aw_iconst (v := 1) (pc := 139) dX2_next_139 rfl) ?_
            refine sp_m (aw_goto (tgt := 144) (pc := 140) dX2_next_140 (by decide)) ?_
            exact hj144_8 1 ls (lv_sub hl [0, 1] rfl)
    · refine sp_m (aw_icmp_ne_f (tgt := 57) (pc := 41) dX2_next_41 (by decide) (Decidable.not_not.mp c8)) ?_
      refine sp_m (aw_aload_n (pc := 44) dX2_next_44 rfl (lv_at hl 1 rfl)) ?_
      refine sp_m (aw_iconst (v := 0) (pc := 45) dX2_next_45 rfl) ?_
      refine sp_t fun h62 eh620 => ?_
      have eh62 : gS h62 = gS h6 := by rw [eh620]; rfl
      refine sp_m (aw_put (k := 5) okX2 opX2 (uS eh6 (uS eh5 s1)) (by decide) q240 (Or.inl rfl) (Or.inl rfl) (hasV_I' eh620) rfl rfl (pc := 46) dX2_next_46) ?_
      refine sp_m (aw_aload_n (pc := 49) dX2_next_49 rfl (lv_at hl 1 rfl)) ?_
      refine sp_m (aw_iload_n (pc := 50) dX2_next_50 rfl (lv_at hl 2 rfl)) ?_
      refine sp_t fun h63 eh630 => ?_
      have eh63 : gS h63 = gS h62 := by rw [eh630]; rfl
      refine sp_m (aw_put (k := 4) okX2 opX2 (uS eh62 (uS eh6 (uS eh5 s1))) (by decide) q239 (Or.inl rfl) (Or.inl rfl) (hasV_I' eh630) rfl rfl (pc := 51) dX2_next_51) ?_
      refine sp_m (aw_goto (tgt := 299) (pc := 54) dX2_next_54 (by decide)) ?_
      exact sp_r fun hz => aw_vret hz rfl rfl rfl (pc := 299) dX2_next_299
theorem mok_J6_equals : mOK yJ6_equals 2 := ⟨⟨by decide +kernel, by decide +kernel⟩, by decide +kernel⟩
abbrev KJ6_equals (l : Launch) (D : DD) (h0 : AH) (v : Int32) : KT := (l, yJ6_equals, cJ6_equals, 3, (some .boolean), RJ6, 1, D, h0, h0, .inl (some (.int v)), false, [])
theorem metJ6_equals (l : Launch) (D : DD) {a0 : Nat} {a1 : Nat} {h0 : AH} {v : Int32} (hr : fJ6_equals a0 a1 h0 = some v) : AMet (KJ6_equals l D h0 v) [.ref a0, .ref a1] := by
  refine AMet.of (K := (KJ6_equals l D h0 v)) rfl ⟨_, rfl⟩ rfl rfl rfl (Nat.le_of_ble_eq_true rfl) (fun ls hl => ?_)
  have hl : lv_has ls 3 [(0, .ref a0), (1, .ref a1)] := hl
  suffices hsp : SP (fJ6_equals a0 a1 h0) (fun z => z = v) (AW (KJ6_equals l D h0 v) h0 0 ls []) from hsp _ hr rfl
  unfold fJ6_equals
  refine sp_m (aw_aload_n (pc := 0) dJ6_equals_0 rfl (lv_at hl 0 rfl)) ?_
  refine sp_g fun s1 => ?_
  refine sp_m (G' := AW (KJ6_equals l D h0 v) h0 (2) ls (.int (Int32.ofNat (gN h0 a0)) :: [])) (fun kk => by rcases s1 with z | z; exact aw_alen (t := 1) z (by decide) rfl (pc := 1) dJ6_equals_1 kk; exact aw_alenK z rfl (pc := 1) dJ6_equals_1 kk) ?_
  refine sp_m (aw_aload_n (pc := 2) dJ6_equals_2 rfl (lv_at hl 1 rfl)) ?_
  refine sp_g fun s2 => ?_
  refine sp_m (G' := AW (KJ6_equals l D h0 v) h0 (4) ls (.int (Int32.ofNat (gN h0 a1)) :: .int (Int32.ofNat (gN h0 a0)) :: [])) (fun kk => by rcases s2 with z | z; exact aw_alen (t := 1) z (by decide) rfl (pc := 3) dJ6_equals_3 kk; exact aw_alenK z rfl (pc := 3) dJ6_equals_3 kk) ?_
  refine sp_if (fun c3 => ?_) (fun c3 => ?_)
  · refine sp_m (aw_icmp_ne_t (tgt := 34) (pc := 4) dJ6_equals_4 (by decide) c3) ?_
    refine sp_m (aw_iconst (v := 0) (pc := 34) dJ6_equals_34 rfl) ?_
    exact sp_r fun hz => aw_zret (nar_b (Or.inl rfl)) (congrArg (fun z => (z, h0)) hz) rfl rfl rfl (pc := 35) dJ6_equals_35
  · refine sp_m (aw_icmp_ne_f (tgt := 34) (pc := 4) dJ6_equals_4 (by decide) (Decidable.not_not.mp c3)) ?_
    refine sp_m (aw_iconst (v := 0) (pc := 7) dJ6_equals_7 rfl) ?_
    refine sp_m (aw_istore_n (lv' := [(2, .int 0), (0, .ref a0), (1, .ref a1)]) (pc := 8) dJ6_equals_8 rfl hl (by decide) rfl) (sp_all fun ls hl => ?_)
    let P4 : Int32 → Prop := aLP (KJ6_equals l D h0 v) 3 9 (fun s4v : Int32 => [(0, .ref a0), (1, .ref a1), (2, .int s4v)]) (fun s4v => h0)
    refine sp_loop (P := P4) (fun s4v => sp_all fun ls hl => ?_) (fun k => k ls (lv_sub hl [1, 2, 0] rfl))
    have hl : lv_has ls 3 [(0, .ref a0), (1, .ref a1), (2, .int s4v)] := hl
    show SP _ _ (AW (KJ6_equals l D h0 v) h0 9 ls [])
    unfold J6_equals_L9
    refine sp_m (aw_iload_n (pc := 9) dJ6_equals_9 rfl (lv_at hl 2 rfl)) ?_
    refine sp_m (aw_aload_n (pc := 10) dJ6_equals_10 rfl (lv_at hl 0 rfl)) ?_
    refine sp_m (G' := AW (KJ6_equals l D h0 v) h0 (12) ls (.int (Int32.ofNat (gN h0 a0)) :: .int s4v :: [])) (fun kk => by rcases s1 with z | z; exact aw_alen (t := 1) z (by decide) rfl (pc := 11) dJ6_equals_11 kk; exact aw_alenK z rfl (pc := 11) dJ6_equals_11 kk) ?_
    refine sp_if (fun c5 => ?_) (fun c5 => ?_)
    · refine sp_m (aw_icmp_ge_t (tgt := 32) (pc := 12) dJ6_equals_12 (by decide) c5) ?_
      refine sp_m (aw_iconst (v := 1) (pc := 32) dJ6_equals_32 rfl) ?_
      exact sp_r fun hz => aw_zret (nar_b (Or.inr rfl)) (congrArg (fun z => (z, h0)) hz) rfl rfl rfl (pc := 33) dJ6_equals_33
    · refine sp_m (aw_icmp_ge_f (tgt := 32) (pc := 12) dJ6_equals_12 (by decide) c5) ?_
      refine sp_m (aw_aload_n (pc := 15) dJ6_equals_15 rfl (lv_at hl 0 rfl)) ?_
      refine sp_m (aw_iload_n (pc := 16) dJ6_equals_16 rfl (lv_at hl 2 rfl)) ?_
      refine sp_g fun i6 => ?_
      refine sp_m (G' := AW (KJ6_equals l D h0 v) h0 (18) ls (.int (gI h0 a0 (ix s4v)) :: [])) (fun kk => by rcases s1 with z | z; exact aw_bald z i6 (pc := 17) dJ6_equals_17 kk; exact aw_baldK z i6 (pc := 17) dJ6_equals_17 kk) ?_
      refine sp_m (aw_aload_n (pc := 18) dJ6_equals_18 rfl (lv_at hl 1 rfl)) ?_
      refine sp_m (aw_iload_n (pc := 19) dJ6_equals_19 rfl (lv_at hl 2 rfl)) ?_
      refine sp_g fun i7 => ?_
      refine sp_m (G' := AW (KJ6_equals l D h0 v) h0 (21) ls (.int (gI h0 a1 (ix s4v)) :: .int (gI h0 a0 (ix s4v)) :: [])) (fun kk => by rcases s2 with z | z; exact aw_bald z i7 (pc := 20) dJ6_equals_20 kk; exact aw_baldK z i7 (pc := 20) dJ6_equals_20 kk) ?_
      refine sp_if (fun c8 => ?_) (fun c8 => ?_)
      · refine sp_m (aw_icmp_eq_t (tgt := 26) (pc := 21) dJ6_equals_21 (by decide) c8) ?_
        refine sp_m (aw_iinc (v := s4v + 1) (lv' := [(2, .int (s4v + 1)), (0, .ref a0), (1, .ref a1)]) (pc := 26) dJ6_equals_26 hl (k := 2) rfl rfl (by decide) rfl) (sp_all fun ls hl => ?_)
        refine sp_m (aw_goto (tgt := 9) (pc := 29) dJ6_equals_29 (by decide)) ?_
        exact sp_r fun hz => hz ls (lv_sub hl [1, 2, 0] rfl)
      · refine sp_m (aw_icmp_eq_f (tgt := 26) (pc := 21) dJ6_equals_21 (by decide) c8) ?_
        refine sp_m (aw_iconst (v := 0) (pc := 24) dJ6_equals_24 rfl) ?_
        exact sp_r fun hz => aw_zret (nar_b (Or.inl rfl)) (congrArg (fun z => (z, h0)) hz) rfl rfl rfl (pc := 25) dJ6_equals_25
theorem mok_J3_equals : mOK yJ3_equals 1 := ⟨⟨by decide +kernel, by decide +kernel⟩, by decide +kernel⟩
abbrev KJ3_equals (l : Launch) (D : DD) (h0 : AH) (v : Int32) : KT := (l, yJ3_equals, cJ3_equals, 3, (some .boolean), RJ3, 2, D, h0, h0, .inl (some (.int v)), false, [])
theorem metJ3_equals (l : Launch) (D : DD) {a0 : Nat} {a1 : Nat} {h0 : AH} {v : Int32} (hr : fJ3_equals a0 a1 h0 = some v) : AMet (KJ3_equals l D h0 v) [.ref a0, .ref a1] := by
  refine AMet.of (K := (KJ3_equals l D h0 v)) rfl ⟨_, rfl⟩ rfl rfl rfl (Nat.le_of_ble_eq_true rfl) (fun ls hl => ?_)
  have hl : lv_has ls 3 [(0, .ref a0), (1, .ref a1)] := hl
  suffices hsp : SP (fJ3_equals a0 a1 h0) (fun z => z = v) (AW (KJ3_equals l D h0 v) h0 0 ls []) from hsp _ hr rfl
  unfold fJ3_equals
  refine sp_m (aw_aload_n (pc := 0) dJ3_equals_0 rfl (lv_at hl 0 rfl)) ?_
  refine sp_m (aw_aload_n (pc := 1) dJ3_equals_1 rfl (lv_at hl 1 rfl)) ?_
  refine sp_if (fun c1 => ?_) (fun c1 => ?_)
  · refine sp_m (aw_acmp_ne_t (tgt := 7) (pc := 2) dJ3_equals_2 (by decide) c1) ?_
    refine sp_m (aw_aload_n (pc := 7) dJ3_equals_7 rfl (lv_at hl 1 rfl)) ?_
    refine sp_g fun s2 => ?_
    refine sp_m (G' := AW (KJ3_equals l D h0 v) h0 (11) ls (.int 1 :: [])) (fun kk => by rcases s2 with z | z; exact aw_instE (rcv_o okJ3 z) q704 (pc := 8) dJ3_equals_8 kk; exact aw_instE (rcv_k z) q704 (pc := 8) dJ3_equals_8 kk) ?_
    refine sp_m (aw_if_eq_f (tgt := 54) (pc := 11) dJ3_equals_11 (by decide) (by decide)) ?_
    refine sp_m (aw_aload_n (pc := 14) dJ3_equals_14 rfl (lv_at hl 1 rfl)) ?_
    refine sp_m (G' := AW (KJ3_equals l D h0 v) h0 (18) ls (.ref a1 :: [])) (fun kk => by rcases s2 with z | z; exact aw_castE (rcv_o okJ3 z) q704 (pc := 15) dJ3_equals_15 kk; exact aw_castE (rcv_k z) q704 (pc := 15) dJ3_equals_15 kk) ?_
    refine sp_m (aw_astore_n (lv' := [(2, .ref a1), (0, .ref a0), (1, .ref a1)]) (pc := 18) dJ3_equals_18 rfl hl (by decide) rfl) (sp_all fun ls hl => ?_)
    refine sp_m (aw_sgetI sz_0 q573 (pc := 19) dJ3_equals_19) ?_
    refine sp_m (aw_if_eq_f (tgt := 36) (pc := 22) dJ3_equals_22 (by decide) (by decide)) ?_
    refine sp_m (aw_aload_n (pc := 25) dJ3_equals_25 rfl (lv_at hl 1 rfl)) ?_
    refine sp_g fun s3 => ?_
    refine sp_m (G' := AW (KJ3_equals l D h0 v) h0 (29) ls (.int (gI h0 a0 1) :: [])) (fun kk => by rcases s3 with z | z; exact aw_get (k := 1) okJ3 z (by decide) q618 (Or.inl rfl) rfl (pc := 26) dJ3_equals_26 kk; exact aw_getKc z q618 (pc := 26) dJ3_equals_26 kk) ?_
    refine sp_m (aw_aload_n (pc := 29) dJ3_equals_29 rfl (lv_at hl 0 rfl)) ?_
    refine sp_m (G' := AW (KJ3_equals l D h0 v) h0 (33) ls (.int (gI h0 a1 1) :: .int (gI h0 a0 1) :: [])) (fun kk => by rcases s2 with z | z; exact aw_get (k := 1) okJ3 z (by decide) q618 (Or.inl rfl) rfl (pc := 30) dJ3_equals_30 kk; exact aw_getKc z q618 (pc := 30) dJ3_equals_30 kk) ?_
    refine sp_if (fun c4 => ?_) (fun c4 => ?_)
    · refine sp_m (aw_icmp_ne_t (tgt := 54) (pc := 33) dJ3_equals_33 (by decide) c4) ?_
      refine sp_m (aw_iconst (v := 0) (pc := 54) dJ3_equals_54 rfl) ?_
      exact sp_r fun hz => aw_zret (nar_b (Or.inl rfl)) (congrArg (fun z => (z, h0)) hz) rfl rfl rfl (pc := 55) dJ3_equals_55
    · refine sp_m (aw_icmp_ne_f (tgt := 54) (pc := 33) dJ3_equals_33 (by decide) (Decidable.not_not.mp c4)) ?_
      refine sp_m (aw_aload_n (pc := 36) dJ3_equals_36 rfl (lv_at hl 1 rfl)) ?_
      refine sp_b fun x5 ex5 => ?_
      refine sp_m (G' := AW (KJ3_equals l D h0 v) h0 (40) ls (.ref x5 :: [])) (fun kk => by rcases s3 with z | z; exact aw_get (k := 0) okJ3 z (by decide) q617 (Or.inl rfl) (congrArg va_rf ex5) (pc := 37) dJ3_equals_37 kk; exact aw_getKv z ex5 q617 (pc := 37) dJ3_equals_37 kk) ?_
      refine sp_m (aw_aload_n (pc := 40) dJ3_equals_40 rfl (lv_at hl 0 rfl)) ?_
      refine sp_b fun x6 ex6 => ?_
      refine sp_m (G' := AW (KJ3_equals l D h0 v) h0 (44) ls (.ref x6 :: .ref x5 :: [])) (fun kk => by rcases s2 with z | z; exact aw_get (k := 0) okJ3 z (by decide) q617 (Or.inl rfl) (congrArg va_rf ex6) (pc := 41) dJ3_equals_41 kk; exact aw_getKv z ex6 q617 (pc := 41) dJ3_equals_41 kk) ?_
      refine sp_b fun p7 ep7 => ?_
      refine sp_m (G' := AW (KJ3_equals l D h0 v) h0 (47) ls (.int p7 :: [])) (fun kk => aw_callS (As := [.ref x5, .ref x6]) (metJ6_equals _ _ ep7) mok_J6_equals q705 q706 q130 q707 (Nat.le_of_ble_eq_true rfl) (Nat.le_of_ble_eq_true rfl) rfl hl.1 rfl (Nat.le_of_ble_eq_true rfl) (pc := 44) dJ3_equals_44 kk) ?_
      refine sp_if (fun c8 => ?_) (fun c8 => ?_)
      · refine sp_m (aw_if_eq_t (tgt := 54) (pc := 47) dJ3_equals_47 (by decide) c8) ?_
        refine sp_m (aw_iconst (v := 0) (pc := 54) dJ3_equals_54 rfl) ?_
        exact sp_r fun hz => aw_zret (nar_b (Or.inl rfl)) (congrArg (fun z => (z, h0)) hz) rfl rfl rfl (pc := 55) dJ3_equals_55
      · refine sp_m (aw_if_eq_f (tgt := 54) (pc := 47) dJ3_equals_47 (by decide) c8) ?_
        refine sp_m (aw_iconst (v := 1) (pc := 50) dJ3_equals_50 rfl) ?_
        refine sp_m (aw_goto (tgt := 55) (pc := 51) dJ3_equals_51 (by decide)) ?_
        exact sp_r fun hz => aw_zret (nar_b (Or.inr rfl)) (congrArg (fun z => (z, h0)) hz) rfl rfl rfl (pc := 55) dJ3_equals_55
  · refine sp_m (aw_acmp_ne_f (tgt := 7) (pc := 2) dJ3_equals_2 (by decide) (Decidable.not_not.mp c1)) ?_
    refine sp_m (aw_iconst (v := 1) (pc := 5) dJ3_equals_5 rfl) ?_
    exact sp_r fun hz => aw_zret (nar_b (Or.inr rfl)) (congrArg (fun z => (z, h0)) hz) rfl rfl rfl (pc := 6) dJ3_equals_6
theorem mok_X2_takes : mOK yX2_takes 1 := ⟨⟨by decide +kernel, by decide +kernel⟩, by decide +kernel⟩
abbrev KX2_takes (l : Launch) (D : DD) (h0 hE : AH) (v : Int32) : KT := (l, yX2_takes, cX2_takes, 2, (some .boolean), RX2, 6, D, h0, hE, .inl (some (.int v)), false, [])
theorem metX2_takes (l : Launch) (D : DD) {a0 : Nat} {a1 : Nat} {h0 : AH} {hE : AH} {v : Int32} (hr : fX2_takes a0 a1 h0 = some (v, hE)) : AMet (KX2_takes l D h0 hE v) [.ref a0, .ref a1] := by
  refine AMet.of (K := (KX2_takes l D h0 hE v)) rfl ⟨_, rfl⟩ rfl rfl rfl (Nat.le_of_ble_eq_true rfl) (fun ls hl => ?_)
  have hl : lv_has ls 2 [(0, .ref a0), (1, .ref a1)] := hl
  suffices hsp : SP (fX2_takes a0 a1 h0) (fun z => z = (v, hE)) (AW (KX2_takes l D h0 hE v) h0 0 ls []) from hsp _ hr rfl
  unfold fX2_takes
  refine sp_m (aw_aload_n (pc := 0) dX2_takes_0 rfl (lv_at hl 0 rfl)) ?_
  refine sp_g fun s1 => ?_
  refine sp_m (aw_get (k := 5) okX2 s1 (by decide) q240 (Or.inl rfl) rfl (pc := 1) dX2_takes_1) ?_
  refine sp_m (aw_iconst (v := 2) (pc := 4) dX2_takes_4 rfl) ?_
  refine sp_if (fun c2 => ?_) (fun c2 => ?_)
  · refine sp_m (aw_icmp_ne_t (tgt := 19) (pc := 5) dX2_takes_5 (by decide) c2) ?_
    refine sp_m (aw_iconst (v := 0) (pc := 19) dX2_takes_19 rfl) ?_
    exact sp_r fun hz => aw_zret (nar_b (Or.inl rfl)) hz rfl rfl rfl (pc := 20) dX2_takes_20
  · refine sp_m (aw_icmp_ne_f (tgt := 19) (pc := 5) dX2_takes_5 (by decide) (Decidable.not_not.mp c2)) ?_
    refine sp_m (aw_aload_n (pc := 8) dX2_takes_8 rfl (lv_at hl 0 rfl)) ?_
    refine sp_b fun x3 ex3 => ?_
    refine sp_m (aw_get (k := 8) okX2 s1 (by decide) q243 (Or.inl rfl) (congrArg va_rf ex3) (pc := 9) dX2_takes_9) ?_
    refine sp_m (aw_aload_n (pc := 12) dX2_takes_12 rfl (lv_at hl 1 rfl)) ?_
    refine sp_g fun s5 => ?_
    refine sp_b fun p4 ep4 => ?_
    refine sp_m (G' := AW (KX2_takes l D h0 hE v) h0 (16) ls (.int p4 :: [])) (fun kk => by rcases s5 with z | z; exact aw_callV (As := [.ref a1]) (metJ3_equals _ _ ep4) (rcv_o okJ3 z) rfl mok_J3_equals q700 q701 q702 q127 q703 (Nat.le_of_ble_eq_true rfl) (Nat.le_of_ble_eq_true rfl) rfl hl.1 rfl (Nat.le_of_ble_eq_true rfl) (pc := 13) dX2_takes_13 kk; exact aw_callV (As := [.ref a1]) (metJ3_equals _ _ ep4) (rcv_k z) rfl mok_J3_equals q700 q701 q702 q127 q703 (Nat.le_of_ble_eq_true rfl) (Nat.le_of_ble_eq_true rfl) rfl hl.1 rfl (Nat.le_of_ble_eq_true rfl) (pc := 13) dX2_takes_13 kk) ?_
    refine sp_if (fun c6 => ?_) (fun c6 => ?_)
    · refine sp_m (aw_if_ne_t (tgt := 21) (pc := 16) dX2_takes_16 (by decide) c6) ?_
      refine sp_m (aw_aload_n (pc := 21) dX2_takes_21 rfl (lv_at hl 0 rfl)) ?_
      refine sp_b fun p7 ep7 => ?_
      refine sp_m (G' := AW (KX2_takes l D h0 hE v) p7 (25) ls ([])) (fun kk => aw_callV (As := []) (metX2_next _ _ ep7) (rcv_o okX2 s1) rfl mok_X2_next q540 q542 qs4 q117 q543 (Nat.le_of_ble_eq_true rfl) (Nat.le_of_ble_eq_true rfl) rfl hl.1 rfl (Nat.le_of_ble_eq_true rfl) (pc := 22) dX2_takes_22 kk) ?_
      refine sp_m (aw_iconst (v := 1) (pc := 25) dX2_takes_25 rfl) ?_
      exact sp_r fun hz => aw_zret (nar_b (Or.inr rfl)) hz rfl rfl rfl (pc := 26) dX2_takes_26
    · refine sp_m (aw_if_ne_f (tgt := 21) (pc := 16) dX2_takes_16 (by decide) (Decidable.not_not.mp c6)) ?_
      refine sp_m (aw_iconst (v := 0) (pc := 19) dX2_takes_19 rfl) ?_
      exact sp_r fun hz => aw_zret (nar_b (Or.inl rfl)) hz rfl rfl rfl (pc := 20) dX2_takes_20
theorem mok_X2_must : mOK yX2_must 1 := ⟨⟨by decide +kernel, by decide +kernel⟩, by decide +kernel⟩
abbrev KX2_must (l : Launch) (D : DD) (h0 : AH) (o : (AH) ⊕ (Nat × AH)) : KT := (l, yX2_must, cX2_must, 2, none, RX2, 7, D, h0, tE (fun p : AH => p) o, tV (fun _ : AH => none) "ElephantLine$Refused" o, true, [])
theorem metX2_must (l : Launch) (D : DD) {a0 : Nat} {a1 : Nat} {h0 : AH} {o : (AH) ⊕ (Nat × AH)} (hr : fX2_must a0 a1 h0 = some o) : AMetX (KX2_must l D h0 o) [.ref a0, .ref a1] := by
  refine AMetX.of (K := (KX2_must l D h0 o)) rfl rfl rfl rfl (Nat.le_of_ble_eq_true rfl) (fun ls hl => ?_)
  have hl : lv_has ls 2 [(0, .ref a0), (1, .ref a1)] := hl
  suffices hsp : SP (fX2_must a0 a1 h0) (fun z => z = o) (AW (KX2_must l D h0 o) h0 0 ls []) from hsp _ hr rfl
  unfold fX2_must
  refine sp_m (aw_aload_n (pc := 0) dX2_must_0 rfl (lv_at hl 0 rfl)) ?_
  refine sp_m (aw_aload_n (pc := 1) dX2_must_1 rfl (lv_at hl 1 rfl)) ?_
  refine sp_g fun s2 => ?_
  refine sp_b fun p1 ep1 => ?_
  refine sp_m (G' := AW (KX2_must l D h0 o) p1.2 (5) ls (.int p1.1 :: [])) (fun kk => aw_callV (As := [.ref a1]) (metX2_takes _ _ ep1) (rcv_o okX2 s2) rfl mok_X2_takes q726 q728 qs11 q117 q729 (Nat.le_of_ble_eq_true rfl) (Nat.le_of_ble_eq_true rfl) rfl hl.1 rfl (Nat.le_of_ble_eq_true rfl) (pc := 2) dX2_must_2 kk) ?_
  refine sp_if (fun c3 => ?_) (fun c3 => ?_)
  · refine sp_m (aw_if_ne_t (tgt := 14) (pc := 5) dX2_must_5 (by decide) c3) ?_
    exact sp_r fun hz => aw_vretT hz rfl rfl rfl (pc := 14) dX2_must_14
  · refine sp_m (aw_if_ne_f (tgt := 14) (pc := 5) dX2_must_5 (by decide) (Decidable.not_not.mp c3)) ?_
    refine sp_m (aw_aload_n (pc := 8) dX2_must_8 rfl (lv_at hl 0 rfl)) ?_
    refine sp_m (aw_iconst (v := 1) (pc := 9) dX2_must_9 rfl) ?_
    refine sp_g fun s5 => ?_
    refine sp_b fun p4 ep4 => ?_
    refine sp_b fun x6 ex6 => ?_
    refine sp_m (G' := AW (KX2_must l D h0 o) p4.2 (13) ls (.ref x6 :: [])) (fun kk => aw_callV (As := [.int 1]) (metX2_fail _ _ ep4) (rcv_o okX2 s5) rfl mok_X2_fail q638 q640 qs7 q117 q641 (Nat.le_of_ble_eq_true rfl) (Nat.le_of_ble_eq_true rfl) rfl hl.1 rfl (Nat.le_of_ble_eq_true rfl) (pc := 10) dX2_must_10 (kk_ref ex6 kk)) ?_
    refine sp_g fun s7 => ?_
    exact sp_r fun hz => aw_throwT okX3 s7 hz rfl rfl rfl rfl (pc := 13) dX2_must_13
theorem mok_X2_numberHere : mOK yX2_numberHere 2 := ⟨⟨by decide +kernel, by decide +kernel⟩, by decide +kernel⟩
abbrev KX2_numberHere (l : Launch) (D : DD) (h0 : AH) (o : (Int32 × AH) ⊕ (Nat × AH)) : KT := (l, yX2_numberHere, cX2_numberHere, 3, (some .int), RX2, 3, D, h0, tE (fun p : Int32 × AH => p.2) o, tV (fun p : Int32 × AH => some (.int p.1)) "ElephantLine$Refused" o, true, [])
theorem metX2_numberHere (l : Launch) (D : DD) {a0 : Nat} {a1 : Int32} {a2 : Int32} {h0 : AH} {o : (Int32 × AH) ⊕ (Nat × AH)} (hr : fX2_numberHere a0 a1 a2 h0 = some o) : AMetX (KX2_numberHere l D h0 o) [.ref a0, .int a1, .int a2] := by
  refine AMetX.of (K := (KX2_numberHere l D h0 o)) rfl rfl rfl rfl (Nat.le_of_ble_eq_true rfl) (fun ls hl => ?_)
  have hl : lv_has ls 3 [(0, .ref a0), (1, .int a1), (2, .int a2)] := hl
  suffices hsp : SP (fX2_numberHere a0 a1 a2 h0) (fun z => z = o) (AW (KX2_numberHere l D h0 o) h0 0 ls []) from hsp _ hr rfl
  unfold fX2_numberHere
  refine sp_m (aw_aload_n (pc := 0) dX2_numberHere_0 rfl (lv_at hl 0 rfl)) ?_
  refine sp_g fun s1 => ?_
  refine sp_m (aw_get (k := 5) okX2 s1 (by decide) q240 (Or.inl rfl) rfl (pc := 1) dX2_numberHere_1) ?_
  refine sp_m (aw_iconst (v := 3) (pc := 4) dX2_numberHere_4 rfl) ?_
  refine sp_if (fun c2 => ?_) (fun c2 => ?_)
  · refine sp_m (aw_icmp_eq_t (tgt := 14) (pc := 5) dX2_numberHere_5 (by decide) c2) ?_
    refine sp_m (aw_aload_n (pc := 14) dX2_numberHere_14 rfl (lv_at hl 0 rfl)) ?_
    refine sp_m (aw_get (k := 7) okX2 s1 (by decide) q242 (Or.inl rfl) rfl (pc := 15) dX2_numberHere_15) ?_
    refine sp_m (aw_iload_n (pc := 18) dX2_numberHere_18 rfl (lv_at hl 1 rfl)) ?_
    refine sp_m (aw_iload_n (pc := 19) dX2_numberHere_19 rfl (lv_at hl 2 rfl)) ?_
    refine sp_b fun p3 ep3 => ?_
    refine sp_m (G' := AW (KX2_numberHere l D h0 o) h0 (23) ls (.int p3 :: [])) (fun kk => aw_callSN (As := [.int (gI h0 a0 7), .int a1, .int a2]) (host := "ElephantLine") (metX1_in _ _ ep3) mok_X1_in nq551 q457 q116 q458 (Nat.le_of_ble_eq_true rfl) (Nat.le_of_ble_eq_true rfl) rfl hl.1 rfl (Nat.le_of_ble_eq_true rfl) (pc := 20) dX2_numberHere_20 kk) ?_
    refine sp_if (fun c4 => ?_) (fun c4 => ?_)
    · refine sp_m (aw_if_ne_t (tgt := 32) (pc := 23) dX2_numberHere_23 (by decide) c4) ?_
      refine sp_m (aw_aload_n (pc := 32) dX2_numberHere_32 rfl (lv_at hl 0 rfl)) ?_
      refine sp_m (aw_get (k := 7) okX2 s1 (by decide) q242 (Or.inl rfl) rfl (pc := 33) dX2_numberHere_33) ?_
      exact sp_r fun hz => aw_iretT hz rfl rfl rfl (pc := 36) dX2_numberHere_36
    · refine sp_m (aw_if_ne_f (tgt := 32) (pc := 23) dX2_numberHere_23 (by decide) (Decidable.not_not.mp c4)) ?_
      refine sp_m (aw_aload_n (pc := 26) dX2_numberHere_26 rfl (lv_at hl 0 rfl)) ?_
      refine sp_m (aw_iconst (v := 4) (pc := 27) dX2_numberHere_27 rfl) ?_
      refine sp_b fun p5 ep5 => ?_
      refine sp_b fun x6 ex6 => ?_
      refine sp_m (G' := AW (KX2_numberHere l D h0 o) p5.2 (31) ls (.ref x6 :: [])) (fun kk => aw_callV (As := [.int 4]) (metX2_fail _ _ ep5) (rcv_o okX2 s1) rfl mok_X2_fail q638 q640 qs7 q117 q641 (Nat.le_of_ble_eq_true rfl) (Nat.le_of_ble_eq_true rfl) rfl hl.1 rfl (Nat.le_of_ble_eq_true rfl) (pc := 28) dX2_numberHere_28 (kk_ref ex6 kk)) ?_
      refine sp_g fun s7 => ?_
      exact sp_r fun hz => aw_throwT okX3 s7 hz rfl rfl rfl rfl (pc := 31) dX2_numberHere_31
  · refine sp_m (aw_icmp_eq_f (tgt := 14) (pc := 5) dX2_numberHere_5 (by decide) c2) ?_
    refine sp_m (aw_aload_n (pc := 8) dX2_numberHere_8 rfl (lv_at hl 0 rfl)) ?_
    refine sp_m (aw_iconst (v := 1) (pc := 9) dX2_numberHere_9 rfl) ?_
    refine sp_b fun p8 ep8 => ?_
    refine sp_b fun x9 ex9 => ?_
    refine sp_m (G' := AW (KX2_numberHere l D h0 o) p8.2 (13) ls (.ref x9 :: [])) (fun kk => aw_callV (As := [.int 1]) (metX2_fail _ _ ep8) (rcv_o okX2 s1) rfl mok_X2_fail q638 q640 qs7 q117 q641 (Nat.le_of_ble_eq_true rfl) (Nat.le_of_ble_eq_true rfl) rfl hl.1 rfl (Nat.le_of_ble_eq_true rfl) (pc := 10) dX2_numberHere_10 (kk_ref ex9 kk)) ?_
    refine sp_g fun s10 => ?_
    exact sp_r fun hz => aw_throwT okX3 s10 hz rfl rfl rfl rfl (pc := 13) dX2_numberHere_13
theorem mok_X2_number : mOK yX2_number 2 := ⟨⟨by decide +kernel, by decide +kernel⟩, by decide +kernel⟩
abbrev KX2_number (l : Launch) (D : DD) (h0 : AH) (o : (Int32 × AH) ⊕ (Nat × AH)) : KT := (l, yX2_number, cX2_number, 4, (some .int), RX2, 6, D, h0, tE (fun p : Int32 × AH => p.2) o, tV (fun p : Int32 × AH => some (.int p.1)) "ElephantLine$Refused" o, true, [])
theorem metX2_number (l : Launch) (D : DD) {a0 : Nat} {a1 : Int32} {a2 : Int32} {h0 : AH} {o : (Int32 × AH) ⊕ (Nat × AH)} (hr : fX2_number a0 a1 a2 h0 = some o) : AMetX (KX2_number l D h0 o) [.ref a0, .int a1, .int a2] := by
  refine AMetX.of (K := (KX2_number l D h0 o)) rfl rfl rfl rfl (Nat.le_of_ble_eq_true rfl) (fun ls hl => ?_)
  have hl : lv_has ls 4 [(0, .ref a0), (1, .int a1), (2, .int a2)] := hl
  suffices hsp : SP (fX2_number a0 a1 a2 h0) (fun z => z = o) (AW (KX2_number l D h0 o) h0 0 ls []) from hsp _ hr rfl
  unfold fX2_number
  refine sp_m (aw_aload_n (pc := 0) dX2_number_0 rfl (lv_at hl 0 rfl)) ?_
  refine sp_m (aw_iload_n (pc := 1) dX2_number_1 rfl (lv_at hl 1 rfl)) ?_
  refine sp_m (aw_iload_n (pc := 2) dX2_number_2 rfl (lv_at hl 2 rfl)) ?_
  refine sp_g fun s2 => ?_
  refine sp_bx (fun q5t ep1 => ?_) (fun p1 ep1 => ?_)
  · refine sp_m (G' := AX (KX2_number l D h0 o) q5t.2 (3) ls ([]) "ElephantLine$Refused" q5t.1) (fun kk => aw_callV_t (As := [.int a1, .int a2]) (metX2_numberHere _ _ ep1) (rcv_o okX2 s2) rfl mok_X2_numberHere q734 q736 qs13 q117 q737 (Nat.le_of_ble_eq_true rfl) (Nat.le_of_ble_eq_true rfl) rfl hl.1 rfl (Nat.le_of_ble_eq_true rfl) (pc := 3) dX2_number_3  kk) ?_
    exact sp_r fun hz => ax_outT hz rfl rfl rfl rfl
  · refine sp_m (G' := AW (KX2_number l D h0 o) p1.2 (6) ls (.int p1.1 :: [])) (fun kk => aw_callV_n (As := [.int a1, .int a2]) (metX2_numberHere _ _ ep1) (rcv_o okX2 s2) rfl mok_X2_numberHere q734 q736 qs13 q117 q737 (Nat.le_of_ble_eq_true rfl) (Nat.le_of_ble_eq_true rfl) rfl hl.1 rfl (Nat.le_of_ble_eq_true rfl) (pc := 3) dX2_number_3  kk) ?_
    refine sp_m (aw_istore_n (lv' := [(3, .int p1.1), (0, .ref a0), (1, .int a1), (2, .int a2)]) (pc := 6) dX2_number_6 rfl hl (by decide) rfl) (sp_all fun ls hl => ?_)
    refine sp_m (aw_aload_n (pc := 7) dX2_number_7 rfl (lv_at hl 1 rfl)) ?_
    refine sp_g fun s4 => ?_
    refine sp_b fun p3 ep3 => ?_
    refine sp_m (G' := AW (KX2_number l D h0 o) p3 (11) ls ([])) (fun kk => aw_callV (As := []) (metX2_next _ _ ep3) (rcv_o okX2 s4) rfl mok_X2_next q540 q542 qs4 q117 q543 (Nat.le_of_ble_eq_true rfl) (Nat.le_of_ble_eq_true rfl) rfl hl.1 rfl (Nat.le_of_ble_eq_true rfl) (pc := 8) dX2_number_8 kk) ?_
    refine sp_m (aw_iload_n (pc := 11) dX2_number_11 rfl (lv_at hl 0 rfl)) ?_
    exact sp_r fun hz => aw_iretT hz rfl rfl rfl (pc := 12) dX2_number_12
theorem mok_X2_after : mOK yX2_after 3 := ⟨⟨by decide +kernel, by decide +kernel⟩, by decide +kernel⟩
abbrev KX2_after (l : Launch) (D : DD) (h0 : AH) (o : (Int32 × AH) ⊕ (Nat × AH)) : KT := (l, yX2_after, cX2_after, 4, (some .int), RX2, 8, D, h0, tE (fun p : Int32 × AH => p.2) o, tV (fun p : Int32 × AH => some (.int p.1)) "ElephantLine$Refused" o, true, [])
theorem metX2_after (l : Launch) (D : DD) {a0 : Nat} {a1 : Nat} {a2 : Int32} {a3 : Int32} {h0 : AH} {o : (Int32 × AH) ⊕ (Nat × AH)} (hr : fX2_after a0 a1 a2 a3 h0 = some o) : AMetX (KX2_after l D h0 o) [.ref a0, .ref a1, .int a2, .int a3] := by
  refine AMetX.of (K := (KX2_after l D h0 o)) rfl rfl rfl rfl (Nat.le_of_ble_eq_true rfl) (fun ls hl => ?_)
  have hl : lv_has ls 4 [(0, .ref a0), (1, .ref a1), (2, .int a2), (3, .int a3)] := hl
  suffices hsp : SP (fX2_after a0 a1 a2 a3 h0) (fun z => z = o) (AW (KX2_after l D h0 o) h0 0 ls []) from hsp _ hr rfl
  unfold fX2_after
  refine sp_m (aw_aload_n (pc := 0) dX2_after_0 rfl (lv_at hl 0 rfl)) ?_
  refine sp_m (aw_aload_n (pc := 1) dX2_after_1 rfl (lv_at hl 1 rfl)) ?_
  refine sp_g fun s2 => ?_
  refine sp_bx (fun q6t ep1 => ?_) (fun p1 ep1 => ?_)
  · refine sp_m (G' := AX (KX2_after l D h0 o) q6t.2 (2) ls ([]) "ElephantLine$Refused" q6t.1) (fun kk => aw_callV_t (As := [.ref a1]) (metX2_must _ _ ep1) (rcv_o okX2 s2) rfl mok_X2_must q722 q724 qs10 q117 q725 (Nat.le_of_ble_eq_true rfl) (Nat.le_of_ble_eq_true rfl) rfl hl.1 rfl (Nat.le_of_ble_eq_true rfl) (pc := 2) dX2_after_2  kk) ?_
    exact sp_r fun hz => ax_outT hz rfl rfl rfl rfl
  · refine sp_m (G' := AW (KX2_after l D h0 o) p1 (5) ls ([])) (fun kk => aw_callV_n (As := [.ref a1]) (metX2_must _ _ ep1) (rcv_o okX2 s2) rfl mok_X2_must q722 q724 qs10 q117 q725 (Nat.le_of_ble_eq_true rfl) (Nat.le_of_ble_eq_true rfl) rfl hl.1 rfl (Nat.le_of_ble_eq_true rfl) (pc := 2) dX2_after_2  kk) ?_
    refine sp_m (aw_aload_n (pc := 5) dX2_after_5 rfl (lv_at hl 0 rfl)) ?_
    refine sp_m (aw_iload_n (pc := 6) dX2_after_6 rfl (lv_at hl 2 rfl)) ?_
    refine sp_m (aw_iload_n (pc := 7) dX2_after_7 rfl (lv_at hl 3 rfl)) ?_
    refine sp_g fun s4 => ?_
    refine sp_bx (fun q5t ep3 => ?_) (fun p3 ep3 => ?_)
    · refine sp_m (G' := AX (KX2_after l D h0 o) q5t.2 (8) ls ([]) "ElephantLine$Refused" q5t.1) (fun kk => aw_callV_t (As := [.int a2, .int a3]) (metX2_number _ _ ep3) (rcv_o okX2 s4) rfl mok_X2_number q730 q732 qs12 q117 q733 (Nat.le_of_ble_eq_true rfl) (Nat.le_of_ble_eq_true rfl) rfl hl.1 rfl (Nat.le_of_ble_eq_true rfl) (pc := 8) dX2_after_8  kk) ?_
      exact sp_r fun hz => ax_outT hz rfl rfl rfl rfl
    · refine sp_m (G' := AW (KX2_after l D h0 o) p3.2 (11) ls (.int p3.1 :: [])) (fun kk => aw_callV_n (As := [.int a2, .int a3]) (metX2_number _ _ ep3) (rcv_o okX2 s4) rfl mok_X2_number q730 q732 qs12 q117 q733 (Nat.le_of_ble_eq_true rfl) (Nat.le_of_ble_eq_true rfl) rfl hl.1 rfl (Nat.le_of_ble_eq_true rfl) (pc := 8) dX2_after_8  kk) ?_
      exact sp_r fun hz => aw_iretT hz rfl rfl rfl (pc := 11) dX2_after_11
theorem mok_X13_init : mOK yX13_init 2 := ⟨⟨by decide +kernel, by decide +kernel⟩, by decide +kernel⟩
abbrev KX13_init (l : Launch) (D : DD) (h0 hE : AH) : KT := (l, yX13_init, cX13_init, 3, none, RX13, 1, D, h0, hE, .inl (none), false, [])
theorem metX13_init (l : Launch) (D : DD) {a0 : Nat} {a1 : Nat} {a2 : Int32} {h0 : AH} {hE : AH} (hr : fX13_init a0 a1 a2 h0 = some hE) : AMet (KX13_init l D h0 hE) [.ref a0, .ref a1, .int a2] := by
  refine AMet.of (K := (KX13_init l D h0 hE)) rfl ⟨_, rfl⟩ rfl rfl rfl (Nat.le_of_ble_eq_true rfl) (fun ls hl => ?_)
  have hl : lv_has ls 3 [(0, .ref a0), (1, .ref a1), (2, .int a2)] := hl
  suffices hsp : SP (fX13_init a0 a1 a2 h0) (fun z => z = hE) (AW (KX13_init l D h0 hE) h0 0 ls []) from hsp _ hr rfl
  unfold fX13_init
  refine sp_m (aw_aload_n (pc := 0) dX13_init_0 rfl (lv_at hl 0 rfl)) ?_
  refine sp_m (aw_objInit hl.1 q816 q153 q154 (Nat.le_of_ble_eq_true rfl) rfl (pc := 1) dX13_init_1) ?_
  refine sp_m (aw_aload_n (pc := 4) dX13_init_4 rfl (lv_at hl 0 rfl)) ?_
  refine sp_m (aw_aload_n (pc := 5) dX13_init_5 rfl (lv_at hl 1 rfl)) ?_
  refine sp_if (fun s1 => ?_) (fun _ => sp_g fun s1n => ?_)
  · refine sp_t fun h2 eh20 => ?_
    have eh2 : gS h2 = gS h0 := by rw [eh20]; rfl
    refine sp_m (G' := AW (KX13_init l D h0 hE) h2 (9) ls ([])) (fun kk => by rcases s1 with z | z | z | z; exact aw_put (k := 4) okX15 opX15 z (by decide) q826 (Or.inl rfl) (Or.inr ⟨rfl, rfl, rfl⟩) (hasV_R' eh20) rfl rfl (pc := 6) dX13_init_6 kk; exact aw_put (k := 4) okX16 opX16 z (by decide) q826 (Or.inl rfl) (Or.inr ⟨rfl, rfl, rfl⟩) (hasV_R' eh20) rfl rfl (pc := 6) dX13_init_6 kk; exact aw_put (k := 4) okX17 opX17 z (by decide) q826 (Or.inl rfl) (Or.inr ⟨rfl, rfl, rfl⟩) (hasV_R' eh20) rfl rfl (pc := 6) dX13_init_6 kk; exact aw_put (k := 4) okX18 opX18 z (by decide) q826 (Or.inl rfl) (Or.inr ⟨rfl, rfl, rfl⟩) (hasV_R' eh20) rfl rfl (pc := 6) dX13_init_6 kk) ?_
    refine sp_m (aw_aload_n (pc := 9) dX13_init_9 rfl (lv_at hl 0 rfl)) ?_
    refine sp_m (aw_iload_n (pc := 10) dX13_init_10 rfl (lv_at hl 2 rfl)) ?_
    refine sp_t fun h3 eh30 => ?_
    have eh3 : gS h3 = gS h2 := by rw [eh30]; rfl
    refine sp_m (G' := AW (KX13_init l D h0 hE) h3 (14) ls ([])) (fun kk => by rcases (show gS h2 a0 = 14 ∨ gS h2 a0 = 15 ∨ gS h2 a0 = 16 ∨ gS h2 a0 = 17 from by rw [eh2]; exact s1) with z | z | z | z; exact aw_put (k := 5) okX15 opX15 z (by decide) q831 (Or.inl rfl) (Or.inr ⟨rfl, rfl, rfl⟩) (hasV_I' eh30) rfl rfl (pc := 11) dX13_init_11 kk; exact aw_put (k := 5) okX16 opX16 z (by decide) q831 (Or.inl rfl) (Or.inr ⟨rfl, rfl, rfl⟩) (hasV_I' eh30) rfl rfl (pc := 11) dX13_init_11 kk; exact aw_put (k := 5) okX17 opX17 z (by decide) q831 (Or.inl rfl) (Or.inr ⟨rfl, rfl, rfl⟩) (hasV_I' eh30) rfl rfl (pc := 11) dX13_init_11 kk; exact aw_put (k := 5) okX18 opX18 z (by decide) q831 (Or.inl rfl) (Or.inr ⟨rfl, rfl, rfl⟩) (hasV_I' eh30) rfl rfl (pc := 11) dX13_init_11 kk) ?_
    exact sp_r fun hz => aw_vret hz rfl rfl rfl (pc := 14) dX13_init_14
  · refine sp_t fun h4 eh40 => ?_
    have eh4 : gS h4 = gS h0 := by rw [eh40]; rfl
    refine sp_m (aw_put (k := 0) okX19 opX19 s1n (by decide) q826 (Or.inl rfl) (Or.inr ⟨rfl, rfl, rfl⟩) (hasV_R' eh40) rfl rfl (pc := 6) dX13_init_6) ?_
    refine sp_m (aw_aload_n (pc := 9) dX13_init_9 rfl (lv_at hl 0 rfl)) ?_
    refine sp_m (aw_iload_n (pc := 10) dX13_init_10 rfl (lv_at hl 2 rfl)) ?_
    refine sp_t fun h5 eh50 => ?_
    have eh5 : gS h5 = gS h4 := by rw [eh50]; rfl
    refine sp_m (aw_put (k := 1) okX19 opX19 (uS eh4 s1n) (by decide) q831 (Or.inl rfl) (Or.inr ⟨rfl, rfl, rfl⟩) (hasV_I' eh50) rfl rfl (pc := 11) dX13_init_11) ?_
    exact sp_r fun hz => aw_vret hz rfl rfl rfl (pc := 14) dX13_init_14
theorem mok_X14_init : mOK yX14_init 2 := ⟨⟨by decide +kernel, by decide +kernel⟩, by decide +kernel⟩
abbrev KX14_init (l : Launch) (D : DD) (h0 hE : AH) : KT := (l, yX14_init, cX14_init, 3, none, RX14, 2, D, h0, hE, .inl (none), false, [])
theorem metX14_init (l : Launch) (D : DD) {a0 : Nat} {a1 : Nat} {a2 : Int32} {h0 : AH} {hE : AH} (hr : fX14_init a0 a1 a2 h0 = some hE) : AMet (KX14_init l D h0 hE) [.ref a0, .ref a1, .int a2] := by
  refine AMet.of (K := (KX14_init l D h0 hE)) rfl ⟨_, rfl⟩ rfl rfl rfl (Nat.le_of_ble_eq_true rfl) (fun ls hl => ?_)
  have hl : lv_has ls 3 [(0, .ref a0), (1, .ref a1), (2, .int a2)] := hl
  suffices hsp : SP (fX14_init a0 a1 a2 h0) (fun z => z = hE) (AW (KX14_init l D h0 hE) h0 0 ls []) from hsp _ hr rfl
  unfold fX14_init
  refine sp_m (aw_aload_n (pc := 0) dX14_init_0 rfl (lv_at hl 0 rfl)) ?_
  refine sp_m (aw_aload_n (pc := 1) dX14_init_1 rfl (lv_at hl 1 rfl)) ?_
  refine sp_m (aw_iload_n (pc := 2) dX14_init_2 rfl (lv_at hl 2 rfl)) ?_
  refine sp_b fun p1 ep1 => ?_
  refine sp_m (G' := AW (KX14_init l D h0 hE) p1 (6) ls ([])) (fun kk => aw_callI (As := [.ref a1, .int a2]) (metX13_init _ _ ep1) mok_X13_init rfl q813 q814 q136 q815 (Nat.le_of_ble_eq_true rfl) (Nat.le_of_ble_eq_true rfl) rfl hl.1 rfl (Nat.le_of_ble_eq_true rfl) (pc := 3) dX14_init_3 kk) ?_
  exact sp_r fun hz => aw_vret hz rfl rfl rfl (pc := 6) dX14_init_6
theorem mok_X16_init : mOK yX16_init 2 := ⟨⟨by decide +kernel, by decide +kernel⟩, by decide +kernel⟩
abbrev KX16_init (l : Launch) (D : DD) (h0 hE : AH) : KT := (l, yX16_init, cX16_init, 3, none, RX16, 3, D, h0, hE, .inl (none), false, [])
theorem metX16_init (l : Launch) (D : DD) {a0 : Nat} {a1 : Nat} {a2 : Int32} {h0 : AH} {hE : AH} (hr : fX16_init a0 a1 a2 h0 = some hE) : AMet (KX16_init l D h0 hE) [.ref a0, .ref a1, .int a2] := by
  refine AMet.of (K := (KX16_init l D h0 hE)) rfl ⟨_, rfl⟩ rfl rfl rfl (Nat.le_of_ble_eq_true rfl) (fun ls hl => ?_)
  have hl : lv_has ls 3 [(0, .ref a0), (1, .ref a1), (2, .int a2)] := hl
  suffices hsp : SP (fX16_init a0 a1 a2 h0) (fun z => z = hE) (AW (KX16_init l D h0 hE) h0 0 ls []) from hsp _ hr rfl
  unfold fX16_init
  refine sp_m (aw_aload_n (pc := 0) dX16_init_0 rfl (lv_at hl 0 rfl)) ?_
  refine sp_m (aw_aload_n (pc := 1) dX16_init_1 rfl (lv_at hl 1 rfl)) ?_
  refine sp_m (aw_iload_n (pc := 2) dX16_init_2 rfl (lv_at hl 2 rfl)) ?_
  refine sp_b fun p1 ep1 => ?_
  refine sp_m (G' := AW (KX16_init l D h0 hE) p1 (6) ls ([])) (fun kk => aw_callI (As := [.ref a1, .int a2]) (metX14_init _ _ ep1) mok_X14_init rfl q852 q811 q137 q812 (Nat.le_of_ble_eq_true rfl) (Nat.le_of_ble_eq_true rfl) rfl hl.1 rfl (Nat.le_of_ble_eq_true rfl) (pc := 3) dX16_init_3 kk) ?_
  exact sp_r fun hz => aw_vret hz rfl rfl rfl (pc := 6) dX16_init_6
theorem mok_X17_init : mOK yX17_init 2 := ⟨⟨by decide +kernel, by decide +kernel⟩, by decide +kernel⟩
abbrev KX17_init (l : Launch) (D : DD) (h0 hE : AH) : KT := (l, yX17_init, cX17_init, 3, none, RX17, 3, D, h0, hE, .inl (none), false, [])
theorem metX17_init (l : Launch) (D : DD) {a0 : Nat} {a1 : Nat} {a2 : Int32} {h0 : AH} {hE : AH} (hr : fX17_init a0 a1 a2 h0 = some hE) : AMet (KX17_init l D h0 hE) [.ref a0, .ref a1, .int a2] := by
  refine AMet.of (K := (KX17_init l D h0 hE)) rfl ⟨_, rfl⟩ rfl rfl rfl (Nat.le_of_ble_eq_true rfl) (fun ls hl => ?_)
  have hl : lv_has ls 3 [(0, .ref a0), (1, .ref a1), (2, .int a2)] := hl
  suffices hsp : SP (fX17_init a0 a1 a2 h0) (fun z => z = hE) (AW (KX17_init l D h0 hE) h0 0 ls []) from hsp _ hr rfl
  unfold fX17_init
  refine sp_m (aw_aload_n (pc := 0) dX17_init_0 rfl (lv_at hl 0 rfl)) ?_
  refine sp_m (aw_aload_n (pc := 1) dX17_init_1 rfl (lv_at hl 1 rfl)) ?_
  refine sp_m (aw_iload_n (pc := 2) dX17_init_2 rfl (lv_at hl 2 rfl)) ?_
  refine sp_b fun p1 ep1 => ?_
  refine sp_m (G' := AW (KX17_init l D h0 hE) p1 (6) ls ([])) (fun kk => aw_callI (As := [.ref a1, .int a2]) (metX14_init _ _ ep1) mok_X14_init rfl q866 q811 q137 q812 (Nat.le_of_ble_eq_true rfl) (Nat.le_of_ble_eq_true rfl) rfl hl.1 rfl (Nat.le_of_ble_eq_true rfl) (pc := 3) dX17_init_3 kk) ?_
  exact sp_r fun hz => aw_vret hz rfl rfl rfl (pc := 6) dX17_init_6
theorem mok_X18_init : mOK yX18_init 2 := ⟨⟨by decide +kernel, by decide +kernel⟩, by decide +kernel⟩
abbrev KX18_init (l : Launch) (D : DD) (h0 hE : AH) : KT := (l, yX18_init, cX18_init, 3, none, RX18, 3, D, h0, hE, .inl (none), false, [])
theorem metX18_init (l : Launch) (D : DD) {a0 : Nat} {a1 : Nat} {a2 : Int32} {h0 : AH} {hE : AH} (hr : fX18_init a0 a1 a2 h0 = some hE) : AMet (KX18_init l D h0 hE) [.ref a0, .ref a1, .int a2] := by
  refine AMet.of (K := (KX18_init l D h0 hE)) rfl ⟨_, rfl⟩ rfl rfl rfl (Nat.le_of_ble_eq_true rfl) (fun ls hl => ?_)
  have hl : lv_has ls 3 [(0, .ref a0), (1, .ref a1), (2, .int a2)] := hl
  suffices hsp : SP (fX18_init a0 a1 a2 h0) (fun z => z = hE) (AW (KX18_init l D h0 hE) h0 0 ls []) from hsp _ hr rfl
  unfold fX18_init
  refine sp_m (aw_aload_n (pc := 0) dX18_init_0 rfl (lv_at hl 0 rfl)) ?_
  refine sp_m (aw_aload_n (pc := 1) dX18_init_1 rfl (lv_at hl 1 rfl)) ?_
  refine sp_m (aw_iload_n (pc := 2) dX18_init_2 rfl (lv_at hl 2 rfl)) ?_
  refine sp_b fun p1 ep1 => ?_
  refine sp_m (G' := AW (KX18_init l D h0 hE) p1 (6) ls ([])) (fun kk => aw_callI (As := [.ref a1, .int a2]) (metX14_init _ _ ep1) mok_X14_init rfl q880 q811 q137 q812 (Nat.le_of_ble_eq_true rfl) (Nat.le_of_ble_eq_true rfl) rfl hl.1 rfl (Nat.le_of_ble_eq_true rfl) (pc := 3) dX18_init_3 kk) ?_
  exact sp_r fun hz => aw_vret hz rfl rfl rfl (pc := 6) dX18_init_6
theorem mok_X15_init : mOK yX15_init 2 := ⟨⟨by decide +kernel, by decide +kernel⟩, by decide +kernel⟩
abbrev KX15_init (l : Launch) (D : DD) (h0 hE : AH) : KT := (l, yX15_init, cX15_init, 3, none, RX15, 3, D, h0, hE, .inl (none), false, [])
theorem metX15_init (l : Launch) (D : DD) {a0 : Nat} {a1 : Nat} {a2 : Int32} {h0 : AH} {hE : AH} (hr : fX15_init a0 a1 a2 h0 = some hE) : AMet (KX15_init l D h0 hE) [.ref a0, .ref a1, .int a2] := by
  refine AMet.of (K := (KX15_init l D h0 hE)) rfl ⟨_, rfl⟩ rfl rfl rfl (Nat.le_of_ble_eq_true rfl) (fun ls hl => ?_)
  have hl : lv_has ls 3 [(0, .ref a0), (1, .ref a1), (2, .int a2)] := hl
  suffices hsp : SP (fX15_init a0 a1 a2 h0) (fun z => z = hE) (AW (KX15_init l D h0 hE) h0 0 ls []) from hsp _ hr rfl
  unfold fX15_init
  refine sp_m (aw_aload_n (pc := 0) dX15_init_0 rfl (lv_at hl 0 rfl)) ?_
  refine sp_m (aw_aload_n (pc := 1) dX15_init_1 rfl (lv_at hl 1 rfl)) ?_
  refine sp_m (aw_iload_n (pc := 2) dX15_init_2 rfl (lv_at hl 2 rfl)) ?_
  refine sp_b fun p1 ep1 => ?_
  refine sp_m (G' := AW (KX15_init l D h0 hE) p1 (6) ls ([])) (fun kk => aw_callI (As := [.ref a1, .int a2]) (metX14_init _ _ ep1) mok_X14_init rfl q810 q811 q137 q812 (Nat.le_of_ble_eq_true rfl) (Nat.le_of_ble_eq_true rfl) rfl hl.1 rfl (Nat.le_of_ble_eq_true rfl) (pc := 3) dX15_init_3 kk) ?_
  exact sp_r fun hz => aw_vret hz rfl rfl rfl (pc := 6) dX15_init_6
theorem mok_X2_beastOf : mOK yX2_beastOf 2 := ⟨⟨by decide +kernel, by decide +kernel⟩, by decide +kernel⟩
abbrev KX2_beastOf (l : Launch) (D : DD) (h0 : AH) (o : (Option Nat × AH) ⊕ (Nat × AH)) : KT := (l, yX2_beastOf, cX2_beastOf, 3, (some (.object "ElephantLine$Beast")), RX2, 8, D, h0, tE (fun p : Option Nat × AH => p.2) o, tV (fun p : Option Nat × AH => some (va_rf p.1)) "ElephantLine$Refused" o, true, [])
theorem metX2_beastOf (l : Launch) (D : DD) {a0 : Nat} {a1 : Nat} {a2 : Int32} {h0 : AH} {o : (Option Nat × AH) ⊕ (Nat × AH)} (hr : fX2_beastOf a0 a1 a2 h0 = some o) : AMetX (KX2_beastOf l D h0 o) [.ref a0, .ref a1, .int a2] := by
  refine AMetX.of (K := (KX2_beastOf l D h0 o)) rfl rfl rfl rfl (Nat.le_of_ble_eq_true rfl) (fun ls hl => ?_)
  have hl : lv_has ls 3 [(0, .ref a0), (1, .ref a1), (2, .int a2)] := hl
  suffices hsp : SP (fX2_beastOf a0 a1 a2 h0) (fun z => z = o) (AW (KX2_beastOf l D h0 o) h0 0 ls []) from hsp _ hr rfl
  unfold fX2_beastOf
  refine sp_m (aw_aload_n (pc := 0) dX2_beastOf_0 rfl (lv_at hl 0 rfl)) ?_
  refine sp_b fun x1 ex1 => ?_
  refine sp_m (aw_ldcS sk_X2_208 ex1 (pc := 1) dX2_beastOf_1) ?_
  refine sp_g fun s3 => ?_
  refine sp_b fun p2 ep2 => ?_
  refine sp_m (G' := AW (KX2_beastOf l D h0 o) p2.2 (6) ls (.int p2.1 :: [])) (fun kk => aw_callV (As := [.ref x1]) (metX2_takes _ _ ep2) (rcv_o okX2 s3) rfl mok_X2_takes q726 q728 qs11 q117 q729 (Nat.le_of_ble_eq_true rfl) (Nat.le_of_ble_eq_true rfl) rfl hl.1 rfl (Nat.le_of_ble_eq_true rfl) (pc := 3) dX2_beastOf_3 kk) ?_
  refine sp_if (fun c4 => ?_) (fun c4 => ?_)
  · refine sp_m (aw_if_eq_t (tgt := 19) (pc := 6) dX2_beastOf_6 (by decide) c4) ?_
    refine sp_m (aw_aload_n (pc := 19) dX2_beastOf_19 rfl (lv_at hl 0 rfl)) ?_
    refine sp_b fun x5 ex5 => ?_
    refine sp_m (aw_ldcS sk_X2_215 ex5 (pc := 20) dX2_beastOf_20) ?_
    refine sp_g fun s7 => ?_
    refine sp_b fun p6 ep6 => ?_
    refine sp_m (G' := AW (KX2_beastOf l D h0 o) p6.2 (25) ls (.int p6.1 :: [])) (fun kk => aw_callV (As := [.ref x5]) (metX2_takes _ _ ep6) (rcv_o okX2 s7) rfl mok_X2_takes q726 q728 qs11 q117 q729 (Nat.le_of_ble_eq_true rfl) (Nat.le_of_ble_eq_true rfl) rfl hl.1 rfl (Nat.le_of_ble_eq_true rfl) (pc := 22) dX2_beastOf_22 kk) ?_
    refine sp_if (fun c8 => ?_) (fun c8 => ?_)
    · refine sp_m (aw_if_eq_t (tgt := 38) (pc := 25) dX2_beastOf_25 (by decide) c8) ?_
      refine sp_m (aw_aload_n (pc := 38) dX2_beastOf_38 rfl (lv_at hl 0 rfl)) ?_
      refine sp_b fun x9 ex9 => ?_
      refine sp_m (aw_ldcS sk_X2_220 ex9 (pc := 39) dX2_beastOf_39) ?_
      refine sp_g fun s11 => ?_
      refine sp_b fun p10 ep10 => ?_
      refine sp_m (G' := AW (KX2_beastOf l D h0 o) p10.2 (44) ls (.int p10.1 :: [])) (fun kk => aw_callV (As := [.ref x9]) (metX2_takes _ _ ep10) (rcv_o okX2 s11) rfl mok_X2_takes q726 q728 qs11 q117 q729 (Nat.le_of_ble_eq_true rfl) (Nat.le_of_ble_eq_true rfl) rfl hl.1 rfl (Nat.le_of_ble_eq_true rfl) (pc := 41) dX2_beastOf_41 kk) ?_
      refine sp_if (fun c12 => ?_) (fun c12 => ?_)
      · refine sp_m (aw_if_eq_t (tgt := 57) (pc := 44) dX2_beastOf_44 (by decide) c12) ?_
        refine sp_m (aw_aload_n (pc := 57) dX2_beastOf_57 rfl (lv_at hl 0 rfl)) ?_
        refine sp_b fun x13 ex13 => ?_
        refine sp_m (aw_ldcS sk_X2_225 ex13 (pc := 58) dX2_beastOf_58) ?_
        refine sp_g fun s15 => ?_
        refine sp_bx (fun q18t ep14 => ?_) (fun p14 ep14 => ?_)
        · refine sp_m (G' := AX (KX2_beastOf l D h0 o) q18t.2 (60) ls ([]) "ElephantLine$Refused" q18t.1) (fun kk => aw_callV_t (As := [.ref x13]) (metX2_must _ _ ep14) (rcv_o okX2 s15) rfl mok_X2_must q722 q724 qs10 q117 q725 (Nat.le_of_ble_eq_true rfl) (Nat.le_of_ble_eq_true rfl) rfl hl.1 rfl (Nat.le_of_ble_eq_true rfl) (pc := 60) dX2_beastOf_60  kk) ?_
          exact sp_r fun hz => ax_outT hz rfl rfl rfl rfl
        · refine sp_m (G' := AW (KX2_beastOf l D h0 o) p14 (63) ls ([])) (fun kk => aw_callV_n (As := [.ref x13]) (metX2_must _ _ ep14) (rcv_o okX2 s15) rfl mok_X2_must q722 q724 qs10 q117 q725 (Nat.le_of_ble_eq_true rfl) (Nat.le_of_ble_eq_true rfl) rfl hl.1 rfl (Nat.le_of_ble_eq_true rfl) (pc := 60) dX2_beastOf_60  kk) ?_
          refine sp_t fun h16 eh160 => ?_
          refine sp_m (fun kk => aw_new okX18 opX18 odX18 q875 q876 q141 (pc := 63) dX2_beastOf_63 (AWe eh160 kk)) ?_
          refine sp_m (aw_dup (pc := 66) dX2_beastOf_66 rfl) ?_
          refine sp_m (aw_aload_n (pc := 67) dX2_beastOf_67 rfl (lv_at hl 1 rfl)) ?_
          refine sp_m (aw_iload_n (pc := 68) dX2_beastOf_68 rfl (lv_at hl 2 rfl)) ?_
          refine sp_b fun p17 ep17 => ?_
          refine sp_m (G' := AW (KX2_beastOf l D h0 o) p17 (72) ls (.ref (gZ p14) :: [])) (fun kk => aw_callI (As := [.ref a1, .int a2]) (metX18_init _ _ ep17) mok_X18_init rfl q877 q878 q141 q879 (Nat.le_of_ble_eq_true rfl) (Nat.le_of_ble_eq_true rfl) rfl hl.1 rfl (Nat.le_of_ble_eq_true rfl) (pc := 69) dX2_beastOf_69 kk) ?_
          exact sp_r fun hz => aw_aretT rfl hz rfl rfl rfl (Or.inl ⟨_, rfl⟩) (pc := 72) dX2_beastOf_72
      · refine sp_m (aw_if_eq_f (tgt := 57) (pc := 44) dX2_beastOf_44 (by decide) c12) ?_
        refine sp_t fun h19 eh190 => ?_
        refine sp_m (fun kk => aw_new okX17 opX17 odX17 q861 q862 q140 (pc := 47) dX2_beastOf_47 (AWe eh190 kk)) ?_
        refine sp_m (aw_dup (pc := 50) dX2_beastOf_50 rfl) ?_
        refine sp_m (aw_aload_n (pc := 51) dX2_beastOf_51 rfl (lv_at hl 1 rfl)) ?_
        refine sp_m (aw_iload_n (pc := 52) dX2_beastOf_52 rfl (lv_at hl 2 rfl)) ?_
        refine sp_b fun p20 ep20 => ?_
        refine sp_m (G' := AW (KX2_beastOf l D h0 o) p20 (56) ls (.ref (gZ p10.2) :: [])) (fun kk => aw_callI (As := [.ref a1, .int a2]) (metX17_init _ _ ep20) mok_X17_init rfl q863 q864 q140 q865 (Nat.le_of_ble_eq_true rfl) (Nat.le_of_ble_eq_true rfl) rfl hl.1 rfl (Nat.le_of_ble_eq_true rfl) (pc := 53) dX2_beastOf_53 kk) ?_
        exact sp_r fun hz => aw_aretT rfl hz rfl rfl rfl (Or.inl ⟨_, rfl⟩) (pc := 56) dX2_beastOf_56
    · refine sp_m (aw_if_eq_f (tgt := 38) (pc := 25) dX2_beastOf_25 (by decide) c8) ?_
      refine sp_t fun h21 eh210 => ?_
      refine sp_m (fun kk => aw_new okX16 opX16 odX16 q847 q848 q139 (pc := 28) dX2_beastOf_28 (AWe eh210 kk)) ?_
      refine sp_m (aw_dup (pc := 31) dX2_beastOf_31 rfl) ?_
      refine sp_m (aw_aload_n (pc := 32) dX2_beastOf_32 rfl (lv_at hl 1 rfl)) ?_
      refine sp_m (aw_iload_n (pc := 33) dX2_beastOf_33 rfl (lv_at hl 2 rfl)) ?_
      refine sp_b fun p22 ep22 => ?_
      refine sp_m (G' := AW (KX2_beastOf l D h0 o) p22 (37) ls (.ref (gZ p6.2) :: [])) (fun kk => aw_callI (As := [.ref a1, .int a2]) (metX16_init _ _ ep22) mok_X16_init rfl q849 q850 q139 q851 (Nat.le_of_ble_eq_true rfl) (Nat.le_of_ble_eq_true rfl) rfl hl.1 rfl (Nat.le_of_ble_eq_true rfl) (pc := 34) dX2_beastOf_34 kk) ?_
      exact sp_r fun hz => aw_aretT rfl hz rfl rfl rfl (Or.inl ⟨_, rfl⟩) (pc := 37) dX2_beastOf_37
  · refine sp_m (aw_if_eq_f (tgt := 19) (pc := 6) dX2_beastOf_6 (by decide) c4) ?_
    refine sp_t fun h23 eh230 => ?_
    refine sp_m (fun kk => aw_new okX15 opX15 odX15 q805 q806 q138 (pc := 9) dX2_beastOf_9 (AWe eh230 kk)) ?_
    refine sp_m (aw_dup (pc := 12) dX2_beastOf_12 rfl) ?_
    refine sp_m (aw_aload_n (pc := 13) dX2_beastOf_13 rfl (lv_at hl 1 rfl)) ?_
    refine sp_m (aw_iload_n (pc := 14) dX2_beastOf_14 rfl (lv_at hl 2 rfl)) ?_
    refine sp_b fun p24 ep24 => ?_
    refine sp_m (G' := AW (KX2_beastOf l D h0 o) p24 (18) ls (.ref (gZ p2.2) :: [])) (fun kk => aw_callI (As := [.ref a1, .int a2]) (metX15_init _ _ ep24) mok_X15_init rfl q807 q808 q138 q809 (Nat.le_of_ble_eq_true rfl) (Nat.le_of_ble_eq_true rfl) rfl hl.1 rfl (Nat.le_of_ble_eq_true rfl) (pc := 15) dX2_beastOf_15 kk) ?_
    exact sp_r fun hz => aw_aretT rfl hz rfl rfl rfl (Or.inl ⟨_, rfl⟩) (pc := 18) dX2_beastOf_18
theorem mok_X2_begins : mOK yX2_begins 1 := ⟨⟨by decide +kernel, by decide +kernel⟩, by decide +kernel⟩
abbrev KX2_begins (l : Launch) (D : DD) (h0 : AH) (o : (AH) ⊕ (Nat × AH)) : KT := (l, yX2_begins, cX2_begins, 2, none, RX2, 6, D, h0, tE (fun p : AH => p) o, tV (fun _ : AH => none) "ElephantLine$Refused" o, true, [])
theorem metX2_begins (l : Launch) (D : DD) {a0 : Nat} {a1 : Int32} {h0 : AH} {o : (AH) ⊕ (Nat × AH)} (hr : fX2_begins a0 a1 h0 = some o) : AMetX (KX2_begins l D h0 o) [.ref a0, .int a1] := by
  refine AMetX.of (K := (KX2_begins l D h0 o)) rfl rfl rfl rfl (Nat.le_of_ble_eq_true rfl) (fun ls hl => ?_)
  have hl : lv_has ls 2 [(0, .ref a0), (1, .int a1)] := hl
  suffices hsp : SP (fX2_begins a0 a1 h0) (fun z => z = o) (AW (KX2_begins l D h0 o) h0 0 ls []) from hsp _ hr rfl
  unfold fX2_begins
  refine sp_m (aw_iload_n (pc := 0) dX2_begins_0 rfl (lv_at hl 1 rfl)) ?_
  refine sp_if (fun c1 => ?_) (fun c1 => ?_)
  · refine sp_m (aw_if_ne_t (tgt := 10) (pc := 1) dX2_begins_1 (by decide) c1) ?_
    refine sp_m (aw_aload_n (pc := 10) dX2_begins_10 rfl (lv_at hl 0 rfl)) ?_
    refine sp_g fun s2 => ?_
    refine sp_b fun x3 ex3 => ?_
    refine sp_m (aw_get (k := 9) okX2 s2 (by decide) q244 (Or.inl rfl) (congrArg va_rf ex3) (pc := 11) dX2_begins_11) ?_
    refine sp_g fun s4 => ?_
    refine sp_m (aw_get (k := 5) okX8 s4 (by decide) q495 (Or.inl rfl) rfl (pc := 14) dX2_begins_14) ?_
    refine sp_if (fun c5 => ?_) (fun c5 => ?_)
    · refine sp_m (aw_if_ne_t (tgt := 27) (pc := 17) dX2_begins_17 (by decide) c5) ?_
      refine sp_m (aw_aload_n (pc := 27) dX2_begins_27 rfl (lv_at hl 0 rfl)) ?_
      refine sp_b fun p6 ep6 => ?_
      refine sp_m (G' := AW (KX2_begins l D h0 o) p6 (31) ls ([])) (fun kk => aw_callV (As := []) (metX2_next _ _ ep6) (rcv_o okX2 s2) rfl mok_X2_next q540 q542 qs4 q117 q543 (Nat.le_of_ble_eq_true rfl) (Nat.le_of_ble_eq_true rfl) rfl hl.1 rfl (Nat.le_of_ble_eq_true rfl) (pc := 28) dX2_begins_28 kk) ?_
      exact sp_r fun hz => aw_vretT hz rfl rfl rfl (pc := 31) dX2_begins_31
    · refine sp_m (aw_if_ne_f (tgt := 27) (pc := 17) dX2_begins_17 (by decide) (Decidable.not_not.mp c5)) ?_
      refine sp_m (aw_aload_n (pc := 20) dX2_begins_20 rfl (lv_at hl 0 rfl)) ?_
      refine sp_m (aw_bipush (v := 6) (pc := 21) dX2_begins_21 rfl) ?_
      refine sp_b fun p7 ep7 => ?_
      refine sp_b fun x8 ex8 => ?_
      refine sp_m (G' := AW (KX2_begins l D h0 o) p7.2 (26) ls (.ref x8 :: [])) (fun kk => aw_callV (As := [.int 6]) (metX2_fail _ _ ep7) (rcv_o okX2 s2) rfl mok_X2_fail q638 q640 qs7 q117 q641 (Nat.le_of_ble_eq_true rfl) (Nat.le_of_ble_eq_true rfl) rfl hl.1 rfl (Nat.le_of_ble_eq_true rfl) (pc := 23) dX2_begins_23 (kk_ref ex8 kk)) ?_
      refine sp_g fun s9 => ?_
      exact sp_r fun hz => aw_throwT okX3 s9 hz rfl rfl rfl rfl (pc := 26) dX2_begins_26
  · refine sp_m (aw_if_ne_f (tgt := 10) (pc := 1) dX2_begins_1 (by decide) (Decidable.not_not.mp c1)) ?_
    refine sp_m (aw_aload_n (pc := 4) dX2_begins_4 rfl (lv_at hl 0 rfl)) ?_
    refine sp_m (aw_iconst (v := 5) (pc := 5) dX2_begins_5 rfl) ?_
    refine sp_g fun s11 => ?_
    refine sp_b fun p10 ep10 => ?_
    refine sp_b fun x12 ex12 => ?_
    refine sp_m (G' := AW (KX2_begins l D h0 o) p10.2 (9) ls (.ref x12 :: [])) (fun kk => aw_callV (As := [.int 5]) (metX2_fail _ _ ep10) (rcv_o okX2 s11) rfl mok_X2_fail q638 q640 qs7 q117 q641 (Nat.le_of_ble_eq_true rfl) (Nat.le_of_ble_eq_true rfl) rfl hl.1 rfl (Nat.le_of_ble_eq_true rfl) (pc := 6) dX2_begins_6 (kk_ref ex12 kk)) ?_
    refine sp_g fun s13 => ?_
    exact sp_r fun hz => aw_throwT okX3 s13 hz rfl rfl rfl rfl (pc := 9) dX2_begins_9
theorem mok_J3_isLatin1 : mOK yJ3_isLatin1 0 := ⟨⟨by decide +kernel, by decide +kernel⟩, by decide +kernel⟩
abbrev KJ3_isLatin1 (l : Launch) (D : DD) (h0 : AH) (v : Int32) : KT := (l, yJ3_isLatin1, cJ3_isLatin1, 1, (some .boolean), RJ3, 1, D, h0, h0, .inl (some (.int v)), false, [])
theorem metJ3_isLatin1 (l : Launch) (D : DD) {a0 : Nat} {h0 : AH} {v : Int32} (hr : fJ3_isLatin1 a0 h0 = some v) : AMet (KJ3_isLatin1 l D h0 v) [.ref a0] := by
  refine AMet.of (K := (KJ3_isLatin1 l D h0 v)) rfl ⟨_, rfl⟩ rfl rfl rfl (Nat.le_of_ble_eq_true rfl) (fun ls hl => ?_)
  have hl : lv_has ls 1 [(0, .ref a0)] := hl
  suffices hsp : SP (fJ3_isLatin1 a0 h0) (fun z => z = v) (AW (KJ3_isLatin1 l D h0 v) h0 0 ls []) from hsp _ hr rfl
  unfold fJ3_isLatin1
  refine sp_m (aw_sgetI sz_0 q573 (pc := 0) dJ3_isLatin1_0) ?_
  refine sp_m (aw_if_eq_f (tgt := 17) (pc := 3) dJ3_isLatin1_3 (by decide) (by decide)) ?_
  refine sp_m (aw_aload_n (pc := 6) dJ3_isLatin1_6 rfl (lv_at hl 0 rfl)) ?_
  refine sp_g fun s1 => ?_
  refine sp_m (G' := AW (KJ3_isLatin1 l D h0 v) h0 (10) ls (.int (gI h0 a0 1) :: [])) (fun kk => by rcases s1 with z | z; exact aw_get (k := 1) okJ3 z (by decide) q618 (Or.inl rfl) rfl (pc := 7) dJ3_isLatin1_7 kk; exact aw_getKc z q618 (pc := 7) dJ3_isLatin1_7 kk) ?_
  refine sp_if (fun c2 => ?_) (fun c2 => ?_)
  · refine sp_m (aw_if_ne_t (tgt := 17) (pc := 10) dJ3_isLatin1_10 (by decide) c2) ?_
    refine sp_m (aw_iconst (v := 0) (pc := 17) dJ3_isLatin1_17 rfl) ?_
    exact sp_r fun hz => aw_zret (nar_b (Or.inl rfl)) (congrArg (fun z => (z, h0)) hz) rfl rfl rfl (pc := 18) dJ3_isLatin1_18
  · refine sp_m (aw_if_ne_f (tgt := 17) (pc := 10) dJ3_isLatin1_10 (by decide) (Decidable.not_not.mp c2)) ?_
    refine sp_m (aw_iconst (v := 1) (pc := 13) dJ3_isLatin1_13 rfl) ?_
    refine sp_m (aw_goto (tgt := 18) (pc := 14) dJ3_isLatin1_14 (by decide)) ?_
    exact sp_r fun hz => aw_zret (nar_b (Or.inr rfl)) (congrArg (fun z => (z, h0)) hz) rfl rfl rfl (pc := 18) dJ3_isLatin1_18
theorem mok_J7_signedHashCode : mOK yJ7_signedHashCode 4 := ⟨⟨by decide +kernel, by decide +kernel⟩, by decide +kernel⟩
abbrev KJ7_signedHashCode (l : Launch) (D : DD) (h0 : AH) (v : Int32) : KT := (l, yJ7_signedHashCode, cJ7_signedHashCode, 6, (some .int), RJ7, 1, D, h0, h0, .inl (some (.int v)), false, [])
theorem metJ7_signedHashCode (l : Launch) (D : DD) {a0 : Int32} {a1 : Nat} {a2 : Int32} {a3 : Int32} {h0 : AH} {v : Int32} (hr : fJ7_signedHashCode a0 a1 a2 a3 h0 = some v) : AMet (KJ7_signedHashCode l D h0 v) [.int a0, .ref a1, .int a2, .int a3] := by
  refine AMet.of (K := (KJ7_signedHashCode l D h0 v)) rfl ⟨_, rfl⟩ rfl rfl rfl (Nat.le_of_ble_eq_true rfl) (fun ls hl => ?_)
  have hl : lv_has ls 6 [(0, .int a0), (1, .ref a1), (2, .int a2), (3, .int a3)] := hl
  suffices hsp : SP (fJ7_signedHashCode a0 a1 a2 a3 h0) (fun z => z = v) (AW (KJ7_signedHashCode l D h0 v) h0 0 ls []) from hsp _ hr rfl
  unfold fJ7_signedHashCode
  refine sp_m (aw_iload_n (pc := 0) dJ7_signedHashCode_0 rfl (lv_at hl 2 rfl)) ?_
  refine sp_m (aw_iload_n (pc := 1) dJ7_signedHashCode_1 rfl (lv_at hl 3 rfl)) ?_
  refine sp_m (aw_iadd (pc := 2) dJ7_signedHashCode_2) ?_
  refine sp_m (aw_istore (lv' := [(4, .int (a2 + a3)), (0, .int a0), (1, .ref a1), (2, .int a2), (3, .int a3)]) (pc := 3) dJ7_signedHashCode_3 hl (by decide) rfl) (sp_all fun ls hl => ?_)
  refine sp_m (aw_iload_n (pc := 5) dJ7_signedHashCode_5 rfl (lv_at hl 3 rfl)) ?_
  refine sp_m (aw_istore (lv' := [(5, .int a2), (4, .int (a2 + a3)), (0, .int a0), (1, .ref a1), (2, .int a2), (3, .int a3)]) (pc := 6) dJ7_signedHashCode_6 hl (by decide) rfl) (sp_all fun ls hl => ?_)
  let P1 : Int32 × Int32 → Prop := aLP (KJ7_signedHashCode l D h0 v) 6 8 (fun s1v : Int32 × Int32 => [(0, .int s1v.1), (1, .ref a1), (4, .int (a2 + a3)), (5, .int s1v.2)]) (fun s1v => h0)
  let E1 : Int32 → Prop := aLP (KJ7_signedHashCode l D h0 v) 6 35 (fun r1v : Int32 => [(0, .int r1v)]) (fun r1v => h0)
  refine sp_bl (P := P1) (E := E1) (fun s1v => sp_all fun ls hl => ?_) (fun k => k ls (lv_sub hl [2, 3, 1, 0] rfl)) (fun r1v => sp_all fun ls hl => ?_)
  · have hl : lv_has ls 6 [(0, .int s1v.1), (1, .ref a1), (4, .int (a2 + a3)), (5, .int s1v.2)] := hl
    show SP _ _ (AW (KJ7_signedHashCode l D h0 v) h0 8 ls [])
    unfold J7_signedHashCode_L8
    refine sp_m (aw_iload (pc := 8) dJ7_signedHashCode_8 (lv_at hl 3 rfl)) ?_
    refine sp_m (aw_iload (pc := 10) dJ7_signedHashCode_10 (lv_at hl 2 rfl)) ?_
    refine sp_if (fun c2 => ?_) (fun c2 => ?_)
    · refine sp_m (aw_icmp_ge_t (tgt := 35) (pc := 12) dJ7_signedHashCode_12 (by decide) c2) ?_
      exact sp_r fun hz => hz ls (lv_sub hl [0] rfl)
    · refine sp_m (aw_icmp_ge_f (tgt := 35) (pc := 12) dJ7_signedHashCode_12 (by decide) c2) ?_
      refine sp_m (aw_bipush (v := 31) (pc := 15) dJ7_signedHashCode_15 rfl) ?_
      refine sp_m (aw_iload_n (pc := 17) dJ7_signedHashCode_17 rfl (lv_at hl 0 rfl)) ?_
      refine sp_m (aw_imul (pc := 18) dJ7_signedHashCode_18) ?_
      refine sp_m (aw_aload_n (pc := 19) dJ7_signedHashCode_19 rfl (lv_at hl 1 rfl)) ?_
      refine sp_m (aw_iload (pc := 20) dJ7_signedHashCode_20 (lv_at hl 3 rfl)) ?_
      refine sp_g fun s3 => ?_
      refine sp_g fun i4 => ?_
      refine sp_m (G' := AW (KJ7_signedHashCode l D h0 v) h0 (23) ls (.int (gI h0 a1 (ix s1v.2)) :: .int (31 * s1v.1) :: [])) (fun kk => by rcases s3 with z | z; exact aw_bald z i4 (pc := 22) dJ7_signedHashCode_22 kk; exact aw_baldK z i4 (pc := 22) dJ7_signedHashCode_22 kk) ?_
      refine sp_m (aw_sipush (v := 255) (pc := 23) dJ7_signedHashCode_23 rfl) ?_
      refine sp_m (aw_iand (pc := 26) dJ7_signedHashCode_26) ?_
      refine sp_m (aw_iadd (pc := 27) dJ7_signedHashCode_27) ?_
      refine sp_m (aw_istore_n (lv' := [(0, .int ((31 * s1v.1) + ((gI h0 a1 (ix s1v.2)) &&& 255))), (1, .ref a1), (4, .int (a2 + a3)), (5, .int s1v.2)]) (pc := 28) dJ7_signedHashCode_28 rfl hl (by decide) rfl) (sp_all fun ls hl => ?_)
      refine sp_m (aw_iinc (v := s1v.2 + 1) (lv' := [(5, .int (s1v.2 + 1)), (0, .int ((31 * s1v.1) + ((gI h0 a1 (ix s1v.2)) &&& 255))), (1, .ref a1), (4, .int (a2 + a3))]) (pc := 29) dJ7_signedHashCode_29 hl (k := 3) rfl rfl (by decide) rfl) (sp_all fun ls hl => ?_)
      refine sp_m (aw_goto (tgt := 8) (pc := 32) dJ7_signedHashCode_32 (by decide)) ?_
      exact sp_r fun hz => hz ls (lv_sub hl [1, 2, 3, 0] rfl)
  · have hl : lv_has ls 6 [(0, .int r1v)] := hl
    show SP _ _ (AW (KJ7_signedHashCode l D h0 v) h0 35 ls [])
    refine sp_m (aw_iload_n (pc := 35) dJ7_signedHashCode_35 rfl (lv_at hl 0 rfl)) ?_
    exact sp_r fun hz => aw_iret (congrArg (fun z => (z, h0)) hz) rfl rfl rfl (pc := 36) dJ7_signedHashCode_36
theorem mok_J7_vectorizedHashCode : mOK yJ7_vectorizedHashCode 5 := ⟨⟨by decide +kernel, by decide +kernel⟩, by decide +kernel⟩
abbrev KJ7_vectorizedHashCode (l : Launch) (D : DD) (h0 hE : AH) (v : Int32) : KT := (l, yJ7_vectorizedHashCode, cJ7_vectorizedHashCode, 5, (some .int), RJ7, 2, D, h0, hE, .inl (some (.int v)), false, [])
theorem metJ7_vectorizedHashCode (l : Launch) (D : DD) {a0 : Nat} {a1 : Int32} {a2 : Int32} {a3 : Int32} {a4 : Int32} {h0 : AH} {hE : AH} {v : Int32} (hr : fJ7_vectorizedHashCode a0 a1 a2 a3 a4 h0 = some (v, hE)) : AMet (KJ7_vectorizedHashCode l D h0 hE v) [.ref a0, .int a1, .int a2, .int a3, .int a4] := by
  refine AMet.of (K := (KJ7_vectorizedHashCode l D h0 hE v)) rfl ⟨_, rfl⟩ rfl rfl rfl (Nat.le_of_ble_eq_true rfl) (fun ls hl => ?_)
  have hl : lv_has ls 5 [(0, .ref a0), (1, .int a1), (2, .int a2), (3, .int a3), (4, .int a4)] := hl
  suffices hsp : SP (fJ7_vectorizedHashCode a0 a1 a2 a3 a4 h0) (fun z => z = (v, hE)) (AW (KJ7_vectorizedHashCode l D h0 hE v) h0 0 ls []) from hsp _ hr rfl
  unfold fJ7_vectorizedHashCode
  refine sp_m (aw_iload (pc := 0) dJ7_vectorizedHashCode_0 (lv_at hl 4 rfl)) ?_
  refine sp_if (fun c1 => ?_) (fun c1 => ?_)
  · refine sp_m (aw_tableOut (tgt := 129) (pc := 2) dJ7_vectorizedHashCode_2 (sw_out rfl rfl c1) (by decide)) ?_
    exact sp_n
  refine sp_if (fun c2 => ?_) (fun c2 => ?_)
  · refine sp_m (aw_tableIn (tgt := 44) (pc := 2) dJ7_vectorizedHashCode_2 (by rw [c2]; decide) (by rw [c2]; decide) (by rw [c2] <;> rfl) (by decide)) ?_
    refine sp_m (aw_iload_n (pc := 44) dJ7_vectorizedHashCode_44 rfl (lv_at hl 3 rfl)) ?_
    refine sp_m (aw_aload_n (pc := 45) dJ7_vectorizedHashCode_45 rfl (lv_at hl 0 rfl)) ?_
    refine sp_g fun s3 => ?_
    refine sp_m (aw_castB s3 q660 (pc := 46) dJ7_vectorizedHashCode_46) ?_
    refine sp_m (aw_iload_n (pc := 49) dJ7_vectorizedHashCode_49 rfl (lv_at hl 1 rfl)) ?_
    refine sp_m (aw_iload_n (pc := 50) dJ7_vectorizedHashCode_50 rfl (lv_at hl 2 rfl)) ?_
    refine sp_b fun p4 ep4 => ?_
    refine sp_m (G' := AW (KJ7_vectorizedHashCode l D h0 hE v) h0 (54) ls (.int p4 :: [])) (fun kk => aw_callS (As := [.int a3, .ref a0, .int a1, .int a2]) (metJ7_signedHashCode _ _ ep4) mok_J7_signedHashCode q661 q662 q131 q663 (Nat.le_of_ble_eq_true rfl) (Nat.le_of_ble_eq_true rfl) rfl hl.1 rfl (Nat.le_of_ble_eq_true rfl) (pc := 51) dJ7_vectorizedHashCode_51 kk) ?_
    refine sp_m (aw_goto (tgt := 157) (pc := 54) dJ7_vectorizedHashCode_54 (by decide)) ?_
    exact sp_r fun hz => aw_iret hz rfl rfl rfl (pc := 157) dJ7_vectorizedHashCode_157
  refine sp_if (fun c5 => ?_) (fun c5 => ?_)
  · refine sp_m (aw_tableIn (tgt := 57) (pc := 2) dJ7_vectorizedHashCode_2 (by rw [c5]; decide) (by rw [c5]; decide) (by rw [c5] <;> rfl) (by decide)) ?_
    exact sp_n
  refine sp_if (fun c6 => ?_) (fun c6 => ?_)
  · refine sp_m (aw_tableIn (tgt := 129) (pc := 2) dJ7_vectorizedHashCode_2 (by rw [c6]; decide) (by rw [c6]; decide) (by rw [c6] <;> rfl) (by decide)) ?_
    exact sp_n
  refine sp_if (fun c7 => ?_) (fun c7 => ?_)
  · refine sp_m (aw_tableIn (tgt := 129) (pc := 2) dJ7_vectorizedHashCode_2 (by rw [c7]; decide) (by rw [c7]; decide) (by rw [c7] <;> rfl) (by decide)) ?_
    exact sp_n
  refine sp_if (fun c8 => ?_) (fun c8 => ?_)
  · refine sp_m (aw_tableIn (tgt := 90) (pc := 2) dJ7_vectorizedHashCode_2 (by rw [c8]; decide) (by rw [c8]; decide) (by rw [c8] <;> rfl) (by decide)) ?_
    exact sp_n
  refine sp_if (fun c9 => ?_) (fun c9 => ?_)
  · refine sp_m (aw_tableIn (tgt := 103) (pc := 2) dJ7_vectorizedHashCode_2 (by rw [c9]; decide) (by rw [c9]; decide) (by rw [c9] <;> rfl) (by decide)) ?_
    exact sp_n
  refine sp_if (fun c10 => ?_) (fun c10 => ?_)
  · refine sp_m (aw_tableIn (tgt := 116) (pc := 2) dJ7_vectorizedHashCode_2 (by rw [c10]; decide) (by rw [c10]; decide) (by rw [c10] <;> rfl) (by decide)) ?_
    exact sp_n
  exact sp_n
theorem mok_J6_hashCode : mOK yJ6_hashCode 1 := ⟨⟨by decide +kernel, by decide +kernel⟩, by decide +kernel⟩
abbrev KJ6_hashCode (l : Launch) (D : DD) (h0 hE : AH) (v : Int32) : KT := (l, yJ6_hashCode, cJ6_hashCode, 1, (some .int), RJ6, 3, D, h0, hE, .inl (some (.int v)), false, [])
theorem metJ6_hashCode (l : Launch) (D : DD) {a0 : Nat} {h0 : AH} {hE : AH} {v : Int32} (hr : fJ6_hashCode a0 h0 = some (v, hE)) : AMet (KJ6_hashCode l D h0 hE v) [.ref a0] := by
  refine AMet.of (K := (KJ6_hashCode l D h0 hE v)) rfl ⟨_, rfl⟩ rfl rfl rfl (Nat.le_of_ble_eq_true rfl) (fun ls hl => ?_)
  have hl : lv_has ls 1 [(0, .ref a0)] := hl
  suffices hsp : SP (fJ6_hashCode a0 h0) (fun z => z = (v, hE)) (AW (KJ6_hashCode l D h0 hE v) h0 0 ls []) from hsp _ hr rfl
  unfold fJ6_hashCode
  refine sp_m (aw_aload_n (pc := 0) dJ6_hashCode_0 rfl (lv_at hl 0 rfl)) ?_
  refine sp_g fun s1 => ?_
  refine sp_m (G' := AW (KJ6_hashCode l D h0 hE v) h0 (2) ls (.int (Int32.ofNat (gN h0 a0)) :: [])) (fun kk => by rcases s1 with z | z; exact aw_alen (t := 1) z (by decide) rfl (pc := 1) dJ6_hashCode_1 kk; exact aw_alenK z rfl (pc := 1) dJ6_hashCode_1 kk) ?_
  refine sp_if (fun c2 => ?_) (fun c2 => ?_)
  · refine sp_m (aw_lookup (tgt := 28) (pc := 2) dJ6_hashCode_2 (by decide) (by rw [c2] <;> rfl) (by decide)) ?_
    refine sp_m (aw_iconst (v := 0) (pc := 28) dJ6_hashCode_28 rfl) ?_
    refine sp_m (aw_goto (tgt := 51) (pc := 29) dJ6_hashCode_29 (by decide)) ?_
    exact sp_r fun hz => aw_iret hz rfl rfl rfl (pc := 51) dJ6_hashCode_51
  refine sp_if (fun c3 => ?_) (fun c3 => ?_)
  · refine sp_m (aw_lookup (tgt := 32) (pc := 2) dJ6_hashCode_2 (by decide) (by rw [c3] <;> rfl) (by decide)) ?_
    refine sp_m (aw_aload_n (pc := 32) dJ6_hashCode_32 rfl (lv_at hl 0 rfl)) ?_
    refine sp_m (aw_iconst (v := 0) (pc := 33) dJ6_hashCode_33 rfl) ?_
    refine sp_g fun i4 => ?_
    refine sp_m (G' := AW (KJ6_hashCode l D h0 hE v) h0 (35) ls (.int (gI h0 a0 (ix 0)) :: [])) (fun kk => by rcases s1 with z | z; exact aw_bald z i4 (pc := 34) dJ6_hashCode_34 kk; exact aw_baldK z i4 (pc := 34) dJ6_hashCode_34 kk) ?_
    refine sp_m (aw_sipush (v := 255) (pc := 35) dJ6_hashCode_35 rfl) ?_
    refine sp_m (aw_iand (pc := 38) dJ6_hashCode_38) ?_
    refine sp_m (aw_goto (tgt := 51) (pc := 39) dJ6_hashCode_39 (by decide)) ?_
    exact sp_r fun hz => aw_iret hz rfl rfl rfl (pc := 51) dJ6_hashCode_51
  refine sp_m (aw_lookup (tgt := 42) (off := 40) (pc := 2) dJ6_hashCode_2 (by decide) (Eq.trans (lv_osw c2 rfl) (Eq.trans (lv_osw c3 rfl) rfl)) (by decide)) ?_
  refine sp_m (aw_aload_n (pc := 42) dJ6_hashCode_42 rfl (lv_at hl 0 rfl)) ?_
  refine sp_m (aw_iconst (v := 0) (pc := 43) dJ6_hashCode_43 rfl) ?_
  refine sp_m (aw_aload_n (pc := 44) dJ6_hashCode_44 rfl (lv_at hl 0 rfl)) ?_
  refine sp_m (G' := AW (KJ6_hashCode l D h0 hE v) h0 (46) ls (.int (Int32.ofNat (gN h0 a0)) :: .int 0 :: .ref a0 :: [])) (fun kk => by rcases s1 with z | z; exact aw_alen (t := 1) z (by decide) rfl (pc := 45) dJ6_hashCode_45 kk; exact aw_alenK z rfl (pc := 45) dJ6_hashCode_45 kk) ?_
  refine sp_m (aw_iconst (v := 0) (pc := 46) dJ6_hashCode_46 rfl) ?_
  refine sp_m (aw_iconst (v := 4) (pc := 47) dJ6_hashCode_47 rfl) ?_
  refine sp_b fun p5 ep5 => ?_
  refine sp_m (G' := AW (KJ6_hashCode l D h0 hE v) p5.2 (51) ls (.int p5.1 :: [])) (fun kk => aw_callS (As := [.ref a0, .int 0, .int (Int32.ofNat (gN h0 a0)), .int 0, .int 4]) (metJ7_vectorizedHashCode _ _ ep5) mok_J7_vectorizedHashCode q657 q658 q131 q659 (Nat.le_of_ble_eq_true rfl) (Nat.le_of_ble_eq_true rfl) rfl hl.1 rfl (Nat.le_of_ble_eq_true rfl) (pc := 48) dJ6_hashCode_48 kk) ?_
  exact sp_r fun hz => aw_iret hz rfl rfl rfl (pc := 51) dJ6_hashCode_51
theorem mok_J3_hashCode : mOK yJ3_hashCode 0 := ⟨⟨by decide +kernel, by decide +kernel⟩, by decide +kernel⟩
abbrev KJ3_hashCode (l : Launch) (D : DD) (h0 hE : AH) (v : Int32) : KT := (l, yJ3_hashCode, cJ3_hashCode, 2, (some .int), RJ3, 4, D, h0, hE, .inl (some (.int v)), false, [])
theorem metJ3_hashCode (l : Launch) (D : DD) {a0 : Nat} {h0 : AH} {hE : AH} {v : Int32} (hr : fJ3_hashCode a0 h0 = some (v, hE)) : AMet (KJ3_hashCode l D h0 hE v) [.ref a0] := by
  refine AMet.of (K := (KJ3_hashCode l D h0 hE v)) rfl ⟨_, rfl⟩ rfl rfl rfl (Nat.le_of_ble_eq_true rfl) (fun ls hl => ?_)
  have hl : lv_has ls 2 [(0, .ref a0)] := hl
  suffices hsp : SP (fJ3_hashCode a0 h0) (fun z => z = (v, hE)) (AW (KJ3_hashCode l D h0 hE v) h0 0 ls []) from hsp _ hr rfl
  unfold fJ3_hashCode
  refine sp_m (aw_aload_n (pc := 0) dJ3_hashCode_0 rfl (lv_at hl 0 rfl)) ?_
  refine sp_g fun s1 => ?_
  refine sp_m (aw_get (k := 2) okJ3 s1 (by decide) q619 (Or.inl rfl) rfl (pc := 1) dJ3_hashCode_1) ?_
  refine sp_m (aw_istore_n (lv' := [(1, .int (gI h0 a0 2)), (0, .ref a0)]) (pc := 4) dJ3_hashCode_4 rfl hl (by decide) rfl) (sp_all fun ls hl => ?_)
  refine sp_m (aw_iload_n (pc := 5) dJ3_hashCode_5 rfl (lv_at hl 0 rfl)) ?_
  refine sp_if (fun c2 => ?_) (fun c2 => ?_)
  · refine sp_m (aw_if_ne_t (tgt := 58) (pc := 6) dJ3_hashCode_6 (by decide) c2) ?_
    refine sp_m (aw_iload_n (pc := 58) dJ3_hashCode_58 rfl (lv_at hl 0 rfl)) ?_
    exact sp_r fun hz => aw_iret hz rfl rfl rfl (pc := 59) dJ3_hashCode_59
  · refine sp_m (aw_if_ne_f (tgt := 58) (pc := 6) dJ3_hashCode_6 (by decide) (Decidable.not_not.mp c2)) ?_
    refine sp_m (aw_aload_n (pc := 9) dJ3_hashCode_9 rfl (lv_at hl 1 rfl)) ?_
    refine sp_m (aw_get (k := 3) okJ3 s1 (by decide) q620 (Or.inl rfl) rfl (pc := 10) dJ3_hashCode_10) ?_
    refine sp_if (fun c3 => ?_) (fun c3 => ?_)
    · refine sp_m (aw_if_ne_t (tgt := 58) (pc := 13) dJ3_hashCode_13 (by decide) c3) ?_
      refine sp_m (aw_iload_n (pc := 58) dJ3_hashCode_58 rfl (lv_at hl 0 rfl)) ?_
      exact sp_r fun hz => aw_iret hz rfl rfl rfl (pc := 59) dJ3_hashCode_59
    · refine sp_m (aw_if_ne_f (tgt := 58) (pc := 13) dJ3_hashCode_13 (by decide) (Decidable.not_not.mp c3)) ?_
      refine sp_m (aw_aload_n (pc := 16) dJ3_hashCode_16 rfl (lv_at hl 1 rfl)) ?_
      refine sp_b fun p4 ep4 => ?_
      refine sp_m (G' := AW (KJ3_hashCode l D h0 hE v) h0 (20) ls (.int p4 :: [])) (fun kk => by rcases (Or.inl s1) with z | z; exact aw_callV (As := []) (metJ3_isLatin1 _ _ ep4) (rcv_o okJ3 z) rfl mok_J3_isLatin1 q650 q651 q652 q127 q653 (Nat.le_of_ble_eq_true rfl) (Nat.le_of_ble_eq_true rfl) rfl hl.1 rfl (Nat.le_of_ble_eq_true rfl) (pc := 17) dJ3_hashCode_17 kk; exact aw_callV (As := []) (metJ3_isLatin1 _ _ ep4) (rcv_k z) rfl mok_J3_isLatin1 q650 q651 q652 q127 q653 (Nat.le_of_ble_eq_true rfl) (Nat.le_of_ble_eq_true rfl) rfl hl.1 rfl (Nat.le_of_ble_eq_true rfl) (pc := 17) dJ3_hashCode_17 kk) ?_
      refine sp_if (fun c5 => ?_) (fun c5 => ?_)
      · refine sp_m (aw_if_eq_t (tgt := 33) (pc := 20) dJ3_hashCode_20 (by decide) c5) ?_
        refine sp_m (aw_aload_n (pc := 33) dJ3_hashCode_33 rfl (lv_at hl 1 rfl)) ?_
        refine sp_b fun x6 ex6 => ?_
        refine sp_m (G' := AW (KJ3_hashCode l D h0 hE v) h0 (37) ls (.ref x6 :: [])) (fun kk => by rcases (Or.inl s1) with z | z; exact aw_get (k := 0) okJ3 z (by decide) q617 (Or.inl rfl) (congrArg va_rf ex6) (pc := 34) dJ3_hashCode_34 kk; exact aw_getKv z ex6 q617 (pc := 34) dJ3_hashCode_34 kk) ?_
        exact sp_n
      · refine sp_m (aw_if_eq_f (tgt := 33) (pc := 20) dJ3_hashCode_20 (by decide) c5) ?_
        refine sp_m (aw_aload_n (pc := 23) dJ3_hashCode_23 rfl (lv_at hl 1 rfl)) ?_
        refine sp_b fun x7 ex7 => ?_
        refine sp_m (G' := AW (KJ3_hashCode l D h0 hE v) h0 (27) ls (.ref x7 :: [])) (fun kk => by rcases (Or.inl s1) with z | z; exact aw_get (k := 0) okJ3 z (by decide) q617 (Or.inl rfl) (congrArg va_rf ex7) (pc := 24) dJ3_hashCode_24 kk; exact aw_getKv z ex7 q617 (pc := 24) dJ3_hashCode_24 kk) ?_
        refine sp_b fun p8 ep8 => ?_
        refine sp_m (G' := AW (KJ3_hashCode l D h0 hE v) p8.2 (30) ls (.int p8.1 :: [])) (fun kk => aw_callS (As := [.ref x7]) (metJ6_hashCode _ _ ep8) mok_J6_hashCode q654 q655 q130 q656 (Nat.le_of_ble_eq_true rfl) (Nat.le_of_ble_eq_true rfl) rfl hl.1 rfl (Nat.le_of_ble_eq_true rfl) (pc := 27) dJ3_hashCode_27 kk) ?_
        refine sp_m (aw_goto (tgt := 40) (pc := 30) dJ3_hashCode_30 (by decide)) ?_
        refine sp_m (aw_istore_n (lv' := [(1, .int p8.1), (0, .ref a0)]) (pc := 40) dJ3_hashCode_40 rfl hl (by decide) rfl) (sp_all fun ls hl => ?_)
        refine sp_m (aw_iload_n (pc := 41) dJ3_hashCode_41 rfl (lv_at hl 0 rfl)) ?_
        refine sp_if (fun c9 => ?_) (fun c9 => ?_)
        · refine sp_m (aw_if_ne_t (tgt := 53) (pc := 42) dJ3_hashCode_42 (by decide) c9) ?_
          refine sp_m (aw_aload_n (pc := 53) dJ3_hashCode_53 rfl (lv_at hl 1 rfl)) ?_
          refine sp_m (aw_iload_n (pc := 54) dJ3_hashCode_54 rfl (lv_at hl 0 rfl)) ?_
          refine sp_g fun s10 => ?_
          refine sp_t fun h11 eh110 => ?_
          have eh11 : gS h11 = gS p8.2 := by rw [eh110]; rfl
          refine sp_m (aw_put (k := 2) okJ3 opJ3 s10 (by decide) q619 (Or.inl rfl) (Or.inl rfl) (hasV_I' eh110) rfl rfl (pc := 55) dJ3_hashCode_55) ?_
          refine sp_m (aw_iload_n (pc := 58) dJ3_hashCode_58 rfl (lv_at hl 0 rfl)) ?_
          exact sp_r fun hz => aw_iret hz rfl rfl rfl (pc := 59) dJ3_hashCode_59
        · refine sp_m (aw_if_ne_f (tgt := 53) (pc := 42) dJ3_hashCode_42 (by decide) (Decidable.not_not.mp c9)) ?_
          refine sp_m (aw_aload_n (pc := 45) dJ3_hashCode_45 rfl (lv_at hl 1 rfl)) ?_
          refine sp_m (aw_iconst (v := 1) (pc := 46) dJ3_hashCode_46 rfl) ?_
          refine sp_g fun s12 => ?_
          refine sp_t fun h13 eh130 => ?_
          have eh13 : gS h13 = gS p8.2 := by rw [eh130]; rfl
          refine sp_m (aw_put (k := 3) okJ3 opJ3 s12 (by decide) q620 (Or.inl rfl) (Or.inl rfl) (hasV_I' eh130) (nar_b (Or.inr rfl)) (fit_b (Or.inr rfl)) (pc := 47) dJ3_hashCode_47) ?_
          refine sp_m (aw_goto (tgt := 58) (pc := 50) dJ3_hashCode_50 (by decide)) ?_
          refine sp_m (aw_iload_n (pc := 58) dJ3_hashCode_58 rfl (lv_at hl 0 rfl)) ?_
          exact sp_r fun hz => aw_iret hz rfl rfl rfl (pc := 59) dJ3_hashCode_59
theorem mok_X2_mustName : mOK yX2_mustName 0 := ⟨⟨by decide +kernel, by decide +kernel⟩, by decide +kernel⟩
abbrev KX2_mustName (l : Launch) (D : DD) (h0 : AH) (o : (AH) ⊕ (Nat × AH)) : KT := (l, yX2_mustName, cX2_mustName, 3, none, RX2, 5, D, h0, tE (fun p : AH => p) o, tV (fun _ : AH => none) "ElephantLine$Refused" o, true, [])
theorem metX2_mustName (l : Launch) (D : DD) {a0 : Nat} {h0 : AH} {o : (AH) ⊕ (Nat × AH)} (hr : fX2_mustName a0 h0 = some o) : AMetX (KX2_mustName l D h0 o) [.ref a0] := by
  refine AMetX.of (K := (KX2_mustName l D h0 o)) rfl rfl rfl rfl (Nat.le_of_ble_eq_true rfl) (fun ls hl => ?_)
  have hl : lv_has ls 3 [(0, .ref a0)] := hl
  suffices hsp : SP (fX2_mustName a0 h0) (fun z => z = o) (AW (KX2_mustName l D h0 o) h0 0 ls []) from hsp _ hr rfl
  unfold fX2_mustName
  refine sp_m (aw_aload_n (pc := 0) dX2_mustName_0 rfl (lv_at hl 0 rfl)) ?_
  refine sp_g fun s1 => ?_
  refine sp_m (aw_get (k := 5) okX2 s1 (by decide) q240 (Or.inl rfl) rfl (pc := 1) dX2_mustName_1) ?_
  refine sp_m (aw_iconst (v := 2) (pc := 4) dX2_mustName_4 rfl) ?_
  refine sp_if (fun c2 => ?_) (fun c2 => ?_)
  · refine sp_m (aw_icmp_eq_t (tgt := 14) (pc := 5) dX2_mustName_5 (by decide) c2) ?_
    refine sp_m (aw_aload_n (pc := 14) dX2_mustName_14 rfl (lv_at hl 0 rfl)) ?_
    refine sp_b fun x3 ex3 => ?_
    refine sp_m (aw_get (k := 8) okX2 s1 (by decide) q243 (Or.inl rfl) (congrArg va_rf ex3) (pc := 15) dX2_mustName_15) ?_
    refine sp_m (aw_astore_n (lv' := [(1, .ref x3), (0, .ref a0)]) (pc := 18) dX2_mustName_18 rfl hl (by decide) rfl) (sp_all fun ls hl => ?_)
    refine sp_m (aw_iconst (v := (-1)) (pc := 19) dX2_mustName_19 rfl) ?_
    refine sp_m (aw_istore_n (lv' := [(2, .int (-1)), (1, .ref x3), (0, .ref a0)]) (pc := 20) dX2_mustName_20 rfl hl (by decide) rfl) (sp_all fun ls hl => ?_)
    refine sp_m (aw_aload_n (pc := 21) dX2_mustName_21 rfl (lv_at hl 1 rfl)) ?_
    refine sp_g fun s5 => ?_
    refine sp_b fun p4 ep4 => ?_
    refine sp_m (G' := AW (KX2_mustName l D h0 o) p4.2 (25) ls (.int p4.1 :: [])) (fun kk => by rcases s5 with z | z; exact aw_callV (As := []) (metJ3_hashCode _ _ ep4) (rcv_o okJ3 z) rfl mok_J3_hashCode q646 q647 q648 q127 q649 (Nat.le_of_ble_eq_true rfl) (Nat.le_of_ble_eq_true rfl) rfl hl.1 rfl (Nat.le_of_ble_eq_true rfl) (pc := 22) dX2_mustName_22 kk; exact aw_callV (As := []) (metJ3_hashCode _ _ ep4) (rcv_k z) rfl mok_J3_hashCode q646 q647 q648 q127 q649 (Nat.le_of_ble_eq_true rfl) (Nat.le_of_ble_eq_true rfl) rfl hl.1 rfl (Nat.le_of_ble_eq_true rfl) (pc := 22) dX2_mustName_22 kk) ?_
    have hj165_1 : ∀ j6 : Int32, ∀ ls : Array Slot, lv_has ls 3 [(0, .ref a0), (2, .int j6)] → SP (X2_mustName_j165 a0 p4 j6) (fun z => z = o) (AW (KX2_mustName l D h0 o) p4.2 165 ls ([])) := by
      intro j6 ls hl
      unfold X2_mustName_j165
      refine sp_m (aw_iload_n (pc := 165) dX2_mustName_165 rfl (lv_at hl 1 rfl)) ?_
      refine sp_if (fun c7 => ?_) (fun c7 => ?_)
      · refine sp_m (aw_tableOut (tgt := 210) (pc := 166) dX2_mustName_166 (sw_out rfl rfl c7) (by decide)) ?_
        exact sp_r fun hz => aw_vretT hz rfl rfl rfl (pc := 210) dX2_mustName_210
      refine sp_if (fun c8 => ?_) (fun c8 => ?_)
      · refine sp_m (aw_tableIn (tgt := 204) (pc := 166) dX2_mustName_166 (by rw [c8]; decide) (by rw [c8]; decide) (by rw [c8] <;> rfl) (by decide)) ?_
        refine sp_m (aw_aload_n (pc := 204) dX2_mustName_204 rfl (lv_at hl 0 rfl)) ?_
        refine sp_m (aw_iconst (v := 1) (pc := 205) dX2_mustName_205 rfl) ?_
        refine sp_g fun s10 => ?_
        refine sp_b fun p9 ep9 => ?_
        refine sp_b fun x11 ex11 => ?_
        refine sp_m (G' := AW (KX2_mustName l D h0 o) p9.2 (209) ls (.ref x11 :: [])) (fun kk => aw_callV (As := [.int 1]) (metX2_fail _ _ ep9) (rcv_o okX2 s10) rfl mok_X2_fail q638 q640 qs7 q117 q641 (Nat.le_of_ble_eq_true rfl) (Nat.le_of_ble_eq_true rfl) rfl hl.1 rfl (Nat.le_of_ble_eq_true rfl) (pc := 206) dX2_mustName_206 (kk_ref ex11 kk)) ?_
        refine sp_g fun s12 => ?_
        exact sp_r fun hz => aw_throwT okX3 s12 hz rfl rfl rfl rfl (pc := 209) dX2_mustName_209
      refine sp_if (fun c13 => ?_) (fun c13 => ?_)
      · refine sp_m (aw_tableIn (tgt := 204) (pc := 166) dX2_mustName_166 (by rw [c13]; decide) (by rw [c13]; decide) (by rw [c13] <;> rfl) (by decide)) ?_
        refine sp_m (aw_aload_n (pc := 204) dX2_mustName_204 rfl (lv_at hl 0 rfl)) ?_
        refine sp_m (aw_iconst (v := 1) (pc := 205) dX2_mustName_205 rfl) ?_
        refine sp_g fun s15 => ?_
        refine sp_b fun p14 ep14 => ?_
        refine sp_b fun x16 ex16 => ?_
        refine sp_m (G' := AW (KX2_mustName l D h0 o) p14.2 (209) ls (.ref x16 :: [])) (fun kk => aw_callV (As := [.int 1]) (metX2_fail _ _ ep14) (rcv_o okX2 s15) rfl mok_X2_fail q638 q640 qs7 q117 q641 (Nat.le_of_ble_eq_true rfl) (Nat.le_of_ble_eq_true rfl) rfl hl.1 rfl (Nat.le_of_ble_eq_true rfl) (pc := 206) dX2_mustName_206 (kk_ref ex16 kk)) ?_
        refine sp_g fun s17 => ?_
        exact sp_r fun hz => aw_throwT okX3 s17 hz rfl rfl rfl rfl (pc := 209) dX2_mustName_209
      refine sp_if (fun c18 => ?_) (fun c18 => ?_)
      · refine sp_m (aw_tableIn (tgt := 204) (pc := 166) dX2_mustName_166 (by rw [c18]; decide) (by rw [c18]; decide) (by rw [c18] <;> rfl) (by decide)) ?_
        refine sp_m (aw_aload_n (pc := 204) dX2_mustName_204 rfl (lv_at hl 0 rfl)) ?_
        refine sp_m (aw_iconst (v := 1) (pc := 205) dX2_mustName_205 rfl) ?_
        refine sp_g fun s20 => ?_
        refine sp_b fun p19 ep19 => ?_
        refine sp_b fun x21 ex21 => ?_
        refine sp_m (G' := AW (KX2_mustName l D h0 o) p19.2 (209) ls (.ref x21 :: [])) (fun kk => aw_callV (As := [.int 1]) (metX2_fail _ _ ep19) (rcv_o okX2 s20) rfl mok_X2_fail q638 q640 qs7 q117 q641 (Nat.le_of_ble_eq_true rfl) (Nat.le_of_ble_eq_true rfl) rfl hl.1 rfl (Nat.le_of_ble_eq_true rfl) (pc := 206) dX2_mustName_206 (kk_ref ex21 kk)) ?_
        refine sp_g fun s22 => ?_
        exact sp_r fun hz => aw_throwT okX3 s22 hz rfl rfl rfl rfl (pc := 209) dX2_mustName_209
      refine sp_if (fun c23 => ?_) (fun c23 => ?_)
      · refine sp_m (aw_tableIn (tgt := 204) (pc := 166) dX2_mustName_166 (by rw [c23]; decide) (by rw [c23]; decide) (by rw [c23] <;> rfl) (by decide)) ?_
        refine sp_m (aw_aload_n (pc := 204) dX2_mustName_204 rfl (lv_at hl 0 rfl)) ?_
        refine sp_m (aw_iconst (v := 1) (pc := 205) dX2_mustName_205 rfl) ?_
        refine sp_g fun s25 => ?_
        refine sp_b fun p24 ep24 => ?_
        refine sp_b fun x26 ex26 => ?_
        refine sp_m (G' := AW (KX2_mustName l D h0 o) p24.2 (209) ls (.ref x26 :: [])) (fun kk => aw_callV (As := [.int 1]) (metX2_fail _ _ ep24) (rcv_o okX2 s25) rfl mok_X2_fail q638 q640 qs7 q117 q641 (Nat.le_of_ble_eq_true rfl) (Nat.le_of_ble_eq_true rfl) rfl hl.1 rfl (Nat.le_of_ble_eq_true rfl) (pc := 206) dX2_mustName_206 (kk_ref ex26 kk)) ?_
        refine sp_g fun s27 => ?_
        exact sp_r fun hz => aw_throwT okX3 s27 hz rfl rfl rfl rfl (pc := 209) dX2_mustName_209
      refine sp_if (fun c28 => ?_) (fun c28 => ?_)
      · refine sp_m (aw_tableIn (tgt := 204) (pc := 166) dX2_mustName_166 (by rw [c28]; decide) (by rw [c28]; decide) (by rw [c28] <;> rfl) (by decide)) ?_
        refine sp_m (aw_aload_n (pc := 204) dX2_mustName_204 rfl (lv_at hl 0 rfl)) ?_
        refine sp_m (aw_iconst (v := 1) (pc := 205) dX2_mustName_205 rfl) ?_
        refine sp_g fun s30 => ?_
        refine sp_b fun p29 ep29 => ?_
        refine sp_b fun x31 ex31 => ?_
        refine sp_m (G' := AW (KX2_mustName l D h0 o) p29.2 (209) ls (.ref x31 :: [])) (fun kk => aw_callV (As := [.int 1]) (metX2_fail _ _ ep29) (rcv_o okX2 s30) rfl mok_X2_fail q638 q640 qs7 q117 q641 (Nat.le_of_ble_eq_true rfl) (Nat.le_of_ble_eq_true rfl) rfl hl.1 rfl (Nat.le_of_ble_eq_true rfl) (pc := 206) dX2_mustName_206 (kk_ref ex31 kk)) ?_
        refine sp_g fun s32 => ?_
        exact sp_r fun hz => aw_throwT okX3 s32 hz rfl rfl rfl rfl (pc := 209) dX2_mustName_209
      refine sp_if (fun c33 => ?_) (fun c33 => ?_)
      · refine sp_m (aw_tableIn (tgt := 204) (pc := 166) dX2_mustName_166 (by rw [c33]; decide) (by rw [c33]; decide) (by rw [c33] <;> rfl) (by decide)) ?_
        refine sp_m (aw_aload_n (pc := 204) dX2_mustName_204 rfl (lv_at hl 0 rfl)) ?_
        refine sp_m (aw_iconst (v := 1) (pc := 205) dX2_mustName_205 rfl) ?_
        refine sp_g fun s35 => ?_
        refine sp_b fun p34 ep34 => ?_
        refine sp_b fun x36 ex36 => ?_
        refine sp_m (G' := AW (KX2_mustName l D h0 o) p34.2 (209) ls (.ref x36 :: [])) (fun kk => aw_callV (As := [.int 1]) (metX2_fail _ _ ep34) (rcv_o okX2 s35) rfl mok_X2_fail q638 q640 qs7 q117 q641 (Nat.le_of_ble_eq_true rfl) (Nat.le_of_ble_eq_true rfl) rfl hl.1 rfl (Nat.le_of_ble_eq_true rfl) (pc := 206) dX2_mustName_206 (kk_ref ex36 kk)) ?_
        refine sp_g fun s37 => ?_
        exact sp_r fun hz => aw_throwT okX3 s37 hz rfl rfl rfl rfl (pc := 209) dX2_mustName_209
      exact sp_n
    refine sp_if (fun c38 => ?_) (fun c38 => ?_)
    · refine sp_m (aw_lookup (tgt := 154) (pc := 25) dX2_mustName_25 (by decide) (by rw [c38] <;> rfl) (by decide)) ?_
      refine sp_m (aw_aload_n (pc := 154) dX2_mustName_154 rfl (lv_at hl 1 rfl)) ?_
      refine sp_b fun x39 ex39 => ?_
      refine sp_m (aw_ldcS sk_X2_100 ex39 (pc := 155) dX2_mustName_155) ?_
      refine sp_g fun s41 => ?_
      refine sp_b fun p40 ep40 => ?_
      refine sp_m (G' := AW (KX2_mustName l D h0 o) p4.2 (160) ls (.int p40 :: [])) (fun kk => by rcases s41 with z | z; exact aw_callV (As := [.ref x39]) (metJ3_equals _ _ ep40) (rcv_o okJ3 z) rfl mok_J3_equals q700 q701 q702 q127 q703 (Nat.le_of_ble_eq_true rfl) (Nat.le_of_ble_eq_true rfl) rfl hl.1 rfl (Nat.le_of_ble_eq_true rfl) (pc := 157) dX2_mustName_157 kk; exact aw_callV (As := [.ref x39]) (metJ3_equals _ _ ep40) (rcv_k z) rfl mok_J3_equals q700 q701 q702 q127 q703 (Nat.le_of_ble_eq_true rfl) (Nat.le_of_ble_eq_true rfl) rfl hl.1 rfl (Nat.le_of_ble_eq_true rfl) (pc := 157) dX2_mustName_157 kk) ?_
      refine sp_if (fun c42 => ?_) (fun c42 => ?_)
      · refine sp_m (aw_if_eq_t (tgt := 165) (pc := 160) dX2_mustName_160 (by decide) c42) ?_
        exact hj165_1 (-1) ls (lv_sub hl [2, 0] rfl)
      · refine sp_m (aw_if_eq_f (tgt := 165) (pc := 160) dX2_mustName_160 (by decide) c42) ?_
        refine sp_m (aw_iconst (v := 5) (pc := 163) dX2_mustName_163 rfl) ?_
        refine sp_m (aw_istore_n (lv' := [(2, .int 5), (1, .ref x3), (0, .ref a0)]) (pc := 164) dX2_mustName_164 rfl hl (by decide) rfl) (sp_all fun ls hl => ?_)
        exact hj165_1 5 ls (lv_sub hl [2, 0] rfl)
    refine sp_if (fun c43 => ?_) (fun c43 => ?_)
    · refine sp_m (aw_lookup (tgt := 126) (pc := 25) dX2_mustName_25 (by decide) (by rw [c43] <;> rfl) (by decide)) ?_
      refine sp_m (aw_aload_n (pc := 126) dX2_mustName_126 rfl (lv_at hl 1 rfl)) ?_
      refine sp_b fun x44 ex44 => ?_
      refine sp_m (aw_ldcS sk_X2_96 ex44 (pc := 127) dX2_mustName_127) ?_
      refine sp_g fun s46 => ?_
      refine sp_b fun p45 ep45 => ?_
      refine sp_m (G' := AW (KX2_mustName l D h0 o) p4.2 (132) ls (.int p45 :: [])) (fun kk => by rcases s46 with z | z; exact aw_callV (As := [.ref x44]) (metJ3_equals _ _ ep45) (rcv_o okJ3 z) rfl mok_J3_equals q700 q701 q702 q127 q703 (Nat.le_of_ble_eq_true rfl) (Nat.le_of_ble_eq_true rfl) rfl hl.1 rfl (Nat.le_of_ble_eq_true rfl) (pc := 129) dX2_mustName_129 kk; exact aw_callV (As := [.ref x44]) (metJ3_equals _ _ ep45) (rcv_k z) rfl mok_J3_equals q700 q701 q702 q127 q703 (Nat.le_of_ble_eq_true rfl) (Nat.le_of_ble_eq_true rfl) rfl hl.1 rfl (Nat.le_of_ble_eq_true rfl) (pc := 129) dX2_mustName_129 kk) ?_
      refine sp_if (fun c47 => ?_) (fun c47 => ?_)
      · refine sp_m (aw_if_eq_t (tgt := 165) (pc := 132) dX2_mustName_132 (by decide) c47) ?_
        exact hj165_1 (-1) ls (lv_sub hl [2, 0] rfl)
      · refine sp_m (aw_if_eq_f (tgt := 165) (pc := 132) dX2_mustName_132 (by decide) c47) ?_
        refine sp_m (aw_iconst (v := 3) (pc := 135) dX2_mustName_135 rfl) ?_
        refine sp_m (aw_istore_n (lv' := [(2, .int 3), (1, .ref x3), (0, .ref a0)]) (pc := 136) dX2_mustName_136 rfl hl (by decide) rfl) (sp_all fun ls hl => ?_)
        refine sp_m (aw_goto (tgt := 165) (pc := 137) dX2_mustName_137 (by decide)) ?_
        exact hj165_1 3 ls (lv_sub hl [2, 0] rfl)
    refine sp_if (fun c48 => ?_) (fun c48 => ?_)
    · refine sp_m (aw_lookup (tgt := 98) (pc := 25) dX2_mustName_25 (by decide) (by rw [c48] <;> rfl) (by decide)) ?_
      refine sp_m (aw_aload_n (pc := 98) dX2_mustName_98 rfl (lv_at hl 1 rfl)) ?_
      refine sp_b fun x49 ex49 => ?_
      refine sp_m (aw_ldcS sk_X2_92 ex49 (pc := 99) dX2_mustName_99) ?_
      refine sp_g fun s51 => ?_
      refine sp_b fun p50 ep50 => ?_
      refine sp_m (G' := AW (KX2_mustName l D h0 o) p4.2 (104) ls (.int p50 :: [])) (fun kk => by rcases s51 with z | z; exact aw_callV (As := [.ref x49]) (metJ3_equals _ _ ep50) (rcv_o okJ3 z) rfl mok_J3_equals q700 q701 q702 q127 q703 (Nat.le_of_ble_eq_true rfl) (Nat.le_of_ble_eq_true rfl) rfl hl.1 rfl (Nat.le_of_ble_eq_true rfl) (pc := 101) dX2_mustName_101 kk; exact aw_callV (As := [.ref x49]) (metJ3_equals _ _ ep50) (rcv_k z) rfl mok_J3_equals q700 q701 q702 q127 q703 (Nat.le_of_ble_eq_true rfl) (Nat.le_of_ble_eq_true rfl) rfl hl.1 rfl (Nat.le_of_ble_eq_true rfl) (pc := 101) dX2_mustName_101 kk) ?_
      refine sp_if (fun c52 => ?_) (fun c52 => ?_)
      · refine sp_m (aw_if_eq_t (tgt := 165) (pc := 104) dX2_mustName_104 (by decide) c52) ?_
        exact hj165_1 (-1) ls (lv_sub hl [2, 0] rfl)
      · refine sp_m (aw_if_eq_f (tgt := 165) (pc := 104) dX2_mustName_104 (by decide) c52) ?_
        refine sp_m (aw_iconst (v := 1) (pc := 107) dX2_mustName_107 rfl) ?_
        refine sp_m (aw_istore_n (lv' := [(2, .int 1), (1, .ref x3), (0, .ref a0)]) (pc := 108) dX2_mustName_108 rfl hl (by decide) rfl) (sp_all fun ls hl => ?_)
        refine sp_m (aw_goto (tgt := 165) (pc := 109) dX2_mustName_109 (by decide)) ?_
        exact hj165_1 1 ls (lv_sub hl [2, 0] rfl)
    refine sp_if (fun c53 => ?_) (fun c53 => ?_)
    · refine sp_m (aw_lookup (tgt := 140) (pc := 25) dX2_mustName_25 (by decide) (by rw [c53] <;> rfl) (by decide)) ?_
      refine sp_m (aw_aload_n (pc := 140) dX2_mustName_140 rfl (lv_at hl 1 rfl)) ?_
      refine sp_b fun x54 ex54 => ?_
      refine sp_m (aw_ldcS sk_X2_98 ex54 (pc := 141) dX2_mustName_141) ?_
      refine sp_g fun s56 => ?_
      refine sp_b fun p55 ep55 => ?_
      refine sp_m (G' := AW (KX2_mustName l D h0 o) p4.2 (146) ls (.int p55 :: [])) (fun kk => by rcases s56 with z | z; exact aw_callV (As := [.ref x54]) (metJ3_equals _ _ ep55) (rcv_o okJ3 z) rfl mok_J3_equals q700 q701 q702 q127 q703 (Nat.le_of_ble_eq_true rfl) (Nat.le_of_ble_eq_true rfl) rfl hl.1 rfl (Nat.le_of_ble_eq_true rfl) (pc := 143) dX2_mustName_143 kk; exact aw_callV (As := [.ref x54]) (metJ3_equals _ _ ep55) (rcv_k z) rfl mok_J3_equals q700 q701 q702 q127 q703 (Nat.le_of_ble_eq_true rfl) (Nat.le_of_ble_eq_true rfl) rfl hl.1 rfl (Nat.le_of_ble_eq_true rfl) (pc := 143) dX2_mustName_143 kk) ?_
      refine sp_if (fun c57 => ?_) (fun c57 => ?_)
      · refine sp_m (aw_if_eq_t (tgt := 165) (pc := 146) dX2_mustName_146 (by decide) c57) ?_
        exact hj165_1 (-1) ls (lv_sub hl [2, 0] rfl)
      · refine sp_m (aw_if_eq_f (tgt := 165) (pc := 146) dX2_mustName_146 (by decide) c57) ?_
        refine sp_m (aw_iconst (v := 4) (pc := 149) dX2_mustName_149 rfl) ?_
        refine sp_m (aw_istore_n (lv' := [(2, .int 4), (1, .ref x3), (0, .ref a0)]) (pc := 150) dX2_mustName_150 rfl hl (by decide) rfl) (sp_all fun ls hl => ?_)
        refine sp_m (aw_goto (tgt := 165) (pc := 151) dX2_mustName_151 (by decide)) ?_
        exact hj165_1 4 ls (lv_sub hl [2, 0] rfl)
    refine sp_if (fun c58 => ?_) (fun c58 => ?_)
    · refine sp_m (aw_lookup (tgt := 112) (pc := 25) dX2_mustName_25 (by decide) (by rw [c58] <;> rfl) (by decide)) ?_
      refine sp_m (aw_aload_n (pc := 112) dX2_mustName_112 rfl (lv_at hl 1 rfl)) ?_
      refine sp_b fun x59 ex59 => ?_
      refine sp_m (aw_ldcS sk_X2_94 ex59 (pc := 113) dX2_mustName_113) ?_
      refine sp_g fun s61 => ?_
      refine sp_b fun p60 ep60 => ?_
      refine sp_m (G' := AW (KX2_mustName l D h0 o) p4.2 (118) ls (.int p60 :: [])) (fun kk => by rcases s61 with z | z; exact aw_callV (As := [.ref x59]) (metJ3_equals _ _ ep60) (rcv_o okJ3 z) rfl mok_J3_equals q700 q701 q702 q127 q703 (Nat.le_of_ble_eq_true rfl) (Nat.le_of_ble_eq_true rfl) rfl hl.1 rfl (Nat.le_of_ble_eq_true rfl) (pc := 115) dX2_mustName_115 kk; exact aw_callV (As := [.ref x59]) (metJ3_equals _ _ ep60) (rcv_k z) rfl mok_J3_equals q700 q701 q702 q127 q703 (Nat.le_of_ble_eq_true rfl) (Nat.le_of_ble_eq_true rfl) rfl hl.1 rfl (Nat.le_of_ble_eq_true rfl) (pc := 115) dX2_mustName_115 kk) ?_
      refine sp_if (fun c62 => ?_) (fun c62 => ?_)
      · refine sp_m (aw_if_eq_t (tgt := 165) (pc := 118) dX2_mustName_118 (by decide) c62) ?_
        exact hj165_1 (-1) ls (lv_sub hl [2, 0] rfl)
      · refine sp_m (aw_if_eq_f (tgt := 165) (pc := 118) dX2_mustName_118 (by decide) c62) ?_
        refine sp_m (aw_iconst (v := 2) (pc := 121) dX2_mustName_121 rfl) ?_
        refine sp_m (aw_istore_n (lv' := [(2, .int 2), (1, .ref x3), (0, .ref a0)]) (pc := 122) dX2_mustName_122 rfl hl (by decide) rfl) (sp_all fun ls hl => ?_)
        refine sp_m (aw_goto (tgt := 165) (pc := 123) dX2_mustName_123 (by decide)) ?_
        exact hj165_1 2 ls (lv_sub hl [2, 0] rfl)
    refine sp_if (fun c63 => ?_) (fun c63 => ?_)
    · refine sp_m (aw_lookup (tgt := 84) (pc := 25) dX2_mustName_25 (by decide) (by rw [c63] <;> rfl) (by decide)) ?_
      refine sp_m (aw_aload_n (pc := 84) dX2_mustName_84 rfl (lv_at hl 1 rfl)) ?_
      refine sp_b fun x64 ex64 => ?_
      refine sp_m (aw_ldcS sk_X2_90 ex64 (pc := 85) dX2_mustName_85) ?_
      refine sp_g fun s66 => ?_
      refine sp_b fun p65 ep65 => ?_
      refine sp_m (G' := AW (KX2_mustName l D h0 o) p4.2 (90) ls (.int p65 :: [])) (fun kk => by rcases s66 with z | z; exact aw_callV (As := [.ref x64]) (metJ3_equals _ _ ep65) (rcv_o okJ3 z) rfl mok_J3_equals q700 q701 q702 q127 q703 (Nat.le_of_ble_eq_true rfl) (Nat.le_of_ble_eq_true rfl) rfl hl.1 rfl (Nat.le_of_ble_eq_true rfl) (pc := 87) dX2_mustName_87 kk; exact aw_callV (As := [.ref x64]) (metJ3_equals _ _ ep65) (rcv_k z) rfl mok_J3_equals q700 q701 q702 q127 q703 (Nat.le_of_ble_eq_true rfl) (Nat.le_of_ble_eq_true rfl) rfl hl.1 rfl (Nat.le_of_ble_eq_true rfl) (pc := 87) dX2_mustName_87 kk) ?_
      refine sp_if (fun c67 => ?_) (fun c67 => ?_)
      · refine sp_m (aw_if_eq_t (tgt := 165) (pc := 90) dX2_mustName_90 (by decide) c67) ?_
        exact hj165_1 (-1) ls (lv_sub hl [2, 0] rfl)
      · refine sp_m (aw_if_eq_f (tgt := 165) (pc := 90) dX2_mustName_90 (by decide) c67) ?_
        refine sp_m (aw_iconst (v := 0) (pc := 93) dX2_mustName_93 rfl) ?_
        refine sp_m (aw_istore_n (lv' := [(2, .int 0), (1, .ref x3), (0, .ref a0)]) (pc := 94) dX2_mustName_94 rfl hl (by decide) rfl) (sp_all fun ls hl => ?_)
        refine sp_m (aw_goto (tgt := 165) (pc := 95) dX2_mustName_95 (by decide)) ?_
        exact hj165_1 0 ls (lv_sub hl [2, 0] rfl)
    refine sp_m (aw_lookup (tgt := 165) (off := 140) (pc := 25) dX2_mustName_25 (by decide) (Eq.trans (lv_osw c38 rfl) (Eq.trans (lv_osw c43 rfl) (Eq.trans (lv_osw c48 rfl) (Eq.trans (lv_osw c53 rfl) (Eq.trans (lv_osw c58 rfl) (Eq.trans (lv_osw c63 rfl) rfl)))))) (by decide)) ?_
    exact hj165_1 (-1) ls (lv_sub hl [2, 0] rfl)
  · refine sp_m (aw_icmp_eq_f (tgt := 14) (pc := 5) dX2_mustName_5 (by decide) c2) ?_
    refine sp_m (aw_aload_n (pc := 8) dX2_mustName_8 rfl (lv_at hl 0 rfl)) ?_
    refine sp_m (aw_iconst (v := 1) (pc := 9) dX2_mustName_9 rfl) ?_
    refine sp_b fun p68 ep68 => ?_
    refine sp_b fun x69 ex69 => ?_
    refine sp_m (G' := AW (KX2_mustName l D h0 o) p68.2 (13) ls (.ref x69 :: [])) (fun kk => aw_callV (As := [.int 1]) (metX2_fail _ _ ep68) (rcv_o okX2 s1) rfl mok_X2_fail q638 q640 qs7 q117 q641 (Nat.le_of_ble_eq_true rfl) (Nat.le_of_ble_eq_true rfl) rfl hl.1 rfl (Nat.le_of_ble_eq_true rfl) (pc := 10) dX2_mustName_10 (kk_ref ex69 kk)) ?_
    refine sp_g fun s70 => ?_
    exact sp_r fun hz => aw_throwT okX3 s70 hz rfl rfl rfl rfl (pc := 13) dX2_mustName_13
