/-! WALKS (printed by wip gen/all.py) -/
set_option maxRecDepth 100000
set_option maxHeartbeats 4000000
theorem mok_X7_war : mOK yX7_war 1 := ⟨⟨by decide +kernel, by decide +kernel⟩, by decide +kernel⟩
abbrev KX7_war (l : Launch) (D : DD) (h0 hE : AH) (v : Int32) : KT := (l, yX7_war, cX7_war, 3, (some .int), RX7, 12, D, h0, hE, .inl (some (.int v)), false, [])
theorem metX7_war (l : Launch) (D : DD) {a0 : Nat} {a1 : Int32} {h0 : AH} {hE : AH} {v : Int32} (hr : fX7_war a0 a1 h0 = some (v, hE)) : AMet (KX7_war l D h0 hE v) [.ref a0, .int a1] := by
  refine AMet.of (K := (KX7_war l D h0 hE v)) rfl ⟨_, rfl⟩ rfl rfl rfl (Nat.le_of_ble_eq_true rfl) (fun ls hl => ?_)
  have hl : lv_has ls 3 [(0, .ref a0), (1, .int a1)] := hl
  suffices hsp : SP (fX7_war a0 a1 h0) (fun z => z = (v, hE)) (AW (KX7_war l D h0 hE v) h0 0 ls []) from hsp _ hr rfl
  unfold fX7_war
  refine sp_m (aw_aload_n (pc := 0) dX7_war_0 rfl (lv_at hl 0 rfl)) ?_
  refine sp_m (aw_iconst (v := 0) (pc := 1) dX7_war_1 rfl) ?_
  refine sp_g fun s1 => ?_
  refine sp_t fun h2 eh20 => ?_
  have eh2 : gS h2 = gS h0 := by rw [eh20]; rfl
  refine sp_m (aw_put (k := 0) okX7 opX7 s1 (by decide) q1502 (Or.inl rfl) (Or.inl rfl) (hasV_I' eh20) rfl rfl (pc := 2) dX7_war_2) ?_
  refine sp_m (aw_iload_n (pc := 5) dX7_war_5 rfl (lv_at hl 1 rfl)) ?_
  have hj17_1 : ∀ ls : Array Slot, lv_has ls 3 [(0, .ref a0)] → SP (X7_war_j17 a0 h2) (fun z => z = (v, hE)) (AW (KX7_war l D h0 hE v) h2 17 ls ([])) := by
    intro ls hl
    unfold X7_war_j17
    refine sp_m (aw_aload_n (pc := 17) dX7_war_17 rfl (lv_at hl 0 rfl)) ?_
    refine sp_m (aw_iconst (v := 2) (pc := 18) dX7_war_18 rfl) ?_
    refine sp_b fun p3 ep3 => ?_
    refine sp_m (G' := AW (KX7_war l D h0 hE v) p3.2 (22) ls (.int p3.1 :: [])) (fun kk => aw_callV (As := [.int 2]) (metX7_refused _ _ ep3) (rcv_o okX7 (uS eh2 s1)) rfl mok_X7_refused q1632 q1634 qs50 q125 q1635 (Nat.le_of_ble_eq_true rfl) (Nat.le_of_ble_eq_true rfl) rfl hl.1 rfl (Nat.le_of_ble_eq_true rfl) (pc := 19) dX7_war_19 kk) ?_
    exact sp_r fun hz => aw_iret hz rfl rfl rfl (pc := 22) dX7_war_22
  refine sp_if (fun c4 => ?_) (fun c4 => ?_)
  · refine sp_m (aw_if_lt_t (tgt := 17) (pc := 6) dX7_war_6 (by decide) c4) ?_
    exact hj17_1 ls (lv_sub hl [0] rfl)
  · refine sp_m (aw_if_lt_f (tgt := 17) (pc := 6) dX7_war_6 (by decide) c4) ?_
    refine sp_m (aw_iload_n (pc := 9) dX7_war_9 rfl (lv_at hl 1 rfl)) ?_
    refine sp_m (aw_aload_n (pc := 10) dX7_war_10 rfl (lv_at hl 0 rfl)) ?_
    refine sp_m (aw_get (k := 6) okX7 (uS eh2 s1) (by decide) q1508 (Or.inl rfl) rfl (pc := 11) dX7_war_11) ?_
    refine sp_if (fun c5 => ?_) (fun c5 => ?_)
    · refine sp_m (aw_icmp_le_t (tgt := 23) (pc := 14) dX7_war_14 (by decide) c5) ?_
      refine sp_m (aw_aload_n (pc := 23) dX7_war_23 rfl (lv_at hl 0 rfl)) ?_
      refine sp_m (aw_iload_n (pc := 24) dX7_war_24 rfl (lv_at hl 1 rfl)) ?_
      refine sp_t fun h6 eh60 => ?_
      have eh6 : gS h6 = gS h2 := by rw [eh60]; rfl
      refine sp_m (aw_put (k := 7) okX7 opX7 (uS eh2 s1) (by decide) q1509 (Or.inl rfl) (Or.inl rfl) (hasV_I' eh60) rfl rfl (pc := 25) dX7_war_25) ?_
      refine sp_m (aw_aload_n (pc := 28) dX7_war_28 rfl (lv_at hl 0 rfl)) ?_
      refine sp_m (aw_iconst (v := 0) (pc := 29) dX7_war_29 rfl) ?_
      refine sp_t fun h7 eh70 => ?_
      have eh7 : gS h7 = gS h6 := by rw [eh70]; rfl
      refine sp_m (aw_put (k := 6) okX7 opX7 (uS eh6 (uS eh2 s1)) (by decide) q1508 (Or.inl rfl) (Or.inl rfl) (hasV_I' eh70) rfl rfl (pc := 30) dX7_war_30) ?_
      refine sp_m (aw_aload_n (pc := 33) dX7_war_33 rfl (lv_at hl 0 rfl)) ?_
      refine sp_m (aw_iconst (v := 0) (pc := 34) dX7_war_34 rfl) ?_
      refine sp_t fun h8 eh80 => ?_
      have eh8 : gS h8 = gS h7 := by rw [eh80]; rfl
      refine sp_m (aw_put (k := 8) okX7 opX7 (uS eh7 (uS eh6 (uS eh2 s1))) (by decide) q1510 (Or.inl rfl) (Or.inl rfl) (hasV_I' eh80) rfl rfl (pc := 35) dX7_war_35) ?_
      refine sp_m (aw_aload_n (pc := 38) dX7_war_38 rfl (lv_at hl 0 rfl)) ?_
      refine sp_m (aw_iconst (v := 0) (pc := 39) dX7_war_39 rfl) ?_
      refine sp_t fun h9 eh90 => ?_
      have eh9 : gS h9 = gS h8 := by rw [eh90]; rfl
      refine sp_m (aw_put (k := 12) okX7 opX7 (uS eh8 (uS eh7 (uS eh6 (uS eh2 s1)))) (by decide) q1514 (Or.inl rfl) (Or.inl rfl) (hasV_I' eh90) rfl rfl (pc := 40) dX7_war_40) ?_
      refine sp_m (aw_aload_n (pc := 43) dX7_war_43 rfl (lv_at hl 0 rfl)) ?_
      refine sp_t fun h10 eh100 => ?_
      refine sp_m (fun kk => aw_new okX20 opX20 odX20 q1636 q1637 q144 (pc := 44) dX7_war_44 (AWe eh100 kk)) ?_
      refine sp_m (aw_dup (pc := 47) dX7_war_47 rfl) ?_
      refine sp_b fun p11 ep11 => ?_
      refine sp_m (G' := AW (KX7_war l D h0 hE v) p11 (51) ls (.ref (gZ h9) :: .ref a0 :: [])) (fun kk => aw_callIN (As := []) (host := "ElephantLineModel") (metX20_init _ _ ep11) mok_X20_init rfl nq1638 q1639 q144 q1640 (Nat.le_of_ble_eq_true rfl) (Nat.le_of_ble_eq_true rfl) rfl hl.1 rfl (Nat.le_of_ble_eq_true rfl) (pc := 48) dX7_war_48 kk) ?_
      refine sp_g fun s12 => ?_
      refine sp_t fun h13 eh130 => ?_
      have eh13 : gS h13 = gS p11 := by rw [eh130]; rfl
      refine sp_m (aw_put (k := 4) okX7 opX7 s12 (by decide) q1506 (Or.inl rfl) (Or.inl rfl) (hasV_R' eh130) rfl rfl (pc := 51) dX7_war_51) ?_
      refine sp_m (aw_aload_n (pc := 54) dX7_war_54 rfl (lv_at hl 0 rfl)) ?_
      refine sp_m (aw_iconst (v := 0) (pc := 55) dX7_war_55 rfl) ?_
      refine sp_t fun h14 eh140 => ?_
      have eh14 : gS h14 = gS h13 := by rw [eh140]; rfl
      refine sp_m (aw_put (k := 9) okX7 opX7 (uS eh13 s12) (by decide) q1511 (Or.inl rfl) (Or.inl rfl) (hasV_I' eh140) rfl rfl (pc := 56) dX7_war_56) ?_
      refine sp_m (aw_aload_n (pc := 59) dX7_war_59 rfl (lv_at hl 0 rfl)) ?_
      refine sp_b fun p15 ep15 => ?_
      refine sp_m (G' := AW (KX7_war l D h0 hE v) p15 (63) ls ([])) (fun kk => aw_callV (As := []) (metX7_goesOn _ _ ep15) (rcv_o okX7 (uS eh14 (uS eh13 s12))) rfl mok_X7_goesOn q1709 q1711 qs51 q125 q1712 (Nat.le_of_ble_eq_true rfl) (Nat.le_of_ble_eq_true rfl) rfl hl.1 rfl (Nat.le_of_ble_eq_true rfl) (pc := 60) dX7_war_60 kk) ?_
      refine sp_m (aw_aload_n (pc := 63) dX7_war_63 rfl (lv_at hl 0 rfl)) ?_
      refine sp_g fun s17 => ?_
      refine sp_b fun p16 ep16 => ?_
      refine sp_m (G' := AW (KX7_war l D h0 hE v) p16 (67) ls ([])) (fun kk => aw_callV (As := []) (metX7_readAll _ _ ep16) (rcv_o okX7 s17) rfl mok_X7_readAll q1724 q1726 qs53 q125 q1727 (Nat.le_of_ble_eq_true rfl) (Nat.le_of_ble_eq_true rfl) rfl hl.1 rfl (Nat.le_of_ble_eq_true rfl) (pc := 64) dX7_war_64 kk) ?_
      refine sp_m (aw_aload_n (pc := 67) dX7_war_67 rfl (lv_at hl 0 rfl)) ?_
      refine sp_g fun s18 => ?_
      refine sp_m (aw_get (k := 12) okX7 s18 (by decide) q1514 (Or.inl rfl) rfl (pc := 68) dX7_war_68) ?_
      refine sp_if (fun c19 => ?_) (fun c19 => ?_)
      · refine sp_m (aw_if_le_t (tgt := 89) (pc := 71) dX7_war_71 (by decide) c19) ?_
        refine sp_m (aw_aload_n (pc := 89) dX7_war_89 rfl (lv_at hl 0 rfl)) ?_
        refine sp_m (aw_aload_n (pc := 90) dX7_war_90 rfl (lv_at hl 0 rfl)) ?_
        refine sp_b fun x20 ex20 => ?_
        refine sp_m (aw_get (k := 4) okX7 s18 (by decide) q1506 (Or.inl rfl) (congrArg va_rf ex20) (pc := 91) dX7_war_91) ?_
        refine sp_t fun h21 eh210 => ?_
        have eh21 : gS h21 = gS p16 := by rw [eh210]; rfl
        refine sp_m (aw_put (k := 3) okX7 opX7 s18 (by decide) q1505 (Or.inl rfl) (Or.inl rfl) (hasV_R' eh210) rfl rfl (pc := 94) dX7_war_94) ?_
        refine sp_m (aw_iconst (v := 0) (pc := 97) dX7_war_97 rfl) ?_
        refine sp_m (aw_istore_n (lv' := [(2, .int 0), (0, .ref a0), (1, .int a1)]) (pc := 98) dX7_war_98 rfl hl (by decide) rfl) (sp_all fun ls hl => ?_)
        let P22 : Int32 × AH → Prop := aLP (KX7_war l D h0 hE v) 3 99 (fun s22v : Int32 × AH => [(0, .ref a0), (2, .int s22v.1)]) (fun s22v => s22v.2)
        let E22 : AH → Prop := aLP (KX7_war l D h0 hE v) 3 118 (fun r22v : AH => [(0, .ref a0)]) (fun r22v => r22v)
        refine sp_bl (P := P22) (E := E22) (fun s22v => sp_all fun ls hl => ?_) (fun k => k ls (lv_sub hl [1, 0] rfl)) (fun r22v => sp_all fun ls hl => ?_)
        · have hl : lv_has ls 3 [(0, .ref a0), (2, .int s22v.1)] := hl
          show SP _ _ (AW (KX7_war l D h0 hE v) s22v.2 99 ls [])
          unfold X7_war_L99
          refine sp_m (aw_iload_n (pc := 99) dX7_war_99 rfl (lv_at hl 1 rfl)) ?_
          refine sp_m (aw_bipush (v := 19) (pc := 100) dX7_war_100 rfl) ?_
          refine sp_if (fun c23 => ?_) (fun c23 => ?_)
          · refine sp_m (aw_icmp_ge_t (tgt := 118) (pc := 102) dX7_war_102 (by decide) c23) ?_
            exact sp_r fun hz => hz ls (lv_sub hl [0] rfl)
          · refine sp_m (aw_icmp_ge_f (tgt := 118) (pc := 102) dX7_war_102 (by decide) c23) ?_
            refine sp_m (aw_aload_n (pc := 105) dX7_war_105 rfl (lv_at hl 0 rfl)) ?_
            refine sp_g fun s24 => ?_
            refine sp_b fun x25 ex25 => ?_
            refine sp_m (aw_get (k := 16) okX7 s24 (by decide) q1518 (Or.inl rfl) (congrArg va_rf ex25) (pc := 106) dX7_war_106) ?_
            refine sp_m (aw_iload_n (pc := 109) dX7_war_109 rfl (lv_at hl 1 rfl)) ?_
            refine sp_m (aw_iconst (v := 0) (pc := 110) dX7_war_110 rfl) ?_
            refine sp_g fun s26 => ?_
            refine sp_g fun i27 => ?_
            refine sp_t fun h28 eh280 => ?_
            have eh28 : gS h28 = gS s22v.2 := by rw [eh280]; rfl
            refine sp_m (fun kk => aw_iast s26 i27 (pc := 111) dX7_war_111 (AWe eh280 kk)) ?_
            refine sp_m (aw_iinc (v := s22v.1 + 1) (lv' := [(2, .int (s22v.1 + 1)), (0, .ref a0)]) (pc := 112) dX7_war_112 hl (k := 1) rfl rfl (by decide) rfl) (sp_all fun ls hl => ?_)
            refine sp_m (aw_goto (tgt := 99) (pc := 115) dX7_war_115 (by decide)) ?_
            exact sp_r fun hz => hz ls (lv_sub hl [1, 0] rfl)
        · have hl : lv_has ls 3 [(0, .ref a0)] := hl
          show SP _ _ (AW (KX7_war l D h0 hE v) r22v 118 ls [])
          refine sp_m (aw_iconst (v := 0) (pc := 118) dX7_war_118 rfl) ?_
          refine sp_m (aw_istore_n (lv' := [(2, .int 0), (0, .ref a0)]) (pc := 119) dX7_war_119 rfl hl (by decide) rfl) (sp_all fun ls hl => ?_)
          let P29 : Int32 × AH → Prop := aLP (KX7_war l D h0 hE v) 3 120 (fun s29v : Int32 × AH => [(0, .ref a0), (2, .int s29v.1)]) (fun s29v => s29v.2)
          let E29 : AH → Prop := aLP (KX7_war l D h0 hE v) 3 154 (fun r29v : AH => [(0, .ref a0)]) (fun r29v => r29v)
          refine sp_bl (P := P29) (E := E29) (fun s29v => sp_all fun ls hl => ?_) (fun k => k ls (lv_sub hl [1, 0] rfl)) (fun r29v => sp_all fun ls hl => ?_)
          · have hl : lv_has ls 3 [(0, .ref a0), (2, .int s29v.1)] := hl
            show SP _ _ (AW (KX7_war l D h0 hE v) s29v.2 120 ls [])
            unfold X7_war_L120
            refine sp_m (aw_iload_n (pc := 120) dX7_war_120 rfl (lv_at hl 1 rfl)) ?_
            refine sp_m (aw_aload_n (pc := 121) dX7_war_121 rfl (lv_at hl 0 rfl)) ?_
            refine sp_g fun s30 => ?_
            refine sp_b fun x31 ex31 => ?_
            refine sp_m (aw_get (k := 3) okX7 s30 (by decide) q1505 (Or.inl rfl) (congrArg va_rf ex31) (pc := 122) dX7_war_122) ?_
            refine sp_g fun s32 => ?_
            refine sp_m (aw_getN (k := 3) okX20 s32 (by decide) nq1645 rfl rfl (pc := 125) dX7_war_125) ?_
            refine sp_if (fun c33 => ?_) (fun c33 => ?_)
            · refine sp_m (aw_icmp_ge_t (tgt := 154) (pc := 128) dX7_war_128 (by decide) c33) ?_
              exact sp_r fun hz => hz ls (lv_sub hl [0] rfl)
            · refine sp_m (aw_icmp_ge_f (tgt := 154) (pc := 128) dX7_war_128 (by decide) c33) ?_
              refine sp_m (aw_aload_n (pc := 131) dX7_war_131 rfl (lv_at hl 0 rfl)) ?_
              refine sp_b fun x34 ex34 => ?_
              refine sp_m (aw_get (k := 16) okX7 s30 (by decide) q1518 (Or.inl rfl) (congrArg va_rf ex34) (pc := 132) dX7_war_132) ?_
              refine sp_m (aw_iconst (v := 0) (pc := 135) dX7_war_135 rfl) ?_
              refine sp_m (aw_iload_n (pc := 136) dX7_war_136 rfl (lv_at hl 1 rfl)) ?_
              refine sp_m (aw_iadd (pc := 137) dX7_war_137) ?_
              refine sp_m (aw_aload_n (pc := 138) dX7_war_138 rfl (lv_at hl 0 rfl)) ?_
              refine sp_b fun x35 ex35 => ?_
              refine sp_m (aw_get (k := 3) okX7 s30 (by decide) q1505 (Or.inl rfl) (congrArg va_rf ex35) (pc := 139) dX7_war_139) ?_
              refine sp_g fun s36 => ?_
              refine sp_b fun x37 ex37 => ?_
              refine sp_m (aw_getN (k := 11) okX20 s36 (by decide) nq1658 rfl (congrArg va_rf ex37) (pc := 142) dX7_war_142) ?_
              refine sp_m (aw_iload_n (pc := 145) dX7_war_145 rfl (lv_at hl 1 rfl)) ?_
              refine sp_g fun s38 => ?_
              refine sp_g fun i39 => ?_
              refine sp_m (aw_iald s38 i39 (pc := 146) dX7_war_146) ?_
              refine sp_g fun s40 => ?_
              refine sp_g fun i41 => ?_
              refine sp_t fun h42 eh420 => ?_
              have eh42 : gS h42 = gS s29v.2 := by rw [eh420]; rfl
              refine sp_m (fun kk => aw_iast s40 i41 (pc := 147) dX7_war_147 (AWe eh420 kk)) ?_
              refine sp_m (aw_iinc (v := s29v.1 + 1) (lv' := [(2, .int (s29v.1 + 1)), (0, .ref a0)]) (pc := 148) dX7_war_148 hl (k := 1) rfl rfl (by decide) rfl) (sp_all fun ls hl => ?_)
              refine sp_m (aw_goto (tgt := 120) (pc := 151) dX7_war_151 (by decide)) ?_
              exact sp_r fun hz => hz ls (lv_sub hl [1, 0] rfl)
          · have hl : lv_has ls 3 [(0, .ref a0)] := hl
            show SP _ _ (AW (KX7_war l D h0 hE v) r29v 154 ls [])
            refine sp_m (aw_iconst (v := 0) (pc := 154) dX7_war_154 rfl) ?_
            refine sp_m (aw_istore_n (lv' := [(2, .int 0), (0, .ref a0)]) (pc := 155) dX7_war_155 rfl hl (by decide) rfl) (sp_all fun ls hl => ?_)
            let P43 : Int32 × AH → Prop := aLP (KX7_war l D h0 hE v) 3 156 (fun s43v : Int32 × AH => [(0, .ref a0), (2, .int s43v.1)]) (fun s43v => s43v.2)
            let E43 : AH → Prop := aLP (KX7_war l D h0 hE v) 3 191 (fun r43v : AH => [(0, .ref a0)]) (fun r43v => r43v)
            refine sp_bl (P := P43) (E := E43) (fun s43v => sp_all fun ls hl => ?_) (fun k => k ls (lv_sub hl [1, 0] rfl)) (fun r43v => sp_all fun ls hl => ?_)
            · have hl : lv_has ls 3 [(0, .ref a0), (2, .int s43v.1)] := hl
              show SP _ _ (AW (KX7_war l D h0 hE v) s43v.2 156 ls [])
              unfold X7_war_L156
              refine sp_m (aw_iload_n (pc := 156) dX7_war_156 rfl (lv_at hl 1 rfl)) ?_
              refine sp_m (aw_aload_n (pc := 157) dX7_war_157 rfl (lv_at hl 0 rfl)) ?_
              refine sp_g fun s44 => ?_
              refine sp_b fun x45 ex45 => ?_
              refine sp_m (aw_get (k := 3) okX7 s44 (by decide) q1505 (Or.inl rfl) (congrArg va_rf ex45) (pc := 158) dX7_war_158) ?_
              refine sp_g fun s46 => ?_
              refine sp_m (aw_getN (k := 0) okX20 s46 (by decide) nq1642 rfl rfl (pc := 161) dX7_war_161) ?_
              refine sp_if (fun c47 => ?_) (fun c47 => ?_)
              · refine sp_m (aw_icmp_ge_t (tgt := 191) (pc := 164) dX7_war_164 (by decide) c47) ?_
                exact sp_r fun hz => hz ls (lv_sub hl [0] rfl)
              · refine sp_m (aw_icmp_ge_f (tgt := 191) (pc := 164) dX7_war_164 (by decide) c47) ?_
                refine sp_m (aw_aload_n (pc := 167) dX7_war_167 rfl (lv_at hl 0 rfl)) ?_
                refine sp_b fun x48 ex48 => ?_
                refine sp_m (aw_get (k := 16) okX7 s44 (by decide) q1518 (Or.inl rfl) (congrArg va_rf ex48) (pc := 168) dX7_war_168) ?_
                refine sp_m (aw_bipush (v := 11) (pc := 171) dX7_war_171 rfl) ?_
                refine sp_m (aw_iload_n (pc := 173) dX7_war_173 rfl (lv_at hl 1 rfl)) ?_
                refine sp_m (aw_iadd (pc := 174) dX7_war_174) ?_
                refine sp_m (aw_aload_n (pc := 175) dX7_war_175 rfl (lv_at hl 0 rfl)) ?_
                refine sp_b fun x49 ex49 => ?_
                refine sp_m (aw_get (k := 3) okX7 s44 (by decide) q1505 (Or.inl rfl) (congrArg va_rf ex49) (pc := 176) dX7_war_176) ?_
                refine sp_g fun s50 => ?_
                refine sp_b fun x51 ex51 => ?_
                refine sp_m (aw_getN (k := 9) okX20 s50 (by decide) nq1654 rfl (congrArg va_rf ex51) (pc := 179) dX7_war_179) ?_
                refine sp_m (aw_iload_n (pc := 182) dX7_war_182 rfl (lv_at hl 1 rfl)) ?_
                refine sp_g fun s52 => ?_
                refine sp_g fun i53 => ?_
                refine sp_m (aw_iald s52 i53 (pc := 183) dX7_war_183) ?_
                refine sp_g fun s54 => ?_
                refine sp_g fun i55 => ?_
                refine sp_t fun h56 eh560 => ?_
                have eh56 : gS h56 = gS s43v.2 := by rw [eh560]; rfl
                refine sp_m (fun kk => aw_iast s54 i55 (pc := 184) dX7_war_184 (AWe eh560 kk)) ?_
                refine sp_m (aw_iinc (v := s43v.1 + 1) (lv' := [(2, .int (s43v.1 + 1)), (0, .ref a0)]) (pc := 185) dX7_war_185 hl (k := 1) rfl rfl (by decide) rfl) (sp_all fun ls hl => ?_)
                refine sp_m (aw_goto (tgt := 156) (pc := 188) dX7_war_188 (by decide)) ?_
                exact sp_r fun hz => hz ls (lv_sub hl [1, 0] rfl)
            · have hl : lv_has ls 3 [(0, .ref a0)] := hl
              show SP _ _ (AW (KX7_war l D h0 hE v) r43v 191 ls [])
              refine sp_m (aw_aload_n (pc := 191) dX7_war_191 rfl (lv_at hl 0 rfl)) ?_
              refine sp_m (aw_iconst (v := 0) (pc := 192) dX7_war_192 rfl) ?_
              refine sp_g fun s57 => ?_
              refine sp_t fun h58 eh580 => ?_
              have eh58 : gS h58 = gS r43v := by rw [eh580]; rfl
              refine sp_m (aw_put (k := 20) okX7 opX7 s57 (by decide) q1522 (Or.inl rfl) (Or.inl rfl) (hasV_I' eh580) rfl rfl (pc := 193) dX7_war_193) ?_
              refine sp_m (aw_aload_n (pc := 196) dX7_war_196 rfl (lv_at hl 0 rfl)) ?_
              refine sp_m (aw_iconst (v := 0) (pc := 197) dX7_war_197 rfl) ?_
              refine sp_t fun h59 eh590 => ?_
              have eh59 : gS h59 = gS h58 := by rw [eh590]; rfl
              refine sp_m (aw_put (k := 21) okX7 opX7 (uS eh58 s57) (by decide) q1523 (Or.inl rfl) (Or.inl rfl) (hasV_I' eh590) rfl rfl (pc := 198) dX7_war_198) ?_
              refine sp_m (aw_aload_n (pc := 201) dX7_war_201 rfl (lv_at hl 0 rfl)) ?_
              refine sp_m (aw_aload_n (pc := 202) dX7_war_202 rfl (lv_at hl 0 rfl)) ?_
              refine sp_b fun x60 ex60 => ?_
              refine sp_m (aw_get (k := 3) okX7 (uS eh59 (uS eh58 s57)) (by decide) q1505 (Or.inl rfl) (congrArg va_rf ex60) (pc := 203) dX7_war_203) ?_
              refine sp_g fun s61 => ?_
              refine sp_m (aw_getN (k := 3) okX20 s61 (by decide) nq1645 rfl rfl (pc := 206) dX7_war_206) ?_
              refine sp_b fun p62 ep62 => ?_
              refine sp_m (G' := AW (KX7_war l D h0 hE v) p62.2 (212) ls (.int p62.1 :: [])) (fun kk => aw_callV (As := [.int (gI h59 x60 3)]) (metX7_good _ _ ep62) (rcv_o okX7 (uS eh59 (uS eh58 s57))) rfl mok_X7_good q1865 q1867 qs73 q125 q1868 (Nat.le_of_ble_eq_true rfl) (Nat.le_of_ble_eq_true rfl) rfl hl.1 rfl (Nat.le_of_ble_eq_true rfl) (pc := 209) dX7_war_209 kk) ?_
              exact sp_r fun hz => aw_iret hz rfl rfl rfl (pc := 212) dX7_war_212
      · refine sp_m (aw_if_le_f (tgt := 89) (pc := 71) dX7_war_71 (by decide) c19) ?_
        refine sp_m (aw_aload_n (pc := 74) dX7_war_74 rfl (lv_at hl 0 rfl)) ?_
        refine sp_m (aw_iconst (v := 4) (pc := 75) dX7_war_75 rfl) ?_
        refine sp_t fun h63 eh630 => ?_
        have eh63 : gS h63 = gS p16 := by rw [eh630]; rfl
        refine sp_m (aw_put (k := 1) okX7 opX7 s18 (by decide) q1503 (Or.inl rfl) (Or.inl rfl) (hasV_I' eh630) rfl rfl (pc := 76) dX7_war_76) ?_
        refine sp_m (aw_aload_n (pc := 79) dX7_war_79 rfl (lv_at hl 0 rfl)) ?_
        refine sp_m (aw_aload_n (pc := 80) dX7_war_80 rfl (lv_at hl 0 rfl)) ?_
        refine sp_m (aw_get (k := 13) okX7 (uS eh63 s18) (by decide) q1515 (Or.inl rfl) rfl (pc := 81) dX7_war_81) ?_
        refine sp_t fun h64 eh640 => ?_
        have eh64 : gS h64 = gS h63 := by rw [eh640]; rfl
        refine sp_m (aw_put (k := 2) okX7 opX7 (uS eh63 s18) (by decide) q1504 (Or.inl rfl) (Or.inl rfl) (hasV_I' eh640) rfl rfl (pc := 84) dX7_war_84) ?_
        refine sp_m (aw_iconst (v := (-1)) (pc := 87) dX7_war_87 rfl) ?_
        exact sp_r fun hz => aw_iret hz rfl rfl rfl (pc := 88) dX7_war_88
    · refine sp_m (aw_icmp_le_f (tgt := 23) (pc := 14) dX7_war_14 (by decide) c5) ?_
      exact hj17_1 ls (lv_sub hl [0] rfl)
theorem mok_X7_weeks : mOK yX7_weeks 1 := ⟨⟨by decide +kernel, by decide +kernel⟩, by decide +kernel⟩
abbrev KX7_weeks (l : Launch) (D : DD) (h0 hE : AH) (v : Int32) : KT := (l, yX7_weeks, cX7_weeks, 5, (some .int), RX7, 6, D, h0, hE, .inl (some (.int v)), false, [])
theorem metX7_weeks (l : Launch) (D : DD) {a0 : Nat} {a1 : Int32} {h0 : AH} {hE : AH} {v : Int32} (hr : fX7_weeks a0 a1 h0 = some (v, hE)) : AMet (KX7_weeks l D h0 hE v) [.ref a0, .int a1] := by
  refine AMet.of (K := (KX7_weeks l D h0 hE v)) rfl ⟨_, rfl⟩ rfl rfl rfl (Nat.le_of_ble_eq_true rfl) (fun ls hl => ?_)
  have hl : lv_has ls 5 [(0, .ref a0), (1, .int a1)] := hl
  suffices hsp : SP (fX7_weeks a0 a1 h0) (fun z => z = (v, hE)) (AW (KX7_weeks l D h0 hE v) h0 0 ls []) from hsp _ hr rfl
  unfold fX7_weeks
  refine sp_m (aw_aload_n (pc := 0) dX7_weeks_0 rfl (lv_at hl 0 rfl)) ?_
  refine sp_m (aw_iconst (v := 0) (pc := 1) dX7_weeks_1 rfl) ?_
  refine sp_g fun s1 => ?_
  refine sp_t fun h2 eh20 => ?_
  have eh2 : gS h2 = gS h0 := by rw [eh20]; rfl
  refine sp_m (aw_put (k := 0) okX7 opX7 s1 (by decide) q1502 (Or.inl rfl) (Or.inl rfl) (hasV_I' eh20) rfl rfl (pc := 2) dX7_weeks_2) ?_
  refine sp_m (aw_aload_n (pc := 5) dX7_weeks_5 rfl (lv_at hl 0 rfl)) ?_
  refine sp_m (aw_iload_n (pc := 6) dX7_weeks_6 rfl (lv_at hl 1 rfl)) ?_
  refine sp_b fun p3 ep3 => ?_
  refine sp_m (G' := AW (KX7_weeks l D h0 hE v) h2 (10) ls (.int p3 :: [])) (fun kk => aw_callV (As := [.int a1]) (metX7_isLane _ _ ep3) (rcv_o okX7 (uS eh2 s1)) rfl mok_X7_isLane q1881 q1883 qs74 q125 q1884 (Nat.le_of_ble_eq_true rfl) (Nat.le_of_ble_eq_true rfl) rfl hl.1 rfl (Nat.le_of_ble_eq_true rfl) (pc := 7) dX7_weeks_7 kk) ?_
  refine sp_if (fun c4 => ?_) (fun c4 => ?_)
  · refine sp_m (aw_if_ne_t (tgt := 19) (pc := 10) dX7_weeks_10 (by decide) c4) ?_
    refine sp_m (aw_aload_n (pc := 19) dX7_weeks_19 rfl (lv_at hl 0 rfl)) ?_
    refine sp_b fun x5 ex5 => ?_
    refine sp_m (aw_get (k := 3) okX7 (uS eh2 s1) (by decide) q1505 (Or.inl rfl) (congrArg va_rf ex5) (pc := 20) dX7_weeks_20) ?_
    refine sp_g fun s6 => ?_
    refine sp_b fun x7 ex7 => ?_
    refine sp_m (aw_getN (k := 8) okX20 s6 (by decide) nq1652 rfl (congrArg va_rf ex7) (pc := 23) dX7_weeks_23) ?_
    refine sp_m (aw_iload_n (pc := 26) dX7_weeks_26 rfl (lv_at hl 1 rfl)) ?_
    refine sp_g fun s8 => ?_
    refine sp_g fun i9 => ?_
    refine sp_m (aw_iald s8 i9 (pc := 27) dX7_weeks_27) ?_
    refine sp_m (aw_iconst (v := 3) (pc := 28) dX7_weeks_28 rfl) ?_
    refine sp_if (fun c10 => ?_) (fun c10 => ?_)
    · refine sp_m (aw_icmp_eq_t (tgt := 38) (pc := 29) dX7_weeks_29 (by decide) c10) ?_
      refine sp_m (aw_iconst (v := 0) (pc := 38) dX7_weeks_38 rfl) ?_
      refine sp_m (aw_istore_n (lv' := [(2, .int 0), (0, .ref a0), (1, .int a1)]) (pc := 39) dX7_weeks_39 rfl hl (by decide) rfl) (sp_all fun ls hl => ?_)
      let P11 : Int32 → Prop := aLP (KX7_weeks l D h0 hE v) 5 40 (fun s11v : Int32 => [(0, .ref a0), (2, .int s11v)]) (fun s11v => h2)
      refine sp_loop (P := P11) (fun s11v => sp_all fun ls hl => ?_) (fun k => k ls (lv_sub hl [1, 0] rfl))
      have hl : lv_has ls 5 [(0, .ref a0), (2, .int s11v)] := hl
      show SP _ _ (AW (KX7_weeks l D h0 hE v) h2 40 ls [])
      unfold X7_weeks_L40
      refine sp_m (aw_iload_n (pc := 40) dX7_weeks_40 rfl (lv_at hl 1 rfl)) ?_
      refine sp_m (aw_bipush (v := 30) (pc := 41) dX7_weeks_41 rfl) ?_
      refine sp_if (fun c12 => ?_) (fun c12 => ?_)
      · refine sp_m (aw_icmp_gt_t (tgt := 117) (pc := 43) dX7_weeks_43 (by decide) c12) ?_
        refine sp_m (aw_aload_n (pc := 117) dX7_weeks_117 rfl (lv_at hl 0 rfl)) ?_
        refine sp_m (aw_bipush (v := (-2)) (pc := 118) dX7_weeks_118 rfl) ?_
        refine sp_b fun p13 ep13 => ?_
        refine sp_m (G' := AW (KX7_weeks l D h0 hE v) p13.2 (123) ls (.int p13.1 :: [])) (fun kk => aw_callV (As := [.int (-2)]) (metX7_good _ _ ep13) (rcv_o okX7 (uS eh2 s1)) rfl mok_X7_good q1865 q1867 qs73 q125 q1868 (Nat.le_of_ble_eq_true rfl) (Nat.le_of_ble_eq_true rfl) rfl hl.1 rfl (Nat.le_of_ble_eq_true rfl) (pc := 120) dX7_weeks_120 kk) ?_
        exact sp_r fun hz => aw_iret hz rfl rfl rfl (pc := 123) dX7_weeks_123
      · refine sp_m (aw_icmp_gt_f (tgt := 117) (pc := 43) dX7_weeks_43 (by decide) c12) ?_
        refine sp_m (aw_iconst (v := 1) (pc := 46) dX7_weeks_46 rfl) ?_
        refine sp_m (aw_istore_n (lv' := [(3, .int 1), (0, .ref a0), (2, .int s11v)]) (pc := 47) dX7_weeks_47 rfl hl (by decide) rfl) (sp_all fun ls hl => ?_)
        refine sp_m (aw_iconst (v := 0) (pc := 48) dX7_weeks_48 rfl) ?_
        refine sp_m (aw_istore (lv' := [(4, .int 0), (3, .int 1), (0, .ref a0), (2, .int s11v)]) (pc := 49) dX7_weeks_49 hl (by decide) rfl) (sp_all fun ls hl => ?_)
        let P14 : Int32 × Int32 → Prop := aLP (KX7_weeks l D h0 hE v) 5 51 (fun s14v : Int32 × Int32 => [(0, .ref a0), (2, .int s11v), (3, .int s14v.1), (4, .int s14v.2)]) (fun s14v => h2)
        let E14 : Int32 → Prop := aLP (KX7_weeks l D h0 hE v) 5 101 (fun r14v : Int32 => [(0, .ref a0), (2, .int s11v), (3, .int r14v)]) (fun r14v => h2)
        refine sp_bl (P := P14) (E := E14) (fun s14v => sp_all fun ls hl => ?_) (fun k => k ls (lv_sub hl [2, 3, 1, 0] rfl)) (fun r14v => sp_all fun ls hl => ?_)
        · have hl : lv_has ls 5 [(0, .ref a0), (2, .int s11v), (3, .int s14v.1), (4, .int s14v.2)] := hl
          show SP _ _ (AW (KX7_weeks l D h0 hE v) h2 51 ls [])
          unfold X7_weeks_L51
          refine sp_m (aw_iload (pc := 51) dX7_weeks_51 (lv_at hl 3 rfl)) ?_
          refine sp_m (aw_aload_n (pc := 53) dX7_weeks_53 rfl (lv_at hl 0 rfl)) ?_
          refine sp_b fun x15 ex15 => ?_
          refine sp_m (aw_get (k := 3) okX7 (uS eh2 s1) (by decide) q1505 (Or.inl rfl) (congrArg va_rf ex15) (pc := 54) dX7_weeks_54) ?_
          refine sp_g fun s16 => ?_
          refine sp_m (aw_getN (k := 3) okX20 s16 (by decide) nq1645 rfl rfl (pc := 57) dX7_weeks_57) ?_
          refine sp_if (fun c17 => ?_) (fun c17 => ?_)
          · refine sp_m (aw_icmp_ge_t (tgt := 101) (pc := 60) dX7_weeks_60 (by decide) c17) ?_
            exact sp_r fun hz => hz ls (lv_sub hl [0, 1, 2] rfl)
          · refine sp_m (aw_icmp_ge_f (tgt := 101) (pc := 60) dX7_weeks_60 (by decide) c17) ?_
            refine sp_m (aw_iload_n (pc := 63) dX7_weeks_63 rfl (lv_at hl 2 rfl)) ?_
            have hj94_1 : ∀ j18 : Int32, ∀ ls : Array Slot, lv_has ls 5 [(0, .ref a0), (2, .int s11v), (4, .int s14v.2)] → SP (X7_weeks_j94 s14v j18) (ZL P14 E14) (AW (KX7_weeks l D h0 hE v) h2 94 ls (.int j18 :: [])) := by
              intro j18 ls hl
              unfold X7_weeks_j94
              refine sp_m (aw_istore_n (lv' := [(3, .int j18), (0, .ref a0), (2, .int s11v), (4, .int s14v.2)]) (pc := 94) dX7_weeks_94 rfl hl (by decide) rfl) (sp_all fun ls hl => ?_)
              refine sp_m (aw_iinc (v := s14v.2 + 1) (lv' := [(4, .int (s14v.2 + 1)), (3, .int j18), (0, .ref a0), (2, .int s11v)]) (pc := 95) dX7_weeks_95 hl (k := 3) rfl rfl (by decide) rfl) (sp_all fun ls hl => ?_)
              refine sp_m (aw_goto (tgt := 51) (pc := 98) dX7_weeks_98 (by decide)) ?_
              exact sp_r fun hz => hz ls (lv_sub hl [2, 3, 1, 0] rfl)
            have hj93_2 : ∀ ls : Array Slot, lv_has ls 5 [(0, .ref a0), (2, .int s11v), (4, .int s14v.2)] → SP (X7_weeks_j93 s14v) (ZL P14 E14) (AW (KX7_weeks l D h0 hE v) h2 93 ls ([])) := by
              intro ls hl
              unfold X7_weeks_j93
              refine sp_m (aw_iconst (v := 0) (pc := 93) dX7_weeks_93 rfl) ?_
              exact hj94_1 0 ls (lv_sub hl [0, 1, 2] rfl)
            refine sp_if (fun c19 => ?_) (fun c19 => ?_)
            · refine sp_m (aw_if_eq_t (tgt := 93) (pc := 64) dX7_weeks_64 (by decide) c19) ?_
              exact hj93_2 ls (lv_sub hl [0, 1, 3] rfl)
            · refine sp_m (aw_if_eq_f (tgt := 93) (pc := 64) dX7_weeks_64 (by decide) c19) ?_
              refine sp_m (aw_aload_n (pc := 67) dX7_weeks_67 rfl (lv_at hl 0 rfl)) ?_
              refine sp_m (aw_iload (pc := 68) dX7_weeks_68 (lv_at hl 3 rfl)) ?_
              refine sp_b fun p20 ep20 => ?_
              refine sp_m (G' := AW (KX7_weeks l D h0 hE v) h2 (73) ls (.int p20 :: [])) (fun kk => aw_callV (As := [.int s14v.2]) (metX7_isDead _ _ ep20) (rcv_o okX7 (uS eh2 s1)) rfl mok_X7_isDead q1885 q1887 qs75 q125 q1888 (Nat.le_of_ble_eq_true rfl) (Nat.le_of_ble_eq_true rfl) rfl hl.1 rfl (Nat.le_of_ble_eq_true rfl) (pc := 70) dX7_weeks_70 kk) ?_
              have hj89_3 : ∀ ls : Array Slot, lv_has ls 5 [(0, .ref a0), (2, .int s11v), (4, .int s14v.2)] → SP (X7_weeks_j89 s14v) (ZL P14 E14) (AW (KX7_weeks l D h0 hE v) h2 89 ls ([])) := by
                intro ls hl
                unfold X7_weeks_j89
                refine sp_m (aw_iconst (v := 1) (pc := 89) dX7_weeks_89 rfl) ?_
                refine sp_m (aw_goto (tgt := 94) (pc := 90) dX7_weeks_90 (by decide)) ?_
                exact hj94_1 1 ls (lv_sub hl [0, 1, 2] rfl)
              refine sp_if (fun c21 => ?_) (fun c21 => ?_)
              · refine sp_m (aw_if_ne_t (tgt := 89) (pc := 73) dX7_weeks_73 (by decide) c21) ?_
                exact hj89_3 ls (lv_sub hl [0, 1, 3] rfl)
              · refine sp_m (aw_if_ne_f (tgt := 89) (pc := 73) dX7_weeks_73 (by decide) (Decidable.not_not.mp c21)) ?_
                refine sp_m (aw_aload_n (pc := 76) dX7_weeks_76 rfl (lv_at hl 0 rfl)) ?_
                refine sp_m (aw_iload (pc := 77) dX7_weeks_77 (lv_at hl 3 rfl)) ?_
                refine sp_m (aw_iconst (v := 3) (pc := 79) dX7_weeks_79 rfl) ?_
                refine sp_m (aw_iload_n (pc := 80) dX7_weeks_80 rfl (lv_at hl 1 rfl)) ?_
                refine sp_b fun p22 ep22 => ?_
                refine sp_m (G' := AW (KX7_weeks l D h0 hE v) h2 (84) ls (.long p22 :: [])) (fun kk => aw_callV (As := [.int s14v.2, .int 3, .int s11v]) (metX7_worthBy _ _ ep22) (rcv_o okX7 (uS eh2 s1)) rfl mok_X7_worthBy q1960 q1962 qs87 q125 q1963 (Nat.le_of_ble_eq_true rfl) (Nat.le_of_ble_eq_true rfl) rfl hl.1 rfl (Nat.le_of_ble_eq_true rfl) (pc := 81) dX7_weeks_81 kk) ?_
                refine sp_m (aw_lconst (v := 0) (pc := 84) dX7_weeks_84 rfl) ?_
                refine sp_m (aw_lcmp (pc := 85) dX7_weeks_85) ?_
                refine sp_if (fun c23 => ?_) (fun c23 => ?_)
                · refine sp_m (aw_if_gt_t (tgt := 93) (pc := 86) dX7_weeks_86 (by decide) ((lg_cmp_gt _ _).mpr c23)) ?_
                  exact hj93_2 ls (lv_sub hl [0, 1, 3] rfl)
                · refine sp_m (aw_if_gt_f (tgt := 93) (pc := 86) dX7_weeks_86 (by decide) (fun z => c23 ((lg_cmp_gt _ _).mp z))) ?_
                  exact hj89_3 ls (lv_sub hl [0, 1, 3] rfl)
        · have hl : lv_has ls 5 [(0, .ref a0), (2, .int s11v), (3, .int r14v)] := hl
          show SP _ _ (AW (KX7_weeks l D h0 hE v) h2 101 ls [])
          refine sp_m (aw_iload_n (pc := 101) dX7_weeks_101 rfl (lv_at hl 2 rfl)) ?_
          refine sp_if (fun c24 => ?_) (fun c24 => ?_)
          · refine sp_m (aw_if_eq_t (tgt := 111) (pc := 102) dX7_weeks_102 (by decide) c24) ?_
            refine sp_m (aw_iinc (v := s11v + 1) (lv' := [(2, .int (s11v + 1)), (0, .ref a0), (3, .int r14v)]) (pc := 111) dX7_weeks_111 hl (k := 1) rfl rfl (by decide) rfl) (sp_all fun ls hl => ?_)
            refine sp_m (aw_goto (tgt := 40) (pc := 114) dX7_weeks_114 (by decide)) ?_
            exact sp_r fun hz => hz ls (lv_sub hl [1, 0] rfl)
          · refine sp_m (aw_if_eq_f (tgt := 111) (pc := 102) dX7_weeks_102 (by decide) c24) ?_
            refine sp_m (aw_aload_n (pc := 105) dX7_weeks_105 rfl (lv_at hl 0 rfl)) ?_
            refine sp_m (aw_iload_n (pc := 106) dX7_weeks_106 rfl (lv_at hl 1 rfl)) ?_
            refine sp_b fun p25 ep25 => ?_
            refine sp_m (G' := AW (KX7_weeks l D h0 hE v) p25.2 (110) ls (.int p25.1 :: [])) (fun kk => aw_callV (As := [.int s11v]) (metX7_good _ _ ep25) (rcv_o okX7 (uS eh2 s1)) rfl mok_X7_good q1865 q1867 qs73 q125 q1868 (Nat.le_of_ble_eq_true rfl) (Nat.le_of_ble_eq_true rfl) rfl hl.1 rfl (Nat.le_of_ble_eq_true rfl) (pc := 107) dX7_weeks_107 kk) ?_
            exact sp_r fun hz => aw_iret hz rfl rfl rfl (pc := 110) dX7_weeks_110
    · refine sp_m (aw_icmp_eq_f (tgt := 38) (pc := 29) dX7_weeks_29 (by decide) c10) ?_
      refine sp_m (aw_aload_n (pc := 32) dX7_weeks_32 rfl (lv_at hl 0 rfl)) ?_
      refine sp_m (aw_iconst (v := 5) (pc := 33) dX7_weeks_33 rfl) ?_
      refine sp_b fun p26 ep26 => ?_
      refine sp_m (G' := AW (KX7_weeks l D h0 hE v) p26.2 (37) ls (.int p26.1 :: [])) (fun kk => aw_callV (As := [.int 5]) (metX7_refused _ _ ep26) (rcv_o okX7 (uS eh2 s1)) rfl mok_X7_refused q1632 q1634 qs50 q125 q1635 (Nat.le_of_ble_eq_true rfl) (Nat.le_of_ble_eq_true rfl) rfl hl.1 rfl (Nat.le_of_ble_eq_true rfl) (pc := 34) dX7_weeks_34 kk) ?_
      exact sp_r fun hz => aw_iret hz rfl rfl rfl (pc := 37) dX7_weeks_37
  · refine sp_m (aw_if_ne_f (tgt := 19) (pc := 10) dX7_weeks_10 (by decide) (Decidable.not_not.mp c4)) ?_
    refine sp_m (aw_aload_n (pc := 13) dX7_weeks_13 rfl (lv_at hl 0 rfl)) ?_
    refine sp_m (aw_iconst (v := 1) (pc := 14) dX7_weeks_14 rfl) ?_
    refine sp_b fun p27 ep27 => ?_
    refine sp_m (G' := AW (KX7_weeks l D h0 hE v) p27.2 (18) ls (.int p27.1 :: [])) (fun kk => aw_callV (As := [.int 1]) (metX7_refused _ _ ep27) (rcv_o okX7 (uS eh2 s1)) rfl mok_X7_refused q1632 q1634 qs50 q125 q1635 (Nat.le_of_ble_eq_true rfl) (Nat.le_of_ble_eq_true rfl) rfl hl.1 rfl (Nat.le_of_ble_eq_true rfl) (pc := 15) dX7_weeks_15 kk) ?_
    exact sp_r fun hz => aw_iret hz rfl rfl rfl (pc := 18) dX7_weeks_18
theorem mok_X7_where : mOK yX7_where 0 := ⟨⟨by decide +kernel, by decide +kernel⟩, by decide +kernel⟩
abbrev KX7_where (l : Launch) (D : DD) (h0 hE : AH) (v : Int32) : KT := (l, yX7_where, cX7_where, 1, (some .int), RX7, 1, D, h0, hE, .inl (some (.int v)), false, [])
theorem metX7_where (l : Launch) (D : DD) {a0 : Nat} {h0 : AH} {hE : AH} {v : Int32} (hr : fX7_where a0 h0 = some (v, hE)) : AMet (KX7_where l D h0 hE v) [.ref a0] := by
  refine AMet.of (K := (KX7_where l D h0 hE v)) rfl ⟨_, rfl⟩ rfl rfl rfl (Nat.le_of_ble_eq_true rfl) (fun ls hl => ?_)
  have hl : lv_has ls 1 [(0, .ref a0)] := hl
  suffices hsp : SP (fX7_where a0 h0) (fun z => z = (v, hE)) (AW (KX7_where l D h0 hE v) h0 0 ls []) from hsp _ hr rfl
  unfold fX7_where
  refine sp_m (aw_aload_n (pc := 0) dX7_where_0 rfl (lv_at hl 0 rfl)) ?_
  refine sp_m (aw_iconst (v := 0) (pc := 1) dX7_where_1 rfl) ?_
  refine sp_g fun s1 => ?_
  refine sp_t fun h2 eh20 => ?_
  have eh2 : gS h2 = gS h0 := by rw [eh20]; rfl
  refine sp_m (aw_put (k := 0) okX7 opX7 s1 (by decide) q1502 (Or.inl rfl) (Or.inl rfl) (hasV_I' eh20) rfl rfl (pc := 2) dX7_where_2) ?_
  refine sp_m (aw_aload_n (pc := 5) dX7_where_5 rfl (lv_at hl 0 rfl)) ?_
  refine sp_m (aw_get (k := 2) okX7 (uS eh2 s1) (by decide) q1504 (Or.inl rfl) rfl (pc := 6) dX7_where_6) ?_
  exact sp_r fun hz => aw_iret hz rfl rfl rfl (pc := 9) dX7_where_9
theorem mok_X7_won : mOK yX7_won 2 := ⟨⟨by decide +kernel, by decide +kernel⟩, by decide +kernel⟩
abbrev KX7_won (l : Launch) (D : DD) (h0 hE : AH) (v : Int32) : KT := (l, yX7_won, cX7_won, 4, (some .int), RX7, 7, D, h0, hE, .inl (some (.int v)), false, [])
theorem metX7_won (l : Launch) (D : DD) {a0 : Nat} {a1 : Int32} {a2 : Int32} {h0 : AH} {hE : AH} {v : Int32} (hr : fX7_won a0 a1 a2 h0 = some (v, hE)) : AMet (KX7_won l D h0 hE v) [.ref a0, .int a1, .int a2] := by
  refine AMet.of (K := (KX7_won l D h0 hE v)) rfl ⟨_, rfl⟩ rfl rfl rfl (Nat.le_of_ble_eq_true rfl) (fun ls hl => ?_)
  have hl : lv_has ls 4 [(0, .ref a0), (1, .int a1), (2, .int a2)] := hl
  suffices hsp : SP (fX7_won a0 a1 a2 h0) (fun z => z = (v, hE)) (AW (KX7_won l D h0 hE v) h0 0 ls []) from hsp _ hr rfl
  unfold fX7_won
  refine sp_m (aw_aload_n (pc := 0) dX7_won_0 rfl (lv_at hl 0 rfl)) ?_
  refine sp_m (aw_iconst (v := 0) (pc := 1) dX7_won_1 rfl) ?_
  refine sp_g fun s1 => ?_
  refine sp_t fun h2 eh20 => ?_
  have eh2 : gS h2 = gS h0 := by rw [eh20]; rfl
  refine sp_m (aw_put (k := 0) okX7 opX7 s1 (by decide) q1502 (Or.inl rfl) (Or.inl rfl) (hasV_I' eh20) rfl rfl (pc := 2) dX7_won_2) ?_
  refine sp_m (aw_aload_n (pc := 5) dX7_won_5 rfl (lv_at hl 0 rfl)) ?_
  refine sp_m (aw_aload_n (pc := 6) dX7_won_6 rfl (lv_at hl 0 rfl)) ?_
  refine sp_o (fun ex3 => ?_) (fun x3 ex3 => ?_)
  · refine sp_m (aw_get (k := 3) okX7 (uS eh2 s1) (by decide) q1505 (Or.inl rfl) (congrArg va_rf ex3) (pc := 7) dX7_won_7) ?_
    refine sp_m (aw_ifnullN (tgt := 17) (pc := 10) dX7_won_10 (by decide)) ?_
    refine sp_m (aw_iconst (v := 0) (pc := 17) dX7_won_17 rfl) ?_
    refine sp_m (aw_iload_n (pc := 18) dX7_won_18 rfl (lv_at hl 1 rfl)) ?_
    refine sp_m (aw_iload_n (pc := 19) dX7_won_19 rfl (lv_at hl 2 rfl)) ?_
    refine sp_b fun p10 ep10 => ?_
    refine sp_m (G' := AW (KX7_won l D h0 hE v) h2 (23) ls (.int p10 :: [])) (fun kk => aw_callV (As := [.int 0, .int a1, .int a2]) (metX7_refusesBattles _ _ ep10) (rcv_o okX7 (uS eh2 s1)) rfl mok_X7_refusesBattles q2151 q2153 qs107 q125 q2154 (Nat.le_of_ble_eq_true rfl) (Nat.le_of_ble_eq_true rfl) rfl hl.1 rfl (Nat.le_of_ble_eq_true rfl) (pc := 20) dX7_won_20 kk) ?_
    refine sp_m (aw_istore_n (lv' := [(3, .int p10), (0, .ref a0), (1, .int a1), (2, .int a2)]) (pc := 23) dX7_won_23 rfl hl (by decide) rfl) (sp_all fun ls hl => ?_)
    refine sp_m (aw_iload_n (pc := 24) dX7_won_24 rfl (lv_at hl 0 rfl)) ?_
    refine sp_if (fun c11 => ?_) (fun c11 => ?_)
    · refine sp_m (aw_if_le_t (tgt := 34) (pc := 25) dX7_won_25 (by decide) c11) ?_
      refine sp_m (aw_aload_n (pc := 34) dX7_won_34 rfl (lv_at hl 1 rfl)) ?_
      refine sp_m (aw_iload_n (pc := 35) dX7_won_35 rfl (lv_at hl 2 rfl)) ?_
      refine sp_m (aw_iload_n (pc := 36) dX7_won_36 rfl (lv_at hl 3 rfl)) ?_
      refine sp_m (aw_iconst (v := 0) (pc := 37) dX7_won_37 rfl) ?_
      refine sp_b fun p12 ep12 => ?_
      refine sp_m (G' := AW (KX7_won l D h0 hE v) p12 (41) ls ([])) (fun kk => aw_callV (As := [.int a1, .int a2, .int 0]) (metX7_fightsAll _ _ ep12) (rcv_o okX7 (uS eh2 s1)) rfl mok_X7_fightsAll q2156 q2158 qs108 q125 q2159 (Nat.le_of_ble_eq_true rfl) (Nat.le_of_ble_eq_true rfl) rfl hl.1 rfl (Nat.le_of_ble_eq_true rfl) (pc := 38) dX7_won_38 kk) ?_
      refine sp_m (aw_aload_n (pc := 41) dX7_won_41 rfl (lv_at hl 1 rfl)) ?_
      refine sp_m (aw_aload_n (pc := 42) dX7_won_42 rfl (lv_at hl 1 rfl)) ?_
      refine sp_g fun s13 => ?_
      refine sp_m (aw_get (k := 37) okX7 s13 (by decide) q1539 (Or.inl rfl) rfl (pc := 43) dX7_won_43) ?_
      refine sp_b fun p14 ep14 => ?_
      refine sp_m (G' := AW (KX7_won l D h0 hE v) p14.2 (49) ls (.int p14.1 :: [])) (fun kk => aw_callV (As := [.int (gI p12 a0 37)]) (metX7_good _ _ ep14) (rcv_o okX7 s13) rfl mok_X7_good q1865 q1867 qs73 q125 q1868 (Nat.le_of_ble_eq_true rfl) (Nat.le_of_ble_eq_true rfl) rfl hl.1 rfl (Nat.le_of_ble_eq_true rfl) (pc := 46) dX7_won_46 kk) ?_
      exact sp_r fun hz => aw_iret hz rfl rfl rfl (pc := 49) dX7_won_49
    · refine sp_m (aw_if_le_f (tgt := 34) (pc := 25) dX7_won_25 (by decide) c11) ?_
      refine sp_m (aw_aload_n (pc := 28) dX7_won_28 rfl (lv_at hl 1 rfl)) ?_
      refine sp_m (aw_iload_n (pc := 29) dX7_won_29 rfl (lv_at hl 0 rfl)) ?_
      refine sp_b fun p15 ep15 => ?_
      refine sp_m (G' := AW (KX7_won l D h0 hE v) p15.2 (33) ls (.int p15.1 :: [])) (fun kk => aw_callV (As := [.int p10]) (metX7_refused _ _ ep15) (rcv_o okX7 (uS eh2 s1)) rfl mok_X7_refused q1632 q1634 qs50 q125 q1635 (Nat.le_of_ble_eq_true rfl) (Nat.le_of_ble_eq_true rfl) rfl hl.1 rfl (Nat.le_of_ble_eq_true rfl) (pc := 30) dX7_won_30 kk) ?_
      exact sp_r fun hz => aw_iret hz rfl rfl rfl (pc := 33) dX7_won_33
  · refine sp_m (aw_get (k := 3) okX7 (uS eh2 s1) (by decide) q1505 (Or.inl rfl) (congrArg va_rf ex3) (pc := 7) dX7_won_7) ?_
    refine sp_m (aw_ifnull (pc := 10) dX7_won_10) ?_
    refine sp_m (aw_iconst (v := 1) (pc := 13) dX7_won_13 rfl) ?_
    refine sp_m (aw_goto (tgt := 18) (pc := 14) dX7_won_14 (by decide)) ?_
    refine sp_m (aw_iload_n (pc := 18) dX7_won_18 rfl (lv_at hl 1 rfl)) ?_
    refine sp_m (aw_iload_n (pc := 19) dX7_won_19 rfl (lv_at hl 2 rfl)) ?_
    refine sp_b fun p4 ep4 => ?_
    refine sp_m (G' := AW (KX7_won l D h0 hE v) h2 (23) ls (.int p4 :: [])) (fun kk => aw_callV (As := [.int 1, .int a1, .int a2]) (metX7_refusesBattles _ _ ep4) (rcv_o okX7 (uS eh2 s1)) rfl mok_X7_refusesBattles q2151 q2153 qs107 q125 q2154 (Nat.le_of_ble_eq_true rfl) (Nat.le_of_ble_eq_true rfl) rfl hl.1 rfl (Nat.le_of_ble_eq_true rfl) (pc := 20) dX7_won_20 kk) ?_
    refine sp_m (aw_istore_n (lv' := [(3, .int p4), (0, .ref a0), (1, .int a1), (2, .int a2)]) (pc := 23) dX7_won_23 rfl hl (by decide) rfl) (sp_all fun ls hl => ?_)
    refine sp_m (aw_iload_n (pc := 24) dX7_won_24 rfl (lv_at hl 0 rfl)) ?_
    refine sp_if (fun c5 => ?_) (fun c5 => ?_)
    · refine sp_m (aw_if_le_t (tgt := 34) (pc := 25) dX7_won_25 (by decide) c5) ?_
      refine sp_m (aw_aload_n (pc := 34) dX7_won_34 rfl (lv_at hl 1 rfl)) ?_
      refine sp_m (aw_iload_n (pc := 35) dX7_won_35 rfl (lv_at hl 2 rfl)) ?_
      refine sp_m (aw_iload_n (pc := 36) dX7_won_36 rfl (lv_at hl 3 rfl)) ?_
      refine sp_m (aw_iconst (v := 0) (pc := 37) dX7_won_37 rfl) ?_
      refine sp_b fun p6 ep6 => ?_
      refine sp_m (G' := AW (KX7_won l D h0 hE v) p6 (41) ls ([])) (fun kk => aw_callV (As := [.int a1, .int a2, .int 0]) (metX7_fightsAll _ _ ep6) (rcv_o okX7 (uS eh2 s1)) rfl mok_X7_fightsAll q2156 q2158 qs108 q125 q2159 (Nat.le_of_ble_eq_true rfl) (Nat.le_of_ble_eq_true rfl) rfl hl.1 rfl (Nat.le_of_ble_eq_true rfl) (pc := 38) dX7_won_38 kk) ?_
      refine sp_m (aw_aload_n (pc := 41) dX7_won_41 rfl (lv_at hl 1 rfl)) ?_
      refine sp_m (aw_aload_n (pc := 42) dX7_won_42 rfl (lv_at hl 1 rfl)) ?_
      refine sp_g fun s7 => ?_
      refine sp_m (aw_get (k := 37) okX7 s7 (by decide) q1539 (Or.inl rfl) rfl (pc := 43) dX7_won_43) ?_
      refine sp_b fun p8 ep8 => ?_
      refine sp_m (G' := AW (KX7_won l D h0 hE v) p8.2 (49) ls (.int p8.1 :: [])) (fun kk => aw_callV (As := [.int (gI p6 a0 37)]) (metX7_good _ _ ep8) (rcv_o okX7 s7) rfl mok_X7_good q1865 q1867 qs73 q125 q1868 (Nat.le_of_ble_eq_true rfl) (Nat.le_of_ble_eq_true rfl) rfl hl.1 rfl (Nat.le_of_ble_eq_true rfl) (pc := 46) dX7_won_46 kk) ?_
      exact sp_r fun hz => aw_iret hz rfl rfl rfl (pc := 49) dX7_won_49
    · refine sp_m (aw_if_le_f (tgt := 34) (pc := 25) dX7_won_25 (by decide) c5) ?_
      refine sp_m (aw_aload_n (pc := 28) dX7_won_28 rfl (lv_at hl 1 rfl)) ?_
      refine sp_m (aw_iload_n (pc := 29) dX7_won_29 rfl (lv_at hl 0 rfl)) ?_
      refine sp_b fun p9 ep9 => ?_
      refine sp_m (G' := AW (KX7_won l D h0 hE v) p9.2 (33) ls (.int p9.1 :: [])) (fun kk => aw_callV (As := [.int p4]) (metX7_refused _ _ ep9) (rcv_o okX7 (uS eh2 s1)) rfl mok_X7_refused q1632 q1634 qs50 q125 q1635 (Nat.le_of_ble_eq_true rfl) (Nat.le_of_ble_eq_true rfl) rfl hl.1 rfl (Nat.le_of_ble_eq_true rfl) (pc := 30) dX7_won_30 kk) ?_
      exact sp_r fun hz => aw_iret hz rfl rfl rfl (pc := 33) dX7_won_33
theorem mok_X7_worst : mOK yX7_worst 0 := ⟨⟨by decide +kernel, by decide +kernel⟩, by decide +kernel⟩
abbrev KX7_worst (l : Launch) (D : DD) (h0 hE : AH) (v : Int32) : KT := (l, yX7_worst, cX7_worst, 5, (some .int), RX7, 7, D, h0, hE, .inl (some (.int v)), false, [])
theorem metX7_worst (l : Launch) (D : DD) {a0 : Nat} {h0 : AH} {hE : AH} {v : Int32} (hr : fX7_worst a0 h0 = some (v, hE)) : AMet (KX7_worst l D h0 hE v) [.ref a0] := by
  refine AMet.of (K := (KX7_worst l D h0 hE v)) rfl ⟨_, rfl⟩ rfl rfl rfl (Nat.le_of_ble_eq_true rfl) (fun ls hl => ?_)
  have hl : lv_has ls 5 [(0, .ref a0)] := hl
  suffices hsp : SP (fX7_worst a0 h0) (fun z => z = (v, hE)) (AW (KX7_worst l D h0 hE v) h0 0 ls []) from hsp _ hr rfl
  unfold fX7_worst
  refine sp_m (aw_aload_n (pc := 0) dX7_worst_0 rfl (lv_at hl 0 rfl)) ?_
  refine sp_m (aw_iconst (v := 0) (pc := 1) dX7_worst_1 rfl) ?_
  refine sp_g fun s1 => ?_
  refine sp_t fun h2 eh20 => ?_
  have eh2 : gS h2 = gS h0 := by rw [eh20]; rfl
  refine sp_m (aw_put (k := 0) okX7 opX7 s1 (by decide) q1502 (Or.inl rfl) (Or.inl rfl) (hasV_I' eh20) rfl rfl (pc := 2) dX7_worst_2) ?_
  refine sp_m (aw_aload_n (pc := 5) dX7_worst_5 rfl (lv_at hl 0 rfl)) ?_
  refine sp_o (fun ex3 => ?_) (fun x3 ex3 => ?_)
  · refine sp_m (aw_get (k := 3) okX7 (uS eh2 s1) (by decide) q1505 (Or.inl rfl) (congrArg va_rf ex3) (pc := 6) dX7_worst_6) ?_
    refine sp_m (aw_ifnonnullN (pc := 9) dX7_worst_9) ?_
    refine sp_m (aw_aload_n (pc := 12) dX7_worst_12 rfl (lv_at hl 0 rfl)) ?_
    refine sp_m (aw_iconst (v := 1) (pc := 13) dX7_worst_13 rfl) ?_
    refine sp_b fun p14 ep14 => ?_
    refine sp_m (G' := AW (KX7_worst l D h0 hE v) p14.2 (17) ls (.int p14.1 :: [])) (fun kk => aw_callV (As := [.int 1]) (metX7_refused _ _ ep14) (rcv_o okX7 (uS eh2 s1)) rfl mok_X7_refused q1632 q1634 qs50 q125 q1635 (Nat.le_of_ble_eq_true rfl) (Nat.le_of_ble_eq_true rfl) rfl hl.1 rfl (Nat.le_of_ble_eq_true rfl) (pc := 14) dX7_worst_14 kk) ?_
    exact sp_r fun hz => aw_iret hz rfl rfl rfl (pc := 17) dX7_worst_17
  · refine sp_m (aw_get (k := 3) okX7 (uS eh2 s1) (by decide) q1505 (Or.inl rfl) (congrArg va_rf ex3) (pc := 6) dX7_worst_6) ?_
    refine sp_m (aw_ifnonnull (tgt := 18) (pc := 9) dX7_worst_9 (by decide)) ?_
    refine sp_m (aw_bipush (v := (-2)) (pc := 18) dX7_worst_18 rfl) ?_
    refine sp_m (aw_istore_n (lv' := [(1, .int (-2)), (0, .ref a0)]) (pc := 20) dX7_worst_20 rfl hl (by decide) rfl) (sp_all fun ls hl => ?_)
    refine sp_m (aw_lconst (v := 0) (pc := 21) dX7_worst_21 rfl) ?_
    refine sp_m (aw_lstore_n (lv' := [(2, .long 0), (1, .int (-2)), (0, .ref a0)]) (pc := 22) dX7_worst_22 rfl hl (by decide) rfl) (sp_all fun ls hl => ?_)
    refine sp_m (aw_iconst (v := 0) (pc := 23) dX7_worst_23 rfl) ?_
    refine sp_m (aw_istore (lv' := [(4, .int 0), (2, .long 0), (1, .int (-2)), (0, .ref a0)]) (pc := 24) dX7_worst_24 hl (by decide) rfl) (sp_all fun ls hl => ?_)
    let P4 : Int32 × Int64 × Int32 → Prop := aLP (KX7_worst l D h0 hE v) 5 26 (fun s4v : Int32 × Int64 × Int32 => [(0, .ref a0), (1, .int s4v.1), (2, .long s4v.2.1), (4, .int s4v.2.2)]) (fun s4v => h2)
    let E4 : Int32 → Prop := aLP (KX7_worst l D h0 hE v) 5 70 (fun r4v : Int32 => [(0, .ref a0), (1, .int r4v)]) (fun r4v => h2)
    refine sp_bl (P := P4) (E := E4) (fun s4v => sp_all fun ls hl => ?_) (fun k => k ls (lv_sub hl [3, 2, 1, 0] rfl)) (fun r4v => sp_all fun ls hl => ?_)
    · have hl : lv_has ls 5 [(0, .ref a0), (1, .int s4v.1), (2, .long s4v.2.1), (4, .int s4v.2.2)] := hl
      show SP _ _ (AW (KX7_worst l D h0 hE v) h2 26 ls [])
      unfold X7_worst_L26
      refine sp_m (aw_iload (pc := 26) dX7_worst_26 (lv_at hl 3 rfl)) ?_
      refine sp_m (aw_aload_n (pc := 28) dX7_worst_28 rfl (lv_at hl 0 rfl)) ?_
      refine sp_b fun x5 ex5 => ?_
      refine sp_m (aw_get (k := 3) okX7 (uS eh2 s1) (by decide) q1505 (Or.inl rfl) (congrArg va_rf ex5) (pc := 29) dX7_worst_29) ?_
      refine sp_g fun s6 => ?_
      refine sp_m (aw_getN (k := 3) okX20 s6 (by decide) nq1645 rfl rfl (pc := 32) dX7_worst_32) ?_
      refine sp_if (fun c7 => ?_) (fun c7 => ?_)
      · refine sp_m (aw_icmp_ge_t (tgt := 70) (pc := 35) dX7_worst_35 (by decide) c7) ?_
        exact sp_r fun hz => hz ls (lv_sub hl [0, 1] rfl)
      · refine sp_m (aw_icmp_ge_f (tgt := 70) (pc := 35) dX7_worst_35 (by decide) c7) ?_
        refine sp_m (aw_aload_n (pc := 38) dX7_worst_38 rfl (lv_at hl 0 rfl)) ?_
        refine sp_m (aw_iload (pc := 39) dX7_worst_39 (lv_at hl 3 rfl)) ?_
        refine sp_m (aw_iconst (v := 1) (pc := 41) dX7_worst_41 rfl) ?_
        refine sp_b fun p8 ep8 => ?_
        refine sp_m (G' := AW (KX7_worst l D h0 hE v) h2 (45) ls (.long p8 :: [])) (fun kk => aw_callV (As := [.int s4v.2.2, .int 1]) (metX7_meanNow _ _ ep8) (rcv_o okX7 (uS eh2 s1)) rfl mok_X7_meanNow q1993 q1995 qs90 q125 q1996 (Nat.le_of_ble_eq_true rfl) (Nat.le_of_ble_eq_true rfl) rfl hl.1 rfl (Nat.le_of_ble_eq_true rfl) (pc := 42) dX7_worst_42 kk) ?_
        refine sp_m (aw_lload_n (pc := 45) dX7_worst_45 rfl (lv_at hl 2 rfl)) ?_
        refine sp_m (aw_lcmp (pc := 46) dX7_worst_46) ?_
        have hj64_1 : ∀ j9 : Int32, ∀ j10 : Int64, ∀ ls : Array Slot, lv_has ls 5 [(0, .ref a0), (1, .int j9), (2, .long j10), (4, .int s4v.2.2)] → SP (X7_worst_j64 s4v j9 j10) (ZL P4 E4) (AW (KX7_worst l D h0 hE v) h2 64 ls ([])) := by
          intro j9 j10 ls hl
          unfold X7_worst_j64
          refine sp_m (aw_iinc (v := s4v.2.2 + 1) (lv' := [(4, .int (s4v.2.2 + 1)), (0, .ref a0), (1, .int j9), (2, .long j10)]) (pc := 64) dX7_worst_64 hl (k := 3) rfl rfl (by decide) rfl) (sp_all fun ls hl => ?_)
          refine sp_m (aw_goto (tgt := 26) (pc := 67) dX7_worst_67 (by decide)) ?_
          exact sp_r fun hz => hz ls (lv_sub hl [1, 2, 3, 0] rfl)
        refine sp_if (fun c11 => ?_) (fun c11 => ?_)
        · refine sp_m (aw_if_gt_t (tgt := 53) (pc := 47) dX7_worst_47 (by decide) ((lg_cmp_gt _ _).mpr c11)) ?_
          refine sp_m (aw_aload_n (pc := 53) dX7_worst_53 rfl (lv_at hl 0 rfl)) ?_
          refine sp_m (aw_iload (pc := 54) dX7_worst_54 (lv_at hl 3 rfl)) ?_
          refine sp_m (aw_iconst (v := 1) (pc := 56) dX7_worst_56 rfl) ?_
          refine sp_b fun p12 ep12 => ?_
          refine sp_m (G' := AW (KX7_worst l D h0 hE v) h2 (60) ls (.long p12 :: [])) (fun kk => aw_callV (As := [.int s4v.2.2, .int 1]) (metX7_meanNow _ _ ep12) (rcv_o okX7 (uS eh2 s1)) rfl mok_X7_meanNow q1993 q1995 qs90 q125 q1996 (Nat.le_of_ble_eq_true rfl) (Nat.le_of_ble_eq_true rfl) rfl hl.1 rfl (Nat.le_of_ble_eq_true rfl) (pc := 57) dX7_worst_57 kk) ?_
          refine sp_m (aw_lstore_n (lv' := [(2, .long p12), (0, .ref a0), (1, .int s4v.1), (4, .int s4v.2.2)]) (pc := 60) dX7_worst_60 rfl hl (by decide) rfl) (sp_all fun ls hl => ?_)
          refine sp_m (aw_iload (pc := 61) dX7_worst_61 (lv_at hl 3 rfl)) ?_
          refine sp_m (aw_istore_n (lv' := [(1, .int s4v.2.2), (2, .long p12), (0, .ref a0), (4, .int s4v.2.2)]) (pc := 63) dX7_worst_63 rfl hl (by decide) rfl) (sp_all fun ls hl => ?_)
          exact hj64_1 s4v.2.2 p12 ls (lv_sub hl [2, 0, 1, 3] rfl)
        · refine sp_m (aw_if_gt_f (tgt := 53) (pc := 47) dX7_worst_47 (by decide) (fun z => c11 ((lg_cmp_gt _ _).mp z))) ?_
          refine sp_m (aw_goto (tgt := 64) (pc := 50) dX7_worst_50 (by decide)) ?_
          exact hj64_1 s4v.1 s4v.2.1 ls (lv_sub hl [0, 1, 2, 3] rfl)
    · have hl : lv_has ls 5 [(0, .ref a0), (1, .int r4v)] := hl
      show SP _ _ (AW (KX7_worst l D h0 hE v) h2 70 ls [])
      refine sp_m (aw_aload_n (pc := 70) dX7_worst_70 rfl (lv_at hl 0 rfl)) ?_
      refine sp_m (aw_iload_n (pc := 71) dX7_worst_71 rfl (lv_at hl 1 rfl)) ?_
      refine sp_b fun p13 ep13 => ?_
      refine sp_m (G' := AW (KX7_worst l D h0 hE v) p13.2 (75) ls (.int p13.1 :: [])) (fun kk => aw_callV (As := [.int r4v]) (metX7_good _ _ ep13) (rcv_o okX7 (uS eh2 s1)) rfl mok_X7_good q1865 q1867 qs73 q125 q1868 (Nat.le_of_ble_eq_true rfl) (Nat.le_of_ble_eq_true rfl) rfl hl.1 rfl (Nat.le_of_ble_eq_true rfl) (pc := 72) dX7_worst_72 kk) ?_
      exact sp_r fun hz => aw_iret hz rfl rfl rfl (pc := 75) dX7_worst_75
theorem mok_X7_worstPass : mOK yX7_worstPass 3 := ⟨⟨by decide +kernel, by decide +kernel⟩, by decide +kernel⟩
abbrev KX7_worstPass (l : Launch) (D : DD) (h0 hE : AH) (v : Int32) : KT := (l, yX7_worstPass, cX7_worstPass, 10, (some .int), RX7, 3, D, h0, hE, .inl (some (.int v)), false, [])
theorem metX7_worstPass (l : Launch) (D : DD) {a0 : Nat} {a1 : Int32} {a2 : Int32} {a3 : Int32} {h0 : AH} {hE : AH} {v : Int32} (hr : fX7_worstPass a0 a1 a2 a3 h0 = some (v, hE)) : AMet (KX7_worstPass l D h0 hE v) [.ref a0, .int a1, .int a2, .int a3] := by
  refine AMet.of (K := (KX7_worstPass l D h0 hE v)) rfl ⟨_, rfl⟩ rfl rfl rfl (Nat.le_of_ble_eq_true rfl) (fun ls hl => ?_)
  have hl : lv_has ls 10 [(0, .ref a0), (1, .int a1), (2, .int a2), (3, .int a3)] := hl
  suffices hsp : SP (fX7_worstPass a0 a1 a2 a3 h0) (fun z => z = (v, hE)) (AW (KX7_worstPass l D h0 hE v) h0 0 ls []) from hsp _ hr rfl
  unfold fX7_worstPass
  refine sp_m (aw_aload_n (pc := 0) dX7_worstPass_0 rfl (lv_at hl 0 rfl)) ?_
  refine sp_m (aw_iconst (v := 0) (pc := 1) dX7_worstPass_1 rfl) ?_
  refine sp_g fun s1 => ?_
  refine sp_t fun h2 eh20 => ?_
  have eh2 : gS h2 = gS h0 := by rw [eh20]; rfl
  refine sp_m (aw_put (k := 0) okX7 opX7 s1 (by decide) q1502 (Or.inl rfl) (Or.inl rfl) (hasV_I' eh20) rfl rfl (pc := 2) dX7_worstPass_2) ?_
  refine sp_m (aw_aload_n (pc := 5) dX7_worstPass_5 rfl (lv_at hl 0 rfl)) ?_
  refine sp_m (aw_iload_n (pc := 6) dX7_worstPass_6 rfl (lv_at hl 1 rfl)) ?_
  refine sp_m (aw_iload_n (pc := 7) dX7_worstPass_7 rfl (lv_at hl 2 rfl)) ?_
  refine sp_m (aw_iload_n (pc := 8) dX7_worstPass_8 rfl (lv_at hl 3 rfl)) ?_
  refine sp_b fun p3 ep3 => ?_
  refine sp_m (G' := AW (KX7_worstPass l D h0 hE v) h2 (12) ls (.int p3 :: [])) (fun kk => aw_callV (As := [.int a1, .int a2, .int a3]) (metX7_refusesMarch _ _ ep3) (rcv_o okX7 (uS eh2 s1)) rfl mok_X7_refusesMarch q2080 q2082 qs100 q125 q2083 (Nat.le_of_ble_eq_true rfl) (Nat.le_of_ble_eq_true rfl) rfl hl.1 rfl (Nat.le_of_ble_eq_true rfl) (pc := 9) dX7_worstPass_9 kk) ?_
  refine sp_m (aw_istore (lv' := [(4, .int p3), (0, .ref a0), (1, .int a1), (2, .int a2), (3, .int a3)]) (pc := 12) dX7_worstPass_12 hl (by decide) rfl) (sp_all fun ls hl => ?_)
  refine sp_m (aw_iload (pc := 14) dX7_worstPass_14 (lv_at hl 0 rfl)) ?_
  refine sp_if (fun c4 => ?_) (fun c4 => ?_)
  · refine sp_m (aw_if_le_t (tgt := 26) (pc := 16) dX7_worstPass_16 (by decide) c4) ?_
    refine sp_m (aw_aload_n (pc := 26) dX7_worstPass_26 rfl (lv_at hl 1 rfl)) ?_
    refine sp_m (aw_iload_n (pc := 27) dX7_worstPass_27 rfl (lv_at hl 2 rfl)) ?_
    refine sp_m (aw_iload_n (pc := 28) dX7_worstPass_28 rfl (lv_at hl 3 rfl)) ?_
    refine sp_m (aw_iload_n (pc := 29) dX7_worstPass_29 rfl (lv_at hl 4 rfl)) ?_
    refine sp_b fun p5 ep5 => ?_
    refine sp_m (G' := AW (KX7_worstPass l D h0 hE v) p5 (33) ls ([])) (fun kk => aw_callV (As := [.int a1, .int a2, .int a3]) (metX7_marches _ _ ep5) (rcv_o okX7 (uS eh2 s1)) rfl mok_X7_marches q2088 q2090 qs102 q125 q2091 (Nat.le_of_ble_eq_true rfl) (Nat.le_of_ble_eq_true rfl) rfl hl.1 rfl (Nat.le_of_ble_eq_true rfl) (pc := 30) dX7_worstPass_30 kk) ?_
    refine sp_m (aw_bipush (v := (-2)) (pc := 33) dX7_worstPass_33 rfl) ?_
    refine sp_m (aw_istore (lv' := [(5, .int (-2)), (4, .int p3), (0, .ref a0), (1, .int a1), (2, .int a2), (3, .int a3)]) (pc := 35) dX7_worstPass_35 hl (by decide) rfl) (sp_all fun ls hl => ?_)
    refine sp_m (aw_iconst (v := 0) (pc := 37) dX7_worstPass_37 rfl) ?_
    refine sp_m (aw_istore (lv' := [(6, .int 0), (5, .int (-2)), (4, .int p3), (0, .ref a0), (1, .int a1), (2, .int a2), (3, .int a3)]) (pc := 38) dX7_worstPass_38 hl (by decide) rfl) (sp_all fun ls hl => ?_)
    refine sp_m (aw_iload_n (pc := 40) dX7_worstPass_40 rfl (lv_at hl 6 rfl)) ?_
    refine sp_m (aw_istore (lv' := [(7, .int a3), (6, .int 0), (5, .int (-2)), (4, .int p3), (0, .ref a0), (1, .int a1), (2, .int a2), (3, .int a3)]) (pc := 41) dX7_worstPass_41 hl (by decide) rfl) (sp_all fun ls hl => ?_)
    refine sp_m (aw_iconst (v := 1) (pc := 43) dX7_worstPass_43 rfl) ?_
    refine sp_m (aw_istore (lv' := [(8, .int 1), (7, .int a3), (6, .int 0), (5, .int (-2)), (4, .int p3), (0, .ref a0), (1, .int a1), (2, .int a2), (3, .int a3)]) (pc := 44) dX7_worstPass_44 hl (by decide) rfl) (sp_all fun ls hl => ?_)
    let P6 : Int32 × Int32 × Int32 × Int32 → Prop := aLP (KX7_worstPass l D h0 hE v) 10 46 (fun s6v : Int32 × Int32 × Int32 × Int32 => [(0, .ref a0), (5, .int s6v.1), (6, .int s6v.2.1), (7, .int s6v.2.2.1), (8, .int s6v.2.2.2)]) (fun s6v => p5)
    let E6 : Int32 → Prop := aLP (KX7_worstPass l D h0 hE v) 10 139 (fun r6v : Int32 => [(0, .ref a0), (5, .int r6v)]) (fun r6v => p5)
    refine sp_bl (P := P6) (E := E6) (fun s6v => sp_all fun ls hl => ?_) (fun k => k ls (lv_sub hl [5, 3, 2, 1, 0] rfl)) (fun r6v => sp_all fun ls hl => ?_)
    · have hl : lv_has ls 10 [(0, .ref a0), (5, .int s6v.1), (6, .int s6v.2.1), (7, .int s6v.2.2.1), (8, .int s6v.2.2.2)] := hl
      show SP _ _ (AW (KX7_worstPass l D h0 hE v) p5 46 ls [])
      unfold X7_worstPass_L46
      refine sp_m (aw_iload (pc := 46) dX7_worstPass_46 (lv_at hl 4 rfl)) ?_
      refine sp_m (aw_aload_n (pc := 48) dX7_worstPass_48 rfl (lv_at hl 0 rfl)) ?_
      refine sp_g fun s7 => ?_
      refine sp_m (aw_get (k := 28) okX7 s7 (by decide) q1530 (Or.inl rfl) rfl (pc := 49) dX7_worstPass_49) ?_
      refine sp_if (fun c8 => ?_) (fun c8 => ?_)
      · refine sp_m (aw_icmp_ge_t (tgt := 139) (pc := 52) dX7_worstPass_52 (by decide) c8) ?_
        exact sp_r fun hz => hz ls (lv_sub hl [0, 1] rfl)
      · refine sp_m (aw_icmp_ge_f (tgt := 139) (pc := 52) dX7_worstPass_52 (by decide) c8) ?_
        refine sp_m (aw_iload (pc := 55) dX7_worstPass_55 (lv_at hl 3 rfl)) ?_
        refine sp_m (aw_aload_n (pc := 57) dX7_worstPass_57 rfl (lv_at hl 0 rfl)) ?_
        refine sp_b fun x9 ex9 => ?_
        refine sp_m (aw_get (k := 3) okX7 s7 (by decide) q1505 (Or.inl rfl) (congrArg va_rf ex9) (pc := 58) dX7_worstPass_58) ?_
        refine sp_g fun s10 => ?_
        refine sp_b fun x11 ex11 => ?_
        refine sp_m (aw_getN (k := 14) okX20 s10 (by decide) nq1664 rfl (congrArg va_rf ex11) (pc := 61) dX7_worstPass_61) ?_
        refine sp_m (aw_bipush (v := 6) (pc := 64) dX7_worstPass_64 rfl) ?_
        refine sp_m (aw_aload_n (pc := 66) dX7_worstPass_66 rfl (lv_at hl 0 rfl)) ?_
        refine sp_b fun x12 ex12 => ?_
        refine sp_m (aw_get (k := 26) okX7 s7 (by decide) q1528 (Or.inl rfl) (congrArg va_rf ex12) (pc := 67) dX7_worstPass_67) ?_
        refine sp_m (aw_iload (pc := 70) dX7_worstPass_70 (lv_at hl 4 rfl)) ?_
        refine sp_m (aw_iconst (v := 1) (pc := 72) dX7_worstPass_72 rfl) ?_
        refine sp_m (aw_isub (pc := 73) dX7_worstPass_73) ?_
        refine sp_g fun s13 => ?_
        refine sp_g fun i14 => ?_
        refine sp_m (aw_iald s13 i14 (pc := 74) dX7_worstPass_74) ?_
        refine sp_m (aw_imul (pc := 75) dX7_worstPass_75) ?_
        refine sp_m (aw_aload_n (pc := 76) dX7_worstPass_76 rfl (lv_at hl 0 rfl)) ?_
        refine sp_b fun x15 ex15 => ?_
        refine sp_m (aw_get (k := 26) okX7 s7 (by decide) q1528 (Or.inl rfl) (congrArg va_rf ex15) (pc := 77) dX7_worstPass_77) ?_
        refine sp_m (aw_iload (pc := 80) dX7_worstPass_80 (lv_at hl 4 rfl)) ?_
        refine sp_g fun s16 => ?_
        refine sp_g fun i17 => ?_
        refine sp_m (aw_iald s16 i17 (pc := 82) dX7_worstPass_82) ?_
        refine sp_m (aw_iadd (pc := 83) dX7_worstPass_83) ?_
        refine sp_g fun s18 => ?_
        refine sp_g fun i19 => ?_
        refine sp_m (aw_iald s18 i19 (pc := 84) dX7_worstPass_84) ?_
        refine sp_b fun p20 ep20 => ?_
        refine sp_m (G' := AW (KX7_worstPass l D h0 hE v) p5 (88) ls (.int p20 :: [])) (fun kk => aw_callS (As := [.int s6v.2.2.1, .int (gI p5 x11 (ix ((6 * (gI p5 x12 (ix (s6v.2.2.2 - 1)))) + (gI p5 x15 (ix s6v.2.2.2)))))]) (metX7_over _ _ ep20) mok_X7_over q2096 q2097 q125 q2098 (Nat.le_of_ble_eq_true rfl) (Nat.le_of_ble_eq_true rfl) rfl hl.1 rfl (Nat.le_of_ble_eq_true rfl) (pc := 85) dX7_worstPass_85 kk) ?_
        refine sp_m (aw_istore (lv' := [(9, .int p20), (0, .ref a0), (5, .int s6v.1), (6, .int s6v.2.1), (7, .int s6v.2.2.1), (8, .int s6v.2.2.2)]) (pc := 88) dX7_worstPass_88 hl (by decide) rfl) (sp_all fun ls hl => ?_)
        refine sp_m (aw_iload (pc := 90) dX7_worstPass_90 (lv_at hl 4 rfl)) ?_
        refine sp_m (aw_iload (pc := 92) dX7_worstPass_92 (lv_at hl 0 rfl)) ?_
        refine sp_m (aw_isub (pc := 94) dX7_worstPass_94) ?_
        refine sp_m (aw_iload (pc := 95) dX7_worstPass_95 (lv_at hl 3 rfl)) ?_
        have hj129_1 : ∀ j21 : Int32, ∀ j22 : Int32, ∀ ls : Array Slot, lv_has ls 10 [(0, .ref a0), (5, .int j21), (6, .int j22), (8, .int s6v.2.2.2), (9, .int p20)] → SP (X7_worstPass_j129 s6v p20 j21 j22) (ZL P6 E6) (AW (KX7_worstPass l D h0 hE v) p5 129 ls ([])) := by
          intro j21 j22 ls hl
          unfold X7_worstPass_j129
          refine sp_m (aw_iload (pc := 129) dX7_worstPass_129 (lv_at hl 4 rfl)) ?_
          refine sp_m (aw_istore (lv' := [(7, .int p20), (0, .ref a0), (5, .int j21), (6, .int j22), (8, .int s6v.2.2.2), (9, .int p20)]) (pc := 131) dX7_worstPass_131 hl (by decide) rfl) (sp_all fun ls hl => ?_)
          refine sp_m (aw_iinc (v := s6v.2.2.2 + 1) (lv' := [(8, .int (s6v.2.2.2 + 1)), (7, .int p20), (0, .ref a0), (5, .int j21), (6, .int j22), (9, .int p20)]) (pc := 133) dX7_worstPass_133 hl (k := 4) rfl rfl (by decide) rfl) (sp_all fun ls hl => ?_)
          refine sp_m (aw_goto (tgt := 46) (pc := 136) dX7_worstPass_136 (by decide)) ?_
          exact sp_r fun hz => hz ls (lv_sub hl [2, 3, 4, 1, 0] rfl)
        refine sp_if (fun c23 => ?_) (fun c23 => ?_)
        · refine sp_m (aw_icmp_le_t (tgt := 129) (pc := 97) dX7_worstPass_97 (by decide) c23) ?_
          exact hj129_1 s6v.1 s6v.2.1 ls (lv_sub hl [1, 2, 3, 5, 0] rfl)
        · refine sp_m (aw_icmp_le_f (tgt := 129) (pc := 97) dX7_worstPass_97 (by decide) c23) ?_
          refine sp_m (aw_iload (pc := 100) dX7_worstPass_100 (lv_at hl 4 rfl)) ?_
          refine sp_m (aw_iload (pc := 102) dX7_worstPass_102 (lv_at hl 0 rfl)) ?_
          refine sp_m (aw_isub (pc := 104) dX7_worstPass_104) ?_
          refine sp_m (aw_istore (lv' := [(6, .int (s6v.2.2.1 - p20)), (9, .int p20), (0, .ref a0), (5, .int s6v.1), (7, .int s6v.2.2.1), (8, .int s6v.2.2.2)]) (pc := 105) dX7_worstPass_105 hl (by decide) rfl) (sp_all fun ls hl => ?_)
          refine sp_m (aw_bipush (v := 10) (pc := 107) dX7_worstPass_107 rfl) ?_
          refine sp_m (aw_aload_n (pc := 109) dX7_worstPass_109 rfl (lv_at hl 2 rfl)) ?_
          refine sp_b fun x24 ex24 => ?_
          refine sp_m (aw_get (k := 26) okX7 s7 (by decide) q1528 (Or.inl rfl) (congrArg va_rf ex24) (pc := 110) dX7_worstPass_110) ?_
          refine sp_m (aw_iload (pc := 113) dX7_worstPass_113 (lv_at hl 5 rfl)) ?_
          refine sp_m (aw_iconst (v := 1) (pc := 115) dX7_worstPass_115 rfl) ?_
          refine sp_m (aw_isub (pc := 116) dX7_worstPass_116) ?_
          refine sp_g fun s25 => ?_
          refine sp_g fun i26 => ?_
          refine sp_m (aw_iald s25 i26 (pc := 117) dX7_worstPass_117) ?_
          refine sp_m (aw_imul (pc := 118) dX7_worstPass_118) ?_
          refine sp_m (aw_aload_n (pc := 119) dX7_worstPass_119 rfl (lv_at hl 2 rfl)) ?_
          refine sp_b fun x27 ex27 => ?_
          refine sp_m (aw_get (k := 26) okX7 s7 (by decide) q1528 (Or.inl rfl) (congrArg va_rf ex27) (pc := 120) dX7_worstPass_120) ?_
          refine sp_m (aw_iload (pc := 123) dX7_worstPass_123 (lv_at hl 5 rfl)) ?_
          refine sp_g fun s28 => ?_
          refine sp_g fun i29 => ?_
          refine sp_m (aw_iald s28 i29 (pc := 125) dX7_worstPass_125) ?_
          refine sp_m (aw_iadd (pc := 126) dX7_worstPass_126) ?_
          refine sp_m (aw_istore (lv' := [(5, .int ((10 * (gI p5 x24 (ix (s6v.2.2.2 - 1)))) + (gI p5 x27 (ix s6v.2.2.2)))), (6, .int (s6v.2.2.1 - p20)), (9, .int p20), (0, .ref a0), (7, .int s6v.2.2.1), (8, .int s6v.2.2.2)]) (pc := 127) dX7_worstPass_127 hl (by decide) rfl) (sp_all fun ls hl => ?_)
          exact hj129_1 ((10 * (gI p5 x24 (ix (s6v.2.2.2 - 1)))) + (gI p5 x27 (ix s6v.2.2.2))) (s6v.2.2.1 - p20) ls (lv_sub hl [3, 0, 1, 5, 2] rfl)
    · have hl : lv_has ls 10 [(0, .ref a0), (5, .int r6v)] := hl
      show SP _ _ (AW (KX7_worstPass l D h0 hE v) p5 139 ls [])
      refine sp_m (aw_aload_n (pc := 139) dX7_worstPass_139 rfl (lv_at hl 0 rfl)) ?_
      refine sp_m (aw_iload (pc := 140) dX7_worstPass_140 (lv_at hl 1 rfl)) ?_
      refine sp_g fun s31 => ?_
      refine sp_b fun p30 ep30 => ?_
      refine sp_m (G' := AW (KX7_worstPass l D h0 hE v) p30.2 (145) ls (.int p30.1 :: [])) (fun kk => aw_callV (As := [.int r6v]) (metX7_good _ _ ep30) (rcv_o okX7 s31) rfl mok_X7_good q1865 q1867 qs73 q125 q1868 (Nat.le_of_ble_eq_true rfl) (Nat.le_of_ble_eq_true rfl) rfl hl.1 rfl (Nat.le_of_ble_eq_true rfl) (pc := 142) dX7_worstPass_142 kk) ?_
      exact sp_r fun hz => aw_iret hz rfl rfl rfl (pc := 145) dX7_worstPass_145
  · refine sp_m (aw_if_le_f (tgt := 26) (pc := 16) dX7_worstPass_16 (by decide) c4) ?_
    refine sp_m (aw_aload_n (pc := 19) dX7_worstPass_19 rfl (lv_at hl 1 rfl)) ?_
    refine sp_m (aw_iload (pc := 20) dX7_worstPass_20 (lv_at hl 0 rfl)) ?_
    refine sp_b fun p32 ep32 => ?_
    refine sp_m (G' := AW (KX7_worstPass l D h0 hE v) p32.2 (25) ls (.int p32.1 :: [])) (fun kk => aw_callV (As := [.int p3]) (metX7_refused _ _ ep32) (rcv_o okX7 (uS eh2 s1)) rfl mok_X7_refused q1632 q1634 qs50 q125 q1635 (Nat.le_of_ble_eq_true rfl) (Nat.le_of_ble_eq_true rfl) rfl hl.1 rfl (Nat.le_of_ble_eq_true rfl) (pc := 22) dX7_worstPass_22 kk) ?_
    exact sp_r fun hz => aw_iret hz rfl rfl rfl (pc := 25) dX7_worstPass_25
theorem mok_X7_worth : mOK yX7_worth 3 := ⟨⟨by decide +kernel, by decide +kernel⟩, by decide +kernel⟩
abbrev KX7_worth (l : Launch) (D : DD) (h0 hE : AH) (v : Int64) : KT := (l, yX7_worth, cX7_worth, 4, (some .long), RX7, 7, D, h0, hE, .inl (some (.long v)), false, [])
theorem metX7_worth (l : Launch) (D : DD) {a0 : Nat} {a1 : Int32} {a2 : Int32} {a3 : Int32} {h0 : AH} {hE : AH} {v : Int64} (hr : fX7_worth a0 a1 a2 a3 h0 = some (v, hE)) : AMet (KX7_worth l D h0 hE v) [.ref a0, .int a1, .int a2, .int a3] := by
  refine AMet.of (K := (KX7_worth l D h0 hE v)) rfl ⟨_, rfl⟩ rfl rfl rfl (Nat.le_of_ble_eq_true rfl) (fun ls hl => ?_)
  have hl : lv_has ls 4 [(0, .ref a0), (1, .int a1), (2, .int a2), (3, .int a3)] := hl
  suffices hsp : SP (fX7_worth a0 a1 a2 a3 h0) (fun z => z = (v, hE)) (AW (KX7_worth l D h0 hE v) h0 0 ls []) from hsp _ hr rfl
  unfold fX7_worth
  refine sp_m (aw_aload_n (pc := 0) dX7_worth_0 rfl (lv_at hl 0 rfl)) ?_
  refine sp_m (aw_iconst (v := 0) (pc := 1) dX7_worth_1 rfl) ?_
  refine sp_g fun s1 => ?_
  refine sp_t fun h2 eh20 => ?_
  have eh2 : gS h2 = gS h0 := by rw [eh20]; rfl
  refine sp_m (aw_put (k := 0) okX7 opX7 s1 (by decide) q1502 (Or.inl rfl) (Or.inl rfl) (hasV_I' eh20) rfl rfl (pc := 2) dX7_worth_2) ?_
  refine sp_m (aw_aload_n (pc := 5) dX7_worth_5 rfl (lv_at hl 0 rfl)) ?_
  refine sp_m (aw_iload_n (pc := 6) dX7_worth_6 rfl (lv_at hl 1 rfl)) ?_
  refine sp_b fun p3 ep3 => ?_
  refine sp_m (G' := AW (KX7_worth l D h0 hE v) h2 (10) ls (.int p3 :: [])) (fun kk => aw_callV (As := [.int a1]) (metX7_isBeast _ _ ep3) (rcv_o okX7 (uS eh2 s1)) rfl mok_X7_isBeast q1893 q1895 qs76 q125 q1896 (Nat.le_of_ble_eq_true rfl) (Nat.le_of_ble_eq_true rfl) rfl hl.1 rfl (Nat.le_of_ble_eq_true rfl) (pc := 7) dX7_worth_7 kk) ?_
  have hj39_1 : ∀ ls : Array Slot, lv_has ls 4 [(0, .ref a0)] → SP (X7_worth_j39 a0 h2) (fun z => z = (v, hE)) (AW (KX7_worth l D h0 hE v) h2 39 ls ([])) := by
    intro ls hl
    unfold X7_worth_j39
    refine sp_m (aw_aload_n (pc := 39) dX7_worth_39 rfl (lv_at hl 0 rfl)) ?_
    refine sp_m (aw_iconst (v := 1) (pc := 40) dX7_worth_40 rfl) ?_
    refine sp_b fun p4 ep4 => ?_
    refine sp_m (G' := AW (KX7_worth l D h0 hE v) p4.2 (44) ls (.long p4.1 :: [])) (fun kk => aw_callV (As := [.int 1]) (metX7_lost _ _ ep4) (rcv_o okX7 (uS eh2 s1)) rfl mok_X7_lost q1964 q1966 qs88 q125 q1967 (Nat.le_of_ble_eq_true rfl) (Nat.le_of_ble_eq_true rfl) rfl hl.1 rfl (Nat.le_of_ble_eq_true rfl) (pc := 41) dX7_worth_41 kk) ?_
    exact sp_r fun hz => aw_lret hz rfl rfl rfl (pc := 44) dX7_worth_44
  refine sp_if (fun c5 => ?_) (fun c5 => ?_)
  · refine sp_m (aw_if_eq_t (tgt := 39) (pc := 10) dX7_worth_10 (by decide) c5) ?_
    exact hj39_1 ls (lv_sub hl [0] rfl)
  · refine sp_m (aw_if_eq_f (tgt := 39) (pc := 10) dX7_worth_10 (by decide) c5) ?_
    refine sp_m (aw_aload_n (pc := 13) dX7_worth_13 rfl (lv_at hl 0 rfl)) ?_
    refine sp_m (aw_iload_n (pc := 14) dX7_worth_14 rfl (lv_at hl 2 rfl)) ?_
    refine sp_b fun p6 ep6 => ?_
    refine sp_m (G' := AW (KX7_worth l D h0 hE v) h2 (18) ls (.int p6 :: [])) (fun kk => aw_callV (As := [.int a2]) (metX7_isLane _ _ ep6) (rcv_o okX7 (uS eh2 s1)) rfl mok_X7_isLane q1881 q1883 qs74 q125 q1884 (Nat.le_of_ble_eq_true rfl) (Nat.le_of_ble_eq_true rfl) rfl hl.1 rfl (Nat.le_of_ble_eq_true rfl) (pc := 15) dX7_worth_15 kk) ?_
    refine sp_if (fun c7 => ?_) (fun c7 => ?_)
    · refine sp_m (aw_if_eq_t (tgt := 39) (pc := 18) dX7_worth_18 (by decide) c7) ?_
      exact hj39_1 ls (lv_sub hl [0] rfl)
    · refine sp_m (aw_if_eq_f (tgt := 39) (pc := 18) dX7_worth_18 (by decide) c7) ?_
      refine sp_m (aw_aload_n (pc := 21) dX7_worth_21 rfl (lv_at hl 0 rfl)) ?_
      refine sp_m (aw_aload_n (pc := 22) dX7_worth_22 rfl (lv_at hl 0 rfl)) ?_
      refine sp_m (aw_iload_n (pc := 23) dX7_worth_23 rfl (lv_at hl 1 rfl)) ?_
      refine sp_m (aw_iload_n (pc := 24) dX7_worth_24 rfl (lv_at hl 2 rfl)) ?_
      refine sp_b fun p8 ep8 => ?_
      refine sp_m (G' := AW (KX7_worth l D h0 hE v) h2 (28) ls (.long p8 :: .ref a0 :: [])) (fun kk => aw_callV (As := [.int a1, .int a2]) (metX7_worthIn _ _ ep8) (rcv_o okX7 (uS eh2 s1)) rfl mok_X7_worthIn q1956 q1958 qs86 q125 q1959 (Nat.le_of_ble_eq_true rfl) (Nat.le_of_ble_eq_true rfl) rfl hl.1 rfl (Nat.le_of_ble_eq_true rfl) (pc := 25) dX7_worth_25 kk) ?_
      refine sp_m (aw_aload_n (pc := 28) dX7_worth_28 rfl (lv_at hl 0 rfl)) ?_
      refine sp_b fun p9 ep9 => ?_
      refine sp_m (G' := AW (KX7_worth l D h0 hE v) h2 (32) ls (.long p9 :: .long p8 :: .ref a0 :: [])) (fun kk => aw_callV (As := []) (metX7_whole _ _ ep9) (rcv_o okX7 (uS eh2 s1)) rfl mok_X7_whole q1920 q1922 qs81 q125 q1923 (Nat.le_of_ble_eq_true rfl) (Nat.le_of_ble_eq_true rfl) rfl hl.1 rfl (Nat.le_of_ble_eq_true rfl) (pc := 29) dX7_worth_29 kk) ?_
      refine sp_m (aw_iload_n (pc := 32) dX7_worth_32 rfl (lv_at hl 3 rfl)) ?_
      refine sp_b fun p10 ep10 => ?_
      refine sp_m (G' := AW (KX7_worth l D h0 hE v) p10.2 (36) ls (.long p10.1 :: [])) (fun kk => aw_callV (As := [.long p8, .long p9, .int a3]) (metX7_fraction _ _ ep10) (rcv_o okX7 (uS eh2 s1)) rfl mok_X7_fraction q1925 q1927 qs82 q125 q1928 (Nat.le_of_ble_eq_true rfl) (Nat.le_of_ble_eq_true rfl) rfl hl.1 rfl (Nat.le_of_ble_eq_true rfl) (pc := 33) dX7_worth_33 kk) ?_
      refine sp_m (aw_goto (tgt := 44) (pc := 36) dX7_worth_36 (by decide)) ?_
      exact sp_r fun hz => aw_lret hz rfl rfl rfl (pc := 44) dX7_worth_44
theorem mok_X7_worthIf : mOK yX7_worthIf 4 := ⟨⟨by decide +kernel, by decide +kernel⟩, by decide +kernel⟩
abbrev KX7_worthIf (l : Launch) (D : DD) (h0 hE : AH) (v : Int64) : KT := (l, yX7_worthIf, cX7_worthIf, 5, (some .long), RX7, 7, D, h0, hE, .inl (some (.long v)), false, [])
theorem metX7_worthIf (l : Launch) (D : DD) {a0 : Nat} {a1 : Int32} {a2 : Int32} {a3 : Int32} {a4 : Int32} {h0 : AH} {hE : AH} {v : Int64} (hr : fX7_worthIf a0 a1 a2 a3 a4 h0 = some (v, hE)) : AMet (KX7_worthIf l D h0 hE v) [.ref a0, .int a1, .int a2, .int a3, .int a4] := by
  refine AMet.of (K := (KX7_worthIf l D h0 hE v)) rfl ⟨_, rfl⟩ rfl rfl rfl (Nat.le_of_ble_eq_true rfl) (fun ls hl => ?_)
  have hl : lv_has ls 5 [(0, .ref a0), (1, .int a1), (2, .int a2), (3, .int a3), (4, .int a4)] := hl
  suffices hsp : SP (fX7_worthIf a0 a1 a2 a3 a4 h0) (fun z => z = (v, hE)) (AW (KX7_worthIf l D h0 hE v) h0 0 ls []) from hsp _ hr rfl
  unfold fX7_worthIf
  refine sp_m (aw_aload_n (pc := 0) dX7_worthIf_0 rfl (lv_at hl 0 rfl)) ?_
  refine sp_m (aw_iconst (v := 0) (pc := 1) dX7_worthIf_1 rfl) ?_
  refine sp_g fun s1 => ?_
  refine sp_t fun h2 eh20 => ?_
  have eh2 : gS h2 = gS h0 := by rw [eh20]; rfl
  refine sp_m (aw_put (k := 0) okX7 opX7 s1 (by decide) q1502 (Or.inl rfl) (Or.inl rfl) (hasV_I' eh20) rfl rfl (pc := 2) dX7_worthIf_2) ?_
  refine sp_m (aw_aload_n (pc := 5) dX7_worthIf_5 rfl (lv_at hl 0 rfl)) ?_
  refine sp_m (aw_iload_n (pc := 6) dX7_worthIf_6 rfl (lv_at hl 1 rfl)) ?_
  refine sp_b fun p3 ep3 => ?_
  refine sp_m (G' := AW (KX7_worthIf l D h0 hE v) h2 (10) ls (.int p3 :: [])) (fun kk => aw_callV (As := [.int a1]) (metX7_isBeast _ _ ep3) (rcv_o okX7 (uS eh2 s1)) rfl mok_X7_isBeast q1893 q1895 qs76 q125 q1896 (Nat.le_of_ble_eq_true rfl) (Nat.le_of_ble_eq_true rfl) rfl hl.1 rfl (Nat.le_of_ble_eq_true rfl) (pc := 7) dX7_worthIf_7 kk) ?_
  have hj21_1 : ∀ ls : Array Slot, lv_has ls 5 [(0, .ref a0)] → SP (X7_worthIf_j21 a0 h2) (fun z => z = (v, hE)) (AW (KX7_worthIf l D h0 hE v) h2 21 ls ([])) := by
    intro ls hl
    unfold X7_worthIf_j21
    refine sp_m (aw_aload_n (pc := 21) dX7_worthIf_21 rfl (lv_at hl 0 rfl)) ?_
    refine sp_m (aw_iconst (v := 1) (pc := 22) dX7_worthIf_22 rfl) ?_
    refine sp_b fun p4 ep4 => ?_
    refine sp_m (G' := AW (KX7_worthIf l D h0 hE v) p4.2 (26) ls (.long p4.1 :: [])) (fun kk => aw_callV (As := [.int 1]) (metX7_lost _ _ ep4) (rcv_o okX7 (uS eh2 s1)) rfl mok_X7_lost q1964 q1966 qs88 q125 q1967 (Nat.le_of_ble_eq_true rfl) (Nat.le_of_ble_eq_true rfl) rfl hl.1 rfl (Nat.le_of_ble_eq_true rfl) (pc := 23) dX7_worthIf_23 kk) ?_
    exact sp_r fun hz => aw_lret hz rfl rfl rfl (pc := 26) dX7_worthIf_26
  refine sp_if (fun c5 => ?_) (fun c5 => ?_)
  · refine sp_m (aw_if_eq_t (tgt := 21) (pc := 10) dX7_worthIf_10 (by decide) c5) ?_
    exact hj21_1 ls (lv_sub hl [0] rfl)
  · refine sp_m (aw_if_eq_f (tgt := 21) (pc := 10) dX7_worthIf_10 (by decide) c5) ?_
    refine sp_m (aw_aload_n (pc := 13) dX7_worthIf_13 rfl (lv_at hl 0 rfl)) ?_
    refine sp_m (aw_iload_n (pc := 14) dX7_worthIf_14 rfl (lv_at hl 2 rfl)) ?_
    refine sp_b fun p6 ep6 => ?_
    refine sp_m (G' := AW (KX7_worthIf l D h0 hE v) h2 (18) ls (.int p6 :: [])) (fun kk => aw_callV (As := [.int a2]) (metX7_isLane _ _ ep6) (rcv_o okX7 (uS eh2 s1)) rfl mok_X7_isLane q1881 q1883 qs74 q125 q1884 (Nat.le_of_ble_eq_true rfl) (Nat.le_of_ble_eq_true rfl) rfl hl.1 rfl (Nat.le_of_ble_eq_true rfl) (pc := 15) dX7_worthIf_15 kk) ?_
    refine sp_if (fun c7 => ?_) (fun c7 => ?_)
    · refine sp_m (aw_if_ne_t (tgt := 27) (pc := 18) dX7_worthIf_18 (by decide) c7) ?_
      refine sp_m (aw_aload_n (pc := 27) dX7_worthIf_27 rfl (lv_at hl 0 rfl)) ?_
      refine sp_m (aw_aload_n (pc := 28) dX7_worthIf_28 rfl (lv_at hl 0 rfl)) ?_
      refine sp_m (aw_iload_n (pc := 29) dX7_worthIf_29 rfl (lv_at hl 1 rfl)) ?_
      refine sp_m (aw_iload_n (pc := 30) dX7_worthIf_30 rfl (lv_at hl 2 rfl)) ?_
      refine sp_m (aw_aload_n (pc := 31) dX7_worthIf_31 rfl (lv_at hl 0 rfl)) ?_
      refine sp_m (aw_iload_n (pc := 32) dX7_worthIf_32 rfl (lv_at hl 1 rfl)) ?_
      refine sp_m (aw_aload_n (pc := 33) dX7_worthIf_33 rfl (lv_at hl 0 rfl)) ?_
      refine sp_b fun x8 ex8 => ?_
      refine sp_m (aw_get (k := 3) okX7 (uS eh2 s1) (by decide) q1505 (Or.inl rfl) (congrArg va_rf ex8) (pc := 34) dX7_worthIf_34) ?_
      refine sp_g fun s9 => ?_
      refine sp_b fun x10 ex10 => ?_
      refine sp_m (aw_getN (k := 12) okX20 s9 (by decide) nq1660 rfl (congrArg va_rf ex10) (pc := 37) dX7_worthIf_37) ?_
      refine sp_m (aw_iload_n (pc := 40) dX7_worthIf_40 rfl (lv_at hl 1 rfl)) ?_
      refine sp_g fun s11 => ?_
      refine sp_g fun i12 => ?_
      refine sp_m (aw_iald s11 i12 (pc := 41) dX7_worthIf_41) ?_
      refine sp_m (aw_iload_n (pc := 42) dX7_worthIf_42 rfl (lv_at hl 3 rfl)) ?_
      refine sp_b fun p13 ep13 => ?_
      refine sp_m (G' := AW (KX7_worthIf l D h0 hE v) h2 (46) ls (.int p13 :: .int a2 :: .int a1 :: .ref a0 :: .ref a0 :: [])) (fun kk => aw_callV (As := [.int a1, .int (gI h2 x10 (ix a1)), .int a3]) (metX7_holdBy _ _ ep13) (rcv_o okX7 (uS eh2 s1)) rfl mok_X7_holdBy q1905 q1907 qs79 q125 q1908 (Nat.le_of_ble_eq_true rfl) (Nat.le_of_ble_eq_true rfl) rfl hl.1 rfl (Nat.le_of_ble_eq_true rfl) (pc := 43) dX7_worthIf_43 kk) ?_
      refine sp_b fun p14 ep14 => ?_
      refine sp_m (G' := AW (KX7_worthIf l D h0 hE v) h2 (49) ls (.long p14 :: .ref a0 :: [])) (fun kk => aw_callV (As := [.int a1, .int a2, .int p13]) (metX7_worthHeld _ _ ep14) (rcv_o okX7 (uS eh2 s1)) rfl mok_X7_worthHeld q1973 q1975 qs89 q125 q1976 (Nat.le_of_ble_eq_true rfl) (Nat.le_of_ble_eq_true rfl) rfl hl.1 rfl (Nat.le_of_ble_eq_true rfl) (pc := 46) dX7_worthIf_46 kk) ?_
      refine sp_m (aw_aload_n (pc := 49) dX7_worthIf_49 rfl (lv_at hl 0 rfl)) ?_
      refine sp_b fun p15 ep15 => ?_
      refine sp_m (G' := AW (KX7_worthIf l D h0 hE v) h2 (53) ls (.long p15 :: .long p14 :: .ref a0 :: [])) (fun kk => aw_callV (As := []) (metX7_whole _ _ ep15) (rcv_o okX7 (uS eh2 s1)) rfl mok_X7_whole q1920 q1922 qs81 q125 q1923 (Nat.le_of_ble_eq_true rfl) (Nat.le_of_ble_eq_true rfl) rfl hl.1 rfl (Nat.le_of_ble_eq_true rfl) (pc := 50) dX7_worthIf_50 kk) ?_
      refine sp_m (aw_iload (pc := 53) dX7_worthIf_53 (lv_at hl 4 rfl)) ?_
      refine sp_b fun p16 ep16 => ?_
      refine sp_m (G' := AW (KX7_worthIf l D h0 hE v) p16.2 (58) ls (.long p16.1 :: [])) (fun kk => aw_callV (As := [.long p14, .long p15, .int a4]) (metX7_fraction _ _ ep16) (rcv_o okX7 (uS eh2 s1)) rfl mok_X7_fraction q1925 q1927 qs82 q125 q1928 (Nat.le_of_ble_eq_true rfl) (Nat.le_of_ble_eq_true rfl) rfl hl.1 rfl (Nat.le_of_ble_eq_true rfl) (pc := 55) dX7_worthIf_55 kk) ?_
      exact sp_r fun hz => aw_lret hz rfl rfl rfl (pc := 58) dX7_worthIf_58
    · refine sp_m (aw_if_ne_f (tgt := 27) (pc := 18) dX7_worthIf_18 (by decide) (Decidable.not_not.mp c7)) ?_
      exact hj21_1 ls (lv_sub hl [0] rfl)
theorem mok_X7_wound : mOK yX7_wound 2 := ⟨⟨by decide +kernel, by decide +kernel⟩, by decide +kernel⟩
abbrev KX7_wound (l : Launch) (D : DD) (h0 hE : AH) (v : Int32) : KT := (l, yX7_wound, cX7_wound, 3, (some .int), RX7, 4, D, h0, hE, .inl (some (.int v)), false, [])
theorem metX7_wound (l : Launch) (D : DD) {a0 : Nat} {a1 : Int32} {a2 : Int32} {h0 : AH} {hE : AH} {v : Int32} (hr : fX7_wound a0 a1 a2 h0 = some (v, hE)) : AMet (KX7_wound l D h0 hE v) [.ref a0, .int a1, .int a2] := by
  refine AMet.of (K := (KX7_wound l D h0 hE v)) rfl ⟨_, rfl⟩ rfl rfl rfl (Nat.le_of_ble_eq_true rfl) (fun ls hl => ?_)
  have hl : lv_has ls 3 [(0, .ref a0), (1, .int a1), (2, .int a2)] := hl
  suffices hsp : SP (fX7_wound a0 a1 a2 h0) (fun z => z = (v, hE)) (AW (KX7_wound l D h0 hE v) h0 0 ls []) from hsp _ hr rfl
  unfold fX7_wound
  refine sp_m (aw_aload_n (pc := 0) dX7_wound_0 rfl (lv_at hl 0 rfl)) ?_
  refine sp_m (aw_iconst (v := 0) (pc := 1) dX7_wound_1 rfl) ?_
  refine sp_g fun s1 => ?_
  refine sp_t fun h2 eh20 => ?_
  have eh2 : gS h2 = gS h0 := by rw [eh20]; rfl
  refine sp_m (aw_put (k := 0) okX7 opX7 s1 (by decide) q1502 (Or.inl rfl) (Or.inl rfl) (hasV_I' eh20) rfl rfl (pc := 2) dX7_wound_2) ?_
  refine sp_m (aw_aload_n (pc := 5) dX7_wound_5 rfl (lv_at hl 0 rfl)) ?_
  refine sp_m (aw_iload_n (pc := 6) dX7_wound_6 rfl (lv_at hl 1 rfl)) ?_
  refine sp_b fun p3 ep3 => ?_
  refine sp_m (G' := AW (KX7_wound l D h0 hE v) h2 (10) ls (.int p3 :: [])) (fun kk => aw_callV (As := [.int a1]) (metX7_isBeast _ _ ep3) (rcv_o okX7 (uS eh2 s1)) rfl mok_X7_isBeast q1893 q1895 qs76 q125 q1896 (Nat.le_of_ble_eq_true rfl) (Nat.le_of_ble_eq_true rfl) rfl hl.1 rfl (Nat.le_of_ble_eq_true rfl) (pc := 7) dX7_wound_7 kk) ?_
  refine sp_if (fun c4 => ?_) (fun c4 => ?_)
  · refine sp_m (aw_if_ne_t (tgt := 19) (pc := 10) dX7_wound_10 (by decide) c4) ?_
    refine sp_m (aw_iload_n (pc := 19) dX7_wound_19 rfl (lv_at hl 2 rfl)) ?_
    refine sp_m (aw_iconst (v := 1) (pc := 20) dX7_wound_20 rfl) ?_
    refine sp_m (aw_bipush (v := 30) (pc := 21) dX7_wound_21 rfl) ?_
    refine sp_b fun p5 ep5 => ?_
    refine sp_m (G' := AW (KX7_wound l D h0 hE v) h2 (26) ls (.int p5 :: [])) (fun kk => aw_callS (As := [.int a2, .int 1, .int 30]) (metX7_in _ _ ep5) mok_X7_in q1793 q1794 q125 q1795 (Nat.le_of_ble_eq_true rfl) (Nat.le_of_ble_eq_true rfl) rfl hl.1 rfl (Nat.le_of_ble_eq_true rfl) (pc := 23) dX7_wound_23 kk) ?_
    refine sp_if (fun c6 => ?_) (fun c6 => ?_)
    · refine sp_m (aw_if_ne_t (tgt := 35) (pc := 26) dX7_wound_26 (by decide) c6) ?_
      refine sp_m (aw_aload_n (pc := 35) dX7_wound_35 rfl (lv_at hl 0 rfl)) ?_
      refine sp_m (aw_iload_n (pc := 36) dX7_wound_36 rfl (lv_at hl 1 rfl)) ?_
      refine sp_b fun p7 ep7 => ?_
      refine sp_m (G' := AW (KX7_wound l D h0 hE v) h2 (40) ls (.int p7 :: [])) (fun kk => aw_callV (As := [.int a1]) (metX7_isDead _ _ ep7) (rcv_o okX7 (uS eh2 s1)) rfl mok_X7_isDead q1885 q1887 qs75 q125 q1888 (Nat.le_of_ble_eq_true rfl) (Nat.le_of_ble_eq_true rfl) rfl hl.1 rfl (Nat.le_of_ble_eq_true rfl) (pc := 37) dX7_wound_37 kk) ?_
      refine sp_if (fun c8 => ?_) (fun c8 => ?_)
      · refine sp_m (aw_if_eq_t (tgt := 49) (pc := 40) dX7_wound_40 (by decide) c8) ?_
        refine sp_m (aw_aload_n (pc := 49) dX7_wound_49 rfl (lv_at hl 0 rfl)) ?_
        refine sp_b fun p9 ep9 => ?_
        refine sp_m (G' := AW (KX7_wound l D h0 hE v) p9 (53) ls ([])) (fun kk => aw_callV (As := []) (metX7_remembers _ _ ep9) (rcv_o okX7 (uS eh2 s1)) rfl mok_X7_remembers q2191 q2193 qs113 q125 q2194 (Nat.le_of_ble_eq_true rfl) (Nat.le_of_ble_eq_true rfl) rfl hl.1 rfl (Nat.le_of_ble_eq_true rfl) (pc := 50) dX7_wound_50 kk) ?_
        refine sp_m (aw_aload_n (pc := 53) dX7_wound_53 rfl (lv_at hl 0 rfl)) ?_
        refine sp_g fun s10 => ?_
        refine sp_b fun x11 ex11 => ?_
        refine sp_m (aw_get (k := 16) okX7 s10 (by decide) q1518 (Or.inl rfl) (congrArg va_rf ex11) (pc := 54) dX7_wound_54) ?_
        refine sp_m (aw_iconst (v := 5) (pc := 57) dX7_wound_57 rfl) ?_
        refine sp_m (aw_iload_n (pc := 58) dX7_wound_58 rfl (lv_at hl 1 rfl)) ?_
        refine sp_m (aw_iadd (pc := 59) dX7_wound_59) ?_
        refine sp_m (aw_dup2 (pc := 60) dX7_wound_60 rfl rfl) ?_
        refine sp_g fun s12 => ?_
        refine sp_g fun i13 => ?_
        refine sp_m (aw_iald s12 i13 (pc := 61) dX7_wound_61) ?_
        refine sp_m (aw_iload_n (pc := 62) dX7_wound_62 rfl (lv_at hl 2 rfl)) ?_
        refine sp_m (aw_iadd (pc := 63) dX7_wound_63) ?_
        refine sp_g fun i14 => ?_
        refine sp_t fun h15 eh150 => ?_
        have eh15 : gS h15 = gS p9 := by rw [eh150]; rfl
        refine sp_m (fun kk => aw_iast s12 i14 (pc := 64) dX7_wound_64 (AWe eh150 kk)) ?_
        refine sp_m (aw_aload_n (pc := 65) dX7_wound_65 rfl (lv_at hl 0 rfl)) ?_
        refine sp_m (aw_aload_n (pc := 66) dX7_wound_66 rfl (lv_at hl 0 rfl)) ?_
        refine sp_m (aw_iload_n (pc := 67) dX7_wound_67 rfl (lv_at hl 1 rfl)) ?_
        refine sp_b fun p16 ep16 => ?_
        refine sp_m (G' := AW (KX7_wound l D h0 hE v) h15 (71) ls (.int p16 :: .ref a0 :: [])) (fun kk => aw_callV (As := [.int a1]) (metX7_forceOf _ _ ep16) (rcv_o okX7 (uS eh15 s10)) rfl mok_X7_forceOf q1897 q1899 qs77 q125 q1900 (Nat.le_of_ble_eq_true rfl) (Nat.le_of_ble_eq_true rfl) rfl hl.1 rfl (Nat.le_of_ble_eq_true rfl) (pc := 68) dX7_wound_68 kk) ?_
        refine sp_b fun p17 ep17 => ?_
        refine sp_m (G' := AW (KX7_wound l D h0 hE v) p17.2 (74) ls (.int p17.1 :: [])) (fun kk => aw_callV (As := [.int p16]) (metX7_good _ _ ep17) (rcv_o okX7 (uS eh15 s10)) rfl mok_X7_good q1865 q1867 qs73 q125 q1868 (Nat.le_of_ble_eq_true rfl) (Nat.le_of_ble_eq_true rfl) rfl hl.1 rfl (Nat.le_of_ble_eq_true rfl) (pc := 71) dX7_wound_71 kk) ?_
        exact sp_r fun hz => aw_iret hz rfl rfl rfl (pc := 74) dX7_wound_74
      · refine sp_m (aw_if_eq_f (tgt := 49) (pc := 40) dX7_wound_40 (by decide) c8) ?_
        refine sp_m (aw_aload_n (pc := 43) dX7_wound_43 rfl (lv_at hl 0 rfl)) ?_
        refine sp_m (aw_iconst (v := 5) (pc := 44) dX7_wound_44 rfl) ?_
        refine sp_b fun p18 ep18 => ?_
        refine sp_m (G' := AW (KX7_wound l D h0 hE v) p18.2 (48) ls (.int p18.1 :: [])) (fun kk => aw_callV (As := [.int 5]) (metX7_refused _ _ ep18) (rcv_o okX7 (uS eh2 s1)) rfl mok_X7_refused q1632 q1634 qs50 q125 q1635 (Nat.le_of_ble_eq_true rfl) (Nat.le_of_ble_eq_true rfl) rfl hl.1 rfl (Nat.le_of_ble_eq_true rfl) (pc := 45) dX7_wound_45 kk) ?_
        exact sp_r fun hz => aw_iret hz rfl rfl rfl (pc := 48) dX7_wound_48
    · refine sp_m (aw_if_ne_f (tgt := 35) (pc := 26) dX7_wound_26 (by decide) (Decidable.not_not.mp c6)) ?_
      refine sp_m (aw_aload_n (pc := 29) dX7_wound_29 rfl (lv_at hl 0 rfl)) ?_
      refine sp_m (aw_iconst (v := 2) (pc := 30) dX7_wound_30 rfl) ?_
      refine sp_b fun p19 ep19 => ?_
      refine sp_m (G' := AW (KX7_wound l D h0 hE v) p19.2 (34) ls (.int p19.1 :: [])) (fun kk => aw_callV (As := [.int 2]) (metX7_refused _ _ ep19) (rcv_o okX7 (uS eh2 s1)) rfl mok_X7_refused q1632 q1634 qs50 q125 q1635 (Nat.le_of_ble_eq_true rfl) (Nat.le_of_ble_eq_true rfl) rfl hl.1 rfl (Nat.le_of_ble_eq_true rfl) (pc := 31) dX7_wound_31 kk) ?_
      exact sp_r fun hz => aw_iret hz rfl rfl rfl (pc := 34) dX7_wound_34
  · refine sp_m (aw_if_ne_f (tgt := 19) (pc := 10) dX7_wound_10 (by decide) (Decidable.not_not.mp c4)) ?_
    refine sp_m (aw_aload_n (pc := 13) dX7_wound_13 rfl (lv_at hl 0 rfl)) ?_
    refine sp_m (aw_iconst (v := 1) (pc := 14) dX7_wound_14 rfl) ?_
    refine sp_b fun p20 ep20 => ?_
    refine sp_m (G' := AW (KX7_wound l D h0 hE v) p20.2 (18) ls (.int p20.1 :: [])) (fun kk => aw_callV (As := [.int 1]) (metX7_refused _ _ ep20) (rcv_o okX7 (uS eh2 s1)) rfl mok_X7_refused q1632 q1634 qs50 q125 q1635 (Nat.le_of_ble_eq_true rfl) (Nat.le_of_ble_eq_true rfl) rfl hl.1 rfl (Nat.le_of_ble_eq_true rfl) (pc := 15) dX7_wound_15 kk) ?_
    exact sp_r fun hz => aw_iret hz rfl rfl rfl (pc := 18) dX7_wound_18
