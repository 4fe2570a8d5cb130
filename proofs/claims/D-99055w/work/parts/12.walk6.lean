/-! WALKS (printed by wip gen/all.py) -/
set_option maxRecDepth 100000
set_option maxHeartbeats 4000000
theorem mok_X7_marches : mOK yX7_marches 3 := ⟨⟨by decide +kernel, by decide +kernel⟩, by decide +kernel⟩
abbrev KX7_marches (l : Launch) (D : DD) (h0 hE : AH) : KT := (l, yX7_marches, cX7_marches, 6, none, RX7, 2, D, h0, hE, .inl (none), false, [])
theorem metX7_marches (l : Launch) (D : DD) {a0 : Nat} {a1 : Int32} {a2 : Int32} {a3 : Int32} {h0 : AH} {hE : AH} (hr : fX7_marches a0 a1 a2 a3 h0 = some hE) : AMet (KX7_marches l D h0 hE) [.ref a0, .int a1, .int a2, .int a3] := by
  refine AMet.of (K := (KX7_marches l D h0 hE)) rfl ⟨_, rfl⟩ rfl rfl rfl (Nat.le_of_ble_eq_true rfl) (fun ls hl => ?_)
  have hl : lv_has ls 6 [(0, .ref a0), (1, .int a1), (2, .int a2), (3, .int a3)] := hl
  suffices hsp : SP (fX7_marches a0 a1 a2 a3 h0) (fun z => z = hE) (AW (KX7_marches l D h0 hE) h0 0 ls []) from hsp _ hr rfl
  unfold fX7_marches
  refine sp_m (aw_aload_n (pc := 0) dX7_marches_0 rfl (lv_at hl 0 rfl)) ?_
  refine sp_m (aw_iconst (v := 0) (pc := 1) dX7_marches_1 rfl) ?_
  refine sp_g fun s1 => ?_
  refine sp_t fun h2 eh20 => ?_
  have eh2 : gS h2 = gS h0 := by rw [eh20]; rfl
  refine sp_m (aw_put (k := 28) okX7 opX7 s1 (by decide) q1530 (Or.inl rfl) (Or.inl rfl) (hasV_I' eh20) rfl rfl (pc := 2) dX7_marches_2) ?_
  refine sp_m (aw_aload_n (pc := 5) dX7_marches_5 rfl (lv_at hl 0 rfl)) ?_
  refine sp_m (aw_bipush (v := (-2)) (pc := 6) dX7_marches_6 rfl) ?_
  refine sp_t fun h3 eh30 => ?_
  have eh3 : gS h3 = gS h2 := by rw [eh30]; rfl
  refine sp_m (aw_put (k := 29) okX7 opX7 (uS eh2 s1) (by decide) q1531 (Or.inl rfl) (Or.inl rfl) (hasV_I' eh30) rfl rfl (pc := 8) dX7_marches_8) ?_
  refine sp_m (aw_aload_n (pc := 11) dX7_marches_11 rfl (lv_at hl 0 rfl)) ?_
  refine sp_b fun x4 ex4 => ?_
  refine sp_m (aw_get (k := 25) okX7 (uS eh3 (uS eh2 s1)) (by decide) q1527 (Or.inl rfl) (congrArg va_rf ex4) (pc := 12) dX7_marches_12) ?_
  refine sp_m (aw_iconst (v := 0) (pc := 15) dX7_marches_15 rfl) ?_
  refine sp_m (aw_iload_n (pc := 16) dX7_marches_16 rfl (lv_at hl 1 rfl)) ?_
  refine sp_g fun s5 => ?_
  refine sp_g fun i6 => ?_
  refine sp_t fun h7 eh70 => ?_
  have eh7 : gS h7 = gS h3 := by rw [eh70]; rfl
  refine sp_m (fun kk => aw_iast s5 i6 (pc := 17) dX7_marches_17 (AWe eh70 kk)) ?_
  refine sp_m (aw_aload_n (pc := 18) dX7_marches_18 rfl (lv_at hl 0 rfl)) ?_
  refine sp_b fun x8 ex8 => ?_
  refine sp_m (aw_get (k := 27) okX7 (uS eh7 (uS eh3 (uS eh2 s1))) (by decide) q1529 (Or.inl rfl) (congrArg va_rf ex8) (pc := 19) dX7_marches_19) ?_
  refine sp_m (aw_iconst (v := 0) (pc := 22) dX7_marches_22 rfl) ?_
  refine sp_m (aw_iload_n (pc := 23) dX7_marches_23 rfl (lv_at hl 3 rfl)) ?_
  refine sp_g fun s9 => ?_
  refine sp_g fun i10 => ?_
  refine sp_t fun h11 eh110 => ?_
  have eh11 : gS h11 = gS h7 := by rw [eh110]; rfl
  refine sp_m (fun kk => aw_iast s9 i10 (pc := 24) dX7_marches_24 (AWe eh110 kk)) ?_
  refine sp_m (aw_iload_n (pc := 25) dX7_marches_25 rfl (lv_at hl 1 rfl)) ?_
  refine sp_m (aw_iload_n (pc := 26) dX7_marches_26 rfl (lv_at hl 2 rfl)) ?_
  refine sp_if (fun c12 => ?_) (fun c12 => ?_)
  · refine sp_m (aw_icmp_ne_t (tgt := 36) (pc := 27) dX7_marches_27 (by decide) c12) ?_
    refine sp_m (aw_iconst (v := 1) (pc := 36) dX7_marches_36 rfl) ?_
    refine sp_m (aw_iload_n (pc := 37) dX7_marches_37 rfl (lv_at hl 1 rfl)) ?_
    refine sp_m (aw_ishl (pc := 38) dX7_marches_38) ?_
    refine sp_m (aw_istore (lv' := [(4, .int (1 <<< (a1 &&& 31))), (0, .ref a0), (1, .int a1), (2, .int a2), (3, .int a3)]) (pc := 39) dX7_marches_39 hl (by decide) rfl) (sp_all fun ls hl => ?_)
    refine sp_m (aw_iconst (v := 1) (pc := 41) dX7_marches_41 rfl) ?_
    refine sp_m (aw_istore (lv' := [(5, .int 1), (4, .int (1 <<< (a1 &&& 31))), (0, .ref a0), (1, .int a1), (2, .int a2), (3, .int a3)]) (pc := 42) dX7_marches_42 hl (by decide) rfl) (sp_all fun ls hl => ?_)
    refine sp_m (aw_aload_n (pc := 44) dX7_marches_44 rfl (lv_at hl 2 rfl)) ?_
    refine sp_b fun x13 ex13 => ?_
    refine sp_m (aw_get (k := 25) okX7 (uS eh11 (uS eh7 (uS eh3 (uS eh2 s1)))) (by decide) q1527 (Or.inl rfl) (congrArg va_rf ex13) (pc := 45) dX7_marches_45) ?_
    refine sp_m (aw_iconst (v := 1) (pc := 48) dX7_marches_48 rfl) ?_
    refine sp_m (aw_iconst (v := (-1)) (pc := 49) dX7_marches_49 rfl) ?_
    refine sp_g fun s14 => ?_
    refine sp_g fun i15 => ?_
    refine sp_t fun h16 eh160 => ?_
    have eh16 : gS h16 = gS h11 := by rw [eh160]; rfl
    refine sp_m (fun kk => aw_iast s14 i15 (pc := 50) dX7_marches_50 (AWe eh160 kk)) ?_
    let P17 : Int32 × Int32 × AH → Prop := aLP (KX7_marches l D h0 hE) 6 51 (fun s17v : Int32 × Int32 × AH => [(0, .ref a0), (2, .int a2), (4, .int s17v.1), (5, .int s17v.2.1)]) (fun s17v => s17v.2.2)
    let E17 : AH → Prop := aLP (KX7_marches l D h0 hE) 6 306 (fun r17v : AH => []) (fun r17v => r17v)
    refine sp_bl (P := P17) (E := E17) (fun s17v => sp_all fun ls hl => ?_) (fun k => k ls (lv_sub hl [2, 4, 1, 0] rfl)) (fun r17v => sp_all fun ls hl => ?_)
    · have hl : lv_has ls 6 [(0, .ref a0), (2, .int a2), (4, .int s17v.1), (5, .int s17v.2.1)] := hl
      show SP _ _ (AW (KX7_marches l D h0 hE) s17v.2.2 51 ls [])
      unfold X7_marches_L51
      refine sp_m (aw_iload (pc := 51) dX7_marches_51 (lv_at hl 3 rfl)) ?_
      refine sp_if (fun c18 => ?_) (fun c18 => ?_)
      · refine sp_m (aw_if_le_t (tgt := 306) (pc := 53) dX7_marches_53 (by decide) c18) ?_
        exact sp_r fun hz => hz ls (lv_sub hl [] rfl)
      · refine sp_m (aw_if_le_f (tgt := 306) (pc := 53) dX7_marches_53 (by decide) c18) ?_
        refine sp_m (aw_aload_n (pc := 56) dX7_marches_56 rfl (lv_at hl 0 rfl)) ?_
        refine sp_g fun s19 => ?_
        refine sp_b fun x20 ex20 => ?_
        refine sp_m (aw_get (k := 25) okX7 s19 (by decide) q1527 (Or.inl rfl) (congrArg va_rf ex20) (pc := 57) dX7_marches_57) ?_
        refine sp_m (aw_iload (pc := 60) dX7_marches_60 (lv_at hl 3 rfl)) ?_
        refine sp_g fun s21 => ?_
        refine sp_g fun i22 => ?_
        refine sp_m (aw_iald s21 i22 (pc := 62) dX7_marches_62) ?_
        refine sp_m (aw_iconst (v := (-1)) (pc := 63) dX7_marches_63 rfl) ?_
        have hj83_1 : ∀ j23 : Int32, ∀ ls : Array Slot, lv_has ls 6 [(0, .ref a0), (2, .int a2), (4, .int j23), (5, .int s17v.2.1)] → SP (X7_marches_j83 a0 a2 s17v j23) (ZL P17 E17) (AW (KX7_marches l D h0 hE) s17v.2.2 83 ls ([])) := by
          intro j23 ls hl
          unfold X7_marches_j83
          refine sp_m (aw_aload_n (pc := 83) dX7_marches_83 rfl (lv_at hl 0 rfl)) ?_
          refine sp_b fun x24 ex24 => ?_
          refine sp_m (aw_get (k := 25) okX7 s19 (by decide) q1527 (Or.inl rfl) (congrArg va_rf ex24) (pc := 84) dX7_marches_84) ?_
          refine sp_m (aw_iload (pc := 87) dX7_marches_87 (lv_at hl 3 rfl)) ?_
          refine sp_m (aw_dup2 (pc := 89) dX7_marches_89 rfl rfl) ?_
          refine sp_g fun s25 => ?_
          refine sp_g fun i26 => ?_
          refine sp_m (aw_iald s25 i26 (pc := 90) dX7_marches_90) ?_
          refine sp_m (aw_iconst (v := 1) (pc := 91) dX7_marches_91 rfl) ?_
          refine sp_m (aw_iadd (pc := 92) dX7_marches_92) ?_
          refine sp_g fun i27 => ?_
          refine sp_t fun h28 eh280 => ?_
          have eh28 : gS h28 = gS s17v.2.2 := by rw [eh280]; rfl
          refine sp_m (fun kk => aw_iast s25 i27 (pc := 93) dX7_marches_93 (AWe eh280 kk)) ?_
          let P29 : AH → Prop := aLP (KX7_marches l D h0 hE) 6 94 (fun s29v : AH => [(0, .ref a0), (2, .int a2), (4, .int j23), (5, .int s17v.2.1)]) (fun s29v => s29v)
          let E29 : AH → Prop := aLP (KX7_marches l D h0 hE) 6 172 (fun r29v : AH => [(0, .ref a0), (2, .int a2), (4, .int j23), (5, .int s17v.2.1)]) (fun r29v => r29v)
          refine sp_bl (P := P29) (E := E29) (fun s29v => sp_all fun ls hl => ?_) (fun k => k ls (lv_sub hl [0, 1, 2, 3] rfl)) (fun r29v => sp_all fun ls hl => ?_)
          · have hl : lv_has ls 6 [(0, .ref a0), (2, .int a2), (4, .int j23), (5, .int s17v.2.1)] := hl
            show SP _ _ (AW (KX7_marches l D h0 hE) s29v 94 ls [])
            unfold X7_marches_L94
            refine sp_m (aw_aload_n (pc := 94) dX7_marches_94 rfl (lv_at hl 0 rfl)) ?_
            refine sp_g fun s30 => ?_
            refine sp_b fun x31 ex31 => ?_
            refine sp_m (aw_get (k := 25) okX7 s30 (by decide) q1527 (Or.inl rfl) (congrArg va_rf ex31) (pc := 95) dX7_marches_95) ?_
            refine sp_m (aw_iload (pc := 98) dX7_marches_98 (lv_at hl 3 rfl)) ?_
            refine sp_g fun s32 => ?_
            refine sp_g fun i33 => ?_
            refine sp_m (aw_iald s32 i33 (pc := 100) dX7_marches_100) ?_
            refine sp_m (aw_aload_n (pc := 101) dX7_marches_101 rfl (lv_at hl 0 rfl)) ?_
            refine sp_b fun x34 ex34 => ?_
            refine sp_m (aw_get (k := 3) okX7 s30 (by decide) q1505 (Or.inl rfl) (congrArg va_rf ex34) (pc := 102) dX7_marches_102) ?_
            refine sp_g fun s35 => ?_
            refine sp_m (aw_getN (k := 4) okX20 s35 (by decide) nq1646 rfl rfl (pc := 105) dX7_marches_105) ?_
            refine sp_if (fun c36 => ?_) (fun c36 => ?_)
            · refine sp_m (aw_icmp_ge_t (tgt := 172) (pc := 108) dX7_marches_108 (by decide) c36) ?_
              exact sp_r fun hz => hz ls (lv_sub hl [0, 1, 2, 3] rfl)
            · refine sp_m (aw_icmp_ge_f (tgt := 172) (pc := 108) dX7_marches_108 (by decide) c36) ?_
              refine sp_m (aw_iload (pc := 111) dX7_marches_111 (lv_at hl 2 rfl)) ?_
              refine sp_m (aw_aload_n (pc := 113) dX7_marches_113 rfl (lv_at hl 0 rfl)) ?_
              refine sp_b fun x37 ex37 => ?_
              refine sp_m (aw_get (k := 25) okX7 s30 (by decide) q1527 (Or.inl rfl) (congrArg va_rf ex37) (pc := 114) dX7_marches_114) ?_
              refine sp_m (aw_iload (pc := 117) dX7_marches_117 (lv_at hl 3 rfl)) ?_
              refine sp_g fun s38 => ?_
              refine sp_g fun i39 => ?_
              refine sp_m (aw_iald s38 i39 (pc := 119) dX7_marches_119) ?_
              refine sp_b fun p40 ep40 => ?_
              refine sp_m (G' := AW (KX7_marches l D h0 hE) s29v (123) ls (.int p40 :: [])) (fun kk => aw_callS (As := [.int j23, .int (gI s29v x37 (ix s17v.2.1))]) (metX7_bit _ _ ep40) mok_X7_bit q1806 q1807 q125 q1808 (Nat.le_of_ble_eq_true rfl) (Nat.le_of_ble_eq_true rfl) rfl hl.1 rfl (Nat.le_of_ble_eq_true rfl) (pc := 120) dX7_marches_120 kk) ?_
              have hj158_2 : ∀ ls : Array Slot, lv_has ls 6 [(0, .ref a0), (2, .int a2), (4, .int j23), (5, .int s17v.2.1)] → SP (X7_marches_j158 a0 s17v s29v) (ZL P29 E29) (AW (KX7_marches l D h0 hE) s29v 158 ls ([])) := by
                intro ls hl
                unfold X7_marches_j158
                refine sp_m (aw_aload_n (pc := 158) dX7_marches_158 rfl (lv_at hl 0 rfl)) ?_
                refine sp_b fun x41 ex41 => ?_
                refine sp_m (aw_get (k := 25) okX7 s30 (by decide) q1527 (Or.inl rfl) (congrArg va_rf ex41) (pc := 159) dX7_marches_159) ?_
                refine sp_m (aw_iload (pc := 162) dX7_marches_162 (lv_at hl 3 rfl)) ?_
                refine sp_m (aw_dup2 (pc := 164) dX7_marches_164 rfl rfl) ?_
                refine sp_g fun s42 => ?_
                refine sp_g fun i43 => ?_
                refine sp_m (aw_iald s42 i43 (pc := 165) dX7_marches_165) ?_
                refine sp_m (aw_iconst (v := 1) (pc := 166) dX7_marches_166 rfl) ?_
                refine sp_m (aw_iadd (pc := 167) dX7_marches_167) ?_
                refine sp_g fun i44 => ?_
                refine sp_t fun h45 eh450 => ?_
                have eh45 : gS h45 = gS s29v := by rw [eh450]; rfl
                refine sp_m (fun kk => aw_iast s42 i44 (pc := 168) dX7_marches_168 (AWe eh450 kk)) ?_
                refine sp_m (aw_goto (tgt := 94) (pc := 169) dX7_marches_169 (by decide)) ?_
                exact sp_r fun hz => hz ls (lv_sub hl [0, 1, 2, 3] rfl)
              refine sp_if (fun c46 => ?_) (fun c46 => ?_)
              · refine sp_m (aw_if_ne_t (tgt := 158) (pc := 123) dX7_marches_123 (by decide) c46) ?_
                exact hj158_2 ls (lv_sub hl [0, 1, 2, 3] rfl)
              · refine sp_m (aw_if_ne_f (tgt := 158) (pc := 123) dX7_marches_123 (by decide) (Decidable.not_not.mp c46)) ?_
                refine sp_m (aw_aload_n (pc := 126) dX7_marches_126 rfl (lv_at hl 0 rfl)) ?_
                refine sp_b fun x47 ex47 => ?_
                refine sp_m (aw_get (k := 3) okX7 s30 (by decide) q1505 (Or.inl rfl) (congrArg va_rf ex47) (pc := 127) dX7_marches_127) ?_
                refine sp_g fun s48 => ?_
                refine sp_b fun x49 ex49 => ?_
                refine sp_m (aw_getN (k := 14) okX20 s48 (by decide) nq1664 rfl (congrArg va_rf ex49) (pc := 130) dX7_marches_130) ?_
                refine sp_m (aw_bipush (v := 6) (pc := 133) dX7_marches_133 rfl) ?_
                refine sp_m (aw_aload_n (pc := 135) dX7_marches_135 rfl (lv_at hl 0 rfl)) ?_
                refine sp_b fun x50 ex50 => ?_
                refine sp_m (aw_get (k := 25) okX7 s30 (by decide) q1527 (Or.inl rfl) (congrArg va_rf ex50) (pc := 136) dX7_marches_136) ?_
                refine sp_m (aw_iload (pc := 139) dX7_marches_139 (lv_at hl 3 rfl)) ?_
                refine sp_m (aw_iconst (v := 1) (pc := 141) dX7_marches_141 rfl) ?_
                refine sp_m (aw_isub (pc := 142) dX7_marches_142) ?_
                refine sp_g fun s51 => ?_
                refine sp_g fun i52 => ?_
                refine sp_m (aw_iald s51 i52 (pc := 143) dX7_marches_143) ?_
                refine sp_m (aw_imul (pc := 144) dX7_marches_144) ?_
                refine sp_m (aw_aload_n (pc := 145) dX7_marches_145 rfl (lv_at hl 0 rfl)) ?_
                refine sp_b fun x53 ex53 => ?_
                refine sp_m (aw_get (k := 25) okX7 s30 (by decide) q1527 (Or.inl rfl) (congrArg va_rf ex53) (pc := 146) dX7_marches_146) ?_
                refine sp_m (aw_iload (pc := 149) dX7_marches_149 (lv_at hl 3 rfl)) ?_
                refine sp_g fun s54 => ?_
                refine sp_g fun i55 => ?_
                refine sp_m (aw_iald s54 i55 (pc := 151) dX7_marches_151) ?_
                refine sp_m (aw_iadd (pc := 152) dX7_marches_152) ?_
                refine sp_g fun s56 => ?_
                refine sp_g fun i57 => ?_
                refine sp_m (aw_iald s56 i57 (pc := 153) dX7_marches_153) ?_
                refine sp_m (aw_iconst (v := (-1)) (pc := 154) dX7_marches_154 rfl) ?_
                refine sp_if (fun c58 => ?_) (fun c58 => ?_)
                · refine sp_m (aw_icmp_ne_t (tgt := 172) (pc := 155) dX7_marches_155 (by decide) c58) ?_
                  exact sp_r fun hz => hz ls (lv_sub hl [0, 1, 2, 3] rfl)
                · refine sp_m (aw_icmp_ne_f (tgt := 172) (pc := 155) dX7_marches_155 (by decide) (Decidable.not_not.mp c58)) ?_
                  exact hj158_2 ls (lv_sub hl [0, 1, 2, 3] rfl)
          · have hl : lv_has ls 6 [(0, .ref a0), (2, .int a2), (4, .int j23), (5, .int s17v.2.1)] := hl
            show SP _ _ (AW (KX7_marches l D h0 hE) r29v 172 ls [])
            refine sp_m (aw_aload_n (pc := 172) dX7_marches_172 rfl (lv_at hl 0 rfl)) ?_
            refine sp_g fun s59 => ?_
            refine sp_b fun x60 ex60 => ?_
            refine sp_m (aw_get (k := 25) okX7 s59 (by decide) q1527 (Or.inl rfl) (congrArg va_rf ex60) (pc := 173) dX7_marches_173) ?_
            refine sp_m (aw_iload (pc := 176) dX7_marches_176 (lv_at hl 3 rfl)) ?_
            refine sp_g fun s61 => ?_
            refine sp_g fun i62 => ?_
            refine sp_m (aw_iald s61 i62 (pc := 178) dX7_marches_178) ?_
            refine sp_m (aw_aload_n (pc := 179) dX7_marches_179 rfl (lv_at hl 0 rfl)) ?_
            refine sp_b fun x63 ex63 => ?_
            refine sp_m (aw_get (k := 3) okX7 s59 (by decide) q1505 (Or.inl rfl) (congrArg va_rf ex63) (pc := 180) dX7_marches_180) ?_
            refine sp_g fun s64 => ?_
            refine sp_m (aw_getN (k := 4) okX20 s64 (by decide) nq1646 rfl rfl (pc := 183) dX7_marches_183) ?_
            refine sp_if (fun c65 => ?_) (fun c65 => ?_)
            · refine sp_m (aw_icmp_lt_t (tgt := 195) (pc := 186) dX7_marches_186 (by decide) c65) ?_
              refine sp_m (aw_iload (pc := 195) dX7_marches_195 (lv_at hl 2 rfl)) ?_
              refine sp_m (aw_iconst (v := 1) (pc := 197) dX7_marches_197 rfl) ?_
              refine sp_m (aw_aload_n (pc := 198) dX7_marches_198 rfl (lv_at hl 0 rfl)) ?_
              refine sp_b fun x66 ex66 => ?_
              refine sp_m (aw_get (k := 25) okX7 s59 (by decide) q1527 (Or.inl rfl) (congrArg va_rf ex66) (pc := 199) dX7_marches_199) ?_
              refine sp_m (aw_iload (pc := 202) dX7_marches_202 (lv_at hl 3 rfl)) ?_
              refine sp_g fun s67 => ?_
              refine sp_g fun i68 => ?_
              refine sp_m (aw_iald s67 i68 (pc := 204) dX7_marches_204) ?_
              refine sp_m (aw_ishl (pc := 205) dX7_marches_205) ?_
              refine sp_m (aw_ior (pc := 206) dX7_marches_206) ?_
              refine sp_m (aw_istore (lv' := [(4, .int (j23 ||| (1 <<< ((gI r29v x66 (ix s17v.2.1)) &&& 31)))), (0, .ref a0), (2, .int a2), (5, .int s17v.2.1)]) (pc := 207) dX7_marches_207 hl (by decide) rfl) (sp_all fun ls hl => ?_)
              refine sp_m (aw_aload_n (pc := 209) dX7_marches_209 rfl (lv_at hl 1 rfl)) ?_
              refine sp_b fun x69 ex69 => ?_
              refine sp_m (aw_get (k := 27) okX7 s59 (by decide) q1529 (Or.inl rfl) (congrArg va_rf ex69) (pc := 210) dX7_marches_210) ?_
              refine sp_m (aw_iload (pc := 213) dX7_marches_213 (lv_at hl 3 rfl)) ?_
              refine sp_m (aw_aload_n (pc := 215) dX7_marches_215 rfl (lv_at hl 1 rfl)) ?_
              refine sp_b fun x70 ex70 => ?_
              refine sp_m (aw_get (k := 27) okX7 s59 (by decide) q1529 (Or.inl rfl) (congrArg va_rf ex70) (pc := 216) dX7_marches_216) ?_
              refine sp_m (aw_iload (pc := 219) dX7_marches_219 (lv_at hl 3 rfl)) ?_
              refine sp_m (aw_iconst (v := 1) (pc := 221) dX7_marches_221 rfl) ?_
              refine sp_m (aw_isub (pc := 222) dX7_marches_222) ?_
              refine sp_g fun s71 => ?_
              refine sp_g fun i72 => ?_
              refine sp_m (aw_iald s71 i72 (pc := 223) dX7_marches_223) ?_
              refine sp_m (aw_aload_n (pc := 224) dX7_marches_224 rfl (lv_at hl 1 rfl)) ?_
              refine sp_b fun x73 ex73 => ?_
              refine sp_m (aw_get (k := 3) okX7 s59 (by decide) q1505 (Or.inl rfl) (congrArg va_rf ex73) (pc := 225) dX7_marches_225) ?_
              refine sp_g fun s74 => ?_
              refine sp_b fun x75 ex75 => ?_
              refine sp_m (aw_getN (k := 14) okX20 s74 (by decide) nq1664 rfl (congrArg va_rf ex75) (pc := 228) dX7_marches_228) ?_
              refine sp_m (aw_bipush (v := 6) (pc := 231) dX7_marches_231 rfl) ?_
              refine sp_m (aw_aload_n (pc := 233) dX7_marches_233 rfl (lv_at hl 1 rfl)) ?_
              refine sp_b fun x76 ex76 => ?_
              refine sp_m (aw_get (k := 25) okX7 s59 (by decide) q1527 (Or.inl rfl) (congrArg va_rf ex76) (pc := 234) dX7_marches_234) ?_
              refine sp_m (aw_iload (pc := 237) dX7_marches_237 (lv_at hl 3 rfl)) ?_
              refine sp_m (aw_iconst (v := 1) (pc := 239) dX7_marches_239 rfl) ?_
              refine sp_m (aw_isub (pc := 240) dX7_marches_240) ?_
              refine sp_g fun s77 => ?_
              refine sp_g fun i78 => ?_
              refine sp_m (aw_iald s77 i78 (pc := 241) dX7_marches_241) ?_
              refine sp_m (aw_imul (pc := 242) dX7_marches_242) ?_
              refine sp_m (aw_aload_n (pc := 243) dX7_marches_243 rfl (lv_at hl 1 rfl)) ?_
              refine sp_b fun x79 ex79 => ?_
              refine sp_m (aw_get (k := 25) okX7 s59 (by decide) q1527 (Or.inl rfl) (congrArg va_rf ex79) (pc := 244) dX7_marches_244) ?_
              refine sp_m (aw_iload (pc := 247) dX7_marches_247 (lv_at hl 3 rfl)) ?_
              refine sp_g fun s80 => ?_
              refine sp_g fun i81 => ?_
              refine sp_m (aw_iald s80 i81 (pc := 249) dX7_marches_249) ?_
              refine sp_m (aw_iadd (pc := 250) dX7_marches_250) ?_
              refine sp_g fun s82 => ?_
              refine sp_g fun i83 => ?_
              refine sp_m (aw_iald s82 i83 (pc := 251) dX7_marches_251) ?_
              refine sp_b fun p84 ep84 => ?_
              refine sp_m (G' := AW (KX7_marches l D h0 hE) r29v (255) ls (.int p84 :: .int s17v.2.1 :: .ref x69 :: [])) (fun kk => aw_callS (As := [.int (gI r29v x70 (ix (s17v.2.1 - 1))), .int (gI r29v x75 (ix ((6 * (gI r29v x76 (ix (s17v.2.1 - 1)))) + (gI r29v x79 (ix s17v.2.1)))))]) (metX7_over _ _ ep84) mok_X7_over q2096 q2097 q125 q2098 (Nat.le_of_ble_eq_true rfl) (Nat.le_of_ble_eq_true rfl) rfl hl.1 rfl (Nat.le_of_ble_eq_true rfl) (pc := 252) dX7_marches_252 kk) ?_
              refine sp_g fun s85 => ?_
              refine sp_g fun i86 => ?_
              refine sp_t fun h87 eh870 => ?_
              have eh87 : gS h87 = gS r29v := by rw [eh870]; rfl
              refine sp_m (fun kk => aw_iast s85 i86 (pc := 255) dX7_marches_255 (AWe eh870 kk)) ?_
              refine sp_m (aw_aload_n (pc := 256) dX7_marches_256 rfl (lv_at hl 1 rfl)) ?_
              refine sp_b fun x88 ex88 => ?_
              refine sp_m (aw_get (k := 25) okX7 (uS eh87 s59) (by decide) q1527 (Or.inl rfl) (congrArg va_rf ex88) (pc := 257) dX7_marches_257) ?_
              refine sp_m (aw_iload (pc := 260) dX7_marches_260 (lv_at hl 3 rfl)) ?_
              refine sp_g fun s89 => ?_
              refine sp_g fun i90 => ?_
              refine sp_m (aw_iald s89 i90 (pc := 262) dX7_marches_262) ?_
              refine sp_m (aw_iload_n (pc := 263) dX7_marches_263 rfl (lv_at hl 2 rfl)) ?_
              refine sp_if (fun c91 => ?_) (fun c91 => ?_)
              · refine sp_m (aw_icmp_ne_t (tgt := 278) (pc := 264) dX7_marches_264 (by decide) c91) ?_
                refine sp_m (aw_iload (pc := 278) dX7_marches_278 (lv_at hl 3 rfl)) ?_
                refine sp_m (aw_iconst (v := 1) (pc := 280) dX7_marches_280 rfl) ?_
                refine sp_m (aw_iadd (pc := 281) dX7_marches_281) ?_
                refine sp_m (aw_aload_n (pc := 282) dX7_marches_282 rfl (lv_at hl 1 rfl)) ?_
                refine sp_b fun x92 ex92 => ?_
                refine sp_m (aw_get (k := 3) okX7 (uS eh87 s59) (by decide) q1505 (Or.inl rfl) (congrArg va_rf ex92) (pc := 283) dX7_marches_283) ?_
                refine sp_g fun s93 => ?_
                refine sp_m (aw_getN (k := 4) okX20 s93 (by decide) nq1646 rfl rfl (pc := 286) dX7_marches_286) ?_
                refine sp_if (fun c94 => ?_) (fun c94 => ?_)
                · refine sp_m (aw_icmp_ge_t (tgt := 51) (pc := 289) dX7_marches_289 (by decide) c94) ?_
                  exact sp_r fun hz => hz ls (lv_sub hl [1, 2, 0, 3] rfl)
                · refine sp_m (aw_icmp_ge_f (tgt := 51) (pc := 289) dX7_marches_289 (by decide) c94) ?_
                  refine sp_m (aw_iinc (v := s17v.2.1 + 1) (lv' := [(5, .int (s17v.2.1 + 1)), (4, .int (j23 ||| (1 <<< ((gI r29v x66 (ix s17v.2.1)) &&& 31)))), (0, .ref a0), (2, .int a2)]) (pc := 292) dX7_marches_292 hl (k := 3) rfl rfl (by decide) rfl) (sp_all fun ls hl => ?_)
                  refine sp_m (aw_aload_n (pc := 295) dX7_marches_295 rfl (lv_at hl 2 rfl)) ?_
                  refine sp_b fun x95 ex95 => ?_
                  refine sp_m (aw_get (k := 25) okX7 (uS eh87 s59) (by decide) q1527 (Or.inl rfl) (congrArg va_rf ex95) (pc := 296) dX7_marches_296) ?_
                  refine sp_m (aw_iload (pc := 299) dX7_marches_299 (lv_at hl 0 rfl)) ?_
                  refine sp_m (aw_iconst (v := (-1)) (pc := 301) dX7_marches_301 rfl) ?_
                  refine sp_g fun s96 => ?_
                  refine sp_g fun i97 => ?_
                  refine sp_t fun h98 eh980 => ?_
                  have eh98 : gS h98 = gS h87 := by rw [eh980]; rfl
                  refine sp_m (fun kk => aw_iast s96 i97 (pc := 302) dX7_marches_302 (AWe eh980 kk)) ?_
                  refine sp_m (aw_goto (tgt := 51) (pc := 303) dX7_marches_303 (by decide)) ?_
                  exact sp_r fun hz => hz ls (lv_sub hl [2, 3, 1, 0] rfl)
              · refine sp_m (aw_icmp_ne_f (tgt := 278) (pc := 264) dX7_marches_264 (by decide) (Decidable.not_not.mp c91)) ?_
                refine sp_m (aw_aload_n (pc := 267) dX7_marches_267 rfl (lv_at hl 1 rfl)) ?_
                refine sp_m (aw_iload (pc := 268) dX7_marches_268 (lv_at hl 3 rfl)) ?_
                refine sp_m (aw_iconst (v := 1) (pc := 270) dX7_marches_270 rfl) ?_
                refine sp_m (aw_iadd (pc := 271) dX7_marches_271) ?_
                refine sp_b fun p99 ep99 => ?_
                refine sp_m (G' := AW (KX7_marches l D h0 hE) p99 (275) ls ([])) (fun kk => aw_callV (As := [.int (s17v.2.1 + 1)]) (metX7_comes _ _ ep99) (rcv_o okX7 (uS eh87 s59)) rfl mok_X7_comes q2092 q2094 qs103 q125 q2095 (Nat.le_of_ble_eq_true rfl) (Nat.le_of_ble_eq_true rfl) rfl hl.1 rfl (Nat.le_of_ble_eq_true rfl) (pc := 272) dX7_marches_272 kk) ?_
                refine sp_m (aw_goto (tgt := 51) (pc := 275) dX7_marches_275 (by decide)) ?_
                exact sp_r fun hz => hz ls (lv_sub hl [1, 2, 0, 3] rfl)
            · refine sp_m (aw_icmp_lt_f (tgt := 195) (pc := 186) dX7_marches_186 (by decide) c65) ?_
              refine sp_m (aw_iinc (v := s17v.2.1 + (-1)) (lv' := [(5, .int (s17v.2.1 + (-1))), (0, .ref a0), (2, .int a2), (4, .int j23)]) (pc := 189) dX7_marches_189 hl (k := 3) rfl rfl (by decide) rfl) (sp_all fun ls hl => ?_)
              refine sp_m (aw_goto (tgt := 51) (pc := 192) dX7_marches_192 (by decide)) ?_
              exact sp_r fun hz => hz ls (lv_sub hl [1, 2, 3, 0] rfl)
        refine sp_if (fun c100 => ?_) (fun c100 => ?_)
        · refine sp_m (aw_icmp_eq_t (tgt := 83) (pc := 64) dX7_marches_64 (by decide) c100) ?_
          exact hj83_1 s17v.1 ls (lv_sub hl [0, 1, 2, 3] rfl)
        · refine sp_m (aw_icmp_eq_f (tgt := 83) (pc := 64) dX7_marches_64 (by decide) c100) ?_
          refine sp_m (aw_iload (pc := 67) dX7_marches_67 (lv_at hl 2 rfl)) ?_
          refine sp_m (aw_iconst (v := 1) (pc := 69) dX7_marches_69 rfl) ?_
          refine sp_m (aw_aload_n (pc := 70) dX7_marches_70 rfl (lv_at hl 0 rfl)) ?_
          refine sp_b fun x101 ex101 => ?_
          refine sp_m (aw_get (k := 25) okX7 s19 (by decide) q1527 (Or.inl rfl) (congrArg va_rf ex101) (pc := 71) dX7_marches_71) ?_
          refine sp_m (aw_iload (pc := 74) dX7_marches_74 (lv_at hl 3 rfl)) ?_
          refine sp_g fun s102 => ?_
          refine sp_g fun i103 => ?_
          refine sp_m (aw_iald s102 i103 (pc := 76) dX7_marches_76) ?_
          refine sp_m (aw_ishl (pc := 77) dX7_marches_77) ?_
          refine sp_m (aw_iconst (v := (-1)) (pc := 78) dX7_marches_78 rfl) ?_
          refine sp_m (aw_ixor (pc := 79) dX7_marches_79) ?_
          refine sp_m (aw_iand (pc := 80) dX7_marches_80) ?_
          refine sp_m (aw_istore (lv' := [(4, .int (s17v.1 &&& ((1 <<< ((gI s17v.2.2 x101 (ix s17v.2.1)) &&& 31)) ^^^ (-1)))), (0, .ref a0), (2, .int a2), (5, .int s17v.2.1)]) (pc := 81) dX7_marches_81 hl (by decide) rfl) (sp_all fun ls hl => ?_)
          exact hj83_1 (s17v.1 &&& ((1 <<< ((gI s17v.2.2 x101 (ix s17v.2.1)) &&& 31)) ^^^ (-1))) ls (lv_sub hl [1, 2, 0, 3] rfl)
    · have hl : lv_has ls 6 [] := hl
      show SP _ _ (AW (KX7_marches l D h0 hE) r17v 306 ls [])
      exact sp_r fun hz => aw_vret hz rfl rfl rfl (pc := 306) dX7_marches_306
  · refine sp_m (aw_icmp_ne_f (tgt := 36) (pc := 27) dX7_marches_27 (by decide) (Decidable.not_not.mp c12)) ?_
    refine sp_m (aw_aload_n (pc := 30) dX7_marches_30 rfl (lv_at hl 0 rfl)) ?_
    refine sp_m (aw_iconst (v := 1) (pc := 31) dX7_marches_31 rfl) ?_
    refine sp_b fun p104 ep104 => ?_
    refine sp_m (G' := AW (KX7_marches l D h0 hE) p104 (35) ls ([])) (fun kk => aw_callV (As := [.int 1]) (metX7_comes _ _ ep104) (rcv_o okX7 (uS eh11 (uS eh7 (uS eh3 (uS eh2 s1))))) rfl mok_X7_comes q2092 q2094 qs103 q125 q2095 (Nat.le_of_ble_eq_true rfl) (Nat.le_of_ble_eq_true rfl) rfl hl.1 rfl (Nat.le_of_ble_eq_true rfl) (pc := 32) dX7_marches_32 kk) ?_
    exact sp_r fun hz => aw_vret hz rfl rfl rfl (pc := 35) dX7_marches_35
theorem mok_X7_isCity : mOK yX7_isCity 1 := ⟨⟨by decide +kernel, by decide +kernel⟩, by decide +kernel⟩
abbrev KX7_isCity (l : Launch) (D : DD) (h0 : AH) (v : Int32) : KT := (l, yX7_isCity, cX7_isCity, 2, (some .boolean), RX7, 1, D, h0, h0, .inl (some (.int v)), false, [])
theorem metX7_isCity (l : Launch) (D : DD) {a0 : Nat} {a1 : Int32} {h0 : AH} {v : Int32} (hr : fX7_isCity a0 a1 h0 = some v) : AMet (KX7_isCity l D h0 v) [.ref a0, .int a1] := by
  refine AMet.of (K := (KX7_isCity l D h0 v)) rfl ⟨_, rfl⟩ rfl rfl rfl (Nat.le_of_ble_eq_true rfl) (fun ls hl => ?_)
  have hl : lv_has ls 2 [(0, .ref a0), (1, .int a1)] := hl
  suffices hsp : SP (fX7_isCity a0 a1 h0) (fun z => z = v) (AW (KX7_isCity l D h0 v) h0 0 ls []) from hsp _ hr rfl
  unfold fX7_isCity
  refine sp_m (aw_aload_n (pc := 0) dX7_isCity_0 rfl (lv_at hl 0 rfl)) ?_
  refine sp_g fun s1 => ?_
  refine sp_o (fun ex2 => ?_) (fun x2 ex2 => ?_)
  · refine sp_m (aw_get (k := 3) okX7 s1 (by decide) q1505 (Or.inl rfl) (congrArg va_rf ex2) (pc := 1) dX7_isCity_1) ?_
    refine sp_m (aw_ifnullN (tgt := 26) (pc := 4) dX7_isCity_4 (by decide)) ?_
    refine sp_m (aw_iconst (v := 0) (pc := 26) dX7_isCity_26 rfl) ?_
    exact sp_r fun hz => aw_zret (nar_b (Or.inl rfl)) (congrArg (fun z => (z, h0)) hz) rfl rfl rfl (pc := 27) dX7_isCity_27
  · refine sp_m (aw_get (k := 3) okX7 s1 (by decide) q1505 (Or.inl rfl) (congrArg va_rf ex2) (pc := 1) dX7_isCity_1) ?_
    refine sp_m (aw_ifnull (pc := 4) dX7_isCity_4) ?_
    refine sp_m (aw_iload_n (pc := 7) dX7_isCity_7 rfl (lv_at hl 1 rfl)) ?_
    refine sp_if (fun c3 => ?_) (fun c3 => ?_)
    · refine sp_m (aw_if_lt_t (tgt := 26) (pc := 8) dX7_isCity_8 (by decide) c3) ?_
      refine sp_m (aw_iconst (v := 0) (pc := 26) dX7_isCity_26 rfl) ?_
      exact sp_r fun hz => aw_zret (nar_b (Or.inl rfl)) (congrArg (fun z => (z, h0)) hz) rfl rfl rfl (pc := 27) dX7_isCity_27
    · refine sp_m (aw_if_lt_f (tgt := 26) (pc := 8) dX7_isCity_8 (by decide) c3) ?_
      refine sp_m (aw_iload_n (pc := 11) dX7_isCity_11 rfl (lv_at hl 1 rfl)) ?_
      refine sp_m (aw_aload_n (pc := 12) dX7_isCity_12 rfl (lv_at hl 0 rfl)) ?_
      refine sp_b fun x4 ex4 => ?_
      refine sp_m (aw_get (k := 3) okX7 s1 (by decide) q1505 (Or.inl rfl) (congrArg va_rf ex4) (pc := 13) dX7_isCity_13) ?_
      refine sp_g fun s5 => ?_
      refine sp_m (aw_getN (k := 4) okX20 s5 (by decide) nq1646 rfl rfl (pc := 16) dX7_isCity_16) ?_
      refine sp_if (fun c6 => ?_) (fun c6 => ?_)
      · refine sp_m (aw_icmp_ge_t (tgt := 26) (pc := 19) dX7_isCity_19 (by decide) c6) ?_
        refine sp_m (aw_iconst (v := 0) (pc := 26) dX7_isCity_26 rfl) ?_
        exact sp_r fun hz => aw_zret (nar_b (Or.inl rfl)) (congrArg (fun z => (z, h0)) hz) rfl rfl rfl (pc := 27) dX7_isCity_27
      · refine sp_m (aw_icmp_ge_f (tgt := 26) (pc := 19) dX7_isCity_19 (by decide) c6) ?_
        refine sp_m (aw_iconst (v := 1) (pc := 22) dX7_isCity_22 rfl) ?_
        refine sp_m (aw_goto (tgt := 27) (pc := 23) dX7_isCity_23 (by decide)) ?_
        exact sp_r fun hz => aw_zret (nar_b (Or.inr rfl)) (congrArg (fun z => (z, h0)) hz) rfl rfl rfl (pc := 27) dX7_isCity_27
theorem mok_X7_refusesMarch : mOK yX7_refusesMarch 3 := ⟨⟨by decide +kernel, by decide +kernel⟩, by decide +kernel⟩
abbrev KX7_refusesMarch (l : Launch) (D : DD) (h0 : AH) (v : Int32) : KT := (l, yX7_refusesMarch, cX7_refusesMarch, 4, (some .int), RX7, 2, D, h0, h0, .inl (some (.int v)), false, [])
theorem metX7_refusesMarch (l : Launch) (D : DD) {a0 : Nat} {a1 : Int32} {a2 : Int32} {a3 : Int32} {h0 : AH} {v : Int32} (hr : fX7_refusesMarch a0 a1 a2 a3 h0 = some v) : AMet (KX7_refusesMarch l D h0 v) [.ref a0, .int a1, .int a2, .int a3] := by
  refine AMet.of (K := (KX7_refusesMarch l D h0 v)) rfl ⟨_, rfl⟩ rfl rfl rfl (Nat.le_of_ble_eq_true rfl) (fun ls hl => ?_)
  have hl : lv_has ls 4 [(0, .ref a0), (1, .int a1), (2, .int a2), (3, .int a3)] := hl
  suffices hsp : SP (fX7_refusesMarch a0 a1 a2 a3 h0) (fun z => z = v) (AW (KX7_refusesMarch l D h0 v) h0 0 ls []) from hsp _ hr rfl
  unfold fX7_refusesMarch
  refine sp_m (aw_aload_n (pc := 0) dX7_refusesMarch_0 rfl (lv_at hl 0 rfl)) ?_
  refine sp_m (aw_iload_n (pc := 1) dX7_refusesMarch_1 rfl (lv_at hl 1 rfl)) ?_
  refine sp_g fun s2 => ?_
  refine sp_b fun p1 ep1 => ?_
  refine sp_m (G' := AW (KX7_refusesMarch l D h0 v) h0 (5) ls (.int p1 :: [])) (fun kk => aw_callV (As := [.int a1]) (metX7_isCity _ _ ep1) (rcv_o okX7 s2) rfl mok_X7_isCity q2084 q2086 qs101 q125 q2087 (Nat.le_of_ble_eq_true rfl) (Nat.le_of_ble_eq_true rfl) rfl hl.1 rfl (Nat.le_of_ble_eq_true rfl) (pc := 2) dX7_refusesMarch_2 kk) ?_
  refine sp_if (fun c3 => ?_) (fun c3 => ?_)
  · refine sp_m (aw_if_eq_t (tgt := 16) (pc := 5) dX7_refusesMarch_5 (by decide) c3) ?_
    refine sp_m (aw_iconst (v := 1) (pc := 16) dX7_refusesMarch_16 rfl) ?_
    refine sp_m (aw_goto (tgt := 36) (pc := 17) dX7_refusesMarch_17 (by decide)) ?_
    exact sp_r fun hz => aw_iret (congrArg (fun z => (z, h0)) hz) rfl rfl rfl (pc := 36) dX7_refusesMarch_36
  · refine sp_m (aw_if_eq_f (tgt := 16) (pc := 5) dX7_refusesMarch_5 (by decide) c3) ?_
    refine sp_m (aw_aload_n (pc := 8) dX7_refusesMarch_8 rfl (lv_at hl 0 rfl)) ?_
    refine sp_m (aw_iload_n (pc := 9) dX7_refusesMarch_9 rfl (lv_at hl 2 rfl)) ?_
    refine sp_b fun p4 ep4 => ?_
    refine sp_m (G' := AW (KX7_refusesMarch l D h0 v) h0 (13) ls (.int p4 :: [])) (fun kk => aw_callV (As := [.int a2]) (metX7_isCity _ _ ep4) (rcv_o okX7 s2) rfl mok_X7_isCity q2084 q2086 qs101 q125 q2087 (Nat.le_of_ble_eq_true rfl) (Nat.le_of_ble_eq_true rfl) rfl hl.1 rfl (Nat.le_of_ble_eq_true rfl) (pc := 10) dX7_refusesMarch_10 kk) ?_
    refine sp_if (fun c5 => ?_) (fun c5 => ?_)
    · refine sp_m (aw_if_ne_t (tgt := 20) (pc := 13) dX7_refusesMarch_13 (by decide) c5) ?_
      refine sp_m (aw_iload_n (pc := 20) dX7_refusesMarch_20 rfl (lv_at hl 3 rfl)) ?_
      refine sp_m (aw_iconst (v := 0) (pc := 21) dX7_refusesMarch_21 rfl) ?_
      refine sp_m (aw_sipush (v := 999) (pc := 22) dX7_refusesMarch_22 rfl) ?_
      refine sp_b fun p6 ep6 => ?_
      refine sp_m (G' := AW (KX7_refusesMarch l D h0 v) h0 (28) ls (.int p6 :: [])) (fun kk => aw_callS (As := [.int a3, .int 0, .int 999]) (metX7_in _ _ ep6) mok_X7_in q1793 q1794 q125 q1795 (Nat.le_of_ble_eq_true rfl) (Nat.le_of_ble_eq_true rfl) rfl hl.1 rfl (Nat.le_of_ble_eq_true rfl) (pc := 25) dX7_refusesMarch_25 kk) ?_
      refine sp_if (fun c7 => ?_) (fun c7 => ?_)
      · refine sp_m (aw_if_eq_t (tgt := 35) (pc := 28) dX7_refusesMarch_28 (by decide) c7) ?_
        refine sp_m (aw_iconst (v := 2) (pc := 35) dX7_refusesMarch_35 rfl) ?_
        exact sp_r fun hz => aw_iret (congrArg (fun z => (z, h0)) hz) rfl rfl rfl (pc := 36) dX7_refusesMarch_36
      · refine sp_m (aw_if_eq_f (tgt := 35) (pc := 28) dX7_refusesMarch_28 (by decide) c7) ?_
        refine sp_m (aw_iconst (v := 0) (pc := 31) dX7_refusesMarch_31 rfl) ?_
        refine sp_m (aw_goto (tgt := 36) (pc := 32) dX7_refusesMarch_32 (by decide)) ?_
        exact sp_r fun hz => aw_iret (congrArg (fun z => (z, h0)) hz) rfl rfl rfl (pc := 36) dX7_refusesMarch_36
    · refine sp_m (aw_if_ne_f (tgt := 20) (pc := 13) dX7_refusesMarch_13 (by decide) (Decidable.not_not.mp c5)) ?_
      refine sp_m (aw_iconst (v := 1) (pc := 16) dX7_refusesMarch_16 rfl) ?_
      refine sp_m (aw_goto (tgt := 36) (pc := 17) dX7_refusesMarch_17 (by decide)) ?_
      exact sp_r fun hz => aw_iret (congrArg (fun z => (z, h0)) hz) rfl rfl rfl (pc := 36) dX7_refusesMarch_36
theorem mok_X7_march : mOK yX7_march 3 := ⟨⟨by decide +kernel, by decide +kernel⟩, by decide +kernel⟩
abbrev KX7_march (l : Launch) (D : DD) (h0 hE : AH) (v : Int32) : KT := (l, yX7_march, cX7_march, 5, (some .int), RX7, 3, D, h0, hE, .inl (some (.int v)), false, [])
theorem metX7_march (l : Launch) (D : DD) {a0 : Nat} {a1 : Int32} {a2 : Int32} {a3 : Int32} {h0 : AH} {hE : AH} {v : Int32} (hr : fX7_march a0 a1 a2 a3 h0 = some (v, hE)) : AMet (KX7_march l D h0 hE v) [.ref a0, .int a1, .int a2, .int a3] := by
  refine AMet.of (K := (KX7_march l D h0 hE v)) rfl ⟨_, rfl⟩ rfl rfl rfl (Nat.le_of_ble_eq_true rfl) (fun ls hl => ?_)
  have hl : lv_has ls 5 [(0, .ref a0), (1, .int a1), (2, .int a2), (3, .int a3)] := hl
  suffices hsp : SP (fX7_march a0 a1 a2 a3 h0) (fun z => z = (v, hE)) (AW (KX7_march l D h0 hE v) h0 0 ls []) from hsp _ hr rfl
  unfold fX7_march
  refine sp_m (aw_aload_n (pc := 0) dX7_march_0 rfl (lv_at hl 0 rfl)) ?_
  refine sp_m (aw_iconst (v := 0) (pc := 1) dX7_march_1 rfl) ?_
  refine sp_g fun s1 => ?_
  refine sp_t fun h2 eh20 => ?_
  have eh2 : gS h2 = gS h0 := by rw [eh20]; rfl
  refine sp_m (aw_put (k := 0) okX7 opX7 s1 (by decide) q1502 (Or.inl rfl) (Or.inl rfl) (hasV_I' eh20) rfl rfl (pc := 2) dX7_march_2) ?_
  refine sp_m (aw_aload_n (pc := 5) dX7_march_5 rfl (lv_at hl 0 rfl)) ?_
  refine sp_m (aw_iload_n (pc := 6) dX7_march_6 rfl (lv_at hl 1 rfl)) ?_
  refine sp_m (aw_iload_n (pc := 7) dX7_march_7 rfl (lv_at hl 2 rfl)) ?_
  refine sp_m (aw_iload_n (pc := 8) dX7_march_8 rfl (lv_at hl 3 rfl)) ?_
  refine sp_b fun p3 ep3 => ?_
  refine sp_m (G' := AW (KX7_march l D h0 hE v) h2 (12) ls (.int p3 :: [])) (fun kk => aw_callV (As := [.int a1, .int a2, .int a3]) (metX7_refusesMarch _ _ ep3) (rcv_o okX7 (uS eh2 s1)) rfl mok_X7_refusesMarch q2080 q2082 qs100 q125 q2083 (Nat.le_of_ble_eq_true rfl) (Nat.le_of_ble_eq_true rfl) rfl hl.1 rfl (Nat.le_of_ble_eq_true rfl) (pc := 9) dX7_march_9 kk) ?_
  refine sp_m (aw_istore (lv' := [(4, .int p3), (0, .ref a0), (1, .int a1), (2, .int a2), (3, .int a3)]) (pc := 12) dX7_march_12 hl (by decide) rfl) (sp_all fun ls hl => ?_)
  refine sp_m (aw_iload (pc := 14) dX7_march_14 (lv_at hl 0 rfl)) ?_
  refine sp_if (fun c4 => ?_) (fun c4 => ?_)
  · refine sp_m (aw_if_le_t (tgt := 26) (pc := 16) dX7_march_16 (by decide) c4) ?_
    refine sp_m (aw_aload_n (pc := 26) dX7_march_26 rfl (lv_at hl 1 rfl)) ?_
    refine sp_m (aw_iload_n (pc := 27) dX7_march_27 rfl (lv_at hl 2 rfl)) ?_
    refine sp_m (aw_iload_n (pc := 28) dX7_march_28 rfl (lv_at hl 3 rfl)) ?_
    refine sp_m (aw_iload_n (pc := 29) dX7_march_29 rfl (lv_at hl 4 rfl)) ?_
    refine sp_b fun p5 ep5 => ?_
    refine sp_m (G' := AW (KX7_march l D h0 hE v) p5 (33) ls ([])) (fun kk => aw_callV (As := [.int a1, .int a2, .int a3]) (metX7_marches _ _ ep5) (rcv_o okX7 (uS eh2 s1)) rfl mok_X7_marches q2088 q2090 qs102 q125 q2091 (Nat.le_of_ble_eq_true rfl) (Nat.le_of_ble_eq_true rfl) rfl hl.1 rfl (Nat.le_of_ble_eq_true rfl) (pc := 30) dX7_march_30 kk) ?_
    refine sp_m (aw_aload_n (pc := 33) dX7_march_33 rfl (lv_at hl 1 rfl)) ?_
    refine sp_m (aw_aload_n (pc := 34) dX7_march_34 rfl (lv_at hl 1 rfl)) ?_
    refine sp_g fun s6 => ?_
    refine sp_m (aw_get (k := 29) okX7 s6 (by decide) q1531 (Or.inl rfl) rfl (pc := 35) dX7_march_35) ?_
    refine sp_b fun p7 ep7 => ?_
    refine sp_m (G' := AW (KX7_march l D h0 hE v) p7.2 (41) ls (.int p7.1 :: [])) (fun kk => aw_callV (As := [.int (gI p5 a0 29)]) (metX7_good _ _ ep7) (rcv_o okX7 s6) rfl mok_X7_good q1865 q1867 qs73 q125 q1868 (Nat.le_of_ble_eq_true rfl) (Nat.le_of_ble_eq_true rfl) rfl hl.1 rfl (Nat.le_of_ble_eq_true rfl) (pc := 38) dX7_march_38 kk) ?_
    exact sp_r fun hz => aw_iret hz rfl rfl rfl (pc := 41) dX7_march_41
  · refine sp_m (aw_if_le_f (tgt := 26) (pc := 16) dX7_march_16 (by decide) c4) ?_
    refine sp_m (aw_aload_n (pc := 19) dX7_march_19 rfl (lv_at hl 1 rfl)) ?_
    refine sp_m (aw_iload (pc := 20) dX7_march_20 (lv_at hl 0 rfl)) ?_
    refine sp_b fun p8 ep8 => ?_
    refine sp_m (G' := AW (KX7_march l D h0 hE v) p8.2 (25) ls (.int p8.1 :: [])) (fun kk => aw_callV (As := [.int p3]) (metX7_refused _ _ ep8) (rcv_o okX7 (uS eh2 s1)) rfl mok_X7_refused q1632 q1634 qs50 q125 q1635 (Nat.le_of_ble_eq_true rfl) (Nat.le_of_ble_eq_true rfl) rfl hl.1 rfl (Nat.le_of_ble_eq_true rfl) (pc := 22) dX7_march_22 kk) ?_
    exact sp_r fun hz => aw_iret hz rfl rfl rfl (pc := 25) dX7_march_25
theorem mok_X7_marchAt : mOK yX7_marchAt 4 := ⟨⟨by decide +kernel, by decide +kernel⟩, by decide +kernel⟩
abbrev KX7_marchAt (l : Launch) (D : DD) (h0 hE : AH) (v : Int32) : KT := (l, yX7_marchAt, cX7_marchAt, 6, (some .int), RX7, 3, D, h0, hE, .inl (some (.int v)), false, [])
theorem metX7_marchAt (l : Launch) (D : DD) {a0 : Nat} {a1 : Int32} {a2 : Int32} {a3 : Int32} {a4 : Int32} {h0 : AH} {hE : AH} {v : Int32} (hr : fX7_marchAt a0 a1 a2 a3 a4 h0 = some (v, hE)) : AMet (KX7_marchAt l D h0 hE v) [.ref a0, .int a1, .int a2, .int a3, .int a4] := by
  refine AMet.of (K := (KX7_marchAt l D h0 hE v)) rfl ⟨_, rfl⟩ rfl rfl rfl (Nat.le_of_ble_eq_true rfl) (fun ls hl => ?_)
  have hl : lv_has ls 6 [(0, .ref a0), (1, .int a1), (2, .int a2), (3, .int a3), (4, .int a4)] := hl
  suffices hsp : SP (fX7_marchAt a0 a1 a2 a3 a4 h0) (fun z => z = (v, hE)) (AW (KX7_marchAt l D h0 hE v) h0 0 ls []) from hsp _ hr rfl
  unfold fX7_marchAt
  refine sp_m (aw_aload_n (pc := 0) dX7_marchAt_0 rfl (lv_at hl 0 rfl)) ?_
  refine sp_m (aw_iconst (v := 0) (pc := 1) dX7_marchAt_1 rfl) ?_
  refine sp_g fun s1 => ?_
  refine sp_t fun h2 eh20 => ?_
  have eh2 : gS h2 = gS h0 := by rw [eh20]; rfl
  refine sp_m (aw_put (k := 0) okX7 opX7 s1 (by decide) q1502 (Or.inl rfl) (Or.inl rfl) (hasV_I' eh20) rfl rfl (pc := 2) dX7_marchAt_2) ?_
  refine sp_m (aw_aload_n (pc := 5) dX7_marchAt_5 rfl (lv_at hl 0 rfl)) ?_
  refine sp_m (aw_iload_n (pc := 6) dX7_marchAt_6 rfl (lv_at hl 1 rfl)) ?_
  refine sp_m (aw_iload_n (pc := 7) dX7_marchAt_7 rfl (lv_at hl 2 rfl)) ?_
  refine sp_m (aw_iload_n (pc := 8) dX7_marchAt_8 rfl (lv_at hl 3 rfl)) ?_
  refine sp_b fun p3 ep3 => ?_
  refine sp_m (G' := AW (KX7_marchAt l D h0 hE v) h2 (12) ls (.int p3 :: [])) (fun kk => aw_callV (As := [.int a1, .int a2, .int a3]) (metX7_refusesMarch _ _ ep3) (rcv_o okX7 (uS eh2 s1)) rfl mok_X7_refusesMarch q2080 q2082 qs100 q125 q2083 (Nat.le_of_ble_eq_true rfl) (Nat.le_of_ble_eq_true rfl) rfl hl.1 rfl (Nat.le_of_ble_eq_true rfl) (pc := 9) dX7_marchAt_9 kk) ?_
  refine sp_m (aw_istore (lv' := [(5, .int p3), (0, .ref a0), (1, .int a1), (2, .int a2), (3, .int a3), (4, .int a4)]) (pc := 12) dX7_marchAt_12 hl (by decide) rfl) (sp_all fun ls hl => ?_)
  refine sp_m (aw_iload (pc := 14) dX7_marchAt_14 (lv_at hl 0 rfl)) ?_
  refine sp_if (fun c4 => ?_) (fun c4 => ?_)
  · refine sp_m (aw_if_le_t (tgt := 26) (pc := 16) dX7_marchAt_16 (by decide) c4) ?_
    refine sp_m (aw_aload_n (pc := 26) dX7_marchAt_26 rfl (lv_at hl 1 rfl)) ?_
    refine sp_m (aw_iload_n (pc := 27) dX7_marchAt_27 rfl (lv_at hl 2 rfl)) ?_
    refine sp_m (aw_iload_n (pc := 28) dX7_marchAt_28 rfl (lv_at hl 3 rfl)) ?_
    refine sp_m (aw_iload_n (pc := 29) dX7_marchAt_29 rfl (lv_at hl 4 rfl)) ?_
    refine sp_b fun p5 ep5 => ?_
    refine sp_m (G' := AW (KX7_marchAt l D h0 hE v) p5 (33) ls ([])) (fun kk => aw_callV (As := [.int a1, .int a2, .int a3]) (metX7_marches _ _ ep5) (rcv_o okX7 (uS eh2 s1)) rfl mok_X7_marches q2088 q2090 qs102 q125 q2091 (Nat.le_of_ble_eq_true rfl) (Nat.le_of_ble_eq_true rfl) rfl hl.1 rfl (Nat.le_of_ble_eq_true rfl) (pc := 30) dX7_marchAt_30 kk) ?_
    refine sp_m (aw_iload (pc := 33) dX7_marchAt_33 (lv_at hl 5 rfl)) ?_
    have hj61_1 : ∀ ls : Array Slot, lv_has ls 6 [(0, .ref a0)] → SP (X7_marchAt_j61 a0 p5) (fun z => z = (v, hE)) (AW (KX7_marchAt l D h0 hE v) p5 61 ls ([])) := by
      intro ls hl
      unfold X7_marchAt_j61
      refine sp_m (aw_aload_n (pc := 61) dX7_marchAt_61 rfl (lv_at hl 0 rfl)) ?_
      refine sp_m (aw_iconst (v := 1) (pc := 62) dX7_marchAt_62 rfl) ?_
      refine sp_g fun s7 => ?_
      refine sp_b fun p6 ep6 => ?_
      refine sp_m (G' := AW (KX7_marchAt l D h0 hE v) p6.2 (66) ls (.int p6.1 :: [])) (fun kk => aw_callV (As := [.int 1]) (metX7_refused _ _ ep6) (rcv_o okX7 s7) rfl mok_X7_refused q1632 q1634 qs50 q125 q1635 (Nat.le_of_ble_eq_true rfl) (Nat.le_of_ble_eq_true rfl) rfl hl.1 rfl (Nat.le_of_ble_eq_true rfl) (pc := 63) dX7_marchAt_63 kk) ?_
      exact sp_r fun hz => aw_iret hz rfl rfl rfl (pc := 66) dX7_marchAt_66
    refine sp_if (fun c8 => ?_) (fun c8 => ?_)
    · refine sp_m (aw_if_lt_t (tgt := 61) (pc := 35) dX7_marchAt_35 (by decide) c8) ?_
      exact hj61_1 ls (lv_sub hl [1] rfl)
    · refine sp_m (aw_if_lt_f (tgt := 61) (pc := 35) dX7_marchAt_35 (by decide) c8) ?_
      refine sp_m (aw_iload (pc := 38) dX7_marchAt_38 (lv_at hl 5 rfl)) ?_
      refine sp_m (aw_aload_n (pc := 40) dX7_marchAt_40 rfl (lv_at hl 1 rfl)) ?_
      refine sp_g fun s9 => ?_
      refine sp_m (aw_get (k := 28) okX7 s9 (by decide) q1530 (Or.inl rfl) rfl (pc := 41) dX7_marchAt_41) ?_
      refine sp_if (fun c10 => ?_) (fun c10 => ?_)
      · refine sp_m (aw_icmp_ge_t (tgt := 61) (pc := 44) dX7_marchAt_44 (by decide) c10) ?_
        exact hj61_1 ls (lv_sub hl [1] rfl)
      · refine sp_m (aw_icmp_ge_f (tgt := 61) (pc := 44) dX7_marchAt_44 (by decide) c10) ?_
        refine sp_m (aw_aload_n (pc := 47) dX7_marchAt_47 rfl (lv_at hl 1 rfl)) ?_
        refine sp_m (aw_aload_n (pc := 48) dX7_marchAt_48 rfl (lv_at hl 1 rfl)) ?_
        refine sp_b fun x11 ex11 => ?_
        refine sp_m (aw_get (k := 26) okX7 s9 (by decide) q1528 (Or.inl rfl) (congrArg va_rf ex11) (pc := 49) dX7_marchAt_49) ?_
        refine sp_m (aw_iload (pc := 52) dX7_marchAt_52 (lv_at hl 5 rfl)) ?_
        refine sp_g fun s12 => ?_
        refine sp_g fun i13 => ?_
        refine sp_m (aw_iald s12 i13 (pc := 54) dX7_marchAt_54) ?_
        refine sp_b fun p14 ep14 => ?_
        refine sp_m (G' := AW (KX7_marchAt l D h0 hE v) p14.2 (58) ls (.int p14.1 :: [])) (fun kk => aw_callV (As := [.int (gI p5 x11 (ix a4))]) (metX7_good _ _ ep14) (rcv_o okX7 s9) rfl mok_X7_good q1865 q1867 qs73 q125 q1868 (Nat.le_of_ble_eq_true rfl) (Nat.le_of_ble_eq_true rfl) rfl hl.1 rfl (Nat.le_of_ble_eq_true rfl) (pc := 55) dX7_marchAt_55 kk) ?_
        refine sp_m (aw_goto (tgt := 66) (pc := 58) dX7_marchAt_58 (by decide)) ?_
        exact sp_r fun hz => aw_iret hz rfl rfl rfl (pc := 66) dX7_marchAt_66
  · refine sp_m (aw_if_le_f (tgt := 26) (pc := 16) dX7_marchAt_16 (by decide) c4) ?_
    refine sp_m (aw_aload_n (pc := 19) dX7_marchAt_19 rfl (lv_at hl 1 rfl)) ?_
    refine sp_m (aw_iload (pc := 20) dX7_marchAt_20 (lv_at hl 0 rfl)) ?_
    refine sp_b fun p15 ep15 => ?_
    refine sp_m (G' := AW (KX7_marchAt l D h0 hE v) p15.2 (25) ls (.int p15.1 :: [])) (fun kk => aw_callV (As := [.int p3]) (metX7_refused _ _ ep15) (rcv_o okX7 (uS eh2 s1)) rfl mok_X7_refused q1632 q1634 qs50 q125 q1635 (Nat.le_of_ble_eq_true rfl) (Nat.le_of_ble_eq_true rfl) rfl hl.1 rfl (Nat.le_of_ble_eq_true rfl) (pc := 22) dX7_marchAt_22 kk) ?_
    exact sp_r fun hz => aw_iret hz rfl rfl rfl (pc := 25) dX7_marchAt_25
theorem mok_X7_mark : mOK yX7_mark 0 := ⟨⟨by decide +kernel, by decide +kernel⟩, by decide +kernel⟩
abbrev KX7_mark (l : Launch) (D : DD) (h0 hE : AH) (v : Int32) : KT := (l, yX7_mark, cX7_mark, 2, (some .int), RX7, 2, D, h0, hE, .inl (some (.int v)), false, [])
theorem metX7_mark (l : Launch) (D : DD) {a0 : Nat} {h0 : AH} {hE : AH} {v : Int32} (hr : fX7_mark a0 h0 = some (v, hE)) : AMet (KX7_mark l D h0 hE v) [.ref a0] := by
  refine AMet.of (K := (KX7_mark l D h0 hE v)) rfl ⟨_, rfl⟩ rfl rfl rfl (Nat.le_of_ble_eq_true rfl) (fun ls hl => ?_)
  have hl : lv_has ls 2 [(0, .ref a0)] := hl
  suffices hsp : SP (fX7_mark a0 h0) (fun z => z = (v, hE)) (AW (KX7_mark l D h0 hE v) h0 0 ls []) from hsp _ hr rfl
  unfold fX7_mark
  refine sp_m (aw_aload_n (pc := 0) dX7_mark_0 rfl (lv_at hl 0 rfl)) ?_
  refine sp_m (aw_iconst (v := 0) (pc := 1) dX7_mark_1 rfl) ?_
  refine sp_g fun s1 => ?_
  refine sp_t fun h2 eh20 => ?_
  have eh2 : gS h2 = gS h0 := by rw [eh20]; rfl
  refine sp_m (aw_put (k := 0) okX7 opX7 s1 (by decide) q1502 (Or.inl rfl) (Or.inl rfl) (hasV_I' eh20) rfl rfl (pc := 2) dX7_mark_2) ?_
  refine sp_m (aw_aload_n (pc := 5) dX7_mark_5 rfl (lv_at hl 0 rfl)) ?_
  refine sp_o (fun ex3 => ?_) (fun x3 ex3 => ?_)
  · refine sp_m (aw_get (k := 3) okX7 (uS eh2 s1) (by decide) q1505 (Or.inl rfl) (congrArg va_rf ex3) (pc := 6) dX7_mark_6) ?_
    refine sp_m (aw_ifnonnullN (pc := 9) dX7_mark_9) ?_
    refine sp_m (aw_aload_n (pc := 12) dX7_mark_12 rfl (lv_at hl 0 rfl)) ?_
    refine sp_m (aw_iconst (v := 1) (pc := 13) dX7_mark_13 rfl) ?_
    refine sp_b fun p19 ep19 => ?_
    refine sp_m (G' := AW (KX7_mark l D h0 hE v) p19.2 (17) ls (.int p19.1 :: [])) (fun kk => aw_callV (As := [.int 1]) (metX7_refused _ _ ep19) (rcv_o okX7 (uS eh2 s1)) rfl mok_X7_refused q1632 q1634 qs50 q125 q1635 (Nat.le_of_ble_eq_true rfl) (Nat.le_of_ble_eq_true rfl) rfl hl.1 rfl (Nat.le_of_ble_eq_true rfl) (pc := 14) dX7_mark_14 kk) ?_
    exact sp_r fun hz => aw_iret hz rfl rfl rfl (pc := 17) dX7_mark_17
  · refine sp_m (aw_get (k := 3) okX7 (uS eh2 s1) (by decide) q1505 (Or.inl rfl) (congrArg va_rf ex3) (pc := 6) dX7_mark_6) ?_
    refine sp_m (aw_ifnonnull (tgt := 18) (pc := 9) dX7_mark_9 (by decide)) ?_
    refine sp_m (aw_aload_n (pc := 18) dX7_mark_18 rfl (lv_at hl 0 rfl)) ?_
    refine sp_m (aw_get (k := 21) okX7 (uS eh2 s1) (by decide) q1523 (Or.inl rfl) rfl (pc := 19) dX7_mark_19) ?_
    refine sp_m (aw_iconst (v := 3) (pc := 22) dX7_mark_22 rfl) ?_
    refine sp_if (fun c4 => ?_) (fun c4 => ?_)
    · refine sp_m (aw_icmp_ne_t (tgt := 32) (pc := 23) dX7_mark_23 (by decide) c4) ?_
      refine sp_m (aw_iconst (v := 0) (pc := 32) dX7_mark_32 rfl) ?_
      refine sp_m (aw_istore_n (lv' := [(1, .int 0), (0, .ref a0)]) (pc := 33) dX7_mark_33 rfl hl (by decide) rfl) (sp_all fun ls hl => ?_)
      let P5 : Int32 × AH → Prop := aLP (KX7_mark l D h0 hE v) 2 34 (fun s5v : Int32 × AH => [(0, .ref a0), (1, .int s5v.1)]) (fun s5v => s5v.2)
      let E5 : AH → Prop := aLP (KX7_mark l D h0 hE v) 2 66 (fun r5v : AH => [(0, .ref a0)]) (fun r5v => r5v)
      refine sp_bl (P := P5) (E := E5) (fun s5v => sp_all fun ls hl => ?_) (fun k => k ls (lv_sub hl [1, 0] rfl)) (fun r5v => sp_all fun ls hl => ?_)
      · have hl : lv_has ls 2 [(0, .ref a0), (1, .int s5v.1)] := hl
        show SP _ _ (AW (KX7_mark l D h0 hE v) s5v.2 34 ls [])
        unfold X7_mark_L34
        refine sp_m (aw_iload_n (pc := 34) dX7_mark_34 rfl (lv_at hl 1 rfl)) ?_
        refine sp_m (aw_bipush (v := 19) (pc := 35) dX7_mark_35 rfl) ?_
        refine sp_if (fun c6 => ?_) (fun c6 => ?_)
        · refine sp_m (aw_icmp_ge_t (tgt := 66) (pc := 37) dX7_mark_37 (by decide) c6) ?_
          exact sp_r fun hz => hz ls (lv_sub hl [0] rfl)
        · refine sp_m (aw_icmp_ge_f (tgt := 66) (pc := 37) dX7_mark_37 (by decide) c6) ?_
          refine sp_m (aw_aload_n (pc := 40) dX7_mark_40 rfl (lv_at hl 0 rfl)) ?_
          refine sp_g fun s7 => ?_
          refine sp_b fun x8 ex8 => ?_
          refine sp_m (aw_get (k := 19) okX7 s7 (by decide) q1521 (Or.inl rfl) (congrArg va_rf ex8) (pc := 41) dX7_mark_41) ?_
          refine sp_m (aw_bipush (v := 19) (pc := 44) dX7_mark_44 rfl) ?_
          refine sp_m (aw_aload_n (pc := 46) dX7_mark_46 rfl (lv_at hl 0 rfl)) ?_
          refine sp_m (aw_get (k := 21) okX7 s7 (by decide) q1523 (Or.inl rfl) rfl (pc := 47) dX7_mark_47) ?_
          refine sp_m (aw_imul (pc := 50) dX7_mark_50) ?_
          refine sp_m (aw_iload_n (pc := 51) dX7_mark_51 rfl (lv_at hl 1 rfl)) ?_
          refine sp_m (aw_iadd (pc := 52) dX7_mark_52) ?_
          refine sp_m (aw_aload_n (pc := 53) dX7_mark_53 rfl (lv_at hl 0 rfl)) ?_
          refine sp_b fun x9 ex9 => ?_
          refine sp_m (aw_get (k := 16) okX7 s7 (by decide) q1518 (Or.inl rfl) (congrArg va_rf ex9) (pc := 54) dX7_mark_54) ?_
          refine sp_m (aw_iload_n (pc := 57) dX7_mark_57 rfl (lv_at hl 1 rfl)) ?_
          refine sp_g fun s10 => ?_
          refine sp_g fun i11 => ?_
          refine sp_m (aw_iald s10 i11 (pc := 58) dX7_mark_58) ?_
          refine sp_g fun s12 => ?_
          refine sp_g fun i13 => ?_
          refine sp_t fun h14 eh140 => ?_
          have eh14 : gS h14 = gS s5v.2 := by rw [eh140]; rfl
          refine sp_m (fun kk => aw_iast s12 i13 (pc := 59) dX7_mark_59 (AWe eh140 kk)) ?_
          refine sp_m (aw_iinc (v := s5v.1 + 1) (lv' := [(1, .int (s5v.1 + 1)), (0, .ref a0)]) (pc := 60) dX7_mark_60 hl (k := 1) rfl rfl (by decide) rfl) (sp_all fun ls hl => ?_)
          refine sp_m (aw_goto (tgt := 34) (pc := 63) dX7_mark_63 (by decide)) ?_
          exact sp_r fun hz => hz ls (lv_sub hl [1, 0] rfl)
      · have hl : lv_has ls 2 [(0, .ref a0)] := hl
        show SP _ _ (AW (KX7_mark l D h0 hE v) r5v 66 ls [])
        refine sp_m (aw_aload_n (pc := 66) dX7_mark_66 rfl (lv_at hl 0 rfl)) ?_
        refine sp_m (aw_dup (pc := 67) dX7_mark_67 rfl) ?_
        refine sp_g fun s15 => ?_
        refine sp_m (aw_get (k := 21) okX7 s15 (by decide) q1523 (Or.inl rfl) rfl (pc := 68) dX7_mark_68) ?_
        refine sp_m (aw_iconst (v := 1) (pc := 71) dX7_mark_71 rfl) ?_
        refine sp_m (aw_iadd (pc := 72) dX7_mark_72) ?_
        refine sp_t fun h16 eh160 => ?_
        have eh16 : gS h16 = gS r5v := by rw [eh160]; rfl
        refine sp_m (aw_put (k := 21) okX7 opX7 s15 (by decide) q1523 (Or.inl rfl) (Or.inl rfl) (hasV_I' eh160) rfl rfl (pc := 73) dX7_mark_73) ?_
        refine sp_m (aw_aload_n (pc := 76) dX7_mark_76 rfl (lv_at hl 0 rfl)) ?_
        refine sp_m (aw_aload_n (pc := 77) dX7_mark_77 rfl (lv_at hl 0 rfl)) ?_
        refine sp_m (aw_get (k := 21) okX7 (uS eh16 s15) (by decide) q1523 (Or.inl rfl) rfl (pc := 78) dX7_mark_78) ?_
        refine sp_m (aw_iconst (v := 1) (pc := 81) dX7_mark_81 rfl) ?_
        refine sp_m (aw_isub (pc := 82) dX7_mark_82) ?_
        refine sp_b fun p17 ep17 => ?_
        refine sp_m (G' := AW (KX7_mark l D h0 hE v) p17.2 (86) ls (.int p17.1 :: [])) (fun kk => aw_callV (As := [.int ((gI h16 a0 21) - 1)]) (metX7_good _ _ ep17) (rcv_o okX7 (uS eh16 s15)) rfl mok_X7_good q1865 q1867 qs73 q125 q1868 (Nat.le_of_ble_eq_true rfl) (Nat.le_of_ble_eq_true rfl) rfl hl.1 rfl (Nat.le_of_ble_eq_true rfl) (pc := 83) dX7_mark_83 kk) ?_
        exact sp_r fun hz => aw_iret hz rfl rfl rfl (pc := 86) dX7_mark_86
    · refine sp_m (aw_icmp_ne_f (tgt := 32) (pc := 23) dX7_mark_23 (by decide) (Decidable.not_not.mp c4)) ?_
      refine sp_m (aw_aload_n (pc := 26) dX7_mark_26 rfl (lv_at hl 0 rfl)) ?_
      refine sp_m (aw_iconst (v := 3) (pc := 27) dX7_mark_27 rfl) ?_
      refine sp_b fun p18 ep18 => ?_
      refine sp_m (G' := AW (KX7_mark l D h0 hE v) p18.2 (31) ls (.int p18.1 :: [])) (fun kk => aw_callV (As := [.int 3]) (metX7_refused _ _ ep18) (rcv_o okX7 (uS eh2 s1)) rfl mok_X7_refused q1632 q1634 qs50 q125 q1635 (Nat.le_of_ble_eq_true rfl) (Nat.le_of_ble_eq_true rfl) rfl hl.1 rfl (Nat.le_of_ble_eq_true rfl) (pc := 28) dX7_mark_28 kk) ?_
      exact sp_r fun hz => aw_iret hz rfl rfl rfl (pc := 31) dX7_mark_31
theorem mok_X7_mean : mOK yX7_mean 4 := ⟨⟨by decide +kernel, by decide +kernel⟩, by decide +kernel⟩
abbrev KX7_mean (l : Launch) (D : DD) (h0 hE : AH) (v : Int64) : KT := (l, yX7_mean, cX7_mean, 5, (some .long), RX7, 6, D, h0, hE, .inl (some (.long v)), false, [])
theorem metX7_mean (l : Launch) (D : DD) {a0 : Nat} {a1 : Int32} {a2 : Int32} {a3 : Int32} {a4 : Int32} {h0 : AH} {hE : AH} {v : Int64} (hr : fX7_mean a0 a1 a2 a3 a4 h0 = some (v, hE)) : AMet (KX7_mean l D h0 hE v) [.ref a0, .int a1, .int a2, .int a3, .int a4] := by
  refine AMet.of (K := (KX7_mean l D h0 hE v)) rfl ⟨_, rfl⟩ rfl rfl rfl (Nat.le_of_ble_eq_true rfl) (fun ls hl => ?_)
  have hl : lv_has ls 5 [(0, .ref a0), (1, .int a1), (2, .int a2), (3, .int a3), (4, .int a4)] := hl
  suffices hsp : SP (fX7_mean a0 a1 a2 a3 a4 h0) (fun z => z = (v, hE)) (AW (KX7_mean l D h0 hE v) h0 0 ls []) from hsp _ hr rfl
  unfold fX7_mean
  refine sp_m (aw_aload_n (pc := 0) dX7_mean_0 rfl (lv_at hl 0 rfl)) ?_
  refine sp_m (aw_iconst (v := 0) (pc := 1) dX7_mean_1 rfl) ?_
  refine sp_g fun s1 => ?_
  refine sp_t fun h2 eh20 => ?_
  have eh2 : gS h2 = gS h0 := by rw [eh20]; rfl
  refine sp_m (aw_put (k := 0) okX7 opX7 s1 (by decide) q1502 (Or.inl rfl) (Or.inl rfl) (hasV_I' eh20) rfl rfl (pc := 2) dX7_mean_2) ?_
  refine sp_m (aw_aload_n (pc := 5) dX7_mean_5 rfl (lv_at hl 0 rfl)) ?_
  refine sp_m (aw_iload_n (pc := 6) dX7_mean_6 rfl (lv_at hl 1 rfl)) ?_
  refine sp_b fun p3 ep3 => ?_
  refine sp_m (G' := AW (KX7_mean l D h0 hE v) h2 (10) ls (.int p3 :: [])) (fun kk => aw_callV (As := [.int a1]) (metX7_isBeast _ _ ep3) (rcv_o okX7 (uS eh2 s1)) rfl mok_X7_isBeast q1893 q1895 qs76 q125 q1896 (Nat.le_of_ble_eq_true rfl) (Nat.le_of_ble_eq_true rfl) rfl hl.1 rfl (Nat.le_of_ble_eq_true rfl) (pc := 7) dX7_mean_7 kk) ?_
  have hj47_1 : ∀ ls : Array Slot, lv_has ls 5 [(0, .ref a0)] → SP (X7_mean_j47 a0 h2) (fun z => z = (v, hE)) (AW (KX7_mean l D h0 hE v) h2 47 ls ([])) := by
    intro ls hl
    unfold X7_mean_j47
    refine sp_m (aw_aload_n (pc := 47) dX7_mean_47 rfl (lv_at hl 0 rfl)) ?_
    refine sp_m (aw_iconst (v := 1) (pc := 48) dX7_mean_48 rfl) ?_
    refine sp_b fun p4 ep4 => ?_
    refine sp_m (G' := AW (KX7_mean l D h0 hE v) p4.2 (52) ls (.int p4.1 :: [])) (fun kk => aw_callV (As := [.int 1]) (metX7_refused _ _ ep4) (rcv_o okX7 (uS eh2 s1)) rfl mok_X7_refused q1632 q1634 qs50 q125 q1635 (Nat.le_of_ble_eq_true rfl) (Nat.le_of_ble_eq_true rfl) rfl hl.1 rfl (Nat.le_of_ble_eq_true rfl) (pc := 49) dX7_mean_49 kk) ?_
    refine sp_m (aw_i2l (pc := 52) dX7_mean_52) ?_
    exact sp_r fun hz => aw_lret hz rfl rfl rfl (pc := 53) dX7_mean_53
  refine sp_if (fun c5 => ?_) (fun c5 => ?_)
  · refine sp_m (aw_if_eq_t (tgt := 47) (pc := 10) dX7_mean_10 (by decide) c5) ?_
    exact hj47_1 ls (lv_sub hl [0] rfl)
  · refine sp_m (aw_if_eq_f (tgt := 47) (pc := 10) dX7_mean_10 (by decide) c5) ?_
    refine sp_m (aw_aload_n (pc := 13) dX7_mean_13 rfl (lv_at hl 0 rfl)) ?_
    refine sp_m (aw_iload_n (pc := 14) dX7_mean_14 rfl (lv_at hl 2 rfl)) ?_
    refine sp_b fun p6 ep6 => ?_
    refine sp_m (G' := AW (KX7_mean l D h0 hE v) h2 (18) ls (.int p6 :: [])) (fun kk => aw_callV (As := [.int a2]) (metX7_isLane _ _ ep6) (rcv_o okX7 (uS eh2 s1)) rfl mok_X7_isLane q1881 q1883 qs74 q125 q1884 (Nat.le_of_ble_eq_true rfl) (Nat.le_of_ble_eq_true rfl) rfl hl.1 rfl (Nat.le_of_ble_eq_true rfl) (pc := 15) dX7_mean_15 kk) ?_
    refine sp_if (fun c7 => ?_) (fun c7 => ?_)
    · refine sp_m (aw_if_eq_t (tgt := 47) (pc := 18) dX7_mean_18 (by decide) c7) ?_
      exact hj47_1 ls (lv_sub hl [0] rfl)
    · refine sp_m (aw_if_eq_f (tgt := 47) (pc := 18) dX7_mean_18 (by decide) c7) ?_
      refine sp_m (aw_aload_n (pc := 21) dX7_mean_21 rfl (lv_at hl 0 rfl)) ?_
      refine sp_m (aw_aload_n (pc := 22) dX7_mean_22 rfl (lv_at hl 0 rfl)) ?_
      refine sp_m (aw_iload_n (pc := 23) dX7_mean_23 rfl (lv_at hl 1 rfl)) ?_
      refine sp_m (aw_aload_n (pc := 24) dX7_mean_24 rfl (lv_at hl 0 rfl)) ?_
      refine sp_m (aw_iload_n (pc := 25) dX7_mean_25 rfl (lv_at hl 1 rfl)) ?_
      refine sp_m (aw_iload_n (pc := 26) dX7_mean_26 rfl (lv_at hl 2 rfl)) ?_
      refine sp_m (aw_iload_n (pc := 27) dX7_mean_27 rfl (lv_at hl 3 rfl)) ?_
      refine sp_b fun p8 ep8 => ?_
      refine sp_m (G' := AW (KX7_mean l D h0 hE v) h2 (31) ls (.int p8 :: .int a1 :: .ref a0 :: .ref a0 :: [])) (fun kk => aw_callV (As := [.int a1, .int a2, .int a3]) (metX7_meetsIn _ _ ep8) (rcv_o okX7 (uS eh2 s1)) rfl mok_X7_meetsIn q1936 q1938 qs83 q125 q1939 (Nat.le_of_ble_eq_true rfl) (Nat.le_of_ble_eq_true rfl) rfl hl.1 rfl (Nat.le_of_ble_eq_true rfl) (pc := 28) dX7_mean_28 kk) ?_
      refine sp_m (aw_iload_n (pc := 31) dX7_mean_31 rfl (lv_at hl 3 rfl)) ?_
      refine sp_b fun p9 ep9 => ?_
      refine sp_m (G' := AW (KX7_mean l D h0 hE v) h2 (35) ls (.long p9 :: .ref a0 :: [])) (fun kk => aw_callV (As := [.int a1, .int p8, .int a3]) (metX7_meanBy _ _ ep9) (rcv_o okX7 (uS eh2 s1)) rfl mok_X7_meanBy q1948 q1950 qs85 q125 q1951 (Nat.le_of_ble_eq_true rfl) (Nat.le_of_ble_eq_true rfl) rfl hl.1 rfl (Nat.le_of_ble_eq_true rfl) (pc := 32) dX7_mean_32 kk) ?_
      refine sp_m (aw_aload_n (pc := 35) dX7_mean_35 rfl (lv_at hl 0 rfl)) ?_
      refine sp_b fun p10 ep10 => ?_
      refine sp_m (G' := AW (KX7_mean l D h0 hE v) h2 (39) ls (.long p10 :: .long p9 :: .ref a0 :: [])) (fun kk => aw_callV (As := []) (metX7_whole _ _ ep10) (rcv_o okX7 (uS eh2 s1)) rfl mok_X7_whole q1920 q1922 qs81 q125 q1923 (Nat.le_of_ble_eq_true rfl) (Nat.le_of_ble_eq_true rfl) rfl hl.1 rfl (Nat.le_of_ble_eq_true rfl) (pc := 36) dX7_mean_36 kk) ?_
      refine sp_m (aw_iload (pc := 39) dX7_mean_39 (lv_at hl 4 rfl)) ?_
      refine sp_b fun p11 ep11 => ?_
      refine sp_m (G' := AW (KX7_mean l D h0 hE v) p11.2 (44) ls (.long p11.1 :: [])) (fun kk => aw_callV (As := [.long p9, .long p10, .int a4]) (metX7_fraction _ _ ep11) (rcv_o okX7 (uS eh2 s1)) rfl mok_X7_fraction q1925 q1927 qs82 q125 q1928 (Nat.le_of_ble_eq_true rfl) (Nat.le_of_ble_eq_true rfl) rfl hl.1 rfl (Nat.le_of_ble_eq_true rfl) (pc := 41) dX7_mean_41 kk) ?_
      refine sp_m (aw_goto (tgt := 53) (pc := 44) dX7_mean_44 (by decide)) ?_
      exact sp_r fun hz => aw_lret hz rfl rfl rfl (pc := 53) dX7_mean_53
theorem mok_X7_meets : mOK yX7_meets 3 := ⟨⟨by decide +kernel, by decide +kernel⟩, by decide +kernel⟩
abbrev KX7_meets (l : Launch) (D : DD) (h0 hE : AH) (v : Int32) : KT := (l, yX7_meets, cX7_meets, 4, (some .int), RX7, 6, D, h0, hE, .inl (some (.int v)), false, [])
theorem metX7_meets (l : Launch) (D : DD) {a0 : Nat} {a1 : Int32} {a2 : Int32} {a3 : Int32} {h0 : AH} {hE : AH} {v : Int32} (hr : fX7_meets a0 a1 a2 a3 h0 = some (v, hE)) : AMet (KX7_meets l D h0 hE v) [.ref a0, .int a1, .int a2, .int a3] := by
  refine AMet.of (K := (KX7_meets l D h0 hE v)) rfl ⟨_, rfl⟩ rfl rfl rfl (Nat.le_of_ble_eq_true rfl) (fun ls hl => ?_)
  have hl : lv_has ls 4 [(0, .ref a0), (1, .int a1), (2, .int a2), (3, .int a3)] := hl
  suffices hsp : SP (fX7_meets a0 a1 a2 a3 h0) (fun z => z = (v, hE)) (AW (KX7_meets l D h0 hE v) h0 0 ls []) from hsp _ hr rfl
  unfold fX7_meets
  refine sp_m (aw_aload_n (pc := 0) dX7_meets_0 rfl (lv_at hl 0 rfl)) ?_
  refine sp_m (aw_iconst (v := 0) (pc := 1) dX7_meets_1 rfl) ?_
  refine sp_g fun s1 => ?_
  refine sp_t fun h2 eh20 => ?_
  have eh2 : gS h2 = gS h0 := by rw [eh20]; rfl
  refine sp_m (aw_put (k := 0) okX7 opX7 s1 (by decide) q1502 (Or.inl rfl) (Or.inl rfl) (hasV_I' eh20) rfl rfl (pc := 2) dX7_meets_2) ?_
  refine sp_m (aw_aload_n (pc := 5) dX7_meets_5 rfl (lv_at hl 0 rfl)) ?_
  refine sp_m (aw_iload_n (pc := 6) dX7_meets_6 rfl (lv_at hl 1 rfl)) ?_
  refine sp_b fun p3 ep3 => ?_
  refine sp_m (G' := AW (KX7_meets l D h0 hE v) h2 (10) ls (.int p3 :: [])) (fun kk => aw_callV (As := [.int a1]) (metX7_isBeast _ _ ep3) (rcv_o okX7 (uS eh2 s1)) rfl mok_X7_isBeast q1893 q1895 qs76 q125 q1896 (Nat.le_of_ble_eq_true rfl) (Nat.le_of_ble_eq_true rfl) rfl hl.1 rfl (Nat.le_of_ble_eq_true rfl) (pc := 7) dX7_meets_7 kk) ?_
  have hj35_1 : ∀ ls : Array Slot, lv_has ls 4 [(0, .ref a0)] → SP (X7_meets_j35 a0 h2) (fun z => z = (v, hE)) (AW (KX7_meets l D h0 hE v) h2 35 ls ([])) := by
    intro ls hl
    unfold X7_meets_j35
    refine sp_m (aw_aload_n (pc := 35) dX7_meets_35 rfl (lv_at hl 0 rfl)) ?_
    refine sp_m (aw_iconst (v := 1) (pc := 36) dX7_meets_36 rfl) ?_
    refine sp_b fun p4 ep4 => ?_
    refine sp_m (G' := AW (KX7_meets l D h0 hE v) p4.2 (40) ls (.int p4.1 :: [])) (fun kk => aw_callV (As := [.int 1]) (metX7_refused _ _ ep4) (rcv_o okX7 (uS eh2 s1)) rfl mok_X7_refused q1632 q1634 qs50 q125 q1635 (Nat.le_of_ble_eq_true rfl) (Nat.le_of_ble_eq_true rfl) rfl hl.1 rfl (Nat.le_of_ble_eq_true rfl) (pc := 37) dX7_meets_37 kk) ?_
    exact sp_r fun hz => aw_iret hz rfl rfl rfl (pc := 40) dX7_meets_40
  refine sp_if (fun c5 => ?_) (fun c5 => ?_)
  · refine sp_m (aw_if_eq_t (tgt := 35) (pc := 10) dX7_meets_10 (by decide) c5) ?_
    exact hj35_1 ls (lv_sub hl [0] rfl)
  · refine sp_m (aw_if_eq_f (tgt := 35) (pc := 10) dX7_meets_10 (by decide) c5) ?_
    refine sp_m (aw_aload_n (pc := 13) dX7_meets_13 rfl (lv_at hl 0 rfl)) ?_
    refine sp_m (aw_iload_n (pc := 14) dX7_meets_14 rfl (lv_at hl 2 rfl)) ?_
    refine sp_b fun p6 ep6 => ?_
    refine sp_m (G' := AW (KX7_meets l D h0 hE v) h2 (18) ls (.int p6 :: [])) (fun kk => aw_callV (As := [.int a2]) (metX7_isLane _ _ ep6) (rcv_o okX7 (uS eh2 s1)) rfl mok_X7_isLane q1881 q1883 qs74 q125 q1884 (Nat.le_of_ble_eq_true rfl) (Nat.le_of_ble_eq_true rfl) rfl hl.1 rfl (Nat.le_of_ble_eq_true rfl) (pc := 15) dX7_meets_15 kk) ?_
    refine sp_if (fun c7 => ?_) (fun c7 => ?_)
    · refine sp_m (aw_if_eq_t (tgt := 35) (pc := 18) dX7_meets_18 (by decide) c7) ?_
      exact hj35_1 ls (lv_sub hl [0] rfl)
    · refine sp_m (aw_if_eq_f (tgt := 35) (pc := 18) dX7_meets_18 (by decide) c7) ?_
      refine sp_m (aw_aload_n (pc := 21) dX7_meets_21 rfl (lv_at hl 0 rfl)) ?_
      refine sp_m (aw_aload_n (pc := 22) dX7_meets_22 rfl (lv_at hl 0 rfl)) ?_
      refine sp_m (aw_iload_n (pc := 23) dX7_meets_23 rfl (lv_at hl 1 rfl)) ?_
      refine sp_m (aw_iload_n (pc := 24) dX7_meets_24 rfl (lv_at hl 2 rfl)) ?_
      refine sp_m (aw_iload_n (pc := 25) dX7_meets_25 rfl (lv_at hl 3 rfl)) ?_
      refine sp_b fun p8 ep8 => ?_
      refine sp_m (G' := AW (KX7_meets l D h0 hE v) h2 (29) ls (.int p8 :: .ref a0 :: [])) (fun kk => aw_callV (As := [.int a1, .int a2, .int a3]) (metX7_meetsIn _ _ ep8) (rcv_o okX7 (uS eh2 s1)) rfl mok_X7_meetsIn q1936 q1938 qs83 q125 q1939 (Nat.le_of_ble_eq_true rfl) (Nat.le_of_ble_eq_true rfl) rfl hl.1 rfl (Nat.le_of_ble_eq_true rfl) (pc := 26) dX7_meets_26 kk) ?_
      refine sp_b fun p9 ep9 => ?_
      refine sp_m (G' := AW (KX7_meets l D h0 hE v) p9.2 (32) ls (.int p9.1 :: [])) (fun kk => aw_callV (As := [.int p8]) (metX7_good _ _ ep9) (rcv_o okX7 (uS eh2 s1)) rfl mok_X7_good q1865 q1867 qs73 q125 q1868 (Nat.le_of_ble_eq_true rfl) (Nat.le_of_ble_eq_true rfl) rfl hl.1 rfl (Nat.le_of_ble_eq_true rfl) (pc := 29) dX7_meets_29 kk) ?_
      refine sp_m (aw_goto (tgt := 40) (pc := 32) dX7_meets_32 (by decide)) ?_
      exact sp_r fun hz => aw_iret hz rfl rfl rfl (pc := 40) dX7_meets_40
theorem mok_X7_worthHeld : mOK yX7_worthHeld 3 := ⟨⟨by decide +kernel, by decide +kernel⟩, by decide +kernel⟩
abbrev KX7_worthHeld (l : Launch) (D : DD) (h0 : AH) (v : Int64) : KT := (l, yX7_worthHeld, cX7_worthHeld, 6, (some .long), RX7, 6, D, h0, h0, .inl (some (.long v)), false, [])
theorem metX7_worthHeld (l : Launch) (D : DD) {a0 : Nat} {a1 : Int32} {a2 : Int32} {a3 : Int32} {h0 : AH} {v : Int64} (hr : fX7_worthHeld a0 a1 a2 a3 h0 = some v) : AMet (KX7_worthHeld l D h0 v) [.ref a0, .int a1, .int a2, .int a3] := by
  refine AMet.of (K := (KX7_worthHeld l D h0 v)) rfl ⟨_, rfl⟩ rfl rfl rfl (Nat.le_of_ble_eq_true rfl) (fun ls hl => ?_)
  have hl : lv_has ls 6 [(0, .ref a0), (1, .int a1), (2, .int a2), (3, .int a3)] := hl
  suffices hsp : SP (fX7_worthHeld a0 a1 a2 a3 h0) (fun z => z = v) (AW (KX7_worthHeld l D h0 v) h0 0 ls []) from hsp _ hr rfl
  unfold fX7_worthHeld
  refine sp_m (aw_aload_n (pc := 0) dX7_worthHeld_0 rfl (lv_at hl 0 rfl)) ?_
  refine sp_m (aw_iload_n (pc := 1) dX7_worthHeld_1 rfl (lv_at hl 1 rfl)) ?_
  refine sp_g fun s2 => ?_
  refine sp_b fun p1 ep1 => ?_
  refine sp_m (G' := AW (KX7_worthHeld l D h0 v) h0 (5) ls (.int p1 :: [])) (fun kk => aw_callV (As := [.int a1]) (metX7_isDead _ _ ep1) (rcv_o okX7 s2) rfl mok_X7_isDead q1885 q1887 qs75 q125 q1888 (Nat.le_of_ble_eq_true rfl) (Nat.le_of_ble_eq_true rfl) rfl hl.1 rfl (Nat.le_of_ble_eq_true rfl) (pc := 2) dX7_worthHeld_2 kk) ?_
  refine sp_if (fun c3 => ?_) (fun c3 => ?_)
  · refine sp_m (aw_if_eq_t (tgt := 10) (pc := 5) dX7_worthHeld_5 (by decide) c3) ?_
    refine sp_m (aw_iload_n (pc := 10) dX7_worthHeld_10 rfl (lv_at hl 3 rfl)) ?_
    refine sp_m (aw_i2l (pc := 11) dX7_worthHeld_11) ?_
    refine sp_m (aw_aload_n (pc := 12) dX7_worthHeld_12 rfl (lv_at hl 0 rfl)) ?_
    refine sp_b fun x4 ex4 => ?_
    refine sp_m (aw_get (k := 3) okX7 s2 (by decide) q1505 (Or.inl rfl) (congrArg va_rf ex4) (pc := 13) dX7_worthHeld_13) ?_
    refine sp_g fun s5 => ?_
    refine sp_m (aw_getN (k := 1) okX20 s5 (by decide) nq1643 rfl rfl (pc := 16) dX7_worthHeld_16) ?_
    refine sp_b fun p6 ep6 => ?_
    refine sp_m (G' := AW (KX7_worthHeld l D h0 v) h0 (22) ls (.long p6 :: [])) (fun kk => aw_callS (As := [.long a3.toInt64, .int (gI h0 x4 1)]) (metX7_power _ _ ep6) mok_X7_power q1917 q1918 q125 q1919 (Nat.le_of_ble_eq_true rfl) (Nat.le_of_ble_eq_true rfl) rfl hl.1 rfl (Nat.le_of_ble_eq_true rfl) (pc := 19) dX7_worthHeld_19 kk) ?_
    refine sp_m (aw_lstore (lv' := [(4, .long p6), (0, .ref a0), (1, .int a1), (2, .int a2), (3, .int a3)]) (pc := 22) dX7_worthHeld_22 hl (by decide) rfl) (sp_all fun ls hl => ?_)
    refine sp_m (aw_lload (pc := 24) dX7_worthHeld_24 (lv_at hl 0 rfl)) ?_
    refine sp_m (aw_aload_n (pc := 26) dX7_worthHeld_26 rfl (lv_at hl 1 rfl)) ?_
    refine sp_m (aw_iload_n (pc := 27) dX7_worthHeld_27 rfl (lv_at hl 2 rfl)) ?_
    refine sp_m (aw_iload_n (pc := 28) dX7_worthHeld_28 rfl (lv_at hl 3 rfl)) ?_
    refine sp_m (aw_iconst (v := 0) (pc := 29) dX7_worthHeld_29 rfl) ?_
    refine sp_b fun p7 ep7 => ?_
    refine sp_m (G' := AW (KX7_worthHeld l D h0 v) h0 (33) ls (.int p7 :: .long p6 :: [])) (fun kk => aw_callV (As := [.int a1, .int a2, .int 0]) (metX7_meetsIn _ _ ep7) (rcv_o okX7 s2) rfl mok_X7_meetsIn q1936 q1938 qs83 q125 q1939 (Nat.le_of_ble_eq_true rfl) (Nat.le_of_ble_eq_true rfl) rfl hl.1 rfl (Nat.le_of_ble_eq_true rfl) (pc := 30) dX7_worthHeld_30 kk) ?_
    refine sp_m (aw_aload_n (pc := 33) dX7_worthHeld_33 rfl (lv_at hl 1 rfl)) ?_
    refine sp_m (aw_iload_n (pc := 34) dX7_worthHeld_34 rfl (lv_at hl 2 rfl)) ?_
    refine sp_m (aw_iload_n (pc := 35) dX7_worthHeld_35 rfl (lv_at hl 3 rfl)) ?_
    refine sp_m (aw_iconst (v := 1) (pc := 36) dX7_worthHeld_36 rfl) ?_
    refine sp_b fun p8 ep8 => ?_
    refine sp_m (G' := AW (KX7_worthHeld l D h0 v) h0 (40) ls (.int p8 :: .int p7 :: .long p6 :: [])) (fun kk => aw_callV (As := [.int a1, .int a2, .int 1]) (metX7_meetsIn _ _ ep8) (rcv_o okX7 s2) rfl mok_X7_meetsIn q1936 q1938 qs83 q125 q1939 (Nat.le_of_ble_eq_true rfl) (Nat.le_of_ble_eq_true rfl) rfl hl.1 rfl (Nat.le_of_ble_eq_true rfl) (pc := 37) dX7_worthHeld_37 kk) ?_
    refine sp_m (aw_isub (pc := 40) dX7_worthHeld_40) ?_
    refine sp_m (aw_i2l (pc := 41) dX7_worthHeld_41) ?_
    refine sp_m (aw_lmul (pc := 42) dX7_worthHeld_42) ?_
    refine sp_m (aw_aload_n (pc := 43) dX7_worthHeld_43 rfl (lv_at hl 1 rfl)) ?_
    refine sp_b fun p9 ep9 => ?_
    refine sp_m (G' := AW (KX7_worthHeld l D h0 v) h0 (47) ls (.long p9 :: .long (p6 * ((p7 - p8).toInt64)) :: [])) (fun kk => aw_callV (As := []) (metX7_whole _ _ ep9) (rcv_o okX7 s2) rfl mok_X7_whole q1920 q1922 qs81 q125 q1923 (Nat.le_of_ble_eq_true rfl) (Nat.le_of_ble_eq_true rfl) rfl hl.1 rfl (Nat.le_of_ble_eq_true rfl) (pc := 44) dX7_worthHeld_44 kk) ?_
    refine sp_m (aw_lload (pc := 47) dX7_worthHeld_47 (lv_at hl 0 rfl)) ?_
    refine sp_m (aw_lsub (pc := 49) dX7_worthHeld_49) ?_
    refine sp_m (aw_aload_n (pc := 50) dX7_worthHeld_50 rfl (lv_at hl 1 rfl)) ?_
    refine sp_m (aw_iload_n (pc := 51) dX7_worthHeld_51 rfl (lv_at hl 2 rfl)) ?_
    refine sp_b fun p10 ep10 => ?_
    refine sp_m (G' := AW (KX7_worthHeld l D h0 v) h0 (55) ls (.int p10 :: .long (p9 - p6) :: .long (p6 * ((p7 - p8).toInt64)) :: [])) (fun kk => aw_callV (As := [.int a1]) (metX7_forceOf _ _ ep10) (rcv_o okX7 s2) rfl mok_X7_forceOf q1897 q1899 qs77 q125 q1900 (Nat.le_of_ble_eq_true rfl) (Nat.le_of_ble_eq_true rfl) rfl hl.1 rfl (Nat.le_of_ble_eq_true rfl) (pc := 52) dX7_worthHeld_52 kk) ?_
    refine sp_m (aw_iconst (v := 2) (pc := 55) dX7_worthHeld_55 rfl) ?_
    refine sp_m (aw_idiv (pc := 56) dX7_worthHeld_56 (by decide)) ?_
    refine sp_m (aw_i2l (pc := 57) dX7_worthHeld_57) ?_
    refine sp_m (aw_lmul (pc := 58) dX7_worthHeld_58) ?_
    refine sp_m (aw_lsub (pc := 59) dX7_worthHeld_59) ?_
    exact sp_r fun hz => aw_lret (congrArg (fun z => (z, h0)) hz) rfl rfl rfl (pc := 60) dX7_worthHeld_60
  · refine sp_m (aw_if_eq_f (tgt := 10) (pc := 5) dX7_worthHeld_5 (by decide) c3) ?_
    refine sp_m (aw_lconst (v := 0) (pc := 8) dX7_worthHeld_8 rfl) ?_
    exact sp_r fun hz => aw_lret (congrArg (fun z => (z, h0)) hz) rfl rfl rfl (pc := 9) dX7_worthHeld_9
theorem mok_X7_moodFor : mOK yX7_moodFor 2 := ⟨⟨by decide +kernel, by decide +kernel⟩, by decide +kernel⟩
abbrev KX7_moodFor (l : Launch) (D : DD) (h0 hE : AH) (v : Int32) : KT := (l, yX7_moodFor, cX7_moodFor, 4, (some .int), RX7, 7, D, h0, hE, .inl (some (.int v)), false, [])
theorem metX7_moodFor (l : Launch) (D : DD) {a0 : Nat} {a1 : Int32} {a2 : Int32} {h0 : AH} {hE : AH} {v : Int32} (hr : fX7_moodFor a0 a1 a2 h0 = some (v, hE)) : AMet (KX7_moodFor l D h0 hE v) [.ref a0, .int a1, .int a2] := by
  refine AMet.of (K := (KX7_moodFor l D h0 hE v)) rfl ⟨_, rfl⟩ rfl rfl rfl (Nat.le_of_ble_eq_true rfl) (fun ls hl => ?_)
  have hl : lv_has ls 4 [(0, .ref a0), (1, .int a1), (2, .int a2)] := hl
  suffices hsp : SP (fX7_moodFor a0 a1 a2 h0) (fun z => z = (v, hE)) (AW (KX7_moodFor l D h0 hE v) h0 0 ls []) from hsp _ hr rfl
  unfold fX7_moodFor
  refine sp_m (aw_aload_n (pc := 0) dX7_moodFor_0 rfl (lv_at hl 0 rfl)) ?_
  refine sp_m (aw_iconst (v := 0) (pc := 1) dX7_moodFor_1 rfl) ?_
  refine sp_g fun s1 => ?_
  refine sp_t fun h2 eh20 => ?_
  have eh2 : gS h2 = gS h0 := by rw [eh20]; rfl
  refine sp_m (aw_put (k := 0) okX7 opX7 s1 (by decide) q1502 (Or.inl rfl) (Or.inl rfl) (hasV_I' eh20) rfl rfl (pc := 2) dX7_moodFor_2) ?_
  refine sp_m (aw_aload_n (pc := 5) dX7_moodFor_5 rfl (lv_at hl 0 rfl)) ?_
  refine sp_m (aw_iload_n (pc := 6) dX7_moodFor_6 rfl (lv_at hl 1 rfl)) ?_
  refine sp_b fun p3 ep3 => ?_
  refine sp_m (G' := AW (KX7_moodFor l D h0 hE v) h2 (10) ls (.int p3 :: [])) (fun kk => aw_callV (As := [.int a1]) (metX7_isBeast _ _ ep3) (rcv_o okX7 (uS eh2 s1)) rfl mok_X7_isBeast q1893 q1895 qs76 q125 q1896 (Nat.le_of_ble_eq_true rfl) (Nat.le_of_ble_eq_true rfl) rfl hl.1 rfl (Nat.le_of_ble_eq_true rfl) (pc := 7) dX7_moodFor_7 kk) ?_
  have hj21_1 : ∀ ls : Array Slot, lv_has ls 4 [(0, .ref a0)] → SP (X7_moodFor_j21 a0 h2) (fun z => z = (v, hE)) (AW (KX7_moodFor l D h0 hE v) h2 21 ls ([])) := by
    intro ls hl
    unfold X7_moodFor_j21
    refine sp_m (aw_aload_n (pc := 21) dX7_moodFor_21 rfl (lv_at hl 0 rfl)) ?_
    refine sp_m (aw_iconst (v := 1) (pc := 22) dX7_moodFor_22 rfl) ?_
    refine sp_b fun p4 ep4 => ?_
    refine sp_m (G' := AW (KX7_moodFor l D h0 hE v) p4.2 (26) ls (.int p4.1 :: [])) (fun kk => aw_callV (As := [.int 1]) (metX7_refused _ _ ep4) (rcv_o okX7 (uS eh2 s1)) rfl mok_X7_refused q1632 q1634 qs50 q125 q1635 (Nat.le_of_ble_eq_true rfl) (Nat.le_of_ble_eq_true rfl) rfl hl.1 rfl (Nat.le_of_ble_eq_true rfl) (pc := 23) dX7_moodFor_23 kk) ?_
    exact sp_r fun hz => aw_iret hz rfl rfl rfl (pc := 26) dX7_moodFor_26
  refine sp_if (fun c5 => ?_) (fun c5 => ?_)
  · refine sp_m (aw_if_eq_t (tgt := 21) (pc := 10) dX7_moodFor_10 (by decide) c5) ?_
    exact hj21_1 ls (lv_sub hl [0] rfl)
  · refine sp_m (aw_if_eq_f (tgt := 21) (pc := 10) dX7_moodFor_10 (by decide) c5) ?_
    refine sp_m (aw_aload_n (pc := 13) dX7_moodFor_13 rfl (lv_at hl 0 rfl)) ?_
    refine sp_m (aw_iload_n (pc := 14) dX7_moodFor_14 rfl (lv_at hl 2 rfl)) ?_
    refine sp_b fun p6 ep6 => ?_
    refine sp_m (G' := AW (KX7_moodFor l D h0 hE v) h2 (18) ls (.int p6 :: [])) (fun kk => aw_callV (As := [.int a2]) (metX7_isLane _ _ ep6) (rcv_o okX7 (uS eh2 s1)) rfl mok_X7_isLane q1881 q1883 qs74 q125 q1884 (Nat.le_of_ble_eq_true rfl) (Nat.le_of_ble_eq_true rfl) rfl hl.1 rfl (Nat.le_of_ble_eq_true rfl) (pc := 15) dX7_moodFor_15 kk) ?_
    refine sp_if (fun c7 => ?_) (fun c7 => ?_)
    · refine sp_m (aw_if_ne_t (tgt := 27) (pc := 18) dX7_moodFor_18 (by decide) c7) ?_
      refine sp_m (aw_iconst (v := 0) (pc := 27) dX7_moodFor_27 rfl) ?_
      refine sp_m (aw_istore_n (lv' := [(3, .int 0), (0, .ref a0), (1, .int a1), (2, .int a2)]) (pc := 28) dX7_moodFor_28 rfl hl (by decide) rfl) (sp_all fun ls hl => ?_)
      let P8 : Int32 → Prop := aLP (KX7_moodFor l D h0 hE v) 4 29 (fun s8v : Int32 => [(0, .ref a0), (1, .int a1), (2, .int a2), (3, .int s8v)]) (fun s8v => h2)
      refine sp_loop (P := P8) (fun s8v => sp_all fun ls hl => ?_) (fun k => k ls (lv_sub hl [1, 2, 3, 0] rfl))
      have hl : lv_has ls 4 [(0, .ref a0), (1, .int a1), (2, .int a2), (3, .int s8v)] := hl
      show SP _ _ (AW (KX7_moodFor l D h0 hE v) h2 29 ls [])
      unfold X7_moodFor_L29
      refine sp_m (aw_iload_n (pc := 29) dX7_moodFor_29 rfl (lv_at hl 3 rfl)) ?_
      refine sp_m (aw_bipush (v := 100) (pc := 30) dX7_moodFor_30 rfl) ?_
      refine sp_if (fun c9 => ?_) (fun c9 => ?_)
      · refine sp_m (aw_icmp_gt_t (tgt := 80) (pc := 32) dX7_moodFor_32 (by decide) c9) ?_
        refine sp_m (aw_aload_n (pc := 80) dX7_moodFor_80 rfl (lv_at hl 0 rfl)) ?_
        refine sp_m (aw_bipush (v := (-2)) (pc := 81) dX7_moodFor_81 rfl) ?_
        refine sp_b fun p10 ep10 => ?_
        refine sp_m (G' := AW (KX7_moodFor l D h0 hE v) p10.2 (86) ls (.int p10.1 :: [])) (fun kk => aw_callV (As := [.int (-2)]) (metX7_good _ _ ep10) (rcv_o okX7 (uS eh2 s1)) rfl mok_X7_good q1865 q1867 qs73 q125 q1868 (Nat.le_of_ble_eq_true rfl) (Nat.le_of_ble_eq_true rfl) rfl hl.1 rfl (Nat.le_of_ble_eq_true rfl) (pc := 83) dX7_moodFor_83 kk) ?_
        exact sp_r fun hz => aw_iret hz rfl rfl rfl (pc := 86) dX7_moodFor_86
      · refine sp_m (aw_icmp_gt_f (tgt := 80) (pc := 32) dX7_moodFor_32 (by decide) c9) ?_
        refine sp_m (aw_aload_n (pc := 35) dX7_moodFor_35 rfl (lv_at hl 0 rfl)) ?_
        refine sp_m (aw_iload_n (pc := 36) dX7_moodFor_36 rfl (lv_at hl 1 rfl)) ?_
        refine sp_m (aw_iload_n (pc := 37) dX7_moodFor_37 rfl (lv_at hl 2 rfl)) ?_
        refine sp_m (aw_aload_n (pc := 38) dX7_moodFor_38 rfl (lv_at hl 0 rfl)) ?_
        refine sp_m (aw_iload_n (pc := 39) dX7_moodFor_39 rfl (lv_at hl 1 rfl)) ?_
        refine sp_m (aw_iload_n (pc := 40) dX7_moodFor_40 rfl (lv_at hl 3 rfl)) ?_
        refine sp_m (aw_aload_n (pc := 41) dX7_moodFor_41 rfl (lv_at hl 0 rfl)) ?_
        refine sp_b fun x11 ex11 => ?_
        refine sp_m (aw_get (k := 16) okX7 (uS eh2 s1) (by decide) q1518 (Or.inl rfl) (congrArg va_rf ex11) (pc := 42) dX7_moodFor_42) ?_
        refine sp_m (aw_bipush (v := 17) (pc := 45) dX7_moodFor_45 rfl) ?_
        refine sp_g fun s12 => ?_
        refine sp_g fun i13 => ?_
        refine sp_m (aw_iald s12 i13 (pc := 47) dX7_moodFor_47) ?_
        refine sp_m (aw_iconst (v := 1) (pc := 48) dX7_moodFor_48 rfl) ?_
        have hj57_2 : ∀ j14 : Int32, ∀ ls : Array Slot, lv_has ls 4 [(0, .ref a0), (1, .int a1), (2, .int a2), (3, .int s8v)] → SP (X7_moodFor_j57 a0 a1 a2 h2 s8v j14) (ZL P8 (fun z => z = (v, hE))) (AW (KX7_moodFor l D h0 hE v) h2 57 ls (.int j14 :: .int s8v :: .int a1 :: .ref a0 :: .int a2 :: .int a1 :: .ref a0 :: [])) := by
          intro j14 ls hl
          unfold X7_moodFor_j57
          refine sp_b fun p15 ep15 => ?_
          refine sp_m (G' := AW (KX7_moodFor l D h0 hE v) h2 (60) ls (.int p15 :: .int a2 :: .int a1 :: .ref a0 :: [])) (fun kk => aw_callV (As := [.int a1, .int s8v, .int j14]) (metX7_holdBy _ _ ep15) (rcv_o okX7 (uS eh2 s1)) rfl mok_X7_holdBy q1905 q1907 qs79 q125 q1908 (Nat.le_of_ble_eq_true rfl) (Nat.le_of_ble_eq_true rfl) rfl hl.1 rfl (Nat.le_of_ble_eq_true rfl) (pc := 57) dX7_moodFor_57 kk) ?_
          refine sp_b fun p16 ep16 => ?_
          refine sp_m (G' := AW (KX7_moodFor l D h0 hE v) h2 (63) ls (.long p16 :: [])) (fun kk => aw_callV (As := [.int a1, .int a2, .int p15]) (metX7_worthHeld _ _ ep16) (rcv_o okX7 (uS eh2 s1)) rfl mok_X7_worthHeld q1973 q1975 qs89 q125 q1976 (Nat.le_of_ble_eq_true rfl) (Nat.le_of_ble_eq_true rfl) rfl hl.1 rfl (Nat.le_of_ble_eq_true rfl) (pc := 60) dX7_moodFor_60 kk) ?_
          refine sp_m (aw_lconst (v := 0) (pc := 63) dX7_moodFor_63 rfl) ?_
          refine sp_m (aw_lcmp (pc := 64) dX7_moodFor_64) ?_
          refine sp_if (fun c17 => ?_) (fun c17 => ?_)
          · refine sp_m (aw_if_le_t (tgt := 74) (pc := 65) dX7_moodFor_65 (by decide) ((lg_cmp_le _ _).mpr c17)) ?_
            refine sp_m (aw_iinc (v := s8v + 1) (lv' := [(3, .int (s8v + 1)), (0, .ref a0), (1, .int a1), (2, .int a2)]) (pc := 74) dX7_moodFor_74 hl (k := 3) rfl rfl (by decide) rfl) (sp_all fun ls hl => ?_)
            refine sp_m (aw_goto (tgt := 29) (pc := 77) dX7_moodFor_77 (by decide)) ?_
            exact sp_r fun hz => hz ls (lv_sub hl [1, 2, 3, 0] rfl)
          · refine sp_m (aw_if_le_f (tgt := 74) (pc := 65) dX7_moodFor_65 (by decide) (fun z => c17 ((lg_cmp_le _ _).mp z))) ?_
            refine sp_m (aw_aload_n (pc := 68) dX7_moodFor_68 rfl (lv_at hl 0 rfl)) ?_
            refine sp_m (aw_iload_n (pc := 69) dX7_moodFor_69 rfl (lv_at hl 3 rfl)) ?_
            refine sp_b fun p18 ep18 => ?_
            refine sp_m (G' := AW (KX7_moodFor l D h0 hE v) p18.2 (73) ls (.int p18.1 :: [])) (fun kk => aw_callV (As := [.int s8v]) (metX7_good _ _ ep18) (rcv_o okX7 (uS eh2 s1)) rfl mok_X7_good q1865 q1867 qs73 q125 q1868 (Nat.le_of_ble_eq_true rfl) (Nat.le_of_ble_eq_true rfl) rfl hl.1 rfl (Nat.le_of_ble_eq_true rfl) (pc := 70) dX7_moodFor_70 kk) ?_
            exact sp_r fun hz => aw_iret hz rfl rfl rfl (pc := 73) dX7_moodFor_73
        refine sp_if (fun c19 => ?_) (fun c19 => ?_)
        · refine sp_m (aw_icmp_ne_t (tgt := 56) (pc := 49) dX7_moodFor_49 (by decide) c19) ?_
          refine sp_m (aw_iconst (v := 0) (pc := 56) dX7_moodFor_56 rfl) ?_
          exact hj57_2 0 ls (lv_sub hl [0, 1, 2, 3] rfl)
        · refine sp_m (aw_icmp_ne_f (tgt := 56) (pc := 49) dX7_moodFor_49 (by decide) (Decidable.not_not.mp c19)) ?_
          refine sp_m (aw_iconst (v := 1) (pc := 52) dX7_moodFor_52 rfl) ?_
          refine sp_m (aw_goto (tgt := 57) (pc := 53) dX7_moodFor_53 (by decide)) ?_
          exact hj57_2 1 ls (lv_sub hl [0, 1, 2, 3] rfl)
    · refine sp_m (aw_if_ne_f (tgt := 27) (pc := 18) dX7_moodFor_18 (by decide) (Decidable.not_not.mp c7)) ?_
      exact hj21_1 ls (lv_sub hl [0] rfl)
theorem mok_X7_move : mOK yX7_move 2 := ⟨⟨by decide +kernel, by decide +kernel⟩, by decide +kernel⟩
abbrev KX7_move (l : Launch) (D : DD) (h0 hE : AH) (v : Int32) : KT := (l, yX7_move, cX7_move, 3, (some .boolean), RX7, 3, D, h0, hE, .inl (some (.int v)), false, [])
theorem metX7_move (l : Launch) (D : DD) {a0 : Nat} {a1 : Int32} {a2 : Int32} {h0 : AH} {hE : AH} {v : Int32} (hr : fX7_move a0 a1 a2 h0 = some (v, hE)) : AMet (KX7_move l D h0 hE v) [.ref a0, .int a1, .int a2] := by
  refine AMet.of (K := (KX7_move l D h0 hE v)) rfl ⟨_, rfl⟩ rfl rfl rfl (Nat.le_of_ble_eq_true rfl) (fun ls hl => ?_)
  have hl : lv_has ls 3 [(0, .ref a0), (1, .int a1), (2, .int a2)] := hl
  suffices hsp : SP (fX7_move a0 a1 a2 h0) (fun z => z = (v, hE)) (AW (KX7_move l D h0 hE v) h0 0 ls []) from hsp _ hr rfl
  unfold fX7_move
  refine sp_m (aw_aload_n (pc := 0) dX7_move_0 rfl (lv_at hl 0 rfl)) ?_
  refine sp_m (aw_iconst (v := 0) (pc := 1) dX7_move_1 rfl) ?_
  refine sp_g fun s1 => ?_
  refine sp_t fun h2 eh20 => ?_
  have eh2 : gS h2 = gS h0 := by rw [eh20]; rfl
  refine sp_m (aw_put (k := 0) okX7 opX7 s1 (by decide) q1502 (Or.inl rfl) (Or.inl rfl) (hasV_I' eh20) rfl rfl (pc := 2) dX7_move_2) ?_
  refine sp_m (aw_aload_n (pc := 5) dX7_move_5 rfl (lv_at hl 0 rfl)) ?_
  refine sp_m (aw_iload_n (pc := 6) dX7_move_6 rfl (lv_at hl 1 rfl)) ?_
  refine sp_b fun p3 ep3 => ?_
  refine sp_m (G' := AW (KX7_move l D h0 hE v) h2 (10) ls (.int p3 :: [])) (fun kk => aw_callV (As := [.int a1]) (metX7_isBeast _ _ ep3) (rcv_o okX7 (uS eh2 s1)) rfl mok_X7_isBeast q1893 q1895 qs76 q125 q1896 (Nat.le_of_ble_eq_true rfl) (Nat.le_of_ble_eq_true rfl) rfl hl.1 rfl (Nat.le_of_ble_eq_true rfl) (pc := 7) dX7_move_7 kk) ?_
  have hj21_1 : ∀ ls : Array Slot, lv_has ls 3 [(0, .ref a0)] → SP (X7_move_j21 a0 h2) (fun z => z = (v, hE)) (AW (KX7_move l D h0 hE v) h2 21 ls ([])) := by
    intro ls hl
    unfold X7_move_j21
    refine sp_m (aw_aload_n (pc := 21) dX7_move_21 rfl (lv_at hl 0 rfl)) ?_
    refine sp_m (aw_iconst (v := 1) (pc := 22) dX7_move_22 rfl) ?_
    refine sp_b fun p4 ep4 => ?_
    refine sp_m (G' := AW (KX7_move l D h0 hE v) p4.2 (26) ls (.int p4.1 :: [])) (fun kk => aw_callV (As := [.int 1]) (metX7_denied _ _ ep4) (rcv_o okX7 (uS eh2 s1)) rfl mok_X7_denied q2187 q2189 qs112 q125 q2190 (Nat.le_of_ble_eq_true rfl) (Nat.le_of_ble_eq_true rfl) rfl hl.1 rfl (Nat.le_of_ble_eq_true rfl) (pc := 23) dX7_move_23 kk) ?_
    refine sp_g fun g5 => ?_
    exact sp_r fun hz => aw_zret (nar_b g5) hz rfl rfl rfl (pc := 26) dX7_move_26
  refine sp_if (fun c6 => ?_) (fun c6 => ?_)
  · refine sp_m (aw_if_eq_t (tgt := 21) (pc := 10) dX7_move_10 (by decide) c6) ?_
    exact hj21_1 ls (lv_sub hl [0] rfl)
  · refine sp_m (aw_if_eq_f (tgt := 21) (pc := 10) dX7_move_10 (by decide) c6) ?_
    refine sp_m (aw_aload_n (pc := 13) dX7_move_13 rfl (lv_at hl 0 rfl)) ?_
    refine sp_m (aw_iload_n (pc := 14) dX7_move_14 rfl (lv_at hl 2 rfl)) ?_
    refine sp_b fun p7 ep7 => ?_
    refine sp_m (G' := AW (KX7_move l D h0 hE v) h2 (18) ls (.int p7 :: [])) (fun kk => aw_callV (As := [.int a2]) (metX7_isLane _ _ ep7) (rcv_o okX7 (uS eh2 s1)) rfl mok_X7_isLane q1881 q1883 qs74 q125 q1884 (Nat.le_of_ble_eq_true rfl) (Nat.le_of_ble_eq_true rfl) rfl hl.1 rfl (Nat.le_of_ble_eq_true rfl) (pc := 15) dX7_move_15 kk) ?_
    refine sp_if (fun c8 => ?_) (fun c8 => ?_)
    · refine sp_m (aw_if_ne_t (tgt := 27) (pc := 18) dX7_move_18 (by decide) c8) ?_
      refine sp_m (aw_aload_n (pc := 27) dX7_move_27 rfl (lv_at hl 0 rfl)) ?_
      refine sp_b fun x9 ex9 => ?_
      refine sp_m (aw_get (k := 16) okX7 (uS eh2 s1) (by decide) q1518 (Or.inl rfl) (congrArg va_rf ex9) (pc := 28) dX7_move_28) ?_
      refine sp_m (aw_iconst (v := 0) (pc := 31) dX7_move_31 rfl) ?_
      refine sp_m (aw_iload_n (pc := 32) dX7_move_32 rfl (lv_at hl 1 rfl)) ?_
      refine sp_m (aw_iadd (pc := 33) dX7_move_33) ?_
      refine sp_g fun s10 => ?_
      refine sp_g fun i11 => ?_
      refine sp_m (aw_iald s10 i11 (pc := 34) dX7_move_34) ?_
      refine sp_m (aw_iload_n (pc := 35) dX7_move_35 rfl (lv_at hl 2 rfl)) ?_
      have hj47_2 : ∀ ls : Array Slot, lv_has ls 3 [(0, .ref a0)] → SP (X7_move_j47 a0 h2) (fun z => z = (v, hE)) (AW (KX7_move l D h0 hE v) h2 47 ls ([])) := by
        intro ls hl
        unfold X7_move_j47
        refine sp_m (aw_aload_n (pc := 47) dX7_move_47 rfl (lv_at hl 0 rfl)) ?_
        refine sp_m (aw_iconst (v := 5) (pc := 48) dX7_move_48 rfl) ?_
        refine sp_b fun p12 ep12 => ?_
        refine sp_m (G' := AW (KX7_move l D h0 hE v) p12.2 (52) ls (.int p12.1 :: [])) (fun kk => aw_callV (As := [.int 5]) (metX7_denied _ _ ep12) (rcv_o okX7 (uS eh2 s1)) rfl mok_X7_denied q2187 q2189 qs112 q125 q2190 (Nat.le_of_ble_eq_true rfl) (Nat.le_of_ble_eq_true rfl) rfl hl.1 rfl (Nat.le_of_ble_eq_true rfl) (pc := 49) dX7_move_49 kk) ?_
        refine sp_g fun g13 => ?_
        exact sp_r fun hz => aw_zret (nar_b g13) hz rfl rfl rfl (pc := 52) dX7_move_52
      refine sp_if (fun c14 => ?_) (fun c14 => ?_)
      · refine sp_m (aw_icmp_eq_t (tgt := 47) (pc := 36) dX7_move_36 (by decide) c14) ?_
        exact hj47_2 ls (lv_sub hl [0] rfl)
      · refine sp_m (aw_icmp_eq_f (tgt := 47) (pc := 36) dX7_move_36 (by decide) c14) ?_
        refine sp_m (aw_aload_n (pc := 39) dX7_move_39 rfl (lv_at hl 0 rfl)) ?_
        refine sp_m (aw_iload_n (pc := 40) dX7_move_40 rfl (lv_at hl 1 rfl)) ?_
        refine sp_b fun p15 ep15 => ?_
        refine sp_m (G' := AW (KX7_move l D h0 hE v) h2 (44) ls (.int p15 :: [])) (fun kk => aw_callV (As := [.int a1]) (metX7_isDead _ _ ep15) (rcv_o okX7 (uS eh2 s1)) rfl mok_X7_isDead q1885 q1887 qs75 q125 q1888 (Nat.le_of_ble_eq_true rfl) (Nat.le_of_ble_eq_true rfl) rfl hl.1 rfl (Nat.le_of_ble_eq_true rfl) (pc := 41) dX7_move_41 kk) ?_
        refine sp_if (fun c16 => ?_) (fun c16 => ?_)
        · refine sp_m (aw_if_eq_t (tgt := 53) (pc := 44) dX7_move_44 (by decide) c16) ?_
          refine sp_m (aw_aload_n (pc := 53) dX7_move_53 rfl (lv_at hl 0 rfl)) ?_
          refine sp_b fun p17 ep17 => ?_
          refine sp_m (G' := AW (KX7_move l D h0 hE v) p17 (57) ls ([])) (fun kk => aw_callV (As := []) (metX7_remembers _ _ ep17) (rcv_o okX7 (uS eh2 s1)) rfl mok_X7_remembers q2191 q2193 qs113 q125 q2194 (Nat.le_of_ble_eq_true rfl) (Nat.le_of_ble_eq_true rfl) rfl hl.1 rfl (Nat.le_of_ble_eq_true rfl) (pc := 54) dX7_move_54 kk) ?_
          refine sp_m (aw_aload_n (pc := 57) dX7_move_57 rfl (lv_at hl 0 rfl)) ?_
          refine sp_g fun s18 => ?_
          refine sp_b fun x19 ex19 => ?_
          refine sp_m (aw_get (k := 16) okX7 s18 (by decide) q1518 (Or.inl rfl) (congrArg va_rf ex19) (pc := 58) dX7_move_58) ?_
          refine sp_m (aw_iconst (v := 0) (pc := 61) dX7_move_61 rfl) ?_
          refine sp_m (aw_iload_n (pc := 62) dX7_move_62 rfl (lv_at hl 1 rfl)) ?_
          refine sp_m (aw_iadd (pc := 63) dX7_move_63) ?_
          refine sp_m (aw_iload_n (pc := 64) dX7_move_64 rfl (lv_at hl 2 rfl)) ?_
          refine sp_g fun s20 => ?_
          refine sp_g fun i21 => ?_
          refine sp_t fun h22 eh220 => ?_
          have eh22 : gS h22 = gS p17 := by rw [eh220]; rfl
          refine sp_m (fun kk => aw_iast s20 i21 (pc := 65) dX7_move_65 (AWe eh220 kk)) ?_
          refine sp_m (aw_aload_n (pc := 66) dX7_move_66 rfl (lv_at hl 0 rfl)) ?_
          refine sp_b fun p23 ep23 => ?_
          refine sp_m (G' := AW (KX7_move l D h0 hE v) p23.2 (70) ls (.int p23.1 :: [])) (fun kk => aw_callV (As := []) (metX7_granted _ _ ep23) (rcv_o okX7 (uS eh22 s18)) rfl mok_X7_granted q2195 q2197 qs114 q125 q2198 (Nat.le_of_ble_eq_true rfl) (Nat.le_of_ble_eq_true rfl) rfl hl.1 rfl (Nat.le_of_ble_eq_true rfl) (pc := 67) dX7_move_67 kk) ?_
          refine sp_g fun g24 => ?_
          exact sp_r fun hz => aw_zret (nar_b g24) hz rfl rfl rfl (pc := 70) dX7_move_70
        · refine sp_m (aw_if_eq_f (tgt := 53) (pc := 44) dX7_move_44 (by decide) c16) ?_
          exact hj47_2 ls (lv_sub hl [0] rfl)
    · refine sp_m (aw_if_ne_f (tgt := 27) (pc := 18) dX7_move_18 (by decide) (Decidable.not_not.mp c8)) ?_
      exact hj21_1 ls (lv_sub hl [0] rfl)
theorem mok_X7_areUnlike : mOK yX7_areUnlike 0 := ⟨⟨by decide +kernel, by decide +kernel⟩, by decide +kernel⟩
abbrev KX7_areUnlike (l : Launch) (D : DD) (h0 : AH) (v : Int32) : KT := (l, yX7_areUnlike, cX7_areUnlike, 3, (some .boolean), RX7, 2, D, h0, h0, .inl (some (.int v)), false, [])
theorem metX7_areUnlike (l : Launch) (D : DD) {a0 : Nat} {h0 : AH} {v : Int32} (hr : fX7_areUnlike a0 h0 = some v) : AMet (KX7_areUnlike l D h0 v) [.ref a0] := by
  refine AMet.of (K := (KX7_areUnlike l D h0 v)) rfl ⟨_, rfl⟩ rfl rfl rfl (Nat.le_of_ble_eq_true rfl) (fun ls hl => ?_)
  have hl : lv_has ls 3 [(0, .ref a0)] := hl
  suffices hsp : SP (fX7_areUnlike a0 h0) (fun z => z = v) (AW (KX7_areUnlike l D h0 v) h0 0 ls []) from hsp _ hr rfl
  unfold fX7_areUnlike
  refine sp_m (aw_iconst (v := 0) (pc := 0) dX7_areUnlike_0 rfl) ?_
  refine sp_m (aw_istore_n (lv' := [(1, .int 0), (0, .ref a0)]) (pc := 1) dX7_areUnlike_1 rfl hl (by decide) rfl) (sp_all fun ls hl => ?_)
  refine sp_m (aw_iconst (v := 0) (pc := 2) dX7_areUnlike_2 rfl) ?_
  refine sp_m (aw_istore_n (lv' := [(2, .int 0), (1, .int 0), (0, .ref a0)]) (pc := 3) dX7_areUnlike_3 rfl hl (by decide) rfl) (sp_all fun ls hl => ?_)
  let P1 : Int32 × Int32 → Prop := aLP (KX7_areUnlike l D h0 v) 3 4 (fun s1v : Int32 × Int32 => [(0, .ref a0), (1, .int s1v.1), (2, .int s1v.2)]) (fun s1v => h0)
  refine sp_loop (P := P1) (fun s1v => sp_all fun ls hl => ?_) (fun k => k ls (lv_sub hl [2, 1, 0] rfl))
  have hl : lv_has ls 3 [(0, .ref a0), (1, .int s1v.1), (2, .int s1v.2)] := hl
  show SP _ _ (AW (KX7_areUnlike l D h0 v) h0 4 ls [])
  unfold X7_areUnlike_L4
  refine sp_m (aw_iload_n (pc := 4) dX7_areUnlike_4 rfl (lv_at hl 2 rfl)) ?_
  refine sp_m (aw_aload_n (pc := 5) dX7_areUnlike_5 rfl (lv_at hl 0 rfl)) ?_
  refine sp_g fun s2 => ?_
  refine sp_b fun x3 ex3 => ?_
  refine sp_m (aw_get (k := 3) okX7 s2 (by decide) q1505 (Or.inl rfl) (congrArg va_rf ex3) (pc := 6) dX7_areUnlike_6) ?_
  refine sp_g fun s4 => ?_
  refine sp_m (aw_getN (k := 3) okX20 s4 (by decide) nq1645 rfl rfl (pc := 9) dX7_areUnlike_9) ?_
  refine sp_if (fun c5 => ?_) (fun c5 => ?_)
  · refine sp_m (aw_icmp_ge_t (tgt := 66) (pc := 12) dX7_areUnlike_12 (by decide) c5) ?_
    refine sp_m (aw_iconst (v := 1) (pc := 66) dX7_areUnlike_66 rfl) ?_
    exact sp_r fun hz => aw_zret (nar_b (Or.inr rfl)) (congrArg (fun z => (z, h0)) hz) rfl rfl rfl (pc := 67) dX7_areUnlike_67
  · refine sp_m (aw_icmp_ge_f (tgt := 66) (pc := 12) dX7_areUnlike_12 (by decide) c5) ?_
    refine sp_m (aw_aload_n (pc := 15) dX7_areUnlike_15 rfl (lv_at hl 0 rfl)) ?_
    refine sp_b fun x6 ex6 => ?_
    refine sp_m (aw_get (k := 22) okX7 s2 (by decide) q1524 (Or.inl rfl) (congrArg va_rf ex6) (pc := 16) dX7_areUnlike_16) ?_
    refine sp_m (aw_iload_n (pc := 19) dX7_areUnlike_19 rfl (lv_at hl 2 rfl)) ?_
    refine sp_g fun s7 => ?_
    refine sp_g fun i8 => ?_
    refine sp_m (aw_iald s7 i8 (pc := 20) dX7_areUnlike_20) ?_
    refine sp_m (aw_aload_n (pc := 21) dX7_areUnlike_21 rfl (lv_at hl 0 rfl)) ?_
    refine sp_b fun x9 ex9 => ?_
    refine sp_m (aw_get (k := 3) okX7 s2 (by decide) q1505 (Or.inl rfl) (congrArg va_rf ex9) (pc := 22) dX7_areUnlike_22) ?_
    refine sp_g fun s10 => ?_
    refine sp_m (aw_getN (k := 0) okX20 s10 (by decide) nq1642 rfl rfl (pc := 25) dX7_areUnlike_25) ?_
    have hj60_1 : ∀ j11 : Int32, ∀ ls : Array Slot, lv_has ls 3 [(0, .ref a0), (1, .int j11), (2, .int s1v.2)] → SP (X7_areUnlike_j60 s1v j11) (ZL P1 (fun z => z = v)) (AW (KX7_areUnlike l D h0 v) h0 60 ls ([])) := by
      intro j11 ls hl
      unfold X7_areUnlike_j60
      refine sp_m (aw_iinc (v := s1v.2 + 1) (lv' := [(2, .int (s1v.2 + 1)), (0, .ref a0), (1, .int j11)]) (pc := 60) dX7_areUnlike_60 hl (k := 2) rfl rfl (by decide) rfl) (sp_all fun ls hl => ?_)
      refine sp_m (aw_goto (tgt := 4) (pc := 63) dX7_areUnlike_63 (by decide)) ?_
      exact sp_r fun hz => hz ls (lv_sub hl [1, 2, 0] rfl)
    refine sp_if (fun c12 => ?_) (fun c12 => ?_)
    · refine sp_m (aw_icmp_ne_t (tgt := 34) (pc := 28) dX7_areUnlike_28 (by decide) c12) ?_
      refine sp_m (aw_iload_n (pc := 34) dX7_areUnlike_34 rfl (lv_at hl 1 rfl)) ?_
      refine sp_m (aw_aload_n (pc := 35) dX7_areUnlike_35 rfl (lv_at hl 0 rfl)) ?_
      refine sp_b fun x13 ex13 => ?_
      refine sp_m (aw_get (k := 22) okX7 s2 (by decide) q1524 (Or.inl rfl) (congrArg va_rf ex13) (pc := 36) dX7_areUnlike_36) ?_
      refine sp_m (aw_iload_n (pc := 39) dX7_areUnlike_39 rfl (lv_at hl 2 rfl)) ?_
      refine sp_g fun s14 => ?_
      refine sp_g fun i15 => ?_
      refine sp_m (aw_iald s14 i15 (pc := 40) dX7_areUnlike_40) ?_
      refine sp_b fun p16 ep16 => ?_
      refine sp_m (G' := AW (KX7_areUnlike l D h0 v) h0 (44) ls (.int p16 :: [])) (fun kk => aw_callS (As := [.int s1v.1, .int (gI h0 x13 (ix s1v.2))]) (metX7_bit _ _ ep16) mok_X7_bit q1806 q1807 q125 q1808 (Nat.le_of_ble_eq_true rfl) (Nat.le_of_ble_eq_true rfl) rfl hl.1 rfl (Nat.le_of_ble_eq_true rfl) (pc := 41) dX7_areUnlike_41 kk) ?_
      refine sp_if (fun c17 => ?_) (fun c17 => ?_)
      · refine sp_m (aw_if_eq_t (tgt := 49) (pc := 44) dX7_areUnlike_44 (by decide) c17) ?_
        refine sp_m (aw_iload_n (pc := 49) dX7_areUnlike_49 rfl (lv_at hl 1 rfl)) ?_
        refine sp_m (aw_iconst (v := 1) (pc := 50) dX7_areUnlike_50 rfl) ?_
        refine sp_m (aw_aload_n (pc := 51) dX7_areUnlike_51 rfl (lv_at hl 0 rfl)) ?_
        refine sp_b fun x18 ex18 => ?_
        refine sp_m (aw_get (k := 22) okX7 s2 (by decide) q1524 (Or.inl rfl) (congrArg va_rf ex18) (pc := 52) dX7_areUnlike_52) ?_
        refine sp_m (aw_iload_n (pc := 55) dX7_areUnlike_55 rfl (lv_at hl 2 rfl)) ?_
        refine sp_g fun s19 => ?_
        refine sp_g fun i20 => ?_
        refine sp_m (aw_iald s19 i20 (pc := 56) dX7_areUnlike_56) ?_
        refine sp_m (aw_ishl (pc := 57) dX7_areUnlike_57) ?_
        refine sp_m (aw_ior (pc := 58) dX7_areUnlike_58) ?_
        refine sp_m (aw_istore_n (lv' := [(1, .int (s1v.1 ||| (1 <<< ((gI h0 x18 (ix s1v.2)) &&& 31)))), (0, .ref a0), (2, .int s1v.2)]) (pc := 59) dX7_areUnlike_59 rfl hl (by decide) rfl) (sp_all fun ls hl => ?_)
        exact hj60_1 (s1v.1 ||| (1 <<< ((gI h0 x18 (ix s1v.2)) &&& 31))) ls (lv_sub hl [1, 0, 2] rfl)
      · refine sp_m (aw_if_eq_f (tgt := 49) (pc := 44) dX7_areUnlike_44 (by decide) c17) ?_
        refine sp_m (aw_iconst (v := 0) (pc := 47) dX7_areUnlike_47 rfl) ?_
        exact sp_r fun hz => aw_zret (nar_b (Or.inl rfl)) (congrArg (fun z => (z, h0)) hz) rfl rfl rfl (pc := 48) dX7_areUnlike_48
    · refine sp_m (aw_icmp_ne_f (tgt := 34) (pc := 28) dX7_areUnlike_28 (by decide) (Decidable.not_not.mp c12)) ?_
      refine sp_m (aw_goto (tgt := 60) (pc := 31) dX7_areUnlike_31 (by decide)) ?_
      exact hj60_1 s1v.1 ls (lv_sub hl [0, 1, 2] rfl)
theorem mok_X7_nextPut : mOK yX7_nextPut 0 := ⟨⟨by decide +kernel, by decide +kernel⟩, by decide +kernel⟩
abbrev KX7_nextPut (l : Launch) (D : DD) (h0 hE : AH) (v : Int32) : KT := (l, yX7_nextPut, cX7_nextPut, 2, (some .boolean), RX7, 3, D, h0, hE, .inl (some (.int v)), false, [])
theorem metX7_nextPut (l : Launch) (D : DD) {a0 : Nat} {h0 : AH} {hE : AH} {v : Int32} (hr : fX7_nextPut a0 h0 = some (v, hE)) : AMet (KX7_nextPut l D h0 hE v) [.ref a0] := by
  refine AMet.of (K := (KX7_nextPut l D h0 hE v)) rfl ⟨_, rfl⟩ rfl rfl rfl (Nat.le_of_ble_eq_true rfl) (fun ls hl => ?_)
  have hl : lv_has ls 2 [(0, .ref a0)] := hl
  suffices hsp : SP (fX7_nextPut a0 h0) (fun z => z = (v, hE)) (AW (KX7_nextPut l D h0 hE v) h0 0 ls []) from hsp _ hr rfl
  unfold fX7_nextPut
  refine sp_m (aw_aload_n (pc := 0) dX7_nextPut_0 rfl (lv_at hl 0 rfl)) ?_
  refine sp_g fun s1 => ?_
  refine sp_b fun x2 ex2 => ?_
  refine sp_m (aw_get (k := 3) okX7 s1 (by decide) q1505 (Or.inl rfl) (congrArg va_rf ex2) (pc := 1) dX7_nextPut_1) ?_
  refine sp_g fun s3 => ?_
  refine sp_m (aw_getN (k := 3) okX20 s3 (by decide) nq1645 rfl rfl (pc := 4) dX7_nextPut_4) ?_
  refine sp_m (aw_iconst (v := 1) (pc := 7) dX7_nextPut_7 rfl) ?_
  refine sp_m (aw_isub (pc := 8) dX7_nextPut_8) ?_
  refine sp_m (aw_istore_n (lv' := [(1, .int ((gI h0 x2 3) - 1)), (0, .ref a0)]) (pc := 9) dX7_nextPut_9 rfl hl (by decide) rfl) (sp_all fun ls hl => ?_)
  let P4 : Int32 × AH → Prop := aLP (KX7_nextPut l D h0 hE v) 2 10 (fun s4v : Int32 × AH => [(0, .ref a0), (1, .int s4v.1)]) (fun s4v => s4v.2)
  refine sp_loop (P := P4) (fun s4v => sp_all fun ls hl => ?_) (fun k => k ls (lv_sub hl [1, 0] rfl))
  have hl : lv_has ls 2 [(0, .ref a0), (1, .int s4v.1)] := hl
  show SP _ _ (AW (KX7_nextPut l D h0 hE v) s4v.2 10 ls [])
  unfold X7_nextPut_L10
  refine sp_m (aw_iload_n (pc := 10) dX7_nextPut_10 rfl (lv_at hl 1 rfl)) ?_
  refine sp_if (fun c5 => ?_) (fun c5 => ?_)
  · refine sp_m (aw_if_lt_t (tgt := 66) (pc := 11) dX7_nextPut_11 (by decide) c5) ?_
    refine sp_m (aw_iconst (v := 0) (pc := 66) dX7_nextPut_66 rfl) ?_
    exact sp_r fun hz => aw_zret (nar_b (Or.inl rfl)) hz rfl rfl rfl (pc := 67) dX7_nextPut_67
  · refine sp_m (aw_if_lt_f (tgt := 66) (pc := 11) dX7_nextPut_11 (by decide) c5) ?_
    refine sp_m (aw_aload_n (pc := 14) dX7_nextPut_14 rfl (lv_at hl 0 rfl)) ?_
    refine sp_m (aw_iload_n (pc := 15) dX7_nextPut_15 rfl (lv_at hl 1 rfl)) ?_
    refine sp_g fun s7 => ?_
    refine sp_b fun p6 ep6 => ?_
    refine sp_m (G' := AW (KX7_nextPut l D h0 hE v) s4v.2 (19) ls (.int p6 :: [])) (fun kk => aw_callV (As := [.int s4v.1]) (metX7_isDead _ _ ep6) (rcv_o okX7 s7) rfl mok_X7_isDead q1885 q1887 qs75 q125 q1888 (Nat.le_of_ble_eq_true rfl) (Nat.le_of_ble_eq_true rfl) rfl hl.1 rfl (Nat.le_of_ble_eq_true rfl) (pc := 16) dX7_nextPut_16 kk) ?_
    have hj60_1 : ∀ h8 : AH, ∀ ls : Array Slot, lv_has ls 2 [(0, .ref a0), (1, .int s4v.1)] → SP (X7_nextPut_j60 s4v h8) (ZL P4 (fun z => z = (v, hE))) (AW (KX7_nextPut l D h0 hE v) h8 60 ls ([])) := by
      intro h8 ls hl
      unfold X7_nextPut_j60
      refine sp_m (aw_iinc (v := s4v.1 + (-1)) (lv' := [(1, .int (s4v.1 + (-1))), (0, .ref a0)]) (pc := 60) dX7_nextPut_60 hl (k := 1) rfl rfl (by decide) rfl) (sp_all fun ls hl => ?_)
      refine sp_m (aw_goto (tgt := 10) (pc := 63) dX7_nextPut_63 (by decide)) ?_
      exact sp_r fun hz => hz ls (lv_sub hl [1, 0] rfl)
    refine sp_if (fun c9 => ?_) (fun c9 => ?_)
    · refine sp_m (aw_if_eq_t (tgt := 25) (pc := 19) dX7_nextPut_19 (by decide) c9) ?_
      refine sp_m (aw_aload_n (pc := 25) dX7_nextPut_25 rfl (lv_at hl 0 rfl)) ?_
      refine sp_b fun x10 ex10 => ?_
      refine sp_m (aw_get (k := 22) okX7 s7 (by decide) q1524 (Or.inl rfl) (congrArg va_rf ex10) (pc := 26) dX7_nextPut_26) ?_
      refine sp_m (aw_iload_n (pc := 29) dX7_nextPut_29 rfl (lv_at hl 1 rfl)) ?_
      refine sp_m (aw_dup2 (pc := 30) dX7_nextPut_30 rfl rfl) ?_
      refine sp_g fun s11 => ?_
      refine sp_g fun i12 => ?_
      refine sp_m (aw_iald s11 i12 (pc := 31) dX7_nextPut_31) ?_
      refine sp_m (aw_iconst (v := 1) (pc := 32) dX7_nextPut_32 rfl) ?_
      refine sp_m (aw_iadd (pc := 33) dX7_nextPut_33) ?_
      refine sp_g fun i13 => ?_
      refine sp_t fun h14 eh140 => ?_
      have eh14 : gS h14 = gS s4v.2 := by rw [eh140]; rfl
      refine sp_m (fun kk => aw_iast s11 i13 (pc := 34) dX7_nextPut_34 (AWe eh140 kk)) ?_
      refine sp_m (aw_aload_n (pc := 35) dX7_nextPut_35 rfl (lv_at hl 0 rfl)) ?_
      refine sp_b fun x15 ex15 => ?_
      refine sp_m (aw_get (k := 22) okX7 (uS eh14 s7) (by decide) q1524 (Or.inl rfl) (congrArg va_rf ex15) (pc := 36) dX7_nextPut_36) ?_
      refine sp_m (aw_iload_n (pc := 39) dX7_nextPut_39 rfl (lv_at hl 1 rfl)) ?_
      refine sp_g fun s16 => ?_
      refine sp_g fun i17 => ?_
      refine sp_m (aw_iald s16 i17 (pc := 40) dX7_nextPut_40) ?_
      refine sp_m (aw_aload_n (pc := 41) dX7_nextPut_41 rfl (lv_at hl 0 rfl)) ?_
      refine sp_b fun x18 ex18 => ?_
      refine sp_m (aw_get (k := 3) okX7 (uS eh14 s7) (by decide) q1505 (Or.inl rfl) (congrArg va_rf ex18) (pc := 42) dX7_nextPut_42) ?_
      refine sp_g fun s19 => ?_
      refine sp_m (aw_getN (k := 0) okX20 s19 (by decide) nq1642 rfl rfl (pc := 45) dX7_nextPut_45) ?_
      refine sp_if (fun c20 => ?_) (fun c20 => ?_)
      · refine sp_m (aw_icmp_gt_t (tgt := 53) (pc := 48) dX7_nextPut_48 (by decide) c20) ?_
        refine sp_m (aw_aload_n (pc := 53) dX7_nextPut_53 rfl (lv_at hl 0 rfl)) ?_
        refine sp_b fun x21 ex21 => ?_
        refine sp_m (aw_get (k := 22) okX7 (uS eh14 s7) (by decide) q1524 (Or.inl rfl) (congrArg va_rf ex21) (pc := 54) dX7_nextPut_54) ?_
        refine sp_m (aw_iload_n (pc := 57) dX7_nextPut_57 rfl (lv_at hl 1 rfl)) ?_
        refine sp_m (aw_iconst (v := 0) (pc := 58) dX7_nextPut_58 rfl) ?_
        refine sp_g fun s22 => ?_
        refine sp_g fun i23 => ?_
        refine sp_t fun h24 eh240 => ?_
        have eh24 : gS h24 = gS h14 := by rw [eh240]; rfl
        refine sp_m (fun kk => aw_iast s22 i23 (pc := 59) dX7_nextPut_59 (AWe eh240 kk)) ?_
        exact hj60_1 h24 ls (lv_sub hl [0, 1] rfl)
      · refine sp_m (aw_icmp_gt_f (tgt := 53) (pc := 48) dX7_nextPut_48 (by decide) c20) ?_
        refine sp_m (aw_iconst (v := 1) (pc := 51) dX7_nextPut_51 rfl) ?_
        exact sp_r fun hz => aw_zret (nar_b (Or.inr rfl)) hz rfl rfl rfl (pc := 52) dX7_nextPut_52
    · refine sp_m (aw_if_eq_f (tgt := 25) (pc := 19) dX7_nextPut_19 (by decide) c9) ?_
      refine sp_m (aw_goto (tgt := 60) (pc := 22) dX7_nextPut_22 (by decide)) ?_
      exact hj60_1 s4v.2 ls (lv_sub hl [0, 1] rfl)
theorem mok_X7_takesPut : mOK yX7_takesPut 0 := ⟨⟨by decide +kernel, by decide +kernel⟩, by decide +kernel⟩
abbrev KX7_takesPut (l : Launch) (D : DD) (h0 hE : AH) : KT := (l, yX7_takesPut, cX7_takesPut, 4, none, RX7, 7, D, h0, hE, .inl (none), false, [])
theorem metX7_takesPut (l : Launch) (D : DD) {a0 : Nat} {h0 : AH} {hE : AH} (hr : fX7_takesPut a0 h0 = some hE) : AMet (KX7_takesPut l D h0 hE) [.ref a0] := by
  refine AMet.of (K := (KX7_takesPut l D h0 hE)) rfl ⟨_, rfl⟩ rfl rfl rfl (Nat.le_of_ble_eq_true rfl) (fun ls hl => ?_)
  have hl : lv_has ls 4 [(0, .ref a0)] := hl
  suffices hsp : SP (fX7_takesPut a0 h0) (fun z => z = hE) (AW (KX7_takesPut l D h0 hE) h0 0 ls []) from hsp _ hr rfl
  unfold fX7_takesPut
  refine sp_m (aw_lconst (v := 0) (pc := 0) dX7_takesPut_0 rfl) ?_
  refine sp_m (aw_lstore_n (lv' := [(1, .long 0), (0, .ref a0)]) (pc := 1) dX7_takesPut_1 rfl hl (by decide) rfl) (sp_all fun ls hl => ?_)
  refine sp_m (aw_iconst (v := 0) (pc := 2) dX7_takesPut_2 rfl) ?_
  refine sp_m (aw_istore_n (lv' := [(3, .int 0), (1, .long 0), (0, .ref a0)]) (pc := 3) dX7_takesPut_3 rfl hl (by decide) rfl) (sp_all fun ls hl => ?_)
  let P1 : Int64 × Int32 → Prop := aLP (KX7_takesPut l D h0 hE) 4 4 (fun s1v : Int64 × Int32 => [(0, .ref a0), (1, .long s1v.1), (3, .int s1v.2)]) (fun s1v => h0)
  let E1 : Int64 → Prop := aLP (KX7_takesPut l D h0 hE) 4 55 (fun r1v : Int64 => [(0, .ref a0), (1, .long r1v)]) (fun r1v => h0)
  refine sp_bl (P := P1) (E := E1) (fun s1v => sp_all fun ls hl => ?_) (fun k => k ls (lv_sub hl [2, 1, 0] rfl)) (fun r1v => sp_all fun ls hl => ?_)
  · have hl : lv_has ls 4 [(0, .ref a0), (1, .long s1v.1), (3, .int s1v.2)] := hl
    show SP _ _ (AW (KX7_takesPut l D h0 hE) h0 4 ls [])
    unfold X7_takesPut_L4
    refine sp_m (aw_iload_n (pc := 4) dX7_takesPut_4 rfl (lv_at hl 2 rfl)) ?_
    refine sp_m (aw_aload_n (pc := 5) dX7_takesPut_5 rfl (lv_at hl 0 rfl)) ?_
    refine sp_g fun s2 => ?_
    refine sp_b fun x3 ex3 => ?_
    refine sp_m (aw_get (k := 3) okX7 s2 (by decide) q1505 (Or.inl rfl) (congrArg va_rf ex3) (pc := 6) dX7_takesPut_6) ?_
    refine sp_g fun s4 => ?_
    refine sp_m (aw_getN (k := 3) okX20 s4 (by decide) nq1645 rfl rfl (pc := 9) dX7_takesPut_9) ?_
    refine sp_if (fun c5 => ?_) (fun c5 => ?_)
    · refine sp_m (aw_icmp_ge_t (tgt := 55) (pc := 12) dX7_takesPut_12 (by decide) c5) ?_
      exact sp_r fun hz => hz ls (lv_sub hl [0, 1] rfl)
    · refine sp_m (aw_icmp_ge_f (tgt := 55) (pc := 12) dX7_takesPut_12 (by decide) c5) ?_
      refine sp_m (aw_lload_n (pc := 15) dX7_takesPut_15 rfl (lv_at hl 1 rfl)) ?_
      refine sp_m (aw_aload_n (pc := 16) dX7_takesPut_16 rfl (lv_at hl 0 rfl)) ?_
      refine sp_b fun x6 ex6 => ?_
      refine sp_m (aw_get (k := 22) okX7 s2 (by decide) q1524 (Or.inl rfl) (congrArg va_rf ex6) (pc := 17) dX7_takesPut_17) ?_
      refine sp_m (aw_iload_n (pc := 20) dX7_takesPut_20 rfl (lv_at hl 2 rfl)) ?_
      refine sp_g fun s7 => ?_
      refine sp_g fun i8 => ?_
      refine sp_m (aw_iald s7 i8 (pc := 21) dX7_takesPut_21) ?_
      refine sp_m (aw_aload_n (pc := 22) dX7_takesPut_22 rfl (lv_at hl 0 rfl)) ?_
      refine sp_b fun x9 ex9 => ?_
      refine sp_m (aw_get (k := 3) okX7 s2 (by decide) q1505 (Or.inl rfl) (congrArg va_rf ex9) (pc := 23) dX7_takesPut_23) ?_
      refine sp_g fun s10 => ?_
      refine sp_m (aw_getN (k := 0) okX20 s10 (by decide) nq1642 rfl rfl (pc := 26) dX7_takesPut_26) ?_
      have hj47_1 : ∀ j11 : Int64, ∀ ls : Array Slot, lv_has ls 4 [(0, .ref a0), (3, .int s1v.2)] → SP (X7_takesPut_j47 s1v j11) (ZL P1 E1) (AW (KX7_takesPut l D h0 hE) h0 47 ls (.long j11 :: .long s1v.1 :: [])) := by
        intro j11 ls hl
        unfold X7_takesPut_j47
        refine sp_m (aw_ladd (pc := 47) dX7_takesPut_47) ?_
        refine sp_m (aw_lstore_n (lv' := [(1, .long (s1v.1 + j11)), (0, .ref a0), (3, .int s1v.2)]) (pc := 48) dX7_takesPut_48 rfl hl (by decide) rfl) (sp_all fun ls hl => ?_)
        refine sp_m (aw_iinc (v := s1v.2 + 1) (lv' := [(3, .int (s1v.2 + 1)), (1, .long (s1v.1 + j11)), (0, .ref a0)]) (pc := 49) dX7_takesPut_49 hl (k := 2) rfl rfl (by decide) rfl) (sp_all fun ls hl => ?_)
        refine sp_m (aw_goto (tgt := 4) (pc := 52) dX7_takesPut_52 (by decide)) ?_
        exact sp_r fun hz => hz ls (lv_sub hl [2, 1, 0] rfl)
      refine sp_if (fun c12 => ?_) (fun c12 => ?_)
      · refine sp_m (aw_icmp_ne_t (tgt := 36) (pc := 29) dX7_takesPut_29 (by decide) c12) ?_
        refine sp_m (aw_aload_n (pc := 36) dX7_takesPut_36 rfl (lv_at hl 0 rfl)) ?_
        refine sp_m (aw_iload_n (pc := 37) dX7_takesPut_37 rfl (lv_at hl 2 rfl)) ?_
        refine sp_m (aw_aload_n (pc := 38) dX7_takesPut_38 rfl (lv_at hl 0 rfl)) ?_
        refine sp_b fun x13 ex13 => ?_
        refine sp_m (aw_get (k := 22) okX7 s2 (by decide) q1524 (Or.inl rfl) (congrArg va_rf ex13) (pc := 39) dX7_takesPut_39) ?_
        refine sp_m (aw_iload_n (pc := 42) dX7_takesPut_42 rfl (lv_at hl 2 rfl)) ?_
        refine sp_g fun s14 => ?_
        refine sp_g fun i15 => ?_
        refine sp_m (aw_iald s14 i15 (pc := 43) dX7_takesPut_43) ?_
        refine sp_b fun p16 ep16 => ?_
        refine sp_m (G' := AW (KX7_takesPut l D h0 hE) h0 (47) ls (.long p16 :: .long s1v.1 :: [])) (fun kk => aw_callV (As := [.int s1v.2, .int (gI h0 x13 (ix s1v.2))]) (metX7_worthIn _ _ ep16) (rcv_o okX7 s2) rfl mok_X7_worthIn q1956 q1958 qs86 q125 q1959 (Nat.le_of_ble_eq_true rfl) (Nat.le_of_ble_eq_true rfl) rfl hl.1 rfl (Nat.le_of_ble_eq_true rfl) (pc := 44) dX7_takesPut_44 kk) ?_
        exact hj47_1 p16 ls (lv_sub hl [0, 2] rfl)
      · refine sp_m (aw_icmp_ne_f (tgt := 36) (pc := 29) dX7_takesPut_29 (by decide) (Decidable.not_not.mp c12)) ?_
        refine sp_m (aw_lconst (v := 0) (pc := 32) dX7_takesPut_32 rfl) ?_
        refine sp_m (aw_goto (tgt := 47) (pc := 33) dX7_takesPut_33 (by decide)) ?_
        exact hj47_1 0 ls (lv_sub hl [0, 2] rfl)
  · have hl : lv_has ls 4 [(0, .ref a0), (1, .long r1v)] := hl
    show SP _ _ (AW (KX7_takesPut l D h0 hE) h0 55 ls [])
    refine sp_m (aw_lload_n (pc := 55) dX7_takesPut_55 rfl (lv_at hl 1 rfl)) ?_
    refine sp_m (aw_aload_n (pc := 56) dX7_takesPut_56 rfl (lv_at hl 0 rfl)) ?_
    refine sp_g fun s17 => ?_
    refine sp_m (aw_get (k := 24) okX7 s17 (by decide) q1526 (Or.inl rfl) rfl (pc := 57) dX7_takesPut_57) ?_
    refine sp_m (aw_lcmp (pc := 60) dX7_takesPut_60) ?_
    refine sp_if (fun c18 => ?_) (fun c18 => ?_)
    · refine sp_m (aw_if_gt_t (tgt := 65) (pc := 61) dX7_takesPut_61 (by decide) ((lg_cmp_gt _ _).mpr c18)) ?_
      refine sp_m (aw_aload_n (pc := 65) dX7_takesPut_65 rfl (lv_at hl 0 rfl)) ?_
      refine sp_m (aw_lload_n (pc := 66) dX7_takesPut_66 rfl (lv_at hl 1 rfl)) ?_
      refine sp_t fun h19 eh190 => ?_
      have eh19 : gS h19 = gS h0 := by rw [eh190]; rfl
      refine sp_m (aw_put (k := 24) okX7 opX7 s17 (by decide) q1526 (Or.inl rfl) (Or.inl rfl) (hasV_L' eh190) rfl rfl (pc := 67) dX7_takesPut_67) ?_
      refine sp_m (aw_iconst (v := 0) (pc := 70) dX7_takesPut_70 rfl) ?_
      refine sp_m (aw_istore_n (lv' := [(3, .int 0), (0, .ref a0), (1, .long r1v)]) (pc := 71) dX7_takesPut_71 rfl hl (by decide) rfl) (sp_all fun ls hl => ?_)
      let P20 : Int32 × AH → Prop := aLP (KX7_takesPut l D h0 hE) 4 72 (fun s20v : Int32 × AH => [(0, .ref a0), (3, .int s20v.1)]) (fun s20v => s20v.2)
      let E20 : AH → Prop := aLP (KX7_takesPut l D h0 hE) 4 95 (fun r20v : AH => []) (fun r20v => r20v)
      refine sp_bl (P := P20) (E := E20) (fun s20v => sp_all fun ls hl => ?_) (fun k => k ls (lv_sub hl [1, 0] rfl)) (fun r20v => sp_all fun ls hl => ?_)
      · have hl : lv_has ls 4 [(0, .ref a0), (3, .int s20v.1)] := hl
        show SP _ _ (AW (KX7_takesPut l D h0 hE) s20v.2 72 ls [])
        unfold X7_takesPut_L72
        refine sp_m (aw_iload_n (pc := 72) dX7_takesPut_72 rfl (lv_at hl 1 rfl)) ?_
        refine sp_m (aw_iconst (v := 5) (pc := 73) dX7_takesPut_73 rfl) ?_
        refine sp_if (fun c21 => ?_) (fun c21 => ?_)
        · refine sp_m (aw_icmp_ge_t (tgt := 95) (pc := 74) dX7_takesPut_74 (by decide) c21) ?_
          exact sp_r fun hz => hz ls (lv_sub hl [] rfl)
        · refine sp_m (aw_icmp_ge_f (tgt := 95) (pc := 74) dX7_takesPut_74 (by decide) c21) ?_
          refine sp_m (aw_aload_n (pc := 77) dX7_takesPut_77 rfl (lv_at hl 0 rfl)) ?_
          refine sp_g fun s22 => ?_
          refine sp_b fun x23 ex23 => ?_
          refine sp_m (aw_get (k := 23) okX7 s22 (by decide) q1525 (Or.inl rfl) (congrArg va_rf ex23) (pc := 78) dX7_takesPut_78) ?_
          refine sp_m (aw_iload_n (pc := 81) dX7_takesPut_81 rfl (lv_at hl 1 rfl)) ?_
          refine sp_m (aw_aload_n (pc := 82) dX7_takesPut_82 rfl (lv_at hl 0 rfl)) ?_
          refine sp_b fun x24 ex24 => ?_
          refine sp_m (aw_get (k := 22) okX7 s22 (by decide) q1524 (Or.inl rfl) (congrArg va_rf ex24) (pc := 83) dX7_takesPut_83) ?_
          refine sp_m (aw_iload_n (pc := 86) dX7_takesPut_86 rfl (lv_at hl 1 rfl)) ?_
          refine sp_g fun s25 => ?_
          refine sp_g fun i26 => ?_
          refine sp_m (aw_iald s25 i26 (pc := 87) dX7_takesPut_87) ?_
          refine sp_g fun s27 => ?_
          refine sp_g fun i28 => ?_
          refine sp_t fun h29 eh290 => ?_
          have eh29 : gS h29 = gS s20v.2 := by rw [eh290]; rfl
          refine sp_m (fun kk => aw_iast s27 i28 (pc := 88) dX7_takesPut_88 (AWe eh290 kk)) ?_
          refine sp_m (aw_iinc (v := s20v.1 + 1) (lv' := [(3, .int (s20v.1 + 1)), (0, .ref a0)]) (pc := 89) dX7_takesPut_89 hl (k := 1) rfl rfl (by decide) rfl) (sp_all fun ls hl => ?_)
          refine sp_m (aw_goto (tgt := 72) (pc := 92) dX7_takesPut_92 (by decide)) ?_
          exact sp_r fun hz => hz ls (lv_sub hl [1, 0] rfl)
      · have hl : lv_has ls 4 [] := hl
        show SP _ _ (AW (KX7_takesPut l D h0 hE) r20v 95 ls [])
        exact sp_r fun hz => aw_vret hz rfl rfl rfl (pc := 95) dX7_takesPut_95
    · refine sp_m (aw_if_gt_f (tgt := 65) (pc := 61) dX7_takesPut_61 (by decide) (fun z => c18 ((lg_cmp_gt _ _).mp z))) ?_
      exact sp_r fun hz => aw_vret hz rfl rfl rfl (pc := 64) dX7_takesPut_64
theorem mok_X7_places : mOK yX7_places 0 := ⟨⟨by decide +kernel, by decide +kernel⟩, by decide +kernel⟩
abbrev KX7_places (l : Launch) (D : DD) (h0 hE : AH) : KT := (l, yX7_places, cX7_places, 2, none, RX7, 8, D, h0, hE, .inl (none), false, [])
theorem metX7_places (l : Launch) (D : DD) {a0 : Nat} {h0 : AH} {hE : AH} (hr : fX7_places a0 h0 = some hE) : AMet (KX7_places l D h0 hE) [.ref a0] := by
  refine AMet.of (K := (KX7_places l D h0 hE)) rfl ⟨_, rfl⟩ rfl rfl rfl (Nat.le_of_ble_eq_true rfl) (fun ls hl => ?_)
  have hl : lv_has ls 2 [(0, .ref a0)] := hl
  suffices hsp : SP (fX7_places a0 h0) (fun z => z = hE) (AW (KX7_places l D h0 hE) h0 0 ls []) from hsp _ hr rfl
  unfold fX7_places
  refine sp_m (aw_aload_n (pc := 0) dX7_places_0 rfl (lv_at hl 0 rfl)) ?_
  refine sp_m (aw_ldc2 q1968 (pc := 1) dX7_places_1) ?_
  refine sp_g fun s1 => ?_
  refine sp_t fun h2 eh20 => ?_
  have eh2 : gS h2 = gS h0 := by rw [eh20]; rfl
  refine sp_m (aw_put (k := 24) okX7 opX7 s1 (by decide) q1526 (Or.inl rfl) (Or.inl rfl) (hasV_L' eh20) rfl rfl (pc := 4) dX7_places_4) ?_
  refine sp_m (aw_iconst (v := 0) (pc := 7) dX7_places_7 rfl) ?_
  refine sp_m (aw_istore_n (lv' := [(1, .int 0), (0, .ref a0)]) (pc := 8) dX7_places_8 rfl hl (by decide) rfl) (sp_all fun ls hl => ?_)
  let P3 : Int32 × AH → Prop := aLP (KX7_places l D h0 hE) 2 9 (fun s3v : Int32 × AH => [(0, .ref a0), (1, .int s3v.1)]) (fun s3v => s3v.2)
  let E3 : AH → Prop := aLP (KX7_places l D h0 hE) 2 56 (fun r3v : AH => [(0, .ref a0)]) (fun r3v => r3v)
  refine sp_bl (P := P3) (E := E3) (fun s3v => sp_all fun ls hl => ?_) (fun k => k ls (lv_sub hl [1, 0] rfl)) (fun r3v => sp_all fun ls hl => ?_)
  · have hl : lv_has ls 2 [(0, .ref a0), (1, .int s3v.1)] := hl
    show SP _ _ (AW (KX7_places l D h0 hE) s3v.2 9 ls [])
    unfold X7_places_L9
    refine sp_m (aw_iload_n (pc := 9) dX7_places_9 rfl (lv_at hl 1 rfl)) ?_
    refine sp_m (aw_iconst (v := 5) (pc := 10) dX7_places_10 rfl) ?_
    refine sp_if (fun c4 => ?_) (fun c4 => ?_)
    · refine sp_m (aw_icmp_ge_t (tgt := 56) (pc := 11) dX7_places_11 (by decide) c4) ?_
      exact sp_r fun hz => hz ls (lv_sub hl [0] rfl)
    · refine sp_m (aw_icmp_ge_f (tgt := 56) (pc := 11) dX7_places_11 (by decide) c4) ?_
      refine sp_m (aw_aload_n (pc := 14) dX7_places_14 rfl (lv_at hl 0 rfl)) ?_
      refine sp_g fun s5 => ?_
      refine sp_b fun x6 ex6 => ?_
      refine sp_m (aw_get (k := 22) okX7 s5 (by decide) q1524 (Or.inl rfl) (congrArg va_rf ex6) (pc := 15) dX7_places_15) ?_
      refine sp_m (aw_iload_n (pc := 18) dX7_places_18 rfl (lv_at hl 1 rfl)) ?_
      refine sp_m (aw_iload_n (pc := 19) dX7_places_19 rfl (lv_at hl 1 rfl)) ?_
      refine sp_m (aw_aload_n (pc := 20) dX7_places_20 rfl (lv_at hl 0 rfl)) ?_
      refine sp_b fun x7 ex7 => ?_
      refine sp_m (aw_get (k := 3) okX7 s5 (by decide) q1505 (Or.inl rfl) (congrArg va_rf ex7) (pc := 21) dX7_places_21) ?_
      refine sp_g fun s8 => ?_
      refine sp_m (aw_getN (k := 3) okX20 s8 (by decide) nq1645 rfl rfl (pc := 24) dX7_places_24) ?_
      have hj49_1 : ∀ j9 : Int32, ∀ ls : Array Slot, lv_has ls 2 [(0, .ref a0), (1, .int s3v.1)] → SP (X7_places_j49 s3v x6 j9) (ZL P3 E3) (AW (KX7_places l D h0 hE) s3v.2 49 ls (.int j9 :: .int s3v.1 :: .ref x6 :: [])) := by
        intro j9 ls hl
        unfold X7_places_j49
        refine sp_g fun s10 => ?_
        refine sp_g fun i11 => ?_
        refine sp_t fun h12 eh120 => ?_
        have eh12 : gS h12 = gS s3v.2 := by rw [eh120]; rfl
        refine sp_m (fun kk => aw_iast s10 i11 (pc := 49) dX7_places_49 (AWe eh120 kk)) ?_
        refine sp_m (aw_iinc (v := s3v.1 + 1) (lv' := [(1, .int (s3v.1 + 1)), (0, .ref a0)]) (pc := 50) dX7_places_50 hl (k := 1) rfl rfl (by decide) rfl) (sp_all fun ls hl => ?_)
        refine sp_m (aw_goto (tgt := 9) (pc := 53) dX7_places_53 (by decide)) ?_
        exact sp_r fun hz => hz ls (lv_sub hl [1, 0] rfl)
      have hj42_2 : ∀ ls : Array Slot, lv_has ls 2 [(0, .ref a0), (1, .int s3v.1)] → SP (X7_places_j42 a0 s3v x6) (ZL P3 E3) (AW (KX7_places l D h0 hE) s3v.2 42 ls (.int s3v.1 :: .ref x6 :: [])) := by
        intro ls hl
        unfold X7_places_j42
        refine sp_m (aw_aload_n (pc := 42) dX7_places_42 rfl (lv_at hl 0 rfl)) ?_
        refine sp_b fun x13 ex13 => ?_
        refine sp_m (aw_get (k := 3) okX7 s5 (by decide) q1505 (Or.inl rfl) (congrArg va_rf ex13) (pc := 43) dX7_places_43) ?_
        refine sp_g fun s14 => ?_
        refine sp_m (aw_getN (k := 0) okX20 s14 (by decide) nq1642 rfl rfl (pc := 46) dX7_places_46) ?_
        exact hj49_1 (gI s3v.2 x13 0) ls (lv_sub hl [0, 1] rfl)
      refine sp_if (fun c15 => ?_) (fun c15 => ?_)
      · refine sp_m (aw_icmp_ge_t (tgt := 42) (pc := 27) dX7_places_27 (by decide) c15) ?_
        exact hj42_2 ls (lv_sub hl [0, 1] rfl)
      · refine sp_m (aw_icmp_ge_f (tgt := 42) (pc := 27) dX7_places_27 (by decide) c15) ?_
        refine sp_m (aw_aload_n (pc := 30) dX7_places_30 rfl (lv_at hl 0 rfl)) ?_
        refine sp_m (aw_iload_n (pc := 31) dX7_places_31 rfl (lv_at hl 1 rfl)) ?_
        refine sp_b fun p16 ep16 => ?_
        refine sp_m (G' := AW (KX7_places l D h0 hE) s3v.2 (35) ls (.int p16 :: .int s3v.1 :: .ref x6 :: [])) (fun kk => aw_callV (As := [.int s3v.1]) (metX7_isDead _ _ ep16) (rcv_o okX7 s5) rfl mok_X7_isDead q1885 q1887 qs75 q125 q1888 (Nat.le_of_ble_eq_true rfl) (Nat.le_of_ble_eq_true rfl) rfl hl.1 rfl (Nat.le_of_ble_eq_true rfl) (pc := 32) dX7_places_32 kk) ?_
        refine sp_if (fun c17 => ?_) (fun c17 => ?_)
        · refine sp_m (aw_if_ne_t (tgt := 42) (pc := 35) dX7_places_35 (by decide) c17) ?_
          exact hj42_2 ls (lv_sub hl [0, 1] rfl)
        · refine sp_m (aw_if_ne_f (tgt := 42) (pc := 35) dX7_places_35 (by decide) (Decidable.not_not.mp c17)) ?_
          refine sp_m (aw_iconst (v := 0) (pc := 38) dX7_places_38 rfl) ?_
          refine sp_m (aw_goto (tgt := 49) (pc := 39) dX7_places_39 (by decide)) ?_
          exact hj49_1 0 ls (lv_sub hl [0, 1] rfl)
  · have hl : lv_has ls 2 [(0, .ref a0)] := hl
    show SP _ _ (AW (KX7_places l D h0 hE) r3v 56 ls [])
    refine sp_m (aw_iconst (v := 1) (pc := 56) dX7_places_56 rfl) ?_
    refine sp_m (aw_istore_n (lv' := [(1, .int 1), (0, .ref a0)]) (pc := 57) dX7_places_57 rfl hl (by decide) rfl) (sp_all fun ls hl => ?_)
    let P18 : Int32 × AH → Prop := aLP (KX7_places l D h0 hE) 2 58 (fun s18v : Int32 × AH => [(0, .ref a0), (1, .int s18v.1)]) (fun s18v => s18v.2)
    let E18 : AH → Prop := aLP (KX7_places l D h0 hE) 2 81 (fun r18v : AH => []) (fun r18v => r18v)
    refine sp_bl (P := P18) (E := E18) (fun s18v => sp_all fun ls hl => ?_) (fun k => k ls (lv_sub hl [1, 0] rfl)) (fun r18v => sp_all fun ls hl => ?_)
    · have hl : lv_has ls 2 [(0, .ref a0), (1, .int s18v.1)] := hl
      show SP _ _ (AW (KX7_places l D h0 hE) s18v.2 58 ls [])
      unfold X7_places_L58
      refine sp_m (aw_iload_n (pc := 58) dX7_places_58 rfl (lv_at hl 1 rfl)) ?_
      refine sp_if (fun c19 => ?_) (fun c19 => ?_)
      · refine sp_m (aw_if_eq_t (tgt := 81) (pc := 59) dX7_places_59 (by decide) c19) ?_
        exact sp_r fun hz => hz ls (lv_sub hl [] rfl)
      · refine sp_m (aw_if_eq_f (tgt := 81) (pc := 59) dX7_places_59 (by decide) c19) ?_
        refine sp_m (aw_aload_n (pc := 62) dX7_places_62 rfl (lv_at hl 0 rfl)) ?_
        refine sp_g fun s21 => ?_
        refine sp_b fun p20 ep20 => ?_
        refine sp_m (G' := AW (KX7_places l D h0 hE) s18v.2 (66) ls (.int p20 :: [])) (fun kk => aw_callV (As := []) (metX7_areUnlike _ _ ep20) (rcv_o okX7 s21) rfl mok_X7_areUnlike q2009 q2011 qs92 q125 q2012 (Nat.le_of_ble_eq_true rfl) (Nat.le_of_ble_eq_true rfl) rfl hl.1 rfl (Nat.le_of_ble_eq_true rfl) (pc := 63) dX7_places_63 kk) ?_
        have hj73_4 : ∀ h22 : AH, ∀ ls : Array Slot, lv_has ls 2 [(0, .ref a0)] → SP (X7_places_j73 a0 h22) (ZL P18 E18) (AW (KX7_places l D h0 hE) h22 73 ls ([])) := by
          intro h22 ls hl
          unfold X7_places_j73
          refine sp_m (aw_aload_n (pc := 73) dX7_places_73 rfl (lv_at hl 0 rfl)) ?_
          refine sp_g fun s24 => ?_
          refine sp_b fun p23 ep23 => ?_
          refine sp_m (G' := AW (KX7_places l D h0 hE) p23.2 (77) ls (.int p23.1 :: [])) (fun kk => aw_callV (As := []) (metX7_nextPut _ _ ep23) (rcv_o okX7 s24) rfl mok_X7_nextPut q2017 q2019 qs94 q125 q2020 (Nat.le_of_ble_eq_true rfl) (Nat.le_of_ble_eq_true rfl) rfl hl.1 rfl (Nat.le_of_ble_eq_true rfl) (pc := 74) dX7_places_74 kk) ?_
          refine sp_m (aw_istore_n (lv' := [(1, .int p23.1), (0, .ref a0)]) (pc := 77) dX7_places_77 rfl hl (by decide) rfl) (sp_all fun ls hl => ?_)
          refine sp_m (aw_goto (tgt := 58) (pc := 78) dX7_places_78 (by decide)) ?_
          exact sp_r fun hz => hz ls (lv_sub hl [1, 0] rfl)
        refine sp_if (fun c25 => ?_) (fun c25 => ?_)
        · refine sp_m (aw_if_eq_t (tgt := 73) (pc := 66) dX7_places_66 (by decide) c25) ?_
          exact hj73_4 s18v.2 ls (lv_sub hl [0] rfl)
        · refine sp_m (aw_if_eq_f (tgt := 73) (pc := 66) dX7_places_66 (by decide) c25) ?_
          refine sp_m (aw_aload_n (pc := 69) dX7_places_69 rfl (lv_at hl 0 rfl)) ?_
          refine sp_b fun p26 ep26 => ?_
          refine sp_m (G' := AW (KX7_places l D h0 hE) p26 (73) ls ([])) (fun kk => aw_callV (As := []) (metX7_takesPut _ _ ep26) (rcv_o okX7 s21) rfl mok_X7_takesPut q2013 q2015 qs93 q125 q2016 (Nat.le_of_ble_eq_true rfl) (Nat.le_of_ble_eq_true rfl) rfl hl.1 rfl (Nat.le_of_ble_eq_true rfl) (pc := 70) dX7_places_70 kk) ?_
          exact hj73_4 p26 ls (lv_sub hl [0] rfl)
    · have hl : lv_has ls 2 [] := hl
      show SP _ _ (AW (KX7_places l D h0 hE) r18v 81 ls [])
      exact sp_r fun hz => aw_vret hz rfl rfl rfl (pc := 81) dX7_places_81
theorem mok_X7_out : mOK yX7_out 0 := ⟨⟨by decide +kernel, by decide +kernel⟩, by decide +kernel⟩
abbrev KX7_out (l : Launch) (D : DD) (h0 hE : AH) (v : Int32) : KT := (l, yX7_out, cX7_out, 3, (some .int), RX7, 9, D, h0, hE, .inl (some (.int v)), false, [])
theorem metX7_out (l : Launch) (D : DD) {a0 : Nat} {h0 : AH} {hE : AH} {v : Int32} (hr : fX7_out a0 h0 = some (v, hE)) : AMet (KX7_out l D h0 hE v) [.ref a0] := by
  refine AMet.of (K := (KX7_out l D h0 hE v)) rfl ⟨_, rfl⟩ rfl rfl rfl (Nat.le_of_ble_eq_true rfl) (fun ls hl => ?_)
  have hl : lv_has ls 3 [(0, .ref a0)] := hl
  suffices hsp : SP (fX7_out a0 h0) (fun z => z = (v, hE)) (AW (KX7_out l D h0 hE v) h0 0 ls []) from hsp _ hr rfl
  unfold fX7_out
  refine sp_m (aw_aload_n (pc := 0) dX7_out_0 rfl (lv_at hl 0 rfl)) ?_
  refine sp_m (aw_iconst (v := 0) (pc := 1) dX7_out_1 rfl) ?_
  refine sp_g fun s1 => ?_
  refine sp_t fun h2 eh20 => ?_
  have eh2 : gS h2 = gS h0 := by rw [eh20]; rfl
  refine sp_m (aw_put (k := 0) okX7 opX7 s1 (by decide) q1502 (Or.inl rfl) (Or.inl rfl) (hasV_I' eh20) rfl rfl (pc := 2) dX7_out_2) ?_
  refine sp_m (aw_aload_n (pc := 5) dX7_out_5 rfl (lv_at hl 0 rfl)) ?_
  refine sp_o (fun ex3 => ?_) (fun x3 ex3 => ?_)
  · refine sp_m (aw_get (k := 3) okX7 (uS eh2 s1) (by decide) q1505 (Or.inl rfl) (congrArg va_rf ex3) (pc := 6) dX7_out_6) ?_
    refine sp_m (aw_ifnonnullN (pc := 9) dX7_out_9) ?_
    refine sp_m (aw_aload_n (pc := 12) dX7_out_12 rfl (lv_at hl 0 rfl)) ?_
    refine sp_m (aw_iconst (v := 1) (pc := 13) dX7_out_13 rfl) ?_
    refine sp_b fun p21 ep21 => ?_
    refine sp_m (G' := AW (KX7_out l D h0 hE v) p21.2 (17) ls (.int p21.1 :: [])) (fun kk => aw_callV (As := [.int 1]) (metX7_refused _ _ ep21) (rcv_o okX7 (uS eh2 s1)) rfl mok_X7_refused q1632 q1634 qs50 q125 q1635 (Nat.le_of_ble_eq_true rfl) (Nat.le_of_ble_eq_true rfl) rfl hl.1 rfl (Nat.le_of_ble_eq_true rfl) (pc := 14) dX7_out_14 kk) ?_
    exact sp_r fun hz => aw_iret hz rfl rfl rfl (pc := 17) dX7_out_17
  · refine sp_m (aw_get (k := 3) okX7 (uS eh2 s1) (by decide) q1505 (Or.inl rfl) (congrArg va_rf ex3) (pc := 6) dX7_out_6) ?_
    refine sp_m (aw_ifnonnull (tgt := 18) (pc := 9) dX7_out_9 (by decide)) ?_
    refine sp_m (aw_aload_n (pc := 18) dX7_out_18 rfl (lv_at hl 0 rfl)) ?_
    refine sp_b fun p4 ep4 => ?_
    refine sp_m (G' := AW (KX7_out l D h0 hE v) p4 (22) ls ([])) (fun kk => aw_callV (As := []) (metX7_places _ _ ep4) (rcv_o okX7 (uS eh2 s1)) rfl mok_X7_places q2005 q2007 qs91 q125 q2008 (Nat.le_of_ble_eq_true rfl) (Nat.le_of_ble_eq_true rfl) rfl hl.1 rfl (Nat.le_of_ble_eq_true rfl) (pc := 19) dX7_out_19 kk) ?_
    refine sp_m (aw_iconst (v := 0) (pc := 22) dX7_out_22 rfl) ?_
    refine sp_m (aw_istore_n (lv' := [(1, .int 0), (0, .ref a0)]) (pc := 23) dX7_out_23 rfl hl (by decide) rfl) (sp_all fun ls hl => ?_)
    refine sp_m (aw_iconst (v := 0) (pc := 24) dX7_out_24 rfl) ?_
    refine sp_m (aw_istore_n (lv' := [(2, .int 0), (1, .int 0), (0, .ref a0)]) (pc := 25) dX7_out_25 rfl hl (by decide) rfl) (sp_all fun ls hl => ?_)
    let P5 : Int32 × Int32 → Prop := aLP (KX7_out l D h0 hE v) 3 26 (fun s5v : Int32 × Int32 => [(0, .ref a0), (1, .int s5v.1), (2, .int s5v.2)]) (fun s5v => p4)
    let E5 : Int32 → Prop := aLP (KX7_out l D h0 hE v) 3 75 (fun r5v : Int32 => [(0, .ref a0), (1, .int r5v)]) (fun r5v => p4)
    refine sp_bl (P := P5) (E := E5) (fun s5v => sp_all fun ls hl => ?_) (fun k => k ls (lv_sub hl [2, 1, 0] rfl)) (fun r5v => sp_all fun ls hl => ?_)
    · have hl : lv_has ls 3 [(0, .ref a0), (1, .int s5v.1), (2, .int s5v.2)] := hl
      show SP _ _ (AW (KX7_out l D h0 hE v) p4 26 ls [])
      unfold X7_out_L26
      refine sp_m (aw_iload_n (pc := 26) dX7_out_26 rfl (lv_at hl 2 rfl)) ?_
      refine sp_m (aw_aload_n (pc := 27) dX7_out_27 rfl (lv_at hl 0 rfl)) ?_
      refine sp_g fun s6 => ?_
      refine sp_b fun x7 ex7 => ?_
      refine sp_m (aw_get (k := 3) okX7 s6 (by decide) q1505 (Or.inl rfl) (congrArg va_rf ex7) (pc := 28) dX7_out_28) ?_
      refine sp_g fun s8 => ?_
      refine sp_m (aw_getN (k := 3) okX20 s8 (by decide) nq1645 rfl rfl (pc := 31) dX7_out_31) ?_
      refine sp_if (fun c9 => ?_) (fun c9 => ?_)
      · refine sp_m (aw_icmp_ge_t (tgt := 75) (pc := 34) dX7_out_34 (by decide) c9) ?_
        exact sp_r fun hz => hz ls (lv_sub hl [0, 1] rfl)
      · refine sp_m (aw_icmp_ge_f (tgt := 75) (pc := 34) dX7_out_34 (by decide) c9) ?_
        refine sp_m (aw_iload_n (pc := 37) dX7_out_37 rfl (lv_at hl 1 rfl)) ?_
        refine sp_m (aw_aload_n (pc := 38) dX7_out_38 rfl (lv_at hl 0 rfl)) ?_
        refine sp_m (aw_iload_n (pc := 39) dX7_out_39 rfl (lv_at hl 2 rfl)) ?_
        refine sp_b fun p10 ep10 => ?_
        refine sp_m (G' := AW (KX7_out l D h0 hE v) p4 (43) ls (.int p10 :: .int s5v.1 :: [])) (fun kk => aw_callV (As := [.int s5v.2]) (metX7_isDead _ _ ep10) (rcv_o okX7 s6) rfl mok_X7_isDead q1885 q1887 qs75 q125 q1888 (Nat.le_of_ble_eq_true rfl) (Nat.le_of_ble_eq_true rfl) rfl hl.1 rfl (Nat.le_of_ble_eq_true rfl) (pc := 40) dX7_out_40 kk) ?_
        have hj67_1 : ∀ j11 : Int32, ∀ ls : Array Slot, lv_has ls 3 [(0, .ref a0), (2, .int s5v.2)] → SP (X7_out_j67 s5v j11) (ZL P5 E5) (AW (KX7_out l D h0 hE v) p4 67 ls (.int j11 :: .int s5v.1 :: [])) := by
          intro j11 ls hl
          unfold X7_out_j67
          refine sp_m (aw_iadd (pc := 67) dX7_out_67) ?_
          refine sp_m (aw_istore_n (lv' := [(1, .int (s5v.1 + j11)), (0, .ref a0), (2, .int s5v.2)]) (pc := 68) dX7_out_68 rfl hl (by decide) rfl) (sp_all fun ls hl => ?_)
          refine sp_m (aw_iinc (v := s5v.2 + 1) (lv' := [(2, .int (s5v.2 + 1)), (1, .int (s5v.1 + j11)), (0, .ref a0)]) (pc := 69) dX7_out_69 hl (k := 2) rfl rfl (by decide) rfl) (sp_all fun ls hl => ?_)
          refine sp_m (aw_goto (tgt := 26) (pc := 72) dX7_out_72 (by decide)) ?_
          exact sp_r fun hz => hz ls (lv_sub hl [2, 1, 0] rfl)
        have hj66_2 : ∀ ls : Array Slot, lv_has ls 3 [(0, .ref a0), (2, .int s5v.2)] → SP (X7_out_j66 s5v) (ZL P5 E5) (AW (KX7_out l D h0 hE v) p4 66 ls (.int s5v.1 :: [])) := by
          intro ls hl
          unfold X7_out_j66
          refine sp_m (aw_iconst (v := 0) (pc := 66) dX7_out_66 rfl) ?_
          exact hj67_1 0 ls (lv_sub hl [0, 1] rfl)
        refine sp_if (fun c12 => ?_) (fun c12 => ?_)
        · refine sp_m (aw_if_ne_t (tgt := 66) (pc := 43) dX7_out_43 (by decide) c12) ?_
          exact hj66_2 ls (lv_sub hl [0, 2] rfl)
        · refine sp_m (aw_if_ne_f (tgt := 66) (pc := 43) dX7_out_43 (by decide) (Decidable.not_not.mp c12)) ?_
          refine sp_m (aw_aload_n (pc := 46) dX7_out_46 rfl (lv_at hl 0 rfl)) ?_
          refine sp_b fun x13 ex13 => ?_
          refine sp_m (aw_get (k := 23) okX7 s6 (by decide) q1525 (Or.inl rfl) (congrArg va_rf ex13) (pc := 47) dX7_out_47) ?_
          refine sp_m (aw_iload_n (pc := 50) dX7_out_50 rfl (lv_at hl 2 rfl)) ?_
          refine sp_g fun s14 => ?_
          refine sp_g fun i15 => ?_
          refine sp_m (aw_iald s14 i15 (pc := 51) dX7_out_51) ?_
          refine sp_m (aw_aload_n (pc := 52) dX7_out_52 rfl (lv_at hl 0 rfl)) ?_
          refine sp_b fun x16 ex16 => ?_
          refine sp_m (aw_get (k := 3) okX7 s6 (by decide) q1505 (Or.inl rfl) (congrArg va_rf ex16) (pc := 53) dX7_out_53) ?_
          refine sp_g fun s17 => ?_
          refine sp_m (aw_getN (k := 0) okX20 s17 (by decide) nq1642 rfl rfl (pc := 56) dX7_out_56) ?_
          refine sp_if (fun c18 => ?_) (fun c18 => ?_)
          · refine sp_m (aw_icmp_ne_t (tgt := 66) (pc := 59) dX7_out_59 (by decide) c18) ?_
            exact hj66_2 ls (lv_sub hl [0, 2] rfl)
          · refine sp_m (aw_icmp_ne_f (tgt := 66) (pc := 59) dX7_out_59 (by decide) (Decidable.not_not.mp c18)) ?_
            refine sp_m (aw_iconst (v := 1) (pc := 62) dX7_out_62 rfl) ?_
            refine sp_m (aw_goto (tgt := 67) (pc := 63) dX7_out_63 (by decide)) ?_
            exact hj67_1 1 ls (lv_sub hl [0, 2] rfl)
    · have hl : lv_has ls 3 [(0, .ref a0), (1, .int r5v)] := hl
      show SP _ _ (AW (KX7_out l D h0 hE v) p4 75 ls [])
      refine sp_m (aw_aload_n (pc := 75) dX7_out_75 rfl (lv_at hl 0 rfl)) ?_
      refine sp_m (aw_iload_n (pc := 76) dX7_out_76 rfl (lv_at hl 1 rfl)) ?_
      refine sp_g fun s20 => ?_
      refine sp_b fun p19 ep19 => ?_
      refine sp_m (G' := AW (KX7_out l D h0 hE v) p19.2 (80) ls (.int p19.1 :: [])) (fun kk => aw_callV (As := [.int r5v]) (metX7_good _ _ ep19) (rcv_o okX7 s20) rfl mok_X7_good q1865 q1867 qs73 q125 q1868 (Nat.le_of_ble_eq_true rfl) (Nat.le_of_ble_eq_true rfl) rfl hl.1 rfl (Nat.le_of_ble_eq_true rfl) (pc := 77) dX7_out_77 kk) ?_
      exact sp_r fun hz => aw_iret hz rfl rfl rfl (pc := 80) dX7_out_80
theorem mok_X7_place : mOK yX7_place 1 := ⟨⟨by decide +kernel, by decide +kernel⟩, by decide +kernel⟩
abbrev KX7_place (l : Launch) (D : DD) (h0 hE : AH) (v : Int32) : KT := (l, yX7_place, cX7_place, 2, (some .int), RX7, 9, D, h0, hE, .inl (some (.int v)), false, [])
theorem metX7_place (l : Launch) (D : DD) {a0 : Nat} {a1 : Int32} {h0 : AH} {hE : AH} {v : Int32} (hr : fX7_place a0 a1 h0 = some (v, hE)) : AMet (KX7_place l D h0 hE v) [.ref a0, .int a1] := by
  refine AMet.of (K := (KX7_place l D h0 hE v)) rfl ⟨_, rfl⟩ rfl rfl rfl (Nat.le_of_ble_eq_true rfl) (fun ls hl => ?_)
  have hl : lv_has ls 2 [(0, .ref a0), (1, .int a1)] := hl
  suffices hsp : SP (fX7_place a0 a1 h0) (fun z => z = (v, hE)) (AW (KX7_place l D h0 hE v) h0 0 ls []) from hsp _ hr rfl
  unfold fX7_place
  refine sp_m (aw_aload_n (pc := 0) dX7_place_0 rfl (lv_at hl 0 rfl)) ?_
  refine sp_m (aw_iconst (v := 0) (pc := 1) dX7_place_1 rfl) ?_
  refine sp_g fun s1 => ?_
  refine sp_t fun h2 eh20 => ?_
  have eh2 : gS h2 = gS h0 := by rw [eh20]; rfl
  refine sp_m (aw_put (k := 0) okX7 opX7 s1 (by decide) q1502 (Or.inl rfl) (Or.inl rfl) (hasV_I' eh20) rfl rfl (pc := 2) dX7_place_2) ?_
  refine sp_m (aw_aload_n (pc := 5) dX7_place_5 rfl (lv_at hl 0 rfl)) ?_
  refine sp_m (aw_iload_n (pc := 6) dX7_place_6 rfl (lv_at hl 1 rfl)) ?_
  refine sp_b fun p3 ep3 => ?_
  refine sp_m (G' := AW (KX7_place l D h0 hE v) h2 (10) ls (.int p3 :: [])) (fun kk => aw_callV (As := [.int a1]) (metX7_isBeast _ _ ep3) (rcv_o okX7 (uS eh2 s1)) rfl mok_X7_isBeast q1893 q1895 qs76 q125 q1896 (Nat.le_of_ble_eq_true rfl) (Nat.le_of_ble_eq_true rfl) rfl hl.1 rfl (Nat.le_of_ble_eq_true rfl) (pc := 7) dX7_place_7 kk) ?_
  refine sp_if (fun c4 => ?_) (fun c4 => ?_)
  · refine sp_m (aw_if_ne_t (tgt := 19) (pc := 10) dX7_place_10 (by decide) c4) ?_
    refine sp_m (aw_aload_n (pc := 19) dX7_place_19 rfl (lv_at hl 0 rfl)) ?_
    refine sp_b fun p5 ep5 => ?_
    refine sp_m (G' := AW (KX7_place l D h0 hE v) p5 (23) ls ([])) (fun kk => aw_callV (As := []) (metX7_places _ _ ep5) (rcv_o okX7 (uS eh2 s1)) rfl mok_X7_places q2005 q2007 qs91 q125 q2008 (Nat.le_of_ble_eq_true rfl) (Nat.le_of_ble_eq_true rfl) rfl hl.1 rfl (Nat.le_of_ble_eq_true rfl) (pc := 20) dX7_place_20 kk) ?_
    refine sp_m (aw_aload_n (pc := 23) dX7_place_23 rfl (lv_at hl 0 rfl)) ?_
    refine sp_m (aw_aload_n (pc := 24) dX7_place_24 rfl (lv_at hl 0 rfl)) ?_
    refine sp_g fun s6 => ?_
    refine sp_b fun x7 ex7 => ?_
    refine sp_m (aw_get (k := 23) okX7 s6 (by decide) q1525 (Or.inl rfl) (congrArg va_rf ex7) (pc := 25) dX7_place_25) ?_
    refine sp_m (aw_iload_n (pc := 28) dX7_place_28 rfl (lv_at hl 1 rfl)) ?_
    refine sp_g fun s8 => ?_
    refine sp_g fun i9 => ?_
    refine sp_m (aw_iald s8 i9 (pc := 29) dX7_place_29) ?_
    refine sp_m (aw_aload_n (pc := 30) dX7_place_30 rfl (lv_at hl 0 rfl)) ?_
    refine sp_b fun x10 ex10 => ?_
    refine sp_m (aw_get (k := 3) okX7 s6 (by decide) q1505 (Or.inl rfl) (congrArg va_rf ex10) (pc := 31) dX7_place_31) ?_
    refine sp_g fun s11 => ?_
    refine sp_m (aw_getN (k := 0) okX20 s11 (by decide) nq1642 rfl rfl (pc := 34) dX7_place_34) ?_
    have hj51_1 : ∀ j12 : Int32, ∀ ls : Array Slot, lv_has ls 2 [] → SP (X7_place_j51 a0 p5 j12) (fun z => z = (v, hE)) (AW (KX7_place l D h0 hE v) p5 51 ls (.int j12 :: .ref a0 :: [])) := by
      intro j12 ls hl
      unfold X7_place_j51
      refine sp_b fun p13 ep13 => ?_
      refine sp_m (G' := AW (KX7_place l D h0 hE v) p13.2 (54) ls (.int p13.1 :: [])) (fun kk => aw_callV (As := [.int j12]) (metX7_good _ _ ep13) (rcv_o okX7 s6) rfl mok_X7_good q1865 q1867 qs73 q125 q1868 (Nat.le_of_ble_eq_true rfl) (Nat.le_of_ble_eq_true rfl) rfl hl.1 rfl (Nat.le_of_ble_eq_true rfl) (pc := 51) dX7_place_51 kk) ?_
      exact sp_r fun hz => aw_iret hz rfl rfl rfl (pc := 54) dX7_place_54
    refine sp_if (fun c14 => ?_) (fun c14 => ?_)
    · refine sp_m (aw_icmp_ne_t (tgt := 45) (pc := 37) dX7_place_37 (by decide) c14) ?_
      refine sp_m (aw_aload_n (pc := 45) dX7_place_45 rfl (lv_at hl 0 rfl)) ?_
      refine sp_b fun x15 ex15 => ?_
      refine sp_m (aw_get (k := 23) okX7 s6 (by decide) q1525 (Or.inl rfl) (congrArg va_rf ex15) (pc := 46) dX7_place_46) ?_
      refine sp_m (aw_iload_n (pc := 49) dX7_place_49 rfl (lv_at hl 1 rfl)) ?_
      refine sp_g fun s16 => ?_
      refine sp_g fun i17 => ?_
      refine sp_m (aw_iald s16 i17 (pc := 50) dX7_place_50) ?_
      exact hj51_1 (gI p5 x15 (ix a1)) ls (lv_sub hl [] rfl)
    · refine sp_m (aw_icmp_ne_f (tgt := 45) (pc := 37) dX7_place_37 (by decide) (Decidable.not_not.mp c14)) ?_
      refine sp_m (aw_bipush (v := (-2)) (pc := 40) dX7_place_40 rfl) ?_
      refine sp_m (aw_goto (tgt := 51) (pc := 42) dX7_place_42 (by decide)) ?_
      exact hj51_1 (-2) ls (lv_sub hl [] rfl)
  · refine sp_m (aw_if_ne_f (tgt := 19) (pc := 10) dX7_place_10 (by decide) (Decidable.not_not.mp c4)) ?_
    refine sp_m (aw_aload_n (pc := 13) dX7_place_13 rfl (lv_at hl 0 rfl)) ?_
    refine sp_m (aw_iconst (v := 1) (pc := 14) dX7_place_14 rfl) ?_
    refine sp_b fun p18 ep18 => ?_
    refine sp_m (G' := AW (KX7_place l D h0 hE v) p18.2 (18) ls (.int p18.1 :: [])) (fun kk => aw_callV (As := [.int 1]) (metX7_refused _ _ ep18) (rcv_o okX7 (uS eh2 s1)) rfl mok_X7_refused q1632 q1634 qs50 q125 q1635 (Nat.le_of_ble_eq_true rfl) (Nat.le_of_ble_eq_true rfl) rfl hl.1 rfl (Nat.le_of_ble_eq_true rfl) (pc := 15) dX7_place_15 kk) ?_
    exact sp_r fun hz => aw_iret hz rfl rfl rfl (pc := 18) dX7_place_18
theorem mok_X7_lost : mOK yX7_lost 1 := ⟨⟨by decide +kernel, by decide +kernel⟩, by decide +kernel⟩
abbrev KX7_lost (l : Launch) (D : DD) (h0 hE : AH) (v : Int64) : KT := (l, yX7_lost, cX7_lost, 2, (some .long), RX7, 2, D, h0, hE, .inl (some (.long v)), false, [])
theorem metX7_lost (l : Launch) (D : DD) {a0 : Nat} {a1 : Int32} {h0 : AH} {hE : AH} {v : Int64} (hr : fX7_lost a0 a1 h0 = some (v, hE)) : AMet (KX7_lost l D h0 hE v) [.ref a0, .int a1] := by
  refine AMet.of (K := (KX7_lost l D h0 hE v)) rfl ⟨_, rfl⟩ rfl rfl rfl (Nat.le_of_ble_eq_true rfl) (fun ls hl => ?_)
  have hl : lv_has ls 2 [(0, .ref a0), (1, .int a1)] := hl
  suffices hsp : SP (fX7_lost a0 a1 h0) (fun z => z = (v, hE)) (AW (KX7_lost l D h0 hE v) h0 0 ls []) from hsp _ hr rfl
  unfold fX7_lost
  refine sp_m (aw_aload_n (pc := 0) dX7_lost_0 rfl (lv_at hl 0 rfl)) ?_
  refine sp_m (aw_iload_n (pc := 1) dX7_lost_1 rfl (lv_at hl 1 rfl)) ?_
  refine sp_g fun s2 => ?_
  refine sp_b fun p1 ep1 => ?_
  refine sp_m (G' := AW (KX7_lost l D h0 hE v) p1.2 (5) ls (.int p1.1 :: [])) (fun kk => aw_callV (As := [.int a1]) (metX7_refused _ _ ep1) (rcv_o okX7 s2) rfl mok_X7_refused q1632 q1634 qs50 q125 q1635 (Nat.le_of_ble_eq_true rfl) (Nat.le_of_ble_eq_true rfl) rfl hl.1 rfl (Nat.le_of_ble_eq_true rfl) (pc := 2) dX7_lost_2 kk) ?_
  refine sp_m (aw_pop (pc := 5) dX7_lost_5 rfl) ?_
  refine sp_m (aw_ldc2 q1968 (pc := 6) dX7_lost_6) ?_
  exact sp_r fun hz => aw_lret hz rfl rfl rfl (pc := 9) dX7_lost_9
theorem mok_X7_placed : mOK yX7_placed 1 := ⟨⟨by decide +kernel, by decide +kernel⟩, by decide +kernel⟩
abbrev KX7_placed (l : Launch) (D : DD) (h0 hE : AH) (v : Int64) : KT := (l, yX7_placed, cX7_placed, 2, (some .long), RX7, 9, D, h0, hE, .inl (some (.long v)), false, [])
theorem metX7_placed (l : Launch) (D : DD) {a0 : Nat} {a1 : Int32} {h0 : AH} {hE : AH} {v : Int64} (hr : fX7_placed a0 a1 h0 = some (v, hE)) : AMet (KX7_placed l D h0 hE v) [.ref a0, .int a1] := by
  refine AMet.of (K := (KX7_placed l D h0 hE v)) rfl ⟨_, rfl⟩ rfl rfl rfl (Nat.le_of_ble_eq_true rfl) (fun ls hl => ?_)
  have hl : lv_has ls 2 [(0, .ref a0), (1, .int a1)] := hl
  suffices hsp : SP (fX7_placed a0 a1 h0) (fun z => z = (v, hE)) (AW (KX7_placed l D h0 hE v) h0 0 ls []) from hsp _ hr rfl
  unfold fX7_placed
  refine sp_m (aw_aload_n (pc := 0) dX7_placed_0 rfl (lv_at hl 0 rfl)) ?_
  refine sp_m (aw_iconst (v := 0) (pc := 1) dX7_placed_1 rfl) ?_
  refine sp_g fun s1 => ?_
  refine sp_t fun h2 eh20 => ?_
  have eh2 : gS h2 = gS h0 := by rw [eh20]; rfl
  refine sp_m (aw_put (k := 0) okX7 opX7 s1 (by decide) q1502 (Or.inl rfl) (Or.inl rfl) (hasV_I' eh20) rfl rfl (pc := 2) dX7_placed_2) ?_
  refine sp_m (aw_aload_n (pc := 5) dX7_placed_5 rfl (lv_at hl 0 rfl)) ?_
  refine sp_o (fun ex3 => ?_) (fun x3 ex3 => ?_)
  · refine sp_m (aw_get (k := 3) okX7 (uS eh2 s1) (by decide) q1505 (Or.inl rfl) (congrArg va_rf ex3) (pc := 6) dX7_placed_6) ?_
    refine sp_m (aw_ifnonnullN (pc := 9) dX7_placed_9) ?_
    refine sp_m (aw_aload_n (pc := 12) dX7_placed_12 rfl (lv_at hl 0 rfl)) ?_
    refine sp_m (aw_iconst (v := 1) (pc := 13) dX7_placed_13 rfl) ?_
    refine sp_b fun p8 ep8 => ?_
    refine sp_m (G' := AW (KX7_placed l D h0 hE v) p8.2 (17) ls (.long p8.1 :: [])) (fun kk => aw_callV (As := [.int 1]) (metX7_lost _ _ ep8) (rcv_o okX7 (uS eh2 s1)) rfl mok_X7_lost q1964 q1966 qs88 q125 q1967 (Nat.le_of_ble_eq_true rfl) (Nat.le_of_ble_eq_true rfl) rfl hl.1 rfl (Nat.le_of_ble_eq_true rfl) (pc := 14) dX7_placed_14 kk) ?_
    exact sp_r fun hz => aw_lret hz rfl rfl rfl (pc := 17) dX7_placed_17
  · refine sp_m (aw_get (k := 3) okX7 (uS eh2 s1) (by decide) q1505 (Or.inl rfl) (congrArg va_rf ex3) (pc := 6) dX7_placed_6) ?_
    refine sp_m (aw_ifnonnull (tgt := 18) (pc := 9) dX7_placed_9 (by decide)) ?_
    refine sp_m (aw_aload_n (pc := 18) dX7_placed_18 rfl (lv_at hl 0 rfl)) ?_
    refine sp_b fun p4 ep4 => ?_
    refine sp_m (G' := AW (KX7_placed l D h0 hE v) p4 (22) ls ([])) (fun kk => aw_callV (As := []) (metX7_places _ _ ep4) (rcv_o okX7 (uS eh2 s1)) rfl mok_X7_places q2005 q2007 qs91 q125 q2008 (Nat.le_of_ble_eq_true rfl) (Nat.le_of_ble_eq_true rfl) rfl hl.1 rfl (Nat.le_of_ble_eq_true rfl) (pc := 19) dX7_placed_19 kk) ?_
    refine sp_m (aw_aload_n (pc := 22) dX7_placed_22 rfl (lv_at hl 0 rfl)) ?_
    refine sp_m (aw_aload_n (pc := 23) dX7_placed_23 rfl (lv_at hl 0 rfl)) ?_
    refine sp_g fun s5 => ?_
    refine sp_m (aw_get (k := 24) okX7 s5 (by decide) q1526 (Or.inl rfl) rfl (pc := 24) dX7_placed_24) ?_
    refine sp_m (aw_aload_n (pc := 27) dX7_placed_27 rfl (lv_at hl 0 rfl)) ?_
    refine sp_b fun p6 ep6 => ?_
    refine sp_m (G' := AW (KX7_placed l D h0 hE v) p4 (31) ls (.long p6 :: .long (gL p4 a0 24) :: .ref a0 :: [])) (fun kk => aw_callV (As := []) (metX7_whole _ _ ep6) (rcv_o okX7 s5) rfl mok_X7_whole q1920 q1922 qs81 q125 q1923 (Nat.le_of_ble_eq_true rfl) (Nat.le_of_ble_eq_true rfl) rfl hl.1 rfl (Nat.le_of_ble_eq_true rfl) (pc := 28) dX7_placed_28 kk) ?_
    refine sp_m (aw_iload_n (pc := 31) dX7_placed_31 rfl (lv_at hl 1 rfl)) ?_
    refine sp_b fun p7 ep7 => ?_
    refine sp_m (G' := AW (KX7_placed l D h0 hE v) p7.2 (35) ls (.long p7.1 :: [])) (fun kk => aw_callV (As := [.long (gL p4 a0 24), .long p6, .int a1]) (metX7_fraction _ _ ep7) (rcv_o okX7 s5) rfl mok_X7_fraction q1925 q1927 qs82 q125 q1928 (Nat.le_of_ble_eq_true rfl) (Nat.le_of_ble_eq_true rfl) rfl hl.1 rfl (Nat.le_of_ble_eq_true rfl) (pc := 32) dX7_placed_32 kk) ?_
    exact sp_r fun hz => aw_lret hz rfl rfl rfl (pc := 35) dX7_placed_35
theorem mok_X7_rain : mOK yX7_rain 1 := ⟨⟨by decide +kernel, by decide +kernel⟩, by decide +kernel⟩
abbrev KX7_rain (l : Launch) (D : DD) (h0 hE : AH) (v : Int32) : KT := (l, yX7_rain, cX7_rain, 2, (some .boolean), RX7, 3, D, h0, hE, .inl (some (.int v)), false, [])
theorem metX7_rain (l : Launch) (D : DD) {a0 : Nat} {a1 : Int32} {h0 : AH} {hE : AH} {v : Int32} (hr : fX7_rain a0 a1 h0 = some (v, hE)) : AMet (KX7_rain l D h0 hE v) [.ref a0, .int a1] := by
  refine AMet.of (K := (KX7_rain l D h0 hE v)) rfl ⟨_, rfl⟩ rfl rfl rfl (Nat.le_of_ble_eq_true rfl) (fun ls hl => ?_)
  have hl : lv_has ls 2 [(0, .ref a0), (1, .int a1)] := hl
  suffices hsp : SP (fX7_rain a0 a1 h0) (fun z => z = (v, hE)) (AW (KX7_rain l D h0 hE v) h0 0 ls []) from hsp _ hr rfl
  unfold fX7_rain
  refine sp_m (aw_aload_n (pc := 0) dX7_rain_0 rfl (lv_at hl 0 rfl)) ?_
  refine sp_m (aw_iconst (v := 0) (pc := 1) dX7_rain_1 rfl) ?_
  refine sp_g fun s1 => ?_
  refine sp_t fun h2 eh20 => ?_
  have eh2 : gS h2 = gS h0 := by rw [eh20]; rfl
  refine sp_m (aw_put (k := 0) okX7 opX7 s1 (by decide) q1502 (Or.inl rfl) (Or.inl rfl) (hasV_I' eh20) rfl rfl (pc := 2) dX7_rain_2) ?_
  refine sp_m (aw_aload_n (pc := 5) dX7_rain_5 rfl (lv_at hl 0 rfl)) ?_
  refine sp_o (fun ex3 => ?_) (fun x3 ex3 => ?_)
  · refine sp_m (aw_get (k := 3) okX7 (uS eh2 s1) (by decide) q1505 (Or.inl rfl) (congrArg va_rf ex3) (pc := 6) dX7_rain_6) ?_
    refine sp_m (aw_ifnonnullN (pc := 9) dX7_rain_9) ?_
    refine sp_m (aw_aload_n (pc := 12) dX7_rain_12 rfl (lv_at hl 0 rfl)) ?_
    refine sp_m (aw_iconst (v := 1) (pc := 13) dX7_rain_13 rfl) ?_
    refine sp_b fun p22 ep22 => ?_
    refine sp_m (G' := AW (KX7_rain l D h0 hE v) p22.2 (17) ls (.int p22.1 :: [])) (fun kk => aw_callV (As := [.int 1]) (metX7_denied _ _ ep22) (rcv_o okX7 (uS eh2 s1)) rfl mok_X7_denied q2187 q2189 qs112 q125 q2190 (Nat.le_of_ble_eq_true rfl) (Nat.le_of_ble_eq_true rfl) rfl hl.1 rfl (Nat.le_of_ble_eq_true rfl) (pc := 14) dX7_rain_14 kk) ?_
    refine sp_g fun g23 => ?_
    exact sp_r fun hz => aw_zret (nar_b g23) hz rfl rfl rfl (pc := 17) dX7_rain_17
  · refine sp_m (aw_get (k := 3) okX7 (uS eh2 s1) (by decide) q1505 (Or.inl rfl) (congrArg va_rf ex3) (pc := 6) dX7_rain_6) ?_
    refine sp_m (aw_ifnonnull (tgt := 18) (pc := 9) dX7_rain_9 (by decide)) ?_
    refine sp_m (aw_aload_n (pc := 18) dX7_rain_18 rfl (lv_at hl 0 rfl)) ?_
    refine sp_b fun x4 ex4 => ?_
    refine sp_m (aw_get (k := 16) okX7 (uS eh2 s1) (by decide) q1518 (Or.inl rfl) (congrArg va_rf ex4) (pc := 19) dX7_rain_19) ?_
    refine sp_m (aw_bipush (v := 17) (pc := 22) dX7_rain_22 rfl) ?_
    refine sp_g fun s5 => ?_
    refine sp_g fun i6 => ?_
    refine sp_m (aw_iald s5 i6 (pc := 24) dX7_rain_24) ?_
    refine sp_m (aw_iconst (v := 1) (pc := 25) dX7_rain_25 rfl) ?_
    have hj34_1 : ∀ j7 : Int32, ∀ ls : Array Slot, lv_has ls 2 [(0, .ref a0), (1, .int a1)] → SP (X7_rain_j34 a0 a1 h2 j7) (fun z => z = (v, hE)) (AW (KX7_rain l D h0 hE v) h2 34 ls (.int j7 :: [])) := by
      intro j7 ls hl
      unfold X7_rain_j34
      refine sp_m (aw_iload_n (pc := 34) dX7_rain_34 rfl (lv_at hl 1 rfl)) ?_
      refine sp_if (fun c8 => ?_) (fun c8 => ?_)
      · refine sp_m (aw_icmp_ne_t (tgt := 44) (pc := 35) dX7_rain_35 (by decide) c8) ?_
        refine sp_m (aw_aload_n (pc := 44) dX7_rain_44 rfl (lv_at hl 0 rfl)) ?_
        refine sp_b fun p9 ep9 => ?_
        refine sp_m (G' := AW (KX7_rain l D h0 hE v) p9 (48) ls ([])) (fun kk => aw_callV (As := []) (metX7_remembers _ _ ep9) (rcv_o okX7 (uS eh2 s1)) rfl mok_X7_remembers q2191 q2193 qs113 q125 q2194 (Nat.le_of_ble_eq_true rfl) (Nat.le_of_ble_eq_true rfl) rfl hl.1 rfl (Nat.le_of_ble_eq_true rfl) (pc := 45) dX7_rain_45 kk) ?_
        refine sp_m (aw_aload_n (pc := 48) dX7_rain_48 rfl (lv_at hl 0 rfl)) ?_
        refine sp_g fun s10 => ?_
        refine sp_b fun x11 ex11 => ?_
        refine sp_m (aw_get (k := 16) okX7 s10 (by decide) q1518 (Or.inl rfl) (congrArg va_rf ex11) (pc := 49) dX7_rain_49) ?_
        refine sp_m (aw_bipush (v := 17) (pc := 52) dX7_rain_52 rfl) ?_
        refine sp_m (aw_iload_n (pc := 54) dX7_rain_54 rfl (lv_at hl 1 rfl)) ?_
        have hj63_2 : ∀ j12 : Int32, ∀ ls : Array Slot, lv_has ls 2 [(0, .ref a0)] → SP (X7_rain_j63 a0 p9 x11 j12) (fun z => z = (v, hE)) (AW (KX7_rain l D h0 hE v) p9 63 ls (.int j12 :: .int 17 :: .ref x11 :: [])) := by
          intro j12 ls hl
          unfold X7_rain_j63
          refine sp_g fun s13 => ?_
          refine sp_g fun i14 => ?_
          refine sp_t fun h15 eh150 => ?_
          have eh15 : gS h15 = gS p9 := by rw [eh150]; rfl
          refine sp_m (fun kk => aw_iast s13 i14 (pc := 63) dX7_rain_63 (AWe eh150 kk)) ?_
          refine sp_m (aw_aload_n (pc := 64) dX7_rain_64 rfl (lv_at hl 0 rfl)) ?_
          refine sp_b fun p16 ep16 => ?_
          refine sp_m (G' := AW (KX7_rain l D h0 hE v) p16.2 (68) ls (.int p16.1 :: [])) (fun kk => aw_callV (As := []) (metX7_granted _ _ ep16) (rcv_o okX7 (uS eh15 s10)) rfl mok_X7_granted q2195 q2197 qs114 q125 q2198 (Nat.le_of_ble_eq_true rfl) (Nat.le_of_ble_eq_true rfl) rfl hl.1 rfl (Nat.le_of_ble_eq_true rfl) (pc := 65) dX7_rain_65 kk) ?_
          refine sp_g fun g17 => ?_
          exact sp_r fun hz => aw_zret (nar_b g17) hz rfl rfl rfl (pc := 68) dX7_rain_68
        refine sp_if (fun c18 => ?_) (fun c18 => ?_)
        · refine sp_m (aw_if_eq_t (tgt := 62) (pc := 55) dX7_rain_55 (by decide) c18) ?_
          refine sp_m (aw_iconst (v := 0) (pc := 62) dX7_rain_62 rfl) ?_
          exact hj63_2 0 ls (lv_sub hl [0] rfl)
        · refine sp_m (aw_if_eq_f (tgt := 62) (pc := 55) dX7_rain_55 (by decide) c18) ?_
          refine sp_m (aw_iconst (v := 1) (pc := 58) dX7_rain_58 rfl) ?_
          refine sp_m (aw_goto (tgt := 63) (pc := 59) dX7_rain_59 (by decide)) ?_
          exact hj63_2 1 ls (lv_sub hl [0] rfl)
      · refine sp_m (aw_icmp_ne_f (tgt := 44) (pc := 35) dX7_rain_35 (by decide) (Decidable.not_not.mp c8)) ?_
        refine sp_m (aw_aload_n (pc := 38) dX7_rain_38 rfl (lv_at hl 0 rfl)) ?_
        refine sp_m (aw_iconst (v := 5) (pc := 39) dX7_rain_39 rfl) ?_
        refine sp_b fun p19 ep19 => ?_
        refine sp_m (G' := AW (KX7_rain l D h0 hE v) p19.2 (43) ls (.int p19.1 :: [])) (fun kk => aw_callV (As := [.int 5]) (metX7_denied _ _ ep19) (rcv_o okX7 (uS eh2 s1)) rfl mok_X7_denied q2187 q2189 qs112 q125 q2190 (Nat.le_of_ble_eq_true rfl) (Nat.le_of_ble_eq_true rfl) rfl hl.1 rfl (Nat.le_of_ble_eq_true rfl) (pc := 40) dX7_rain_40 kk) ?_
        refine sp_g fun g20 => ?_
        exact sp_r fun hz => aw_zret (nar_b g20) hz rfl rfl rfl (pc := 43) dX7_rain_43
    refine sp_if (fun c21 => ?_) (fun c21 => ?_)
    · refine sp_m (aw_icmp_ne_t (tgt := 33) (pc := 26) dX7_rain_26 (by decide) c21) ?_
      refine sp_m (aw_iconst (v := 0) (pc := 33) dX7_rain_33 rfl) ?_
      exact hj34_1 0 ls (lv_sub hl [0, 1] rfl)
    · refine sp_m (aw_icmp_ne_f (tgt := 33) (pc := 26) dX7_rain_26 (by decide) (Decidable.not_not.mp c21)) ?_
      refine sp_m (aw_iconst (v := 1) (pc := 29) dX7_rain_29 rfl) ?_
      refine sp_m (aw_goto (tgt := 34) (pc := 30) dX7_rain_30 (by decide)) ?_
      exact hj34_1 1 ls (lv_sub hl [0, 1] rfl)
theorem mok_X7_reach : mOK yX7_reach 1 := ⟨⟨by decide +kernel, by decide +kernel⟩, by decide +kernel⟩
abbrev KX7_reach (l : Launch) (D : DD) (h0 hE : AH) (v : Int32) : KT := (l, yX7_reach, cX7_reach, 7, (some .int), RX7, 2, D, h0, hE, .inl (some (.int v)), false, [])
theorem metX7_reach (l : Launch) (D : DD) {a0 : Nat} {a1 : Int32} {h0 : AH} {hE : AH} {v : Int32} (hr : fX7_reach a0 a1 h0 = some (v, hE)) : AMet (KX7_reach l D h0 hE v) [.ref a0, .int a1] := by
  refine AMet.of (K := (KX7_reach l D h0 hE v)) rfl ⟨_, rfl⟩ rfl rfl rfl (Nat.le_of_ble_eq_true rfl) (fun ls hl => ?_)
  have hl : lv_has ls 7 [(0, .ref a0), (1, .int a1)] := hl
  suffices hsp : SP (fX7_reach a0 a1 h0) (fun z => z = (v, hE)) (AW (KX7_reach l D h0 hE v) h0 0 ls []) from hsp _ hr rfl
  unfold fX7_reach
  refine sp_m (aw_aload_n (pc := 0) dX7_reach_0 rfl (lv_at hl 0 rfl)) ?_
  refine sp_m (aw_iconst (v := 0) (pc := 1) dX7_reach_1 rfl) ?_
  refine sp_g fun s1 => ?_
  refine sp_t fun h2 eh20 => ?_
  have eh2 : gS h2 = gS h0 := by rw [eh20]; rfl
  refine sp_m (aw_put (k := 0) okX7 opX7 s1 (by decide) q1502 (Or.inl rfl) (Or.inl rfl) (hasV_I' eh20) rfl rfl (pc := 2) dX7_reach_2) ?_
  refine sp_m (aw_aload_n (pc := 5) dX7_reach_5 rfl (lv_at hl 0 rfl)) ?_
  refine sp_m (aw_iload_n (pc := 6) dX7_reach_6 rfl (lv_at hl 1 rfl)) ?_
  refine sp_b fun p3 ep3 => ?_
  refine sp_m (G' := AW (KX7_reach l D h0 hE v) h2 (10) ls (.int p3 :: [])) (fun kk => aw_callV (As := [.int a1]) (metX7_isCity _ _ ep3) (rcv_o okX7 (uS eh2 s1)) rfl mok_X7_isCity q2084 q2086 qs101 q125 q2087 (Nat.le_of_ble_eq_true rfl) (Nat.le_of_ble_eq_true rfl) rfl hl.1 rfl (Nat.le_of_ble_eq_true rfl) (pc := 7) dX7_reach_7 kk) ?_
  refine sp_if (fun c4 => ?_) (fun c4 => ?_)
  · refine sp_m (aw_if_ne_t (tgt := 19) (pc := 10) dX7_reach_10 (by decide) c4) ?_
    refine sp_m (aw_iconst (v := 1) (pc := 19) dX7_reach_19 rfl) ?_
    refine sp_m (aw_iload_n (pc := 20) dX7_reach_20 rfl (lv_at hl 1 rfl)) ?_
    refine sp_m (aw_ishl (pc := 21) dX7_reach_21) ?_
    refine sp_m (aw_istore_n (lv' := [(2, .int (1 <<< (a1 &&& 31))), (0, .ref a0), (1, .int a1)]) (pc := 22) dX7_reach_22 rfl hl (by decide) rfl) (sp_all fun ls hl => ?_)
    refine sp_m (aw_iconst (v := 0) (pc := 23) dX7_reach_23 rfl) ?_
    refine sp_m (aw_istore_n (lv' := [(3, .int 0), (2, .int (1 <<< (a1 &&& 31))), (0, .ref a0), (1, .int a1)]) (pc := 24) dX7_reach_24 rfl hl (by decide) rfl) (sp_all fun ls hl => ?_)
    let P5 : Int32 × Int32 → Prop := aLP (KX7_reach l D h0 hE v) 7 25 (fun s5v : Int32 × Int32 => [(0, .ref a0), (2, .int s5v.1), (3, .int s5v.2)]) (fun s5v => h2)
    let E5 : Int32 → Prop := aLP (KX7_reach l D h0 hE v) 7 121 (fun r5v : Int32 => [(0, .ref a0), (2, .int r5v)]) (fun r5v => h2)
    refine sp_bl (P := P5) (E := E5) (fun s5v => sp_all fun ls hl => ?_) (fun k => k ls (lv_sub hl [2, 1, 0] rfl)) (fun r5v => sp_all fun ls hl => ?_)
    · have hl : lv_has ls 7 [(0, .ref a0), (2, .int s5v.1), (3, .int s5v.2)] := hl
      show SP _ _ (AW (KX7_reach l D h0 hE v) h2 25 ls [])
      unfold X7_reach_L25
      refine sp_m (aw_iload_n (pc := 25) dX7_reach_25 rfl (lv_at hl 2 rfl)) ?_
      refine sp_m (aw_bipush (v := 6) (pc := 26) dX7_reach_26 rfl) ?_
      refine sp_if (fun c6 => ?_) (fun c6 => ?_)
      · refine sp_m (aw_icmp_ge_t (tgt := 121) (pc := 28) dX7_reach_28 (by decide) c6) ?_
        exact sp_r fun hz => hz ls (lv_sub hl [0, 1] rfl)
      · refine sp_m (aw_icmp_ge_f (tgt := 121) (pc := 28) dX7_reach_28 (by decide) c6) ?_
        refine sp_m (aw_iconst (v := 0) (pc := 31) dX7_reach_31 rfl) ?_
        refine sp_m (aw_istore (lv' := [(4, .int 0), (0, .ref a0), (2, .int s5v.1), (3, .int s5v.2)]) (pc := 32) dX7_reach_32 hl (by decide) rfl) (sp_all fun ls hl => ?_)
        let P7 : Int32 × Int32 → Prop := aLP (KX7_reach l D h0 hE v) 7 34 (fun s7v : Int32 × Int32 => [(0, .ref a0), (2, .int s7v.1), (3, .int s5v.2), (4, .int s7v.2)]) (fun s7v => h2)
        let E7 : Int32 → Prop := aLP (KX7_reach l D h0 hE v) 7 115 (fun r7v : Int32 => [(0, .ref a0), (2, .int r7v), (3, .int s5v.2)]) (fun r7v => h2)
        refine sp_bl (P := P7) (E := E7) (fun s7v => sp_all fun ls hl => ?_) (fun k => k ls (lv_sub hl [1, 2, 3, 0] rfl)) (fun r7v => sp_all fun ls hl => ?_)
        · have hl : lv_has ls 7 [(0, .ref a0), (2, .int s7v.1), (3, .int s5v.2), (4, .int s7v.2)] := hl
          show SP _ _ (AW (KX7_reach l D h0 hE v) h2 34 ls [])
          unfold X7_reach_L34
          refine sp_m (aw_iload (pc := 34) dX7_reach_34 (lv_at hl 3 rfl)) ?_
          refine sp_m (aw_bipush (v := 36) (pc := 36) dX7_reach_36 rfl) ?_
          refine sp_if (fun c8 => ?_) (fun c8 => ?_)
          · refine sp_m (aw_icmp_ge_t (tgt := 115) (pc := 38) dX7_reach_38 (by decide) c8) ?_
            exact sp_r fun hz => hz ls (lv_sub hl [0, 1, 2] rfl)
          · refine sp_m (aw_icmp_ge_f (tgt := 115) (pc := 38) dX7_reach_38 (by decide) c8) ?_
            refine sp_m (aw_iload (pc := 41) dX7_reach_41 (lv_at hl 3 rfl)) ?_
            refine sp_m (aw_bipush (v := 6) (pc := 43) dX7_reach_43 rfl) ?_
            refine sp_m (aw_idiv (pc := 45) dX7_reach_45 (by decide)) ?_
            refine sp_m (aw_istore (lv' := [(5, .int (s7v.2 / 6)), (0, .ref a0), (2, .int s7v.1), (3, .int s5v.2), (4, .int s7v.2)]) (pc := 46) dX7_reach_46 hl (by decide) rfl) (sp_all fun ls hl => ?_)
            refine sp_m (aw_iload (pc := 48) dX7_reach_48 (lv_at hl 4 rfl)) ?_
            refine sp_m (aw_bipush (v := 6) (pc := 50) dX7_reach_50 rfl) ?_
            refine sp_m (aw_irem (pc := 52) dX7_reach_52 (by decide)) ?_
            refine sp_m (aw_istore (lv' := [(6, .int (s7v.2 - s7v.2 / 6 * 6)), (5, .int (s7v.2 / 6)), (0, .ref a0), (2, .int s7v.1), (3, .int s5v.2), (4, .int s7v.2)]) (pc := 53) dX7_reach_53 hl (by decide) rfl) (sp_all fun ls hl => ?_)
            refine sp_m (aw_iload (pc := 55) dX7_reach_55 (lv_at hl 1 rfl)) ?_
            refine sp_m (aw_aload_n (pc := 57) dX7_reach_57 rfl (lv_at hl 2 rfl)) ?_
            refine sp_b fun x9 ex9 => ?_
            refine sp_m (aw_get (k := 3) okX7 (uS eh2 s1) (by decide) q1505 (Or.inl rfl) (congrArg va_rf ex9) (pc := 58) dX7_reach_58) ?_
            refine sp_g fun s10 => ?_
            refine sp_m (aw_getN (k := 4) okX20 s10 (by decide) nq1646 rfl rfl (pc := 61) dX7_reach_61) ?_
            have hj109_1 : ∀ j11 : Int32, ∀ ls : Array Slot, lv_has ls 7 [(0, .ref a0), (2, .int j11), (3, .int s5v.2), (4, .int s7v.2)] → SP (X7_reach_j109 s7v j11) (ZL P7 E7) (AW (KX7_reach l D h0 hE v) h2 109 ls ([])) := by
              intro j11 ls hl
              unfold X7_reach_j109
              refine sp_m (aw_iinc (v := s7v.2 + 1) (lv' := [(4, .int (s7v.2 + 1)), (0, .ref a0), (2, .int j11), (3, .int s5v.2)]) (pc := 109) dX7_reach_109 hl (k := 3) rfl rfl (by decide) rfl) (sp_all fun ls hl => ?_)
              refine sp_m (aw_goto (tgt := 34) (pc := 112) dX7_reach_112 (by decide)) ?_
              exact sp_r fun hz => hz ls (lv_sub hl [1, 2, 3, 0] rfl)
            refine sp_if (fun c12 => ?_) (fun c12 => ?_)
            · refine sp_m (aw_icmp_ge_t (tgt := 109) (pc := 64) dX7_reach_64 (by decide) c12) ?_
              exact hj109_1 s7v.1 ls (lv_sub hl [2, 3, 4, 5] rfl)
            · refine sp_m (aw_icmp_ge_f (tgt := 109) (pc := 64) dX7_reach_64 (by decide) c12) ?_
              refine sp_m (aw_iload (pc := 67) dX7_reach_67 (lv_at hl 0 rfl)) ?_
              refine sp_m (aw_aload_n (pc := 69) dX7_reach_69 rfl (lv_at hl 2 rfl)) ?_
              refine sp_b fun x13 ex13 => ?_
              refine sp_m (aw_get (k := 3) okX7 (uS eh2 s1) (by decide) q1505 (Or.inl rfl) (congrArg va_rf ex13) (pc := 70) dX7_reach_70) ?_
              refine sp_g fun s14 => ?_
              refine sp_m (aw_getN (k := 4) okX20 s14 (by decide) nq1646 rfl rfl (pc := 73) dX7_reach_73) ?_
              refine sp_if (fun c15 => ?_) (fun c15 => ?_)
              · refine sp_m (aw_icmp_ge_t (tgt := 109) (pc := 76) dX7_reach_76 (by decide) c15) ?_
                exact hj109_1 s7v.1 ls (lv_sub hl [2, 3, 4, 5] rfl)
              · refine sp_m (aw_icmp_ge_f (tgt := 109) (pc := 76) dX7_reach_76 (by decide) c15) ?_
                refine sp_m (aw_iload_n (pc := 79) dX7_reach_79 rfl (lv_at hl 3 rfl)) ?_
                refine sp_m (aw_iload (pc := 80) dX7_reach_80 (lv_at hl 1 rfl)) ?_
                refine sp_b fun p16 ep16 => ?_
                refine sp_m (G' := AW (KX7_reach l D h0 hE v) h2 (85) ls (.int p16 :: [])) (fun kk => aw_callS (As := [.int s7v.1, .int (s7v.2 / 6)]) (metX7_bit _ _ ep16) mok_X7_bit q1806 q1807 q125 q1808 (Nat.le_of_ble_eq_true rfl) (Nat.le_of_ble_eq_true rfl) rfl hl.1 rfl (Nat.le_of_ble_eq_true rfl) (pc := 82) dX7_reach_82 kk) ?_
                refine sp_if (fun c17 => ?_) (fun c17 => ?_)
                · refine sp_m (aw_if_eq_t (tgt := 109) (pc := 85) dX7_reach_85 (by decide) c17) ?_
                  exact hj109_1 s7v.1 ls (lv_sub hl [2, 3, 4, 5] rfl)
                · refine sp_m (aw_if_eq_f (tgt := 109) (pc := 85) dX7_reach_85 (by decide) c17) ?_
                  refine sp_m (aw_aload_n (pc := 88) dX7_reach_88 rfl (lv_at hl 2 rfl)) ?_
                  refine sp_b fun x18 ex18 => ?_
                  refine sp_m (aw_get (k := 3) okX7 (uS eh2 s1) (by decide) q1505 (Or.inl rfl) (congrArg va_rf ex18) (pc := 89) dX7_reach_89) ?_
                  refine sp_g fun s19 => ?_
                  refine sp_b fun x20 ex20 => ?_
                  refine sp_m (aw_getN (k := 14) okX20 s19 (by decide) nq1664 rfl (congrArg va_rf ex20) (pc := 92) dX7_reach_92) ?_
                  refine sp_m (aw_iload (pc := 95) dX7_reach_95 (lv_at hl 5 rfl)) ?_
                  refine sp_g fun s21 => ?_
                  refine sp_g fun i22 => ?_
                  refine sp_m (aw_iald s21 i22 (pc := 97) dX7_reach_97) ?_
                  refine sp_m (aw_iconst (v := (-1)) (pc := 98) dX7_reach_98 rfl) ?_
                  refine sp_if (fun c23 => ?_) (fun c23 => ?_)
                  · refine sp_m (aw_icmp_eq_t (tgt := 109) (pc := 99) dX7_reach_99 (by decide) c23) ?_
                    exact hj109_1 s7v.1 ls (lv_sub hl [2, 3, 4, 5] rfl)
                  · refine sp_m (aw_icmp_eq_f (tgt := 109) (pc := 99) dX7_reach_99 (by decide) c23) ?_
                    refine sp_m (aw_iload_n (pc := 102) dX7_reach_102 rfl (lv_at hl 3 rfl)) ?_
                    refine sp_m (aw_iconst (v := 1) (pc := 103) dX7_reach_103 rfl) ?_
                    refine sp_m (aw_iload (pc := 104) dX7_reach_104 (lv_at hl 0 rfl)) ?_
                    refine sp_m (aw_ishl (pc := 106) dX7_reach_106) ?_
                    refine sp_m (aw_ior (pc := 107) dX7_reach_107) ?_
                    refine sp_m (aw_istore_n (lv' := [(2, .int (s7v.1 ||| (1 <<< ((s7v.2 - s7v.2 / 6 * 6) &&& 31)))), (6, .int (s7v.2 - s7v.2 / 6 * 6)), (5, .int (s7v.2 / 6)), (0, .ref a0), (3, .int s5v.2), (4, .int s7v.2)]) (pc := 108) dX7_reach_108 rfl hl (by decide) rfl) (sp_all fun ls hl => ?_)
                    exact hj109_1 (s7v.1 ||| (1 <<< ((s7v.2 - s7v.2 / 6 * 6) &&& 31))) ls (lv_sub hl [3, 0, 4, 5] rfl)
        · have hl : lv_has ls 7 [(0, .ref a0), (2, .int r7v), (3, .int s5v.2)] := hl
          show SP _ _ (AW (KX7_reach l D h0 hE v) h2 115 ls [])
          refine sp_m (aw_iinc (v := s5v.2 + 1) (lv' := [(3, .int (s5v.2 + 1)), (0, .ref a0), (2, .int r7v)]) (pc := 115) dX7_reach_115 hl (k := 2) rfl rfl (by decide) rfl) (sp_all fun ls hl => ?_)
          refine sp_m (aw_goto (tgt := 25) (pc := 118) dX7_reach_118 (by decide)) ?_
          exact sp_r fun hz => hz ls (lv_sub hl [1, 2, 0] rfl)
    · have hl : lv_has ls 7 [(0, .ref a0), (2, .int r5v)] := hl
      show SP _ _ (AW (KX7_reach l D h0 hE v) h2 121 ls [])
      refine sp_m (aw_aload_n (pc := 121) dX7_reach_121 rfl (lv_at hl 0 rfl)) ?_
      refine sp_m (aw_iload_n (pc := 122) dX7_reach_122 rfl (lv_at hl 1 rfl)) ?_
      refine sp_b fun p24 ep24 => ?_
      refine sp_m (G' := AW (KX7_reach l D h0 hE v) p24.2 (126) ls (.int p24.1 :: [])) (fun kk => aw_callV (As := [.int r5v]) (metX7_good _ _ ep24) (rcv_o okX7 (uS eh2 s1)) rfl mok_X7_good q1865 q1867 qs73 q125 q1868 (Nat.le_of_ble_eq_true rfl) (Nat.le_of_ble_eq_true rfl) rfl hl.1 rfl (Nat.le_of_ble_eq_true rfl) (pc := 123) dX7_reach_123 kk) ?_
      exact sp_r fun hz => aw_iret hz rfl rfl rfl (pc := 126) dX7_reach_126
  · refine sp_m (aw_if_ne_f (tgt := 19) (pc := 10) dX7_reach_10 (by decide) (Decidable.not_not.mp c4)) ?_
    refine sp_m (aw_aload_n (pc := 13) dX7_reach_13 rfl (lv_at hl 0 rfl)) ?_
    refine sp_m (aw_iconst (v := 1) (pc := 14) dX7_reach_14 rfl) ?_
    refine sp_b fun p25 ep25 => ?_
    refine sp_m (G' := AW (KX7_reach l D h0 hE v) p25.2 (18) ls (.int p25.1 :: [])) (fun kk => aw_callV (As := [.int 1]) (metX7_refused _ _ ep25) (rcv_o okX7 (uS eh2 s1)) rfl mok_X7_refused q1632 q1634 qs50 q125 q1635 (Nat.le_of_ble_eq_true rfl) (Nat.le_of_ble_eq_true rfl) rfl hl.1 rfl (Nat.le_of_ble_eq_true rfl) (pc := 15) dX7_reach_15 kk) ?_
    exact sp_r fun hz => aw_iret hz rfl rfl rfl (pc := 18) dX7_reach_18
theorem mok_X7_gameOf : mOK yX7_gameOf 3 := ⟨⟨by decide +kernel, by decide +kernel⟩, by decide +kernel⟩
abbrev KX7_gameOf (l : Launch) (D : DD) (h0 : AH) (v : Int64) : KT := (l, yX7_gameOf, cX7_gameOf, 4, (some .long), RX7, 7, D, h0, h0, .inl (some (.long v)), false, [])
theorem metX7_gameOf (l : Launch) (D : DD) {a0 : Nat} {a1 : Int32} {a2 : Int32} {a3 : Int32} {h0 : AH} {v : Int64} (hr : fX7_gameOf a0 a1 a2 a3 h0 = some v) : AMet (KX7_gameOf l D h0 v) [.ref a0, .int a1, .int a2, .int a3] := by
  refine AMet.of (K := (KX7_gameOf l D h0 v)) rfl ⟨_, rfl⟩ rfl rfl rfl (Nat.le_of_ble_eq_true rfl) (fun ls hl => ?_)
  have hl : lv_has ls 4 [(0, .ref a0), (1, .int a1), (2, .int a2), (3, .int a3)] := hl
  suffices hsp : SP (fX7_gameOf a0 a1 a2 a3 h0) (fun z => z = v) (AW (KX7_gameOf l D h0 v) h0 0 ls []) from hsp _ hr rfl
  unfold fX7_gameOf
  refine sp_m (aw_iload_n (pc := 0) dX7_gameOf_0 rfl (lv_at hl 2 rfl)) ?_
  refine sp_m (aw_iload_n (pc := 1) dX7_gameOf_1 rfl (lv_at hl 3 rfl)) ?_
  refine sp_if (fun c1 => ?_) (fun c1 => ?_)
  · refine sp_m (aw_icmp_ne_t (tgt := 15) (pc := 2) dX7_gameOf_2 (by decide) c1) ?_
    refine sp_m (aw_aload_n (pc := 15) dX7_gameOf_15 rfl (lv_at hl 0 rfl)) ?_
    refine sp_m (aw_iload_n (pc := 16) dX7_gameOf_16 rfl (lv_at hl 1 rfl)) ?_
    refine sp_m (aw_iload_n (pc := 17) dX7_gameOf_17 rfl (lv_at hl 2 rfl)) ?_
    refine sp_g fun s3 => ?_
    refine sp_b fun p2 ep2 => ?_
    refine sp_m (G' := AW (KX7_gameOf l D h0 v) h0 (21) ls (.long p2 :: [])) (fun kk => aw_callV (As := [.int a1, .int a2]) (metX7_worthIn _ _ ep2) (rcv_o okX7 s3) rfl mok_X7_worthIn q1956 q1958 qs86 q125 q1959 (Nat.le_of_ble_eq_true rfl) (Nat.le_of_ble_eq_true rfl) rfl hl.1 rfl (Nat.le_of_ble_eq_true rfl) (pc := 18) dX7_gameOf_18 kk) ?_
    exact sp_r fun hz => aw_lret (congrArg (fun z => (z, h0)) hz) rfl rfl rfl (pc := 21) dX7_gameOf_21
  · refine sp_m (aw_icmp_ne_f (tgt := 15) (pc := 2) dX7_gameOf_2 (by decide) (Decidable.not_not.mp c1)) ?_
    refine sp_m (aw_aload_n (pc := 5) dX7_gameOf_5 rfl (lv_at hl 0 rfl)) ?_
    refine sp_m (aw_iload_n (pc := 6) dX7_gameOf_6 rfl (lv_at hl 1 rfl)) ?_
    refine sp_m (aw_iconst (v := 0) (pc := 7) dX7_gameOf_7 rfl) ?_
    refine sp_m (aw_iconst (v := 0) (pc := 8) dX7_gameOf_8 rfl) ?_
    refine sp_g fun s5 => ?_
    refine sp_b fun p4 ep4 => ?_
    refine sp_m (G' := AW (KX7_gameOf l D h0 v) h0 (12) ls (.long p4 :: [])) (fun kk => aw_callV (As := [.int a1, .int 0, .int 0]) (metX7_worthBy _ _ ep4) (rcv_o okX7 s5) rfl mok_X7_worthBy q1960 q1962 qs87 q125 q1963 (Nat.le_of_ble_eq_true rfl) (Nat.le_of_ble_eq_true rfl) rfl hl.1 rfl (Nat.le_of_ble_eq_true rfl) (pc := 9) dX7_gameOf_9 kk) ?_
    refine sp_m (aw_goto (tgt := 21) (pc := 12) dX7_gameOf_12 (by decide)) ?_
    exact sp_r fun hz => aw_lret (congrArg (fun z => (z, h0)) hz) rfl rfl rfl (pc := 21) dX7_gameOf_21
theorem mok_X7_isRest : mOK yX7_isRest 3 := ⟨⟨by decide +kernel, by decide +kernel⟩, by decide +kernel⟩
abbrev KX7_isRest (l : Launch) (D : DD) (h0 : AH) (v : Int32) : KT := (l, yX7_isRest, cX7_isRest, 5, (some .boolean), RX7, 8, D, h0, h0, .inl (some (.int v)), false, [])
theorem metX7_isRest (l : Launch) (D : DD) {a0 : Nat} {a1 : Int32} {a2 : Int32} {a3 : Int32} {h0 : AH} {v : Int32} (hr : fX7_isRest a0 a1 a2 a3 h0 = some v) : AMet (KX7_isRest l D h0 v) [.ref a0, .int a1, .int a2, .int a3] := by
  refine AMet.of (K := (KX7_isRest l D h0 v)) rfl ⟨_, rfl⟩ rfl rfl rfl (Nat.le_of_ble_eq_true rfl) (fun ls hl => ?_)
  have hl : lv_has ls 5 [(0, .ref a0), (1, .int a1), (2, .int a2), (3, .int a3)] := hl
  suffices hsp : SP (fX7_isRest a0 a1 a2 a3 h0) (fun z => z = v) (AW (KX7_isRest l D h0 v) h0 0 ls []) from hsp _ hr rfl
  unfold fX7_isRest
  refine sp_m (aw_iconst (v := 0) (pc := 0) dX7_isRest_0 rfl) ?_
  refine sp_m (aw_istore (lv' := [(4, .int 0), (0, .ref a0), (1, .int a1), (2, .int a2), (3, .int a3)]) (pc := 1) dX7_isRest_1 hl (by decide) rfl) (sp_all fun ls hl => ?_)
  let P1 : Int32 → Prop := aLP (KX7_isRest l D h0 v) 5 3 (fun s1v : Int32 => [(0, .ref a0), (1, .int a1), (2, .int a2), (3, .int a3), (4, .int s1v)]) (fun s1v => h0)
  refine sp_loop (P := P1) (fun s1v => sp_all fun ls hl => ?_) (fun k => k ls (lv_sub hl [1, 2, 3, 4, 0] rfl))
  have hl : lv_has ls 5 [(0, .ref a0), (1, .int a1), (2, .int a2), (3, .int a3), (4, .int s1v)] := hl
  show SP _ _ (AW (KX7_isRest l D h0 v) h0 3 ls [])
  unfold X7_isRest_L3
  refine sp_m (aw_iload (pc := 3) dX7_isRest_3 (lv_at hl 4 rfl)) ?_
  refine sp_m (aw_aload_n (pc := 5) dX7_isRest_5 rfl (lv_at hl 0 rfl)) ?_
  refine sp_g fun s2 => ?_
  refine sp_b fun x3 ex3 => ?_
  refine sp_m (aw_get (k := 3) okX7 s2 (by decide) q1505 (Or.inl rfl) (congrArg va_rf ex3) (pc := 6) dX7_isRest_6) ?_
  refine sp_g fun s4 => ?_
  refine sp_m (aw_getN (k := 0) okX20 s4 (by decide) nq1642 rfl rfl (pc := 9) dX7_isRest_9) ?_
  refine sp_if (fun c5 => ?_) (fun c5 => ?_)
  · refine sp_m (aw_icmp_ge_t (tgt := 63) (pc := 12) dX7_isRest_12 (by decide) c5) ?_
    refine sp_m (aw_iconst (v := 1) (pc := 63) dX7_isRest_63 rfl) ?_
    exact sp_r fun hz => aw_zret (nar_b (Or.inr rfl)) (congrArg (fun z => (z, h0)) hz) rfl rfl rfl (pc := 64) dX7_isRest_64
  · refine sp_m (aw_icmp_ge_f (tgt := 63) (pc := 12) dX7_isRest_12 (by decide) c5) ?_
    refine sp_m (aw_aload_n (pc := 15) dX7_isRest_15 rfl (lv_at hl 0 rfl)) ?_
    refine sp_m (aw_iload_n (pc := 16) dX7_isRest_16 rfl (lv_at hl 1 rfl)) ?_
    refine sp_m (aw_iload (pc := 17) dX7_isRest_17 (lv_at hl 4 rfl)) ?_
    refine sp_m (aw_iload_n (pc := 19) dX7_isRest_19 rfl (lv_at hl 3 rfl)) ?_
    refine sp_b fun p6 ep6 => ?_
    refine sp_m (G' := AW (KX7_isRest l D h0 v) h0 (23) ls (.long p6 :: [])) (fun kk => aw_callV (As := [.int a1, .int s1v, .int a3]) (metX7_gameOf _ _ ep6) (rcv_o okX7 s2) rfl mok_X7_gameOf q2045 q2047 qs97 q125 q2048 (Nat.le_of_ble_eq_true rfl) (Nat.le_of_ble_eq_true rfl) rfl hl.1 rfl (Nat.le_of_ble_eq_true rfl) (pc := 20) dX7_isRest_20 kk) ?_
    refine sp_m (aw_aload_n (pc := 23) dX7_isRest_23 rfl (lv_at hl 0 rfl)) ?_
    refine sp_m (aw_iload_n (pc := 24) dX7_isRest_24 rfl (lv_at hl 1 rfl)) ?_
    refine sp_m (aw_iload_n (pc := 25) dX7_isRest_25 rfl (lv_at hl 2 rfl)) ?_
    refine sp_m (aw_iload_n (pc := 26) dX7_isRest_26 rfl (lv_at hl 3 rfl)) ?_
    refine sp_b fun p7 ep7 => ?_
    refine sp_m (G' := AW (KX7_isRest l D h0 v) h0 (30) ls (.long p7 :: .long p6 :: [])) (fun kk => aw_callV (As := [.int a1, .int a2, .int a3]) (metX7_gameOf _ _ ep7) (rcv_o okX7 s2) rfl mok_X7_gameOf q2045 q2047 qs97 q125 q2048 (Nat.le_of_ble_eq_true rfl) (Nat.le_of_ble_eq_true rfl) rfl hl.1 rfl (Nat.le_of_ble_eq_true rfl) (pc := 27) dX7_isRest_27 kk) ?_
    refine sp_m (aw_lcmp (pc := 30) dX7_isRest_30) ?_
    refine sp_if (fun c8 => ?_) (fun c8 => ?_)
    · refine sp_m (aw_if_le_t (tgt := 36) (pc := 31) dX7_isRest_31 (by decide) ((lg_cmp_le _ _).mpr c8)) ?_
      refine sp_m (aw_aload_n (pc := 36) dX7_isRest_36 rfl (lv_at hl 0 rfl)) ?_
      refine sp_m (aw_iload_n (pc := 37) dX7_isRest_37 rfl (lv_at hl 1 rfl)) ?_
      refine sp_m (aw_iload_n (pc := 38) dX7_isRest_38 rfl (lv_at hl 2 rfl)) ?_
      refine sp_m (aw_iload (pc := 39) dX7_isRest_39 (lv_at hl 4 rfl)) ?_
      refine sp_b fun p9 ep9 => ?_
      refine sp_m (G' := AW (KX7_isRest l D h0 v) h0 (44) ls (.long p9 :: [])) (fun kk => aw_callV (As := [.int a1, .int a2, .int s1v]) (metX7_gameOf _ _ ep9) (rcv_o okX7 s2) rfl mok_X7_gameOf q2045 q2047 qs97 q125 q2048 (Nat.le_of_ble_eq_true rfl) (Nat.le_of_ble_eq_true rfl) rfl hl.1 rfl (Nat.le_of_ble_eq_true rfl) (pc := 41) dX7_isRest_41 kk) ?_
      refine sp_m (aw_aload_n (pc := 44) dX7_isRest_44 rfl (lv_at hl 0 rfl)) ?_
      refine sp_m (aw_iload_n (pc := 45) dX7_isRest_45 rfl (lv_at hl 1 rfl)) ?_
      refine sp_m (aw_iload_n (pc := 46) dX7_isRest_46 rfl (lv_at hl 2 rfl)) ?_
      refine sp_m (aw_iload_n (pc := 47) dX7_isRest_47 rfl (lv_at hl 3 rfl)) ?_
      refine sp_b fun p10 ep10 => ?_
      refine sp_m (G' := AW (KX7_isRest l D h0 v) h0 (51) ls (.long p10 :: .long p9 :: [])) (fun kk => aw_callV (As := [.int a1, .int a2, .int a3]) (metX7_gameOf _ _ ep10) (rcv_o okX7 s2) rfl mok_X7_gameOf q2045 q2047 qs97 q125 q2048 (Nat.le_of_ble_eq_true rfl) (Nat.le_of_ble_eq_true rfl) rfl hl.1 rfl (Nat.le_of_ble_eq_true rfl) (pc := 48) dX7_isRest_48 kk) ?_
      refine sp_m (aw_lcmp (pc := 51) dX7_isRest_51) ?_
      refine sp_if (fun c11 => ?_) (fun c11 => ?_)
      · refine sp_m (aw_if_ge_t (tgt := 57) (pc := 52) dX7_isRest_52 (by decide) ((lg_cmp_ge _ _).mpr c11)) ?_
        refine sp_m (aw_iinc (v := s1v + 1) (lv' := [(4, .int (s1v + 1)), (0, .ref a0), (1, .int a1), (2, .int a2), (3, .int a3)]) (pc := 57) dX7_isRest_57 hl (k := 4) rfl rfl (by decide) rfl) (sp_all fun ls hl => ?_)
        refine sp_m (aw_goto (tgt := 3) (pc := 60) dX7_isRest_60 (by decide)) ?_
        exact sp_r fun hz => hz ls (lv_sub hl [1, 2, 3, 4, 0] rfl)
      · refine sp_m (aw_if_ge_f (tgt := 57) (pc := 52) dX7_isRest_52 (by decide) (fun z => c11 ((lg_cmp_ge _ _).mp z))) ?_
        refine sp_m (aw_iconst (v := 0) (pc := 55) dX7_isRest_55 rfl) ?_
        exact sp_r fun hz => aw_zret (nar_b (Or.inl rfl)) (congrArg (fun z => (z, h0)) hz) rfl rfl rfl (pc := 56) dX7_isRest_56
    · refine sp_m (aw_if_le_f (tgt := 36) (pc := 31) dX7_isRest_31 (by decide) (fun z => c8 ((lg_cmp_le _ _).mp z))) ?_
      refine sp_m (aw_iconst (v := 0) (pc := 34) dX7_isRest_34 rfl) ?_
      exact sp_r fun hz => aw_zret (nar_b (Or.inl rfl)) (congrArg (fun z => (z, h0)) hz) rfl rfl rfl (pc := 35) dX7_isRest_35
theorem mok_X7_rest : mOK yX7_rest 1 := ⟨⟨by decide +kernel, by decide +kernel⟩, by decide +kernel⟩
abbrev KX7_rest (l : Launch) (D : DD) (h0 hE : AH) (v : Int32) : KT := (l, yX7_rest, cX7_rest, 4, (some .int), RX7, 9, D, h0, hE, .inl (some (.int v)), false, [])
theorem metX7_rest (l : Launch) (D : DD) {a0 : Nat} {a1 : Int32} {h0 : AH} {hE : AH} {v : Int32} (hr : fX7_rest a0 a1 h0 = some (v, hE)) : AMet (KX7_rest l D h0 hE v) [.ref a0, .int a1] := by
  refine AMet.of (K := (KX7_rest l D h0 hE v)) rfl ⟨_, rfl⟩ rfl rfl rfl (Nat.le_of_ble_eq_true rfl) (fun ls hl => ?_)
  have hl : lv_has ls 4 [(0, .ref a0), (1, .int a1)] := hl
  suffices hsp : SP (fX7_rest a0 a1 h0) (fun z => z = (v, hE)) (AW (KX7_rest l D h0 hE v) h0 0 ls []) from hsp _ hr rfl
  unfold fX7_rest
  refine sp_m (aw_aload_n (pc := 0) dX7_rest_0 rfl (lv_at hl 0 rfl)) ?_
  refine sp_m (aw_iconst (v := 0) (pc := 1) dX7_rest_1 rfl) ?_
  refine sp_g fun s1 => ?_
  refine sp_t fun h2 eh20 => ?_
  have eh2 : gS h2 = gS h0 := by rw [eh20]; rfl
  refine sp_m (aw_put (k := 0) okX7 opX7 s1 (by decide) q1502 (Or.inl rfl) (Or.inl rfl) (hasV_I' eh20) rfl rfl (pc := 2) dX7_rest_2) ?_
  refine sp_m (aw_aload_n (pc := 5) dX7_rest_5 rfl (lv_at hl 0 rfl)) ?_
  refine sp_m (aw_iload_n (pc := 6) dX7_rest_6 rfl (lv_at hl 1 rfl)) ?_
  refine sp_b fun p3 ep3 => ?_
  refine sp_m (G' := AW (KX7_rest l D h0 hE v) h2 (10) ls (.int p3 :: [])) (fun kk => aw_callV (As := [.int a1]) (metX7_isBeast _ _ ep3) (rcv_o okX7 (uS eh2 s1)) rfl mok_X7_isBeast q1893 q1895 qs76 q125 q1896 (Nat.le_of_ble_eq_true rfl) (Nat.le_of_ble_eq_true rfl) rfl hl.1 rfl (Nat.le_of_ble_eq_true rfl) (pc := 7) dX7_rest_7 kk) ?_
  refine sp_if (fun c4 => ?_) (fun c4 => ?_)
  · refine sp_m (aw_if_ne_t (tgt := 19) (pc := 10) dX7_rest_10 (by decide) c4) ?_
    refine sp_m (aw_iconst (v := 0) (pc := 19) dX7_rest_19 rfl) ?_
    refine sp_m (aw_istore_n (lv' := [(2, .int 0), (0, .ref a0), (1, .int a1)]) (pc := 20) dX7_rest_20 rfl hl (by decide) rfl) (sp_all fun ls hl => ?_)
    let P5 : Int32 → Prop := aLP (KX7_rest l D h0 hE v) 4 21 (fun s5v : Int32 => [(0, .ref a0), (1, .int a1), (2, .int s5v)]) (fun s5v => h2)
    refine sp_loop (P := P5) (fun s5v => sp_all fun ls hl => ?_) (fun k => k ls (lv_sub hl [1, 2, 0] rfl))
    have hl : lv_has ls 4 [(0, .ref a0), (1, .int a1), (2, .int s5v)] := hl
    show SP _ _ (AW (KX7_rest l D h0 hE v) h2 21 ls [])
    unfold X7_rest_L21
    refine sp_m (aw_iload_n (pc := 21) dX7_rest_21 rfl (lv_at hl 2 rfl)) ?_
    refine sp_m (aw_aload_n (pc := 22) dX7_rest_22 rfl (lv_at hl 0 rfl)) ?_
    refine sp_b fun x6 ex6 => ?_
    refine sp_m (aw_get (k := 3) okX7 (uS eh2 s1) (by decide) q1505 (Or.inl rfl) (congrArg va_rf ex6) (pc := 23) dX7_rest_23) ?_
    refine sp_g fun s7 => ?_
    refine sp_m (aw_getN (k := 0) okX20 s7 (by decide) nq1642 rfl rfl (pc := 26) dX7_rest_26) ?_
    refine sp_if (fun c8 => ?_) (fun c8 => ?_)
    · refine sp_m (aw_icmp_ge_t (tgt := 78) (pc := 29) dX7_rest_29 (by decide) c8) ?_
      refine sp_m (aw_aload_n (pc := 78) dX7_rest_78 rfl (lv_at hl 0 rfl)) ?_
      refine sp_m (aw_bipush (v := (-2)) (pc := 79) dX7_rest_79 rfl) ?_
      refine sp_b fun p9 ep9 => ?_
      refine sp_m (G' := AW (KX7_rest l D h0 hE v) p9.2 (84) ls (.int p9.1 :: [])) (fun kk => aw_callV (As := [.int (-2)]) (metX7_good _ _ ep9) (rcv_o okX7 (uS eh2 s1)) rfl mok_X7_good q1865 q1867 qs73 q125 q1868 (Nat.le_of_ble_eq_true rfl) (Nat.le_of_ble_eq_true rfl) rfl hl.1 rfl (Nat.le_of_ble_eq_true rfl) (pc := 81) dX7_rest_81 kk) ?_
      exact sp_r fun hz => aw_iret hz rfl rfl rfl (pc := 84) dX7_rest_84
    · refine sp_m (aw_icmp_ge_f (tgt := 78) (pc := 29) dX7_rest_29 (by decide) c8) ?_
      refine sp_m (aw_iconst (v := 0) (pc := 32) dX7_rest_32 rfl) ?_
      refine sp_m (aw_istore_n (lv' := [(3, .int 0), (0, .ref a0), (1, .int a1), (2, .int s5v)]) (pc := 33) dX7_rest_33 rfl hl (by decide) rfl) (sp_all fun ls hl => ?_)
      let P10 : Int32 → Prop := aLP (KX7_rest l D h0 hE v) 4 34 (fun s10v : Int32 => [(0, .ref a0), (1, .int a1), (2, .int s5v), (3, .int s10v)]) (fun s10v => h2)
      refine sp_loop (P := P10) (fun s10v => sp_all fun ls hl => ?_) (fun k => k ls (lv_sub hl [1, 2, 3, 0] rfl))
      have hl : lv_has ls 4 [(0, .ref a0), (1, .int a1), (2, .int s5v), (3, .int s10v)] := hl
      show SP _ _ (AW (KX7_rest l D h0 hE v) h2 34 ls [])
      unfold X7_rest_L34
      refine sp_m (aw_iload_n (pc := 34) dX7_rest_34 rfl (lv_at hl 3 rfl)) ?_
      refine sp_m (aw_aload_n (pc := 35) dX7_rest_35 rfl (lv_at hl 0 rfl)) ?_
      refine sp_b fun x11 ex11 => ?_
      refine sp_m (aw_get (k := 3) okX7 (uS eh2 s1) (by decide) q1505 (Or.inl rfl) (congrArg va_rf ex11) (pc := 36) dX7_rest_36) ?_
      refine sp_g fun s12 => ?_
      refine sp_m (aw_getN (k := 0) okX20 s12 (by decide) nq1642 rfl rfl (pc := 39) dX7_rest_39) ?_
      refine sp_if (fun c13 => ?_) (fun c13 => ?_)
      · refine sp_m (aw_icmp_ge_t (tgt := 72) (pc := 42) dX7_rest_42 (by decide) c13) ?_
        refine sp_m (aw_iinc (v := s5v + 1) (lv' := [(2, .int (s5v + 1)), (0, .ref a0), (1, .int a1), (3, .int s10v)]) (pc := 72) dX7_rest_72 hl (k := 2) rfl rfl (by decide) rfl) (sp_all fun ls hl => ?_)
        refine sp_m (aw_goto (tgt := 21) (pc := 75) dX7_rest_75 (by decide)) ?_
        exact sp_r fun hz => hz ls (lv_sub hl [1, 2, 0] rfl)
      · refine sp_m (aw_icmp_ge_f (tgt := 72) (pc := 42) dX7_rest_42 (by decide) c13) ?_
        refine sp_m (aw_aload_n (pc := 45) dX7_rest_45 rfl (lv_at hl 0 rfl)) ?_
        refine sp_m (aw_iload_n (pc := 46) dX7_rest_46 rfl (lv_at hl 1 rfl)) ?_
        refine sp_m (aw_iload_n (pc := 47) dX7_rest_47 rfl (lv_at hl 2 rfl)) ?_
        refine sp_m (aw_iload_n (pc := 48) dX7_rest_48 rfl (lv_at hl 3 rfl)) ?_
        refine sp_b fun p14 ep14 => ?_
        refine sp_m (G' := AW (KX7_rest l D h0 hE v) h2 (52) ls (.int p14 :: [])) (fun kk => aw_callV (As := [.int a1, .int s5v, .int s10v]) (metX7_isRest _ _ ep14) (rcv_o okX7 (uS eh2 s1)) rfl mok_X7_isRest q2041 q2043 qs96 q125 q2044 (Nat.le_of_ble_eq_true rfl) (Nat.le_of_ble_eq_true rfl) rfl hl.1 rfl (Nat.le_of_ble_eq_true rfl) (pc := 49) dX7_rest_49 kk) ?_
        refine sp_if (fun c15 => ?_) (fun c15 => ?_)
        · refine sp_m (aw_if_eq_t (tgt := 66) (pc := 52) dX7_rest_52 (by decide) c15) ?_
          refine sp_m (aw_iinc (v := s10v + 1) (lv' := [(3, .int (s10v + 1)), (0, .ref a0), (1, .int a1), (2, .int s5v)]) (pc := 66) dX7_rest_66 hl (k := 3) rfl rfl (by decide) rfl) (sp_all fun ls hl => ?_)
          refine sp_m (aw_goto (tgt := 34) (pc := 69) dX7_rest_69 (by decide)) ?_
          exact sp_r fun hz => hz ls (lv_sub hl [1, 2, 3, 0] rfl)
        · refine sp_m (aw_if_eq_f (tgt := 66) (pc := 52) dX7_rest_52 (by decide) c15) ?_
          refine sp_m (aw_aload_n (pc := 55) dX7_rest_55 rfl (lv_at hl 0 rfl)) ?_
          refine sp_m (aw_bipush (v := 10) (pc := 56) dX7_rest_56 rfl) ?_
          refine sp_m (aw_iload_n (pc := 58) dX7_rest_58 rfl (lv_at hl 2 rfl)) ?_
          refine sp_m (aw_imul (pc := 59) dX7_rest_59) ?_
          refine sp_m (aw_iload_n (pc := 60) dX7_rest_60 rfl (lv_at hl 3 rfl)) ?_
          refine sp_m (aw_iadd (pc := 61) dX7_rest_61) ?_
          refine sp_b fun p16 ep16 => ?_
          refine sp_m (G' := AW (KX7_rest l D h0 hE v) p16.2 (65) ls (.int p16.1 :: [])) (fun kk => aw_callV (As := [.int ((10 * s5v) + s10v)]) (metX7_good _ _ ep16) (rcv_o okX7 (uS eh2 s1)) rfl mok_X7_good q1865 q1867 qs73 q125 q1868 (Nat.le_of_ble_eq_true rfl) (Nat.le_of_ble_eq_true rfl) rfl hl.1 rfl (Nat.le_of_ble_eq_true rfl) (pc := 62) dX7_rest_62 kk) ?_
          exact sp_r fun hz => aw_iret hz rfl rfl rfl (pc := 65) dX7_rest_65
  · refine sp_m (aw_if_ne_f (tgt := 19) (pc := 10) dX7_rest_10 (by decide) (Decidable.not_not.mp c4)) ?_
    refine sp_m (aw_aload_n (pc := 13) dX7_rest_13 rfl (lv_at hl 0 rfl)) ?_
    refine sp_m (aw_iconst (v := 1) (pc := 14) dX7_rest_14 rfl) ?_
    refine sp_b fun p17 ep17 => ?_
    refine sp_m (G' := AW (KX7_rest l D h0 hE v) p17.2 (18) ls (.int p17.1 :: [])) (fun kk => aw_callV (As := [.int 1]) (metX7_refused _ _ ep17) (rcv_o okX7 (uS eh2 s1)) rfl mok_X7_refused q1632 q1634 qs50 q125 q1635 (Nat.le_of_ble_eq_true rfl) (Nat.le_of_ble_eq_true rfl) rfl hl.1 rfl (Nat.le_of_ble_eq_true rfl) (pc := 15) dX7_rest_15 kk) ?_
    exact sp_r fun hz => aw_iret hz rfl rfl rfl (pc := 18) dX7_rest_18
theorem mok_X7_rests : mOK yX7_rests 1 := ⟨⟨by decide +kernel, by decide +kernel⟩, by decide +kernel⟩
abbrev KX7_rests (l : Launch) (D : DD) (h0 hE : AH) (v : Int32) : KT := (l, yX7_rests, cX7_rests, 5, (some .int), RX7, 9, D, h0, hE, .inl (some (.int v)), false, [])
theorem metX7_rests (l : Launch) (D : DD) {a0 : Nat} {a1 : Int32} {h0 : AH} {hE : AH} {v : Int32} (hr : fX7_rests a0 a1 h0 = some (v, hE)) : AMet (KX7_rests l D h0 hE v) [.ref a0, .int a1] := by
  refine AMet.of (K := (KX7_rests l D h0 hE v)) rfl ⟨_, rfl⟩ rfl rfl rfl (Nat.le_of_ble_eq_true rfl) (fun ls hl => ?_)
  have hl : lv_has ls 5 [(0, .ref a0), (1, .int a1)] := hl
  suffices hsp : SP (fX7_rests a0 a1 h0) (fun z => z = (v, hE)) (AW (KX7_rests l D h0 hE v) h0 0 ls []) from hsp _ hr rfl
  unfold fX7_rests
  refine sp_m (aw_aload_n (pc := 0) dX7_rests_0 rfl (lv_at hl 0 rfl)) ?_
  refine sp_m (aw_iconst (v := 0) (pc := 1) dX7_rests_1 rfl) ?_
  refine sp_g fun s1 => ?_
  refine sp_t fun h2 eh20 => ?_
  have eh2 : gS h2 = gS h0 := by rw [eh20]; rfl
  refine sp_m (aw_put (k := 0) okX7 opX7 s1 (by decide) q1502 (Or.inl rfl) (Or.inl rfl) (hasV_I' eh20) rfl rfl (pc := 2) dX7_rests_2) ?_
  refine sp_m (aw_aload_n (pc := 5) dX7_rests_5 rfl (lv_at hl 0 rfl)) ?_
  refine sp_m (aw_iload_n (pc := 6) dX7_rests_6 rfl (lv_at hl 1 rfl)) ?_
  refine sp_b fun p3 ep3 => ?_
  refine sp_m (G' := AW (KX7_rests l D h0 hE v) h2 (10) ls (.int p3 :: [])) (fun kk => aw_callV (As := [.int a1]) (metX7_isBeast _ _ ep3) (rcv_o okX7 (uS eh2 s1)) rfl mok_X7_isBeast q1893 q1895 qs76 q125 q1896 (Nat.le_of_ble_eq_true rfl) (Nat.le_of_ble_eq_true rfl) rfl hl.1 rfl (Nat.le_of_ble_eq_true rfl) (pc := 7) dX7_rests_7 kk) ?_
  refine sp_if (fun c4 => ?_) (fun c4 => ?_)
  · refine sp_m (aw_if_ne_t (tgt := 19) (pc := 10) dX7_rests_10 (by decide) c4) ?_
    refine sp_m (aw_iconst (v := 0) (pc := 19) dX7_rests_19 rfl) ?_
    refine sp_m (aw_istore_n (lv' := [(2, .int 0), (0, .ref a0), (1, .int a1)]) (pc := 20) dX7_rests_20 rfl hl (by decide) rfl) (sp_all fun ls hl => ?_)
    refine sp_m (aw_iconst (v := 0) (pc := 21) dX7_rests_21 rfl) ?_
    refine sp_m (aw_istore_n (lv' := [(3, .int 0), (2, .int 0), (0, .ref a0), (1, .int a1)]) (pc := 22) dX7_rests_22 rfl hl (by decide) rfl) (sp_all fun ls hl => ?_)
    let P5 : Int32 × Int32 → Prop := aLP (KX7_rests l D h0 hE v) 5 23 (fun s5v : Int32 × Int32 => [(0, .ref a0), (1, .int a1), (2, .int s5v.1), (3, .int s5v.2)]) (fun s5v => h2)
    let E5 : Int32 → Prop := aLP (KX7_rests l D h0 hE v) 5 80 (fun r5v : Int32 => [(0, .ref a0), (2, .int r5v)]) (fun r5v => h2)
    refine sp_bl (P := P5) (E := E5) (fun s5v => sp_all fun ls hl => ?_) (fun k => k ls (lv_sub hl [2, 3, 1, 0] rfl)) (fun r5v => sp_all fun ls hl => ?_)
    · have hl : lv_has ls 5 [(0, .ref a0), (1, .int a1), (2, .int s5v.1), (3, .int s5v.2)] := hl
      show SP _ _ (AW (KX7_rests l D h0 hE v) h2 23 ls [])
      unfold X7_rests_L23
      refine sp_m (aw_iload_n (pc := 23) dX7_rests_23 rfl (lv_at hl 3 rfl)) ?_
      refine sp_m (aw_aload_n (pc := 24) dX7_rests_24 rfl (lv_at hl 0 rfl)) ?_
      refine sp_b fun x6 ex6 => ?_
      refine sp_m (aw_get (k := 3) okX7 (uS eh2 s1) (by decide) q1505 (Or.inl rfl) (congrArg va_rf ex6) (pc := 25) dX7_rests_25) ?_
      refine sp_g fun s7 => ?_
      refine sp_m (aw_getN (k := 0) okX20 s7 (by decide) nq1642 rfl rfl (pc := 28) dX7_rests_28) ?_
      refine sp_if (fun c8 => ?_) (fun c8 => ?_)
      · refine sp_m (aw_icmp_ge_t (tgt := 80) (pc := 31) dX7_rests_31 (by decide) c8) ?_
        exact sp_r fun hz => hz ls (lv_sub hl [0, 2] rfl)
      · refine sp_m (aw_icmp_ge_f (tgt := 80) (pc := 31) dX7_rests_31 (by decide) c8) ?_
        refine sp_m (aw_iconst (v := 0) (pc := 34) dX7_rests_34 rfl) ?_
        refine sp_m (aw_istore (lv' := [(4, .int 0), (0, .ref a0), (1, .int a1), (2, .int s5v.1), (3, .int s5v.2)]) (pc := 35) dX7_rests_35 hl (by decide) rfl) (sp_all fun ls hl => ?_)
        let P9 : Int32 × Int32 → Prop := aLP (KX7_rests l D h0 hE v) 5 37 (fun s9v : Int32 × Int32 => [(0, .ref a0), (1, .int a1), (2, .int s9v.1), (3, .int s5v.2), (4, .int s9v.2)]) (fun s9v => h2)
        let E9 : Int32 → Prop := aLP (KX7_rests l D h0 hE v) 5 74 (fun r9v : Int32 => [(0, .ref a0), (1, .int a1), (2, .int r9v), (3, .int s5v.2)]) (fun r9v => h2)
        refine sp_bl (P := P9) (E := E9) (fun s9v => sp_all fun ls hl => ?_) (fun k => k ls (lv_sub hl [1, 2, 3, 4, 0] rfl)) (fun r9v => sp_all fun ls hl => ?_)
        · have hl : lv_has ls 5 [(0, .ref a0), (1, .int a1), (2, .int s9v.1), (3, .int s5v.2), (4, .int s9v.2)] := hl
          show SP _ _ (AW (KX7_rests l D h0 hE v) h2 37 ls [])
          unfold X7_rests_L37
          refine sp_m (aw_iload (pc := 37) dX7_rests_37 (lv_at hl 4 rfl)) ?_
          refine sp_m (aw_aload_n (pc := 39) dX7_rests_39 rfl (lv_at hl 0 rfl)) ?_
          refine sp_b fun x10 ex10 => ?_
          refine sp_m (aw_get (k := 3) okX7 (uS eh2 s1) (by decide) q1505 (Or.inl rfl) (congrArg va_rf ex10) (pc := 40) dX7_rests_40) ?_
          refine sp_g fun s11 => ?_
          refine sp_m (aw_getN (k := 0) okX20 s11 (by decide) nq1642 rfl rfl (pc := 43) dX7_rests_43) ?_
          refine sp_if (fun c12 => ?_) (fun c12 => ?_)
          · refine sp_m (aw_icmp_ge_t (tgt := 74) (pc := 46) dX7_rests_46 (by decide) c12) ?_
            exact sp_r fun hz => hz ls (lv_sub hl [0, 1, 2, 3] rfl)
          · refine sp_m (aw_icmp_ge_f (tgt := 74) (pc := 46) dX7_rests_46 (by decide) c12) ?_
            refine sp_m (aw_iload_n (pc := 49) dX7_rests_49 rfl (lv_at hl 2 rfl)) ?_
            refine sp_m (aw_aload_n (pc := 50) dX7_rests_50 rfl (lv_at hl 0 rfl)) ?_
            refine sp_m (aw_iload_n (pc := 51) dX7_rests_51 rfl (lv_at hl 1 rfl)) ?_
            refine sp_m (aw_iload_n (pc := 52) dX7_rests_52 rfl (lv_at hl 3 rfl)) ?_
            refine sp_m (aw_iload (pc := 53) dX7_rests_53 (lv_at hl 4 rfl)) ?_
            refine sp_b fun p13 ep13 => ?_
            refine sp_m (G' := AW (KX7_rests l D h0 hE v) h2 (58) ls (.int p13 :: .int s9v.1 :: [])) (fun kk => aw_callV (As := [.int a1, .int s5v.2, .int s9v.2]) (metX7_isRest _ _ ep13) (rcv_o okX7 (uS eh2 s1)) rfl mok_X7_isRest q2041 q2043 qs96 q125 q2044 (Nat.le_of_ble_eq_true rfl) (Nat.le_of_ble_eq_true rfl) rfl hl.1 rfl (Nat.le_of_ble_eq_true rfl) (pc := 55) dX7_rests_55 kk) ?_
            have hj66_1 : ∀ j14 : Int32, ∀ ls : Array Slot, lv_has ls 5 [(0, .ref a0), (1, .int a1), (3, .int s5v.2), (4, .int s9v.2)] → SP (X7_rests_j66 s9v j14) (ZL P9 E9) (AW (KX7_rests l D h0 hE v) h2 66 ls (.int j14 :: .int s9v.1 :: [])) := by
              intro j14 ls hl
              unfold X7_rests_j66
              refine sp_m (aw_iadd (pc := 66) dX7_rests_66) ?_
              refine sp_m (aw_istore_n (lv' := [(2, .int (s9v.1 + j14)), (0, .ref a0), (1, .int a1), (3, .int s5v.2), (4, .int s9v.2)]) (pc := 67) dX7_rests_67 rfl hl (by decide) rfl) (sp_all fun ls hl => ?_)
              refine sp_m (aw_iinc (v := s9v.2 + 1) (lv' := [(4, .int (s9v.2 + 1)), (2, .int (s9v.1 + j14)), (0, .ref a0), (1, .int a1), (3, .int s5v.2)]) (pc := 68) dX7_rests_68 hl (k := 4) rfl rfl (by decide) rfl) (sp_all fun ls hl => ?_)
              refine sp_m (aw_goto (tgt := 37) (pc := 71) dX7_rests_71 (by decide)) ?_
              exact sp_r fun hz => hz ls (lv_sub hl [2, 3, 1, 4, 0] rfl)
            refine sp_if (fun c15 => ?_) (fun c15 => ?_)
            · refine sp_m (aw_if_eq_t (tgt := 65) (pc := 58) dX7_rests_58 (by decide) c15) ?_
              refine sp_m (aw_iconst (v := 0) (pc := 65) dX7_rests_65 rfl) ?_
              exact hj66_1 0 ls (lv_sub hl [0, 1, 3, 4] rfl)
            · refine sp_m (aw_if_eq_f (tgt := 65) (pc := 58) dX7_rests_58 (by decide) c15) ?_
              refine sp_m (aw_iconst (v := 1) (pc := 61) dX7_rests_61 rfl) ?_
              refine sp_m (aw_goto (tgt := 66) (pc := 62) dX7_rests_62 (by decide)) ?_
              exact hj66_1 1 ls (lv_sub hl [0, 1, 3, 4] rfl)
        · have hl : lv_has ls 5 [(0, .ref a0), (1, .int a1), (2, .int r9v), (3, .int s5v.2)] := hl
          show SP _ _ (AW (KX7_rests l D h0 hE v) h2 74 ls [])
          refine sp_m (aw_iinc (v := s5v.2 + 1) (lv' := [(3, .int (s5v.2 + 1)), (0, .ref a0), (1, .int a1), (2, .int r9v)]) (pc := 74) dX7_rests_74 hl (k := 3) rfl rfl (by decide) rfl) (sp_all fun ls hl => ?_)
          refine sp_m (aw_goto (tgt := 23) (pc := 77) dX7_rests_77 (by decide)) ?_
          exact sp_r fun hz => hz ls (lv_sub hl [1, 2, 3, 0] rfl)
    · have hl : lv_has ls 5 [(0, .ref a0), (2, .int r5v)] := hl
      show SP _ _ (AW (KX7_rests l D h0 hE v) h2 80 ls [])
      refine sp_m (aw_aload_n (pc := 80) dX7_rests_80 rfl (lv_at hl 0 rfl)) ?_
      refine sp_m (aw_iload_n (pc := 81) dX7_rests_81 rfl (lv_at hl 1 rfl)) ?_
      refine sp_b fun p16 ep16 => ?_
      refine sp_m (G' := AW (KX7_rests l D h0 hE v) p16.2 (85) ls (.int p16.1 :: [])) (fun kk => aw_callV (As := [.int r5v]) (metX7_good _ _ ep16) (rcv_o okX7 (uS eh2 s1)) rfl mok_X7_good q1865 q1867 qs73 q125 q1868 (Nat.le_of_ble_eq_true rfl) (Nat.le_of_ble_eq_true rfl) rfl hl.1 rfl (Nat.le_of_ble_eq_true rfl) (pc := 82) dX7_rests_82 kk) ?_
      exact sp_r fun hz => aw_iret hz rfl rfl rfl (pc := 85) dX7_rests_85
  · refine sp_m (aw_if_ne_f (tgt := 19) (pc := 10) dX7_rests_10 (by decide) (Decidable.not_not.mp c4)) ?_
    refine sp_m (aw_aload_n (pc := 13) dX7_rests_13 rfl (lv_at hl 0 rfl)) ?_
    refine sp_m (aw_iconst (v := 1) (pc := 14) dX7_rests_14 rfl) ?_
    refine sp_b fun p17 ep17 => ?_
    refine sp_m (G' := AW (KX7_rests l D h0 hE v) p17.2 (18) ls (.int p17.1 :: [])) (fun kk => aw_callV (As := [.int 1]) (metX7_refused _ _ ep17) (rcv_o okX7 (uS eh2 s1)) rfl mok_X7_refused q1632 q1634 qs50 q125 q1635 (Nat.le_of_ble_eq_true rfl) (Nat.le_of_ble_eq_true rfl) rfl hl.1 rfl (Nat.le_of_ble_eq_true rfl) (pc := 15) dX7_rests_15 kk) ?_
    exact sp_r fun hz => aw_iret hz rfl rfl rfl (pc := 18) dX7_rests_18
theorem mok_X7_bits : mOK yX7_bits 1 := ⟨⟨by decide +kernel, by decide +kernel⟩, by decide +kernel⟩
abbrev KX7_bits (l : Launch) (D : DD) (h0 : AH) (v : Int32) : KT := (l, yX7_bits, cX7_bits, 3, (some .int), RX7, 1, D, h0, h0, .inl (some (.int v)), false, [])
theorem metX7_bits (l : Launch) (D : DD) {a0 : Int32} {h0 : AH} {v : Int32} (hr : fX7_bits a0 h0 = some v) : AMet (KX7_bits l D h0 v) [.int a0] := by
  refine AMet.of (K := (KX7_bits l D h0 v)) rfl ⟨_, rfl⟩ rfl rfl rfl (Nat.le_of_ble_eq_true rfl) (fun ls hl => ?_)
  have hl : lv_has ls 3 [(0, .int a0)] := hl
  suffices hsp : SP (fX7_bits a0 h0) (fun z => z = v) (AW (KX7_bits l D h0 v) h0 0 ls []) from hsp _ hr rfl
  unfold fX7_bits
  refine sp_m (aw_iconst (v := 0) (pc := 0) dX7_bits_0 rfl) ?_
  refine sp_m (aw_istore_n (lv' := [(1, .int 0), (0, .int a0)]) (pc := 1) dX7_bits_1 rfl hl (by decide) rfl) (sp_all fun ls hl => ?_)
  refine sp_m (aw_iload_n (pc := 2) dX7_bits_2 rfl (lv_at hl 1 rfl)) ?_
  refine sp_m (aw_istore_n (lv' := [(2, .int a0), (1, .int 0), (0, .int a0)]) (pc := 3) dX7_bits_3 rfl hl (by decide) rfl) (sp_all fun ls hl => ?_)
  let P1 : Int32 × Int32 → Prop := aLP (KX7_bits l D h0 v) 3 4 (fun s1v : Int32 × Int32 => [(1, .int s1v.1), (2, .int s1v.2)]) (fun s1v => h0)
  let E1 : Int32 → Prop := aLP (KX7_bits l D h0 v) 3 20 (fun r1v : Int32 => [(1, .int r1v)]) (fun r1v => h0)
  refine sp_bl (P := P1) (E := E1) (fun s1v => sp_all fun ls hl => ?_) (fun k => k ls (lv_sub hl [1, 0] rfl)) (fun r1v => sp_all fun ls hl => ?_)
  · have hl : lv_has ls 3 [(1, .int s1v.1), (2, .int s1v.2)] := hl
    show SP _ _ (AW (KX7_bits l D h0 v) h0 4 ls [])
    unfold X7_bits_L4
    refine sp_m (aw_iload_n (pc := 4) dX7_bits_4 rfl (lv_at hl 1 rfl)) ?_
    refine sp_if (fun c2 => ?_) (fun c2 => ?_)
    · refine sp_m (aw_if_eq_t (tgt := 20) (pc := 5) dX7_bits_5 (by decide) c2) ?_
      exact sp_r fun hz => hz ls (lv_sub hl [0] rfl)
    · refine sp_m (aw_if_eq_f (tgt := 20) (pc := 5) dX7_bits_5 (by decide) c2) ?_
      refine sp_m (aw_iinc (v := s1v.1 + 1) (lv' := [(1, .int (s1v.1 + 1)), (2, .int s1v.2)]) (pc := 8) dX7_bits_8 hl (k := 0) rfl rfl (by decide) rfl) (sp_all fun ls hl => ?_)
      refine sp_m (aw_iload_n (pc := 11) dX7_bits_11 rfl (lv_at hl 1 rfl)) ?_
      refine sp_m (aw_iload_n (pc := 12) dX7_bits_12 rfl (lv_at hl 1 rfl)) ?_
      refine sp_m (aw_iconst (v := 1) (pc := 13) dX7_bits_13 rfl) ?_
      refine sp_m (aw_isub (pc := 14) dX7_bits_14) ?_
      refine sp_m (aw_iand (pc := 15) dX7_bits_15) ?_
      refine sp_m (aw_istore_n (lv' := [(2, .int (s1v.2 &&& (s1v.2 - 1))), (1, .int (s1v.1 + 1))]) (pc := 16) dX7_bits_16 rfl hl (by decide) rfl) (sp_all fun ls hl => ?_)
      refine sp_m (aw_goto (tgt := 4) (pc := 17) dX7_bits_17 (by decide)) ?_
      exact sp_r fun hz => hz ls (lv_sub hl [1, 0] rfl)
  · have hl : lv_has ls 3 [(1, .int r1v)] := hl
    show SP _ _ (AW (KX7_bits l D h0 v) h0 20 ls [])
    refine sp_m (aw_iload_n (pc := 20) dX7_bits_20 rfl (lv_at hl 0 rfl)) ?_
    exact sp_r fun hz => aw_iret (congrArg (fun z => (z, h0)) hz) rfl rfl rfl (pc := 21) dX7_bits_21
theorem mok_X7_priceOf : mOK yX7_priceOf 1 := ⟨⟨by decide +kernel, by decide +kernel⟩, by decide +kernel⟩
abbrev KX7_priceOf (l : Launch) (D : DD) (h0 : AH) (v : Int32) : KT := (l, yX7_priceOf, cX7_priceOf, 4, (some .int), RX7, 2, D, h0, h0, .inl (some (.int v)), false, [])
theorem metX7_priceOf (l : Launch) (D : DD) {a0 : Nat} {a1 : Int32} {h0 : AH} {v : Int32} (hr : fX7_priceOf a0 a1 h0 = some v) : AMet (KX7_priceOf l D h0 v) [.ref a0, .int a1] := by
  refine AMet.of (K := (KX7_priceOf l D h0 v)) rfl ⟨_, rfl⟩ rfl rfl rfl (Nat.le_of_ble_eq_true rfl) (fun ls hl => ?_)
  have hl : lv_has ls 4 [(0, .ref a0), (1, .int a1)] := hl
  suffices hsp : SP (fX7_priceOf a0 a1 h0) (fun z => z = v) (AW (KX7_priceOf l D h0 v) h0 0 ls []) from hsp _ hr rfl
  unfold fX7_priceOf
  refine sp_m (aw_iconst (v := 0) (pc := 0) dX7_priceOf_0 rfl) ?_
  refine sp_m (aw_istore_n (lv' := [(2, .int 0), (0, .ref a0), (1, .int a1)]) (pc := 1) dX7_priceOf_1 rfl hl (by decide) rfl) (sp_all fun ls hl => ?_)
  refine sp_m (aw_iconst (v := 0) (pc := 2) dX7_priceOf_2 rfl) ?_
  refine sp_m (aw_istore_n (lv' := [(3, .int 0), (2, .int 0), (0, .ref a0), (1, .int a1)]) (pc := 3) dX7_priceOf_3 rfl hl (by decide) rfl) (sp_all fun ls hl => ?_)
  let P1 : Int32 × Int32 → Prop := aLP (KX7_priceOf l D h0 v) 4 4 (fun s1v : Int32 × Int32 => [(0, .ref a0), (1, .int a1), (2, .int s1v.1), (3, .int s1v.2)]) (fun s1v => h0)
  let E1 : Int32 → Prop := aLP (KX7_priceOf l D h0 v) 4 45 (fun r1v : Int32 => [(2, .int r1v)]) (fun r1v => h0)
  refine sp_bl (P := P1) (E := E1) (fun s1v => sp_all fun ls hl => ?_) (fun k => k ls (lv_sub hl [2, 3, 1, 0] rfl)) (fun r1v => sp_all fun ls hl => ?_)
  · have hl : lv_has ls 4 [(0, .ref a0), (1, .int a1), (2, .int s1v.1), (3, .int s1v.2)] := hl
    show SP _ _ (AW (KX7_priceOf l D h0 v) h0 4 ls [])
    unfold X7_priceOf_L4
    refine sp_m (aw_iload_n (pc := 4) dX7_priceOf_4 rfl (lv_at hl 3 rfl)) ?_
    refine sp_m (aw_aload_n (pc := 5) dX7_priceOf_5 rfl (lv_at hl 0 rfl)) ?_
    refine sp_g fun s2 => ?_
    refine sp_b fun x3 ex3 => ?_
    refine sp_m (aw_get (k := 3) okX7 s2 (by decide) q1505 (Or.inl rfl) (congrArg va_rf ex3) (pc := 6) dX7_priceOf_6) ?_
    refine sp_g fun s4 => ?_
    refine sp_m (aw_getN (k := 3) okX20 s4 (by decide) nq1645 rfl rfl (pc := 9) dX7_priceOf_9) ?_
    refine sp_if (fun c5 => ?_) (fun c5 => ?_)
    · refine sp_m (aw_icmp_ge_t (tgt := 45) (pc := 12) dX7_priceOf_12 (by decide) c5) ?_
      exact sp_r fun hz => hz ls (lv_sub hl [2] rfl)
    · refine sp_m (aw_icmp_ge_f (tgt := 45) (pc := 12) dX7_priceOf_12 (by decide) c5) ?_
      refine sp_m (aw_iload_n (pc := 15) dX7_priceOf_15 rfl (lv_at hl 2 rfl)) ?_
      refine sp_m (aw_iload_n (pc := 16) dX7_priceOf_16 rfl (lv_at hl 1 rfl)) ?_
      refine sp_m (aw_iload_n (pc := 17) dX7_priceOf_17 rfl (lv_at hl 3 rfl)) ?_
      refine sp_b fun p6 ep6 => ?_
      refine sp_m (G' := AW (KX7_priceOf l D h0 v) h0 (21) ls (.int p6 :: .int s1v.1 :: [])) (fun kk => aw_callS (As := [.int a1, .int s1v.2]) (metX7_bit _ _ ep6) mok_X7_bit q1806 q1807 q125 q1808 (Nat.le_of_ble_eq_true rfl) (Nat.le_of_ble_eq_true rfl) rfl hl.1 rfl (Nat.le_of_ble_eq_true rfl) (pc := 18) dX7_priceOf_18 kk) ?_
      have hj37_1 : ∀ j7 : Int32, ∀ ls : Array Slot, lv_has ls 4 [(0, .ref a0), (1, .int a1), (3, .int s1v.2)] → SP (X7_priceOf_j37 s1v j7) (ZL P1 E1) (AW (KX7_priceOf l D h0 v) h0 37 ls (.int j7 :: .int s1v.1 :: [])) := by
        intro j7 ls hl
        unfold X7_priceOf_j37
        refine sp_m (aw_iadd (pc := 37) dX7_priceOf_37) ?_
        refine sp_m (aw_istore_n (lv' := [(2, .int (s1v.1 + j7)), (0, .ref a0), (1, .int a1), (3, .int s1v.2)]) (pc := 38) dX7_priceOf_38 rfl hl (by decide) rfl) (sp_all fun ls hl => ?_)
        refine sp_m (aw_iinc (v := s1v.2 + 1) (lv' := [(3, .int (s1v.2 + 1)), (2, .int (s1v.1 + j7)), (0, .ref a0), (1, .int a1)]) (pc := 39) dX7_priceOf_39 hl (k := 3) rfl rfl (by decide) rfl) (sp_all fun ls hl => ?_)
        refine sp_m (aw_goto (tgt := 4) (pc := 42) dX7_priceOf_42 (by decide)) ?_
        exact sp_r fun hz => hz ls (lv_sub hl [2, 3, 1, 0] rfl)
      refine sp_if (fun c8 => ?_) (fun c8 => ?_)
      · refine sp_m (aw_if_eq_t (tgt := 36) (pc := 21) dX7_priceOf_21 (by decide) c8) ?_
        refine sp_m (aw_iconst (v := 0) (pc := 36) dX7_priceOf_36 rfl) ?_
        exact hj37_1 0 ls (lv_sub hl [0, 1, 3] rfl)
      · refine sp_m (aw_if_eq_f (tgt := 36) (pc := 21) dX7_priceOf_21 (by decide) c8) ?_
        refine sp_m (aw_aload_n (pc := 24) dX7_priceOf_24 rfl (lv_at hl 0 rfl)) ?_
        refine sp_b fun x9 ex9 => ?_
        refine sp_m (aw_get (k := 3) okX7 s2 (by decide) q1505 (Or.inl rfl) (congrArg va_rf ex9) (pc := 25) dX7_priceOf_25) ?_
        refine sp_g fun s10 => ?_
        refine sp_b fun x11 ex11 => ?_
        refine sp_m (aw_getN (k := 13) okX20 s10 (by decide) nq1662 rfl (congrArg va_rf ex11) (pc := 28) dX7_priceOf_28) ?_
        refine sp_m (aw_iload_n (pc := 31) dX7_priceOf_31 rfl (lv_at hl 3 rfl)) ?_
        refine sp_g fun s12 => ?_
        refine sp_g fun i13 => ?_
        refine sp_m (aw_iald s12 i13 (pc := 32) dX7_priceOf_32) ?_
        refine sp_m (aw_goto (tgt := 37) (pc := 33) dX7_priceOf_33 (by decide)) ?_
        exact hj37_1 (gI h0 x11 (ix s1v.2)) ls (lv_sub hl [0, 1, 3] rfl)
  · have hl : lv_has ls 4 [(2, .int r1v)] := hl
    show SP _ _ (AW (KX7_priceOf l D h0 v) h0 45 ls [])
    refine sp_m (aw_iload_n (pc := 45) dX7_priceOf_45 rfl (lv_at hl 0 rfl)) ?_
    exact sp_r fun hz => aw_iret (congrArg (fun z => (z, h0)) hz) rfl rfl rfl (pc := 46) dX7_priceOf_46
theorem mok_X7_sold : mOK yX7_sold 1 := ⟨⟨by decide +kernel, by decide +kernel⟩, by decide +kernel⟩
abbrev KX7_sold (l : Launch) (D : DD) (h0 : AH) (v : Int32) : KT := (l, yX7_sold, cX7_sold, 4, (some .int), RX7, 3, D, h0, h0, .inl (some (.int v)), false, [])
theorem metX7_sold (l : Launch) (D : DD) {a0 : Nat} {a1 : Int32} {h0 : AH} {v : Int32} (hr : fX7_sold a0 a1 h0 = some v) : AMet (KX7_sold l D h0 v) [.ref a0, .int a1] := by
  refine AMet.of (K := (KX7_sold l D h0 v)) rfl ⟨_, rfl⟩ rfl rfl rfl (Nat.le_of_ble_eq_true rfl) (fun ls hl => ?_)
  have hl : lv_has ls 4 [(0, .ref a0), (1, .int a1)] := hl
  suffices hsp : SP (fX7_sold a0 a1 h0) (fun z => z = v) (AW (KX7_sold l D h0 v) h0 0 ls []) from hsp _ hr rfl
  unfold fX7_sold
  refine sp_m (aw_bipush (v := (-2)) (pc := 0) dX7_sold_0 rfl) ?_
  refine sp_m (aw_istore_n (lv' := [(2, .int (-2)), (0, .ref a0), (1, .int a1)]) (pc := 2) dX7_sold_2 rfl hl (by decide) rfl) (sp_all fun ls hl => ?_)
  refine sp_m (aw_iconst (v := 0) (pc := 3) dX7_sold_3 rfl) ?_
  refine sp_m (aw_istore_n (lv' := [(3, .int 0), (2, .int (-2)), (0, .ref a0), (1, .int a1)]) (pc := 4) dX7_sold_4 rfl hl (by decide) rfl) (sp_all fun ls hl => ?_)
  let P1 : Int32 × Int32 → Prop := aLP (KX7_sold l D h0 v) 4 5 (fun s1v : Int32 × Int32 => [(0, .ref a0), (1, .int a1), (2, .int s1v.1), (3, .int s1v.2)]) (fun s1v => h0)
  let E1 : Int32 → Prop := aLP (KX7_sold l D h0 v) 4 64 (fun r1v : Int32 => [(2, .int r1v)]) (fun r1v => h0)
  refine sp_bl (P := P1) (E := E1) (fun s1v => sp_all fun ls hl => ?_) (fun k => k ls (lv_sub hl [2, 3, 1, 0] rfl)) (fun r1v => sp_all fun ls hl => ?_)
  · have hl : lv_has ls 4 [(0, .ref a0), (1, .int a1), (2, .int s1v.1), (3, .int s1v.2)] := hl
    show SP _ _ (AW (KX7_sold l D h0 v) h0 5 ls [])
    unfold X7_sold_L5
    refine sp_m (aw_iload_n (pc := 5) dX7_sold_5 rfl (lv_at hl 3 rfl)) ?_
    refine sp_m (aw_iconst (v := 1) (pc := 6) dX7_sold_6 rfl) ?_
    refine sp_m (aw_aload_n (pc := 7) dX7_sold_7 rfl (lv_at hl 0 rfl)) ?_
    refine sp_g fun s2 => ?_
    refine sp_b fun x3 ex3 => ?_
    refine sp_m (aw_get (k := 3) okX7 s2 (by decide) q1505 (Or.inl rfl) (congrArg va_rf ex3) (pc := 8) dX7_sold_8) ?_
    refine sp_g fun s4 => ?_
    refine sp_m (aw_getN (k := 3) okX20 s4 (by decide) nq1645 rfl rfl (pc := 11) dX7_sold_11) ?_
    refine sp_m (aw_ishl (pc := 14) dX7_sold_14) ?_
    refine sp_if (fun c5 => ?_) (fun c5 => ?_)
    · refine sp_m (aw_icmp_ge_t (tgt := 64) (pc := 15) dX7_sold_15 (by decide) c5) ?_
      exact sp_r fun hz => hz ls (lv_sub hl [2] rfl)
    · refine sp_m (aw_icmp_ge_f (tgt := 64) (pc := 15) dX7_sold_15 (by decide) c5) ?_
      refine sp_m (aw_iload_n (pc := 18) dX7_sold_18 rfl (lv_at hl 3 rfl)) ?_
      refine sp_m (aw_aload_n (pc := 19) dX7_sold_19 rfl (lv_at hl 0 rfl)) ?_
      refine sp_b fun x6 ex6 => ?_
      refine sp_m (aw_get (k := 16) okX7 s2 (by decide) q1518 (Or.inl rfl) (congrArg va_rf ex6) (pc := 20) dX7_sold_20) ?_
      refine sp_m (aw_bipush (v := 10) (pc := 23) dX7_sold_23 rfl) ?_
      refine sp_g fun s7 => ?_
      refine sp_g fun i8 => ?_
      refine sp_m (aw_iald s7 i8 (pc := 25) dX7_sold_25) ?_
      refine sp_m (aw_iand (pc := 26) dX7_sold_26) ?_
      have hj58_1 : ∀ j9 : Int32, ∀ ls : Array Slot, lv_has ls 4 [(0, .ref a0), (1, .int a1), (2, .int j9), (3, .int s1v.2)] → SP (X7_sold_j58 s1v j9) (ZL P1 E1) (AW (KX7_sold l D h0 v) h0 58 ls ([])) := by
        intro j9 ls hl
        unfold X7_sold_j58
        refine sp_m (aw_iinc (v := s1v.2 + 1) (lv' := [(3, .int (s1v.2 + 1)), (0, .ref a0), (1, .int a1), (2, .int j9)]) (pc := 58) dX7_sold_58 hl (k := 3) rfl rfl (by decide) rfl) (sp_all fun ls hl => ?_)
        refine sp_m (aw_goto (tgt := 5) (pc := 61) dX7_sold_61 (by decide)) ?_
        exact sp_r fun hz => hz ls (lv_sub hl [1, 2, 3, 0] rfl)
      refine sp_if (fun c10 => ?_) (fun c10 => ?_)
      · refine sp_m (aw_if_ne_t (tgt := 58) (pc := 27) dX7_sold_27 (by decide) c10) ?_
        exact hj58_1 s1v.1 ls (lv_sub hl [0, 1, 2, 3] rfl)
      · refine sp_m (aw_if_ne_f (tgt := 58) (pc := 27) dX7_sold_27 (by decide) (Decidable.not_not.mp c10)) ?_
        refine sp_m (aw_aload_n (pc := 30) dX7_sold_30 rfl (lv_at hl 0 rfl)) ?_
        refine sp_m (aw_iload_n (pc := 31) dX7_sold_31 rfl (lv_at hl 3 rfl)) ?_
        refine sp_b fun p11 ep11 => ?_
        refine sp_m (G' := AW (KX7_sold l D h0 v) h0 (35) ls (.int p11 :: [])) (fun kk => aw_callV (As := [.int s1v.2]) (metX7_priceOf _ _ ep11) (rcv_o okX7 s2) rfl mok_X7_priceOf q2065 q2067 qs99 q125 q2068 (Nat.le_of_ble_eq_true rfl) (Nat.le_of_ble_eq_true rfl) rfl hl.1 rfl (Nat.le_of_ble_eq_true rfl) (pc := 32) dX7_sold_32 kk) ?_
        refine sp_m (aw_iload_n (pc := 35) dX7_sold_35 rfl (lv_at hl 1 rfl)) ?_
        refine sp_if (fun c12 => ?_) (fun c12 => ?_)
        · refine sp_m (aw_icmp_lt_t (tgt := 58) (pc := 36) dX7_sold_36 (by decide) c12) ?_
          exact hj58_1 s1v.1 ls (lv_sub hl [0, 1, 2, 3] rfl)
        · refine sp_m (aw_icmp_lt_f (tgt := 58) (pc := 36) dX7_sold_36 (by decide) c12) ?_
          refine sp_m (aw_iload_n (pc := 39) dX7_sold_39 rfl (lv_at hl 2 rfl)) ?_
          refine sp_m (aw_bipush (v := (-2)) (pc := 40) dX7_sold_40 rfl) ?_
          have hj56_2 : ∀ ls : Array Slot, lv_has ls 4 [(0, .ref a0), (1, .int a1), (3, .int s1v.2)] → SP (X7_sold_j56 s1v) (ZL P1 E1) (AW (KX7_sold l D h0 v) h0 56 ls ([])) := by
            intro ls hl
            unfold X7_sold_j56
            refine sp_m (aw_iload_n (pc := 56) dX7_sold_56 rfl (lv_at hl 2 rfl)) ?_
            refine sp_m (aw_istore_n (lv' := [(2, .int s1v.2), (0, .ref a0), (1, .int a1), (3, .int s1v.2)]) (pc := 57) dX7_sold_57 rfl hl (by decide) rfl) (sp_all fun ls hl => ?_)
            exact hj58_1 s1v.2 ls (lv_sub hl [1, 2, 0, 3] rfl)
          refine sp_if (fun c13 => ?_) (fun c13 => ?_)
          · refine sp_m (aw_icmp_eq_t (tgt := 56) (pc := 42) dX7_sold_42 (by decide) c13) ?_
            exact hj56_2 ls (lv_sub hl [0, 1, 3] rfl)
          · refine sp_m (aw_icmp_eq_f (tgt := 56) (pc := 42) dX7_sold_42 (by decide) c13) ?_
            refine sp_m (aw_iload_n (pc := 45) dX7_sold_45 rfl (lv_at hl 3 rfl)) ?_
            refine sp_b fun p14 ep14 => ?_
            refine sp_m (G' := AW (KX7_sold l D h0 v) h0 (49) ls (.int p14 :: [])) (fun kk => aw_callS (As := [.int s1v.2]) (metX7_bits _ _ ep14) mok_X7_bits q2069 q2070 q125 q2071 (Nat.le_of_ble_eq_true rfl) (Nat.le_of_ble_eq_true rfl) rfl hl.1 rfl (Nat.le_of_ble_eq_true rfl) (pc := 46) dX7_sold_46 kk) ?_
            refine sp_m (aw_iload_n (pc := 49) dX7_sold_49 rfl (lv_at hl 2 rfl)) ?_
            refine sp_b fun p15 ep15 => ?_
            refine sp_m (G' := AW (KX7_sold l D h0 v) h0 (53) ls (.int p15 :: .int p14 :: [])) (fun kk => aw_callS (As := [.int s1v.1]) (metX7_bits _ _ ep15) mok_X7_bits q2069 q2070 q125 q2071 (Nat.le_of_ble_eq_true rfl) (Nat.le_of_ble_eq_true rfl) rfl hl.1 rfl (Nat.le_of_ble_eq_true rfl) (pc := 50) dX7_sold_50 kk) ?_
            refine sp_if (fun c16 => ?_) (fun c16 => ?_)
            · refine sp_m (aw_icmp_ge_t (tgt := 58) (pc := 53) dX7_sold_53 (by decide) c16) ?_
              exact hj58_1 s1v.1 ls (lv_sub hl [0, 1, 2, 3] rfl)
            · refine sp_m (aw_icmp_ge_f (tgt := 58) (pc := 53) dX7_sold_53 (by decide) c16) ?_
              exact hj56_2 ls (lv_sub hl [0, 1, 3] rfl)
  · have hl : lv_has ls 4 [(2, .int r1v)] := hl
    show SP _ _ (AW (KX7_sold l D h0 v) h0 64 ls [])
    refine sp_m (aw_iload_n (pc := 64) dX7_sold_64 rfl (lv_at hl 0 rfl)) ?_
    exact sp_r fun hz => aw_iret (congrArg (fun z => (z, h0)) hz) rfl rfl rfl (pc := 65) dX7_sold_65
theorem mok_X7_sale : mOK yX7_sale 1 := ⟨⟨by decide +kernel, by decide +kernel⟩, by decide +kernel⟩
abbrev KX7_sale (l : Launch) (D : DD) (h0 hE : AH) (v : Int32) : KT := (l, yX7_sale, cX7_sale, 2, (some .int), RX7, 4, D, h0, hE, .inl (some (.int v)), false, [])
theorem metX7_sale (l : Launch) (D : DD) {a0 : Nat} {a1 : Int32} {h0 : AH} {hE : AH} {v : Int32} (hr : fX7_sale a0 a1 h0 = some (v, hE)) : AMet (KX7_sale l D h0 hE v) [.ref a0, .int a1] := by
  refine AMet.of (K := (KX7_sale l D h0 hE v)) rfl ⟨_, rfl⟩ rfl rfl rfl (Nat.le_of_ble_eq_true rfl) (fun ls hl => ?_)
  have hl : lv_has ls 2 [(0, .ref a0), (1, .int a1)] := hl
  suffices hsp : SP (fX7_sale a0 a1 h0) (fun z => z = (v, hE)) (AW (KX7_sale l D h0 hE v) h0 0 ls []) from hsp _ hr rfl
  unfold fX7_sale
  refine sp_m (aw_aload_n (pc := 0) dX7_sale_0 rfl (lv_at hl 0 rfl)) ?_
  refine sp_m (aw_iconst (v := 0) (pc := 1) dX7_sale_1 rfl) ?_
  refine sp_g fun s1 => ?_
  refine sp_t fun h2 eh20 => ?_
  have eh2 : gS h2 = gS h0 := by rw [eh20]; rfl
  refine sp_m (aw_put (k := 0) okX7 opX7 s1 (by decide) q1502 (Or.inl rfl) (Or.inl rfl) (hasV_I' eh20) rfl rfl (pc := 2) dX7_sale_2) ?_
  refine sp_m (aw_aload_n (pc := 5) dX7_sale_5 rfl (lv_at hl 0 rfl)) ?_
  refine sp_o (fun ex3 => ?_) (fun x3 ex3 => ?_)
  · refine sp_m (aw_get (k := 3) okX7 (uS eh2 s1) (by decide) q1505 (Or.inl rfl) (congrArg va_rf ex3) (pc := 6) dX7_sale_6) ?_
    refine sp_m (aw_ifnonnullN (pc := 9) dX7_sale_9) ?_
    refine sp_m (aw_aload_n (pc := 12) dX7_sale_12 rfl (lv_at hl 0 rfl)) ?_
    refine sp_m (aw_iconst (v := 1) (pc := 13) dX7_sale_13 rfl) ?_
    refine sp_b fun p9 ep9 => ?_
    refine sp_m (G' := AW (KX7_sale l D h0 hE v) p9.2 (17) ls (.int p9.1 :: [])) (fun kk => aw_callV (As := [.int 1]) (metX7_refused _ _ ep9) (rcv_o okX7 (uS eh2 s1)) rfl mok_X7_refused q1632 q1634 qs50 q125 q1635 (Nat.le_of_ble_eq_true rfl) (Nat.le_of_ble_eq_true rfl) rfl hl.1 rfl (Nat.le_of_ble_eq_true rfl) (pc := 14) dX7_sale_14 kk) ?_
    exact sp_r fun hz => aw_iret hz rfl rfl rfl (pc := 17) dX7_sale_17
  · refine sp_m (aw_get (k := 3) okX7 (uS eh2 s1) (by decide) q1505 (Or.inl rfl) (congrArg va_rf ex3) (pc := 6) dX7_sale_6) ?_
    refine sp_m (aw_ifnonnull (tgt := 18) (pc := 9) dX7_sale_9 (by decide)) ?_
    refine sp_m (aw_iload_n (pc := 18) dX7_sale_18 rfl (lv_at hl 1 rfl)) ?_
    refine sp_m (aw_iconst (v := 0) (pc := 19) dX7_sale_19 rfl) ?_
    refine sp_m (aw_sipush (v := 500) (pc := 20) dX7_sale_20 rfl) ?_
    refine sp_b fun p4 ep4 => ?_
    refine sp_m (G' := AW (KX7_sale l D h0 hE v) h2 (26) ls (.int p4 :: [])) (fun kk => aw_callS (As := [.int a1, .int 0, .int 500]) (metX7_in _ _ ep4) mok_X7_in q1793 q1794 q125 q1795 (Nat.le_of_ble_eq_true rfl) (Nat.le_of_ble_eq_true rfl) rfl hl.1 rfl (Nat.le_of_ble_eq_true rfl) (pc := 23) dX7_sale_23 kk) ?_
    refine sp_if (fun c5 => ?_) (fun c5 => ?_)
    · refine sp_m (aw_if_eq_t (tgt := 41) (pc := 26) dX7_sale_26 (by decide) c5) ?_
      refine sp_m (aw_aload_n (pc := 41) dX7_sale_41 rfl (lv_at hl 0 rfl)) ?_
      refine sp_m (aw_iconst (v := 2) (pc := 42) dX7_sale_42 rfl) ?_
      refine sp_b fun p6 ep6 => ?_
      refine sp_m (G' := AW (KX7_sale l D h0 hE v) p6.2 (46) ls (.int p6.1 :: [])) (fun kk => aw_callV (As := [.int 2]) (metX7_refused _ _ ep6) (rcv_o okX7 (uS eh2 s1)) rfl mok_X7_refused q1632 q1634 qs50 q125 q1635 (Nat.le_of_ble_eq_true rfl) (Nat.le_of_ble_eq_true rfl) rfl hl.1 rfl (Nat.le_of_ble_eq_true rfl) (pc := 43) dX7_sale_43 kk) ?_
      exact sp_r fun hz => aw_iret hz rfl rfl rfl (pc := 46) dX7_sale_46
    · refine sp_m (aw_if_eq_f (tgt := 41) (pc := 26) dX7_sale_26 (by decide) c5) ?_
      refine sp_m (aw_aload_n (pc := 29) dX7_sale_29 rfl (lv_at hl 0 rfl)) ?_
      refine sp_m (aw_aload_n (pc := 30) dX7_sale_30 rfl (lv_at hl 0 rfl)) ?_
      refine sp_m (aw_iload_n (pc := 31) dX7_sale_31 rfl (lv_at hl 1 rfl)) ?_
      refine sp_b fun p7 ep7 => ?_
      refine sp_m (G' := AW (KX7_sale l D h0 hE v) h2 (35) ls (.int p7 :: .ref a0 :: [])) (fun kk => aw_callV (As := [.int a1]) (metX7_sold _ _ ep7) (rcv_o okX7 (uS eh2 s1)) rfl mok_X7_sold q2061 q2063 qs98 q125 q2064 (Nat.le_of_ble_eq_true rfl) (Nat.le_of_ble_eq_true rfl) rfl hl.1 rfl (Nat.le_of_ble_eq_true rfl) (pc := 32) dX7_sale_32 kk) ?_
      refine sp_b fun p8 ep8 => ?_
      refine sp_m (G' := AW (KX7_sale l D h0 hE v) p8.2 (38) ls (.int p8.1 :: [])) (fun kk => aw_callV (As := [.int p7]) (metX7_good _ _ ep8) (rcv_o okX7 (uS eh2 s1)) rfl mok_X7_good q1865 q1867 qs73 q125 q1868 (Nat.le_of_ble_eq_true rfl) (Nat.le_of_ble_eq_true rfl) rfl hl.1 rfl (Nat.le_of_ble_eq_true rfl) (pc := 35) dX7_sale_35 kk) ?_
      refine sp_m (aw_goto (tgt := 46) (pc := 38) dX7_sale_38 (by decide)) ?_
      exact sp_r fun hz => aw_iret hz rfl rfl rfl (pc := 46) dX7_sale_46
theorem mok_X7_saleOver : mOK yX7_saleOver 1 := ⟨⟨by decide +kernel, by decide +kernel⟩, by decide +kernel⟩
abbrev KX7_saleOver (l : Launch) (D : DD) (h0 hE : AH) (v : Int32) : KT := (l, yX7_saleOver, cX7_saleOver, 3, (some .int), RX7, 4, D, h0, hE, .inl (some (.int v)), false, [])
theorem metX7_saleOver (l : Launch) (D : DD) {a0 : Nat} {a1 : Int32} {h0 : AH} {hE : AH} {v : Int32} (hr : fX7_saleOver a0 a1 h0 = some (v, hE)) : AMet (KX7_saleOver l D h0 hE v) [.ref a0, .int a1] := by
  refine AMet.of (K := (KX7_saleOver l D h0 hE v)) rfl ⟨_, rfl⟩ rfl rfl rfl (Nat.le_of_ble_eq_true rfl) (fun ls hl => ?_)
  have hl : lv_has ls 3 [(0, .ref a0), (1, .int a1)] := hl
  suffices hsp : SP (fX7_saleOver a0 a1 h0) (fun z => z = (v, hE)) (AW (KX7_saleOver l D h0 hE v) h0 0 ls []) from hsp _ hr rfl
  unfold fX7_saleOver
  refine sp_m (aw_aload_n (pc := 0) dX7_saleOver_0 rfl (lv_at hl 0 rfl)) ?_
  refine sp_m (aw_iconst (v := 0) (pc := 1) dX7_saleOver_1 rfl) ?_
  refine sp_g fun s1 => ?_
  refine sp_t fun h2 eh20 => ?_
  have eh2 : gS h2 = gS h0 := by rw [eh20]; rfl
  refine sp_m (aw_put (k := 0) okX7 opX7 s1 (by decide) q1502 (Or.inl rfl) (Or.inl rfl) (hasV_I' eh20) rfl rfl (pc := 2) dX7_saleOver_2) ?_
  refine sp_m (aw_aload_n (pc := 5) dX7_saleOver_5 rfl (lv_at hl 0 rfl)) ?_
  refine sp_o (fun ex3 => ?_) (fun x3 ex3 => ?_)
  · refine sp_m (aw_get (k := 3) okX7 (uS eh2 s1) (by decide) q1505 (Or.inl rfl) (congrArg va_rf ex3) (pc := 6) dX7_saleOver_6) ?_
    refine sp_m (aw_ifnonnullN (pc := 9) dX7_saleOver_9) ?_
    refine sp_m (aw_aload_n (pc := 12) dX7_saleOver_12 rfl (lv_at hl 0 rfl)) ?_
    refine sp_m (aw_iconst (v := 1) (pc := 13) dX7_saleOver_13 rfl) ?_
    refine sp_b fun p12 ep12 => ?_
    refine sp_m (G' := AW (KX7_saleOver l D h0 hE v) p12.2 (17) ls (.int p12.1 :: [])) (fun kk => aw_callV (As := [.int 1]) (metX7_refused _ _ ep12) (rcv_o okX7 (uS eh2 s1)) rfl mok_X7_refused q1632 q1634 qs50 q125 q1635 (Nat.le_of_ble_eq_true rfl) (Nat.le_of_ble_eq_true rfl) rfl hl.1 rfl (Nat.le_of_ble_eq_true rfl) (pc := 14) dX7_saleOver_14 kk) ?_
    exact sp_r fun hz => aw_iret hz rfl rfl rfl (pc := 17) dX7_saleOver_17
  · refine sp_m (aw_get (k := 3) okX7 (uS eh2 s1) (by decide) q1505 (Or.inl rfl) (congrArg va_rf ex3) (pc := 6) dX7_saleOver_6) ?_
    refine sp_m (aw_ifnonnull (tgt := 18) (pc := 9) dX7_saleOver_9 (by decide)) ?_
    refine sp_m (aw_iload_n (pc := 18) dX7_saleOver_18 rfl (lv_at hl 1 rfl)) ?_
    refine sp_m (aw_iconst (v := 0) (pc := 19) dX7_saleOver_19 rfl) ?_
    refine sp_m (aw_sipush (v := 500) (pc := 20) dX7_saleOver_20 rfl) ?_
    refine sp_b fun p4 ep4 => ?_
    refine sp_m (G' := AW (KX7_saleOver l D h0 hE v) h2 (26) ls (.int p4 :: [])) (fun kk => aw_callS (As := [.int a1, .int 0, .int 500]) (metX7_in _ _ ep4) mok_X7_in q1793 q1794 q125 q1795 (Nat.le_of_ble_eq_true rfl) (Nat.le_of_ble_eq_true rfl) rfl hl.1 rfl (Nat.le_of_ble_eq_true rfl) (pc := 23) dX7_saleOver_23 kk) ?_
    refine sp_if (fun c5 => ?_) (fun c5 => ?_)
    · refine sp_m (aw_if_ne_t (tgt := 35) (pc := 26) dX7_saleOver_26 (by decide) c5) ?_
      refine sp_m (aw_aload_n (pc := 35) dX7_saleOver_35 rfl (lv_at hl 0 rfl)) ?_
      refine sp_m (aw_iload_n (pc := 36) dX7_saleOver_36 rfl (lv_at hl 1 rfl)) ?_
      refine sp_b fun p6 ep6 => ?_
      refine sp_m (G' := AW (KX7_saleOver l D h0 hE v) h2 (40) ls (.int p6 :: [])) (fun kk => aw_callV (As := [.int a1]) (metX7_sold _ _ ep6) (rcv_o okX7 (uS eh2 s1)) rfl mok_X7_sold q2061 q2063 qs98 q125 q2064 (Nat.le_of_ble_eq_true rfl) (Nat.le_of_ble_eq_true rfl) rfl hl.1 rfl (Nat.le_of_ble_eq_true rfl) (pc := 37) dX7_saleOver_37 kk) ?_
      refine sp_m (aw_istore_n (lv' := [(2, .int p6), (0, .ref a0), (1, .int a1)]) (pc := 40) dX7_saleOver_40 rfl hl (by decide) rfl) (sp_all fun ls hl => ?_)
      refine sp_m (aw_iload_n (pc := 41) dX7_saleOver_41 rfl (lv_at hl 0 rfl)) ?_
      refine sp_m (aw_bipush (v := (-2)) (pc := 42) dX7_saleOver_42 rfl) ?_
      refine sp_if (fun c7 => ?_) (fun c7 => ?_)
      · refine sp_m (aw_icmp_ne_t (tgt := 56) (pc := 44) dX7_saleOver_44 (by decide) c7) ?_
        refine sp_m (aw_aload_n (pc := 56) dX7_saleOver_56 rfl (lv_at hl 1 rfl)) ?_
        refine sp_m (aw_aload_n (pc := 57) dX7_saleOver_57 rfl (lv_at hl 1 rfl)) ?_
        refine sp_m (aw_iload_n (pc := 58) dX7_saleOver_58 rfl (lv_at hl 0 rfl)) ?_
        refine sp_b fun p8 ep8 => ?_
        refine sp_m (G' := AW (KX7_saleOver l D h0 hE v) h2 (62) ls (.int p8 :: .ref a0 :: [])) (fun kk => aw_callV (As := [.int p6]) (metX7_priceOf _ _ ep8) (rcv_o okX7 (uS eh2 s1)) rfl mok_X7_priceOf q2065 q2067 qs99 q125 q2068 (Nat.le_of_ble_eq_true rfl) (Nat.le_of_ble_eq_true rfl) rfl hl.1 rfl (Nat.le_of_ble_eq_true rfl) (pc := 59) dX7_saleOver_59 kk) ?_
        refine sp_m (aw_iload_n (pc := 62) dX7_saleOver_62 rfl (lv_at hl 2 rfl)) ?_
        refine sp_m (aw_isub (pc := 63) dX7_saleOver_63) ?_
        refine sp_b fun p9 ep9 => ?_
        refine sp_m (G' := AW (KX7_saleOver l D h0 hE v) p9.2 (67) ls (.int p9.1 :: [])) (fun kk => aw_callV (As := [.int (p8 - a1)]) (metX7_good _ _ ep9) (rcv_o okX7 (uS eh2 s1)) rfl mok_X7_good q1865 q1867 qs73 q125 q1868 (Nat.le_of_ble_eq_true rfl) (Nat.le_of_ble_eq_true rfl) rfl hl.1 rfl (Nat.le_of_ble_eq_true rfl) (pc := 64) dX7_saleOver_64 kk) ?_
        exact sp_r fun hz => aw_iret hz rfl rfl rfl (pc := 67) dX7_saleOver_67
      · refine sp_m (aw_icmp_ne_f (tgt := 56) (pc := 44) dX7_saleOver_44 (by decide) (Decidable.not_not.mp c7)) ?_
        refine sp_m (aw_aload_n (pc := 47) dX7_saleOver_47 rfl (lv_at hl 1 rfl)) ?_
        refine sp_m (aw_bipush (v := 6) (pc := 48) dX7_saleOver_48 rfl) ?_
        refine sp_b fun p10 ep10 => ?_
        refine sp_m (G' := AW (KX7_saleOver l D h0 hE v) p10.2 (53) ls (.int p10.1 :: [])) (fun kk => aw_callV (As := [.int 6]) (metX7_refused _ _ ep10) (rcv_o okX7 (uS eh2 s1)) rfl mok_X7_refused q1632 q1634 qs50 q125 q1635 (Nat.le_of_ble_eq_true rfl) (Nat.le_of_ble_eq_true rfl) rfl hl.1 rfl (Nat.le_of_ble_eq_true rfl) (pc := 50) dX7_saleOver_50 kk) ?_
        refine sp_m (aw_goto (tgt := 67) (pc := 53) dX7_saleOver_53 (by decide)) ?_
        exact sp_r fun hz => aw_iret hz rfl rfl rfl (pc := 67) dX7_saleOver_67
    · refine sp_m (aw_if_ne_f (tgt := 35) (pc := 26) dX7_saleOver_26 (by decide) (Decidable.not_not.mp c5)) ?_
      refine sp_m (aw_aload_n (pc := 29) dX7_saleOver_29 rfl (lv_at hl 0 rfl)) ?_
      refine sp_m (aw_iconst (v := 2) (pc := 30) dX7_saleOver_30 rfl) ?_
      refine sp_b fun p11 ep11 => ?_
      refine sp_m (G' := AW (KX7_saleOver l D h0 hE v) p11.2 (34) ls (.int p11.1 :: [])) (fun kk => aw_callV (As := [.int 2]) (metX7_refused _ _ ep11) (rcv_o okX7 (uS eh2 s1)) rfl mok_X7_refused q1632 q1634 qs50 q125 q1635 (Nat.le_of_ble_eq_true rfl) (Nat.le_of_ble_eq_true rfl) rfl hl.1 rfl (Nat.le_of_ble_eq_true rfl) (pc := 31) dX7_saleOver_31 kk) ?_
      exact sp_r fun hz => aw_iret hz rfl rfl rfl (pc := 34) dX7_saleOver_34
theorem mok_X7_seed : mOK yX7_seed 1 := ⟨⟨by decide +kernel, by decide +kernel⟩, by decide +kernel⟩
abbrev KX7_seed (l : Launch) (D : DD) (h0 hE : AH) (v : Int32) : KT := (l, yX7_seed, cX7_seed, 2, (some .boolean), RX7, 3, D, h0, hE, .inl (some (.int v)), false, [])
theorem metX7_seed (l : Launch) (D : DD) {a0 : Nat} {a1 : Int32} {h0 : AH} {hE : AH} {v : Int32} (hr : fX7_seed a0 a1 h0 = some (v, hE)) : AMet (KX7_seed l D h0 hE v) [.ref a0, .int a1] := by
  refine AMet.of (K := (KX7_seed l D h0 hE v)) rfl ⟨_, rfl⟩ rfl rfl rfl (Nat.le_of_ble_eq_true rfl) (fun ls hl => ?_)
  have hl : lv_has ls 2 [(0, .ref a0), (1, .int a1)] := hl
  suffices hsp : SP (fX7_seed a0 a1 h0) (fun z => z = (v, hE)) (AW (KX7_seed l D h0 hE v) h0 0 ls []) from hsp _ hr rfl
  unfold fX7_seed
  refine sp_m (aw_aload_n (pc := 0) dX7_seed_0 rfl (lv_at hl 0 rfl)) ?_
  refine sp_m (aw_iconst (v := 0) (pc := 1) dX7_seed_1 rfl) ?_
  refine sp_g fun s1 => ?_
  refine sp_t fun h2 eh20 => ?_
  have eh2 : gS h2 = gS h0 := by rw [eh20]; rfl
  refine sp_m (aw_put (k := 0) okX7 opX7 s1 (by decide) q1502 (Or.inl rfl) (Or.inl rfl) (hasV_I' eh20) rfl rfl (pc := 2) dX7_seed_2) ?_
  refine sp_m (aw_aload_n (pc := 5) dX7_seed_5 rfl (lv_at hl 0 rfl)) ?_
  refine sp_o (fun ex3 => ?_) (fun x3 ex3 => ?_)
  · refine sp_m (aw_get (k := 3) okX7 (uS eh2 s1) (by decide) q1505 (Or.inl rfl) (congrArg va_rf ex3) (pc := 6) dX7_seed_6) ?_
    refine sp_m (aw_ifnonnullN (pc := 9) dX7_seed_9) ?_
    refine sp_m (aw_aload_n (pc := 12) dX7_seed_12 rfl (lv_at hl 0 rfl)) ?_
    refine sp_m (aw_iconst (v := 1) (pc := 13) dX7_seed_13 rfl) ?_
    refine sp_b fun p14 ep14 => ?_
    refine sp_m (G' := AW (KX7_seed l D h0 hE v) p14.2 (17) ls (.int p14.1 :: [])) (fun kk => aw_callV (As := [.int 1]) (metX7_denied _ _ ep14) (rcv_o okX7 (uS eh2 s1)) rfl mok_X7_denied q2187 q2189 qs112 q125 q2190 (Nat.le_of_ble_eq_true rfl) (Nat.le_of_ble_eq_true rfl) rfl hl.1 rfl (Nat.le_of_ble_eq_true rfl) (pc := 14) dX7_seed_14 kk) ?_
    refine sp_g fun g15 => ?_
    exact sp_r fun hz => aw_zret (nar_b g15) hz rfl rfl rfl (pc := 17) dX7_seed_17
  · refine sp_m (aw_get (k := 3) okX7 (uS eh2 s1) (by decide) q1505 (Or.inl rfl) (congrArg va_rf ex3) (pc := 6) dX7_seed_6) ?_
    refine sp_m (aw_ifnonnull (tgt := 18) (pc := 9) dX7_seed_9 (by decide)) ?_
    refine sp_m (aw_iload_n (pc := 18) dX7_seed_18 rfl (lv_at hl 1 rfl)) ?_
    refine sp_m (aw_iconst (v := 0) (pc := 19) dX7_seed_19 rfl) ?_
    refine sp_m (aw_ldcw q2155 (pc := 20) dX7_seed_20) ?_
    refine sp_b fun p4 ep4 => ?_
    refine sp_m (G' := AW (KX7_seed l D h0 hE v) h2 (26) ls (.int p4 :: [])) (fun kk => aw_callS (As := [.int a1, .int 0, .int 65536]) (metX7_in _ _ ep4) mok_X7_in q1793 q1794 q125 q1795 (Nat.le_of_ble_eq_true rfl) (Nat.le_of_ble_eq_true rfl) rfl hl.1 rfl (Nat.le_of_ble_eq_true rfl) (pc := 23) dX7_seed_23 kk) ?_
    refine sp_if (fun c5 => ?_) (fun c5 => ?_)
    · refine sp_m (aw_if_ne_t (tgt := 35) (pc := 26) dX7_seed_26 (by decide) c5) ?_
      refine sp_m (aw_aload_n (pc := 35) dX7_seed_35 rfl (lv_at hl 0 rfl)) ?_
      refine sp_b fun x6 ex6 => ?_
      refine sp_m (aw_get (k := 16) okX7 (uS eh2 s1) (by decide) q1518 (Or.inl rfl) (congrArg va_rf ex6) (pc := 36) dX7_seed_36) ?_
      refine sp_m (aw_bipush (v := 18) (pc := 39) dX7_seed_39 rfl) ?_
      refine sp_m (aw_iload_n (pc := 41) dX7_seed_41 rfl (lv_at hl 1 rfl)) ?_
      refine sp_g fun s7 => ?_
      refine sp_g fun i8 => ?_
      refine sp_t fun h9 eh90 => ?_
      have eh9 : gS h9 = gS h2 := by rw [eh90]; rfl
      refine sp_m (fun kk => aw_iast s7 i8 (pc := 42) dX7_seed_42 (AWe eh90 kk)) ?_
      refine sp_m (aw_aload_n (pc := 43) dX7_seed_43 rfl (lv_at hl 0 rfl)) ?_
      refine sp_b fun p10 ep10 => ?_
      refine sp_m (G' := AW (KX7_seed l D h0 hE v) p10.2 (47) ls (.int p10.1 :: [])) (fun kk => aw_callV (As := []) (metX7_granted _ _ ep10) (rcv_o okX7 (uS eh9 (uS eh2 s1))) rfl mok_X7_granted q2195 q2197 qs114 q125 q2198 (Nat.le_of_ble_eq_true rfl) (Nat.le_of_ble_eq_true rfl) rfl hl.1 rfl (Nat.le_of_ble_eq_true rfl) (pc := 44) dX7_seed_44 kk) ?_
      refine sp_g fun g11 => ?_
      exact sp_r fun hz => aw_zret (nar_b g11) hz rfl rfl rfl (pc := 47) dX7_seed_47
    · refine sp_m (aw_if_ne_f (tgt := 35) (pc := 26) dX7_seed_26 (by decide) (Decidable.not_not.mp c5)) ?_
      refine sp_m (aw_aload_n (pc := 29) dX7_seed_29 rfl (lv_at hl 0 rfl)) ?_
      refine sp_m (aw_iconst (v := 2) (pc := 30) dX7_seed_30 rfl) ?_
      refine sp_b fun p12 ep12 => ?_
      refine sp_m (G' := AW (KX7_seed l D h0 hE v) p12.2 (34) ls (.int p12.1 :: [])) (fun kk => aw_callV (As := [.int 2]) (metX7_denied _ _ ep12) (rcv_o okX7 (uS eh2 s1)) rfl mok_X7_denied q2187 q2189 qs112 q125 q2190 (Nat.le_of_ble_eq_true rfl) (Nat.le_of_ble_eq_true rfl) rfl hl.1 rfl (Nat.le_of_ble_eq_true rfl) (pc := 31) dX7_seed_31 kk) ?_
      refine sp_g fun g13 => ?_
      exact sp_r fun hz => aw_zret (nar_b g13) hz rfl rfl rfl (pc := 34) dX7_seed_34
theorem mok_X7_setOut : mOK yX7_setOut 3 := ⟨⟨by decide +kernel, by decide +kernel⟩, by decide +kernel⟩
abbrev KX7_setOut (l : Launch) (D : DD) (h0 hE : AH) (v : Int32) : KT := (l, yX7_setOut, cX7_setOut, 6, (some .int), RX7, 3, D, h0, hE, .inl (some (.int v)), false, [])
theorem metX7_setOut (l : Launch) (D : DD) {a0 : Nat} {a1 : Int32} {a2 : Int32} {a3 : Int32} {h0 : AH} {hE : AH} {v : Int32} (hr : fX7_setOut a0 a1 a2 a3 h0 = some (v, hE)) : AMet (KX7_setOut l D h0 hE v) [.ref a0, .int a1, .int a2, .int a3] := by
  refine AMet.of (K := (KX7_setOut l D h0 hE v)) rfl ⟨_, rfl⟩ rfl rfl rfl (Nat.le_of_ble_eq_true rfl) (fun ls hl => ?_)
  have hl : lv_has ls 6 [(0, .ref a0), (1, .int a1), (2, .int a2), (3, .int a3)] := hl
  suffices hsp : SP (fX7_setOut a0 a1 a2 a3 h0) (fun z => z = (v, hE)) (AW (KX7_setOut l D h0 hE v) h0 0 ls []) from hsp _ hr rfl
  unfold fX7_setOut
  refine sp_m (aw_aload_n (pc := 0) dX7_setOut_0 rfl (lv_at hl 0 rfl)) ?_
  refine sp_m (aw_iconst (v := 0) (pc := 1) dX7_setOut_1 rfl) ?_
  refine sp_g fun s1 => ?_
  refine sp_t fun h2 eh20 => ?_
  have eh2 : gS h2 = gS h0 := by rw [eh20]; rfl
  refine sp_m (aw_put (k := 0) okX7 opX7 s1 (by decide) q1502 (Or.inl rfl) (Or.inl rfl) (hasV_I' eh20) rfl rfl (pc := 2) dX7_setOut_2) ?_
  refine sp_m (aw_aload_n (pc := 5) dX7_setOut_5 rfl (lv_at hl 0 rfl)) ?_
  refine sp_m (aw_iload_n (pc := 6) dX7_setOut_6 rfl (lv_at hl 1 rfl)) ?_
  refine sp_m (aw_iload_n (pc := 7) dX7_setOut_7 rfl (lv_at hl 2 rfl)) ?_
  refine sp_m (aw_iload_n (pc := 8) dX7_setOut_8 rfl (lv_at hl 3 rfl)) ?_
  refine sp_b fun p3 ep3 => ?_
  refine sp_m (G' := AW (KX7_setOut l D h0 hE v) h2 (12) ls (.int p3 :: [])) (fun kk => aw_callV (As := [.int a1, .int a2, .int a3]) (metX7_refusesMarch _ _ ep3) (rcv_o okX7 (uS eh2 s1)) rfl mok_X7_refusesMarch q2080 q2082 qs100 q125 q2083 (Nat.le_of_ble_eq_true rfl) (Nat.le_of_ble_eq_true rfl) rfl hl.1 rfl (Nat.le_of_ble_eq_true rfl) (pc := 9) dX7_setOut_9 kk) ?_
  refine sp_m (aw_istore (lv' := [(4, .int p3), (0, .ref a0), (1, .int a1), (2, .int a2), (3, .int a3)]) (pc := 12) dX7_setOut_12 hl (by decide) rfl) (sp_all fun ls hl => ?_)
  refine sp_m (aw_iload (pc := 14) dX7_setOut_14 (lv_at hl 0 rfl)) ?_
  refine sp_if (fun c4 => ?_) (fun c4 => ?_)
  · refine sp_m (aw_if_le_t (tgt := 26) (pc := 16) dX7_setOut_16 (by decide) c4) ?_
    refine sp_m (aw_iconst (v := 0) (pc := 26) dX7_setOut_26 rfl) ?_
    refine sp_m (aw_istore (lv' := [(5, .int 0), (4, .int p3), (0, .ref a0), (1, .int a1), (2, .int a2), (3, .int a3)]) (pc := 27) dX7_setOut_27 hl (by decide) rfl) (sp_all fun ls hl => ?_)
    let P5 : Int32 × AH → Prop := aLP (KX7_setOut l D h0 hE v) 6 29 (fun s5v : Int32 × AH => [(0, .ref a0), (1, .int a1), (2, .int a2), (3, .int a3), (5, .int s5v.1)]) (fun s5v => s5v.2)
    refine sp_loop (P := P5) (fun s5v => sp_all fun ls hl => ?_) (fun k => k ls (lv_sub hl [2, 3, 4, 5, 0] rfl))
    have hl : lv_has ls 6 [(0, .ref a0), (1, .int a1), (2, .int a2), (3, .int a3), (5, .int s5v.1)] := hl
    show SP _ _ (AW (KX7_setOut l D h0 hE v) s5v.2 29 ls [])
    unfold X7_setOut_L29
    refine sp_m (aw_iload (pc := 29) dX7_setOut_29 (lv_at hl 4 rfl)) ?_
    refine sp_m (aw_sipush (v := 999) (pc := 31) dX7_setOut_31 rfl) ?_
    refine sp_if (fun c6 => ?_) (fun c6 => ?_)
    · refine sp_m (aw_icmp_gt_t (tgt := 73) (pc := 34) dX7_setOut_34 (by decide) c6) ?_
      refine sp_m (aw_aload_n (pc := 73) dX7_setOut_73 rfl (lv_at hl 0 rfl)) ?_
      refine sp_m (aw_bipush (v := (-2)) (pc := 74) dX7_setOut_74 rfl) ?_
      refine sp_g fun s8 => ?_
      refine sp_b fun p7 ep7 => ?_
      refine sp_m (G' := AW (KX7_setOut l D h0 hE v) p7.2 (79) ls (.int p7.1 :: [])) (fun kk => aw_callV (As := [.int (-2)]) (metX7_good _ _ ep7) (rcv_o okX7 s8) rfl mok_X7_good q1865 q1867 qs73 q125 q1868 (Nat.le_of_ble_eq_true rfl) (Nat.le_of_ble_eq_true rfl) rfl hl.1 rfl (Nat.le_of_ble_eq_true rfl) (pc := 76) dX7_setOut_76 kk) ?_
      exact sp_r fun hz => aw_iret hz rfl rfl rfl (pc := 79) dX7_setOut_79
    · refine sp_m (aw_icmp_gt_f (tgt := 73) (pc := 34) dX7_setOut_34 (by decide) c6) ?_
      refine sp_m (aw_aload_n (pc := 37) dX7_setOut_37 rfl (lv_at hl 0 rfl)) ?_
      refine sp_m (aw_iload_n (pc := 38) dX7_setOut_38 rfl (lv_at hl 1 rfl)) ?_
      refine sp_m (aw_iload_n (pc := 39) dX7_setOut_39 rfl (lv_at hl 2 rfl)) ?_
      refine sp_m (aw_iload (pc := 40) dX7_setOut_40 (lv_at hl 4 rfl)) ?_
      refine sp_g fun s10 => ?_
      refine sp_b fun p9 ep9 => ?_
      refine sp_m (G' := AW (KX7_setOut l D h0 hE v) p9 (45) ls ([])) (fun kk => aw_callV (As := [.int a1, .int a2, .int s5v.1]) (metX7_marches _ _ ep9) (rcv_o okX7 s10) rfl mok_X7_marches q2088 q2090 qs102 q125 q2091 (Nat.le_of_ble_eq_true rfl) (Nat.le_of_ble_eq_true rfl) rfl hl.1 rfl (Nat.le_of_ble_eq_true rfl) (pc := 42) dX7_setOut_42 kk) ?_
      refine sp_m (aw_aload_n (pc := 45) dX7_setOut_45 rfl (lv_at hl 0 rfl)) ?_
      refine sp_g fun s11 => ?_
      refine sp_m (aw_get (k := 28) okX7 s11 (by decide) q1530 (Or.inl rfl) rfl (pc := 46) dX7_setOut_46) ?_
      have hj67_1 : ∀ ls : Array Slot, lv_has ls 6 [(0, .ref a0), (1, .int a1), (2, .int a2), (3, .int a3), (5, .int s5v.1)] → SP (X7_setOut_j67 s5v p9) (ZL P5 (fun z => z = (v, hE))) (AW (KX7_setOut l D h0 hE v) p9 67 ls ([])) := by
        intro ls hl
        unfold X7_setOut_j67
        refine sp_m (aw_iinc (v := s5v.1 + 1) (lv' := [(5, .int (s5v.1 + 1)), (0, .ref a0), (1, .int a1), (2, .int a2), (3, .int a3)]) (pc := 67) dX7_setOut_67 hl (k := 4) rfl rfl (by decide) rfl) (sp_all fun ls hl => ?_)
        refine sp_m (aw_goto (tgt := 29) (pc := 70) dX7_setOut_70 (by decide)) ?_
        exact sp_r fun hz => hz ls (lv_sub hl [1, 2, 3, 4, 0] rfl)
      refine sp_if (fun c12 => ?_) (fun c12 => ?_)
      · refine sp_m (aw_if_le_t (tgt := 67) (pc := 49) dX7_setOut_49 (by decide) c12) ?_
        exact hj67_1 ls (lv_sub hl [0, 1, 2, 3, 4] rfl)
      · refine sp_m (aw_if_le_f (tgt := 67) (pc := 49) dX7_setOut_49 (by decide) c12) ?_
        refine sp_m (aw_aload_n (pc := 52) dX7_setOut_52 rfl (lv_at hl 0 rfl)) ?_
        refine sp_m (aw_get (k := 29) okX7 s11 (by decide) q1531 (Or.inl rfl) rfl (pc := 53) dX7_setOut_53) ?_
        refine sp_m (aw_iload_n (pc := 56) dX7_setOut_56 rfl (lv_at hl 3 rfl)) ?_
        refine sp_if (fun c13 => ?_) (fun c13 => ?_)
        · refine sp_m (aw_icmp_lt_t (tgt := 67) (pc := 57) dX7_setOut_57 (by decide) c13) ?_
          exact hj67_1 ls (lv_sub hl [0, 1, 2, 3, 4] rfl)
        · refine sp_m (aw_icmp_lt_f (tgt := 67) (pc := 57) dX7_setOut_57 (by decide) c13) ?_
          refine sp_m (aw_aload_n (pc := 60) dX7_setOut_60 rfl (lv_at hl 0 rfl)) ?_
          refine sp_m (aw_iload (pc := 61) dX7_setOut_61 (lv_at hl 4 rfl)) ?_
          refine sp_b fun p14 ep14 => ?_
          refine sp_m (G' := AW (KX7_setOut l D h0 hE v) p14.2 (66) ls (.int p14.1 :: [])) (fun kk => aw_callV (As := [.int s5v.1]) (metX7_good _ _ ep14) (rcv_o okX7 s11) rfl mok_X7_good q1865 q1867 qs73 q125 q1868 (Nat.le_of_ble_eq_true rfl) (Nat.le_of_ble_eq_true rfl) rfl hl.1 rfl (Nat.le_of_ble_eq_true rfl) (pc := 63) dX7_setOut_63 kk) ?_
          exact sp_r fun hz => aw_iret hz rfl rfl rfl (pc := 66) dX7_setOut_66
  · refine sp_m (aw_if_le_f (tgt := 26) (pc := 16) dX7_setOut_16 (by decide) c4) ?_
    refine sp_m (aw_aload_n (pc := 19) dX7_setOut_19 rfl (lv_at hl 1 rfl)) ?_
    refine sp_m (aw_iload (pc := 20) dX7_setOut_20 (lv_at hl 0 rfl)) ?_
    refine sp_b fun p15 ep15 => ?_
    refine sp_m (G' := AW (KX7_setOut l D h0 hE v) p15.2 (25) ls (.int p15.1 :: [])) (fun kk => aw_callV (As := [.int p3]) (metX7_refused _ _ ep15) (rcv_o okX7 (uS eh2 s1)) rfl mok_X7_refused q1632 q1634 qs50 q125 q1635 (Nat.le_of_ble_eq_true rfl) (Nat.le_of_ble_eq_true rfl) rfl hl.1 rfl (Nat.le_of_ble_eq_true rfl) (pc := 22) dX7_setOut_22 kk) ?_
    exact sp_r fun hz => aw_iret hz rfl rfl rfl (pc := 25) dX7_setOut_25
theorem mok_X7_size : mOK yX7_size 1 := ⟨⟨by decide +kernel, by decide +kernel⟩, by decide +kernel⟩
abbrev KX7_size (l : Launch) (D : DD) (h0 hE : AH) (v : Int32) : KT := (l, yX7_size, cX7_size, 2, (some .int), RX7, 2, D, h0, hE, .inl (some (.int v)), false, [])
theorem metX7_size (l : Launch) (D : DD) {a0 : Nat} {a1 : Int32} {h0 : AH} {hE : AH} {v : Int32} (hr : fX7_size a0 a1 h0 = some (v, hE)) : AMet (KX7_size l D h0 hE v) [.ref a0, .int a1] := by
  refine AMet.of (K := (KX7_size l D h0 hE v)) rfl ⟨_, rfl⟩ rfl rfl rfl (Nat.le_of_ble_eq_true rfl) (fun ls hl => ?_)
  have hl : lv_has ls 2 [(0, .ref a0), (1, .int a1)] := hl
  suffices hsp : SP (fX7_size a0 a1 h0) (fun z => z = (v, hE)) (AW (KX7_size l D h0 hE v) h0 0 ls []) from hsp _ hr rfl
  unfold fX7_size
  refine sp_m (aw_aload_n (pc := 0) dX7_size_0 rfl (lv_at hl 0 rfl)) ?_
  refine sp_m (aw_iconst (v := 0) (pc := 1) dX7_size_1 rfl) ?_
  refine sp_g fun s1 => ?_
  refine sp_t fun h2 eh20 => ?_
  have eh2 : gS h2 = gS h0 := by rw [eh20]; rfl
  refine sp_m (aw_put (k := 0) okX7 opX7 s1 (by decide) q1502 (Or.inl rfl) (Or.inl rfl) (hasV_I' eh20) rfl rfl (pc := 2) dX7_size_2) ?_
  refine sp_m (aw_iload_n (pc := 5) dX7_size_5 rfl (lv_at hl 1 rfl)) ?_
  refine sp_m (aw_bipush (v := 11) (pc := 6) dX7_size_6 rfl) ?_
  refine sp_if (fun c3 => ?_) (fun c3 => ?_)
  · refine sp_m (aw_icmp_ne_t (tgt := 16) (pc := 8) dX7_size_8 (by decide) c3) ?_
    refine sp_m (aw_iload_n (pc := 16) dX7_size_16 rfl (lv_at hl 1 rfl)) ?_
    refine sp_m (aw_iconst (v := 0) (pc := 17) dX7_size_17 rfl) ?_
    refine sp_m (aw_bipush (v := 10) (pc := 18) dX7_size_18 rfl) ?_
    refine sp_b fun p4 ep4 => ?_
    refine sp_m (G' := AW (KX7_size l D h0 hE v) h2 (23) ls (.int p4 :: [])) (fun kk => aw_callS (As := [.int a1, .int 0, .int 10]) (metX7_in _ _ ep4) mok_X7_in q1793 q1794 q125 q1795 (Nat.le_of_ble_eq_true rfl) (Nat.le_of_ble_eq_true rfl) rfl hl.1 rfl (Nat.le_of_ble_eq_true rfl) (pc := 20) dX7_size_20 kk) ?_
    refine sp_if (fun c5 => ?_) (fun c5 => ?_)
    · refine sp_m (aw_if_ne_t (tgt := 28) (pc := 23) dX7_size_23 (by decide) c5) ?_
      refine sp_m (aw_aload_n (pc := 28) dX7_size_28 rfl (lv_at hl 0 rfl)) ?_
      refine sp_o (fun ex6 => ?_) (fun x6 ex6 => ?_)
      · refine sp_m (aw_get (k := 3) okX7 (uS eh2 s1) (by decide) q1505 (Or.inl rfl) (congrArg va_rf ex6) (pc := 29) dX7_size_29) ?_
        refine sp_m (aw_ifnonnullN (pc := 32) dX7_size_32) ?_
        refine sp_m (aw_iconst (v := 0) (pc := 35) dX7_size_35 rfl) ?_
        exact sp_r fun hz => aw_iret hz rfl rfl rfl (pc := 36) dX7_size_36
      · refine sp_m (aw_get (k := 3) okX7 (uS eh2 s1) (by decide) q1505 (Or.inl rfl) (congrArg va_rf ex6) (pc := 29) dX7_size_29) ?_
        refine sp_m (aw_ifnonnull (tgt := 37) (pc := 32) dX7_size_32 (by decide)) ?_
        refine sp_m (aw_iload_n (pc := 37) dX7_size_37 rfl (lv_at hl 1 rfl)) ?_
        refine sp_if (fun c7 => ?_) (fun c7 => ?_)
        · refine sp_m (aw_tableOut (tgt := 172) (pc := 38) dX7_size_38 (sw_out rfl rfl c7) (by decide)) ?_
          refine sp_m (aw_aload_n (pc := 172) dX7_size_172 rfl (lv_at hl 0 rfl)) ?_
          refine sp_m (aw_get (k := 21) okX7 (uS eh2 s1) (by decide) q1523 (Or.inl rfl) rfl (pc := 173) dX7_size_173) ?_
          exact sp_r fun hz => aw_iret hz rfl rfl rfl (pc := 176) dX7_size_176
        refine sp_if (fun c8 => ?_) (fun c8 => ?_)
        · refine sp_m (aw_tableIn (tgt := 92) (pc := 38) dX7_size_38 (by rw [c8]; decide) (by rw [c8]; decide) (by rw [c8] <;> rfl) (by decide)) ?_
          refine sp_m (aw_aload_n (pc := 92) dX7_size_92 rfl (lv_at hl 0 rfl)) ?_
          refine sp_b fun x9 ex9 => ?_
          refine sp_m (aw_get (k := 3) okX7 (uS eh2 s1) (by decide) q1505 (Or.inl rfl) (congrArg va_rf ex9) (pc := 93) dX7_size_93) ?_
          refine sp_g fun s10 => ?_
          refine sp_m (aw_getN (k := 0) okX20 s10 (by decide) nq1642 rfl rfl (pc := 96) dX7_size_96) ?_
          exact sp_r fun hz => aw_iret hz rfl rfl rfl (pc := 99) dX7_size_99
        refine sp_if (fun c11 => ?_) (fun c11 => ?_)
        · refine sp_m (aw_tableIn (tgt := 100) (pc := 38) dX7_size_38 (by rw [c11]; decide) (by rw [c11]; decide) (by rw [c11] <;> rfl) (by decide)) ?_
          refine sp_m (aw_aload_n (pc := 100) dX7_size_100 rfl (lv_at hl 0 rfl)) ?_
          refine sp_b fun x12 ex12 => ?_
          refine sp_m (aw_get (k := 3) okX7 (uS eh2 s1) (by decide) q1505 (Or.inl rfl) (congrArg va_rf ex12) (pc := 101) dX7_size_101) ?_
          refine sp_g fun s13 => ?_
          refine sp_m (aw_getN (k := 1) okX20 s13 (by decide) nq1643 rfl rfl (pc := 104) dX7_size_104) ?_
          exact sp_r fun hz => aw_iret hz rfl rfl rfl (pc := 107) dX7_size_107
        refine sp_if (fun c14 => ?_) (fun c14 => ?_)
        · refine sp_m (aw_tableIn (tgt := 108) (pc := 38) dX7_size_38 (by rw [c14]; decide) (by rw [c14]; decide) (by rw [c14] <;> rfl) (by decide)) ?_
          refine sp_m (aw_aload_n (pc := 108) dX7_size_108 rfl (lv_at hl 0 rfl)) ?_
          refine sp_b fun x15 ex15 => ?_
          refine sp_m (aw_get (k := 3) okX7 (uS eh2 s1) (by decide) q1505 (Or.inl rfl) (congrArg va_rf ex15) (pc := 109) dX7_size_109) ?_
          refine sp_g fun s16 => ?_
          refine sp_m (aw_getN (k := 2) okX20 s16 (by decide) nq1644 rfl rfl (pc := 112) dX7_size_112) ?_
          exact sp_r fun hz => aw_iret hz rfl rfl rfl (pc := 115) dX7_size_115
        refine sp_if (fun c17 => ?_) (fun c17 => ?_)
        · refine sp_m (aw_tableIn (tgt := 116) (pc := 38) dX7_size_38 (by rw [c17]; decide) (by rw [c17]; decide) (by rw [c17] <;> rfl) (by decide)) ?_
          refine sp_m (aw_aload_n (pc := 116) dX7_size_116 rfl (lv_at hl 0 rfl)) ?_
          refine sp_b fun x18 ex18 => ?_
          refine sp_m (aw_get (k := 3) okX7 (uS eh2 s1) (by decide) q1505 (Or.inl rfl) (congrArg va_rf ex18) (pc := 117) dX7_size_117) ?_
          refine sp_g fun s19 => ?_
          refine sp_m (aw_getN (k := 3) okX20 s19 (by decide) nq1645 rfl rfl (pc := 120) dX7_size_120) ?_
          exact sp_r fun hz => aw_iret hz rfl rfl rfl (pc := 123) dX7_size_123
        refine sp_if (fun c20 => ?_) (fun c20 => ?_)
        · refine sp_m (aw_tableIn (tgt := 124) (pc := 38) dX7_size_38 (by rw [c20]; decide) (by rw [c20]; decide) (by rw [c20] <;> rfl) (by decide)) ?_
          refine sp_m (aw_aload_n (pc := 124) dX7_size_124 rfl (lv_at hl 0 rfl)) ?_
          refine sp_b fun x21 ex21 => ?_
          refine sp_m (aw_get (k := 3) okX7 (uS eh2 s1) (by decide) q1505 (Or.inl rfl) (congrArg va_rf ex21) (pc := 125) dX7_size_125) ?_
          refine sp_g fun s22 => ?_
          refine sp_m (aw_getN (k := 4) okX20 s22 (by decide) nq1646 rfl rfl (pc := 128) dX7_size_128) ?_
          exact sp_r fun hz => aw_iret hz rfl rfl rfl (pc := 131) dX7_size_131
        refine sp_if (fun c23 => ?_) (fun c23 => ?_)
        · refine sp_m (aw_tableIn (tgt := 132) (pc := 38) dX7_size_38 (by rw [c23]; decide) (by rw [c23]; decide) (by rw [c23] <;> rfl) (by decide)) ?_
          refine sp_m (aw_aload_n (pc := 132) dX7_size_132 rfl (lv_at hl 0 rfl)) ?_
          refine sp_b fun x24 ex24 => ?_
          refine sp_m (aw_get (k := 3) okX7 (uS eh2 s1) (by decide) q1505 (Or.inl rfl) (congrArg va_rf ex24) (pc := 133) dX7_size_133) ?_
          refine sp_g fun s25 => ?_
          refine sp_m (aw_getN (k := 5) okX20 s25 (by decide) nq1647 rfl rfl (pc := 136) dX7_size_136) ?_
          exact sp_r fun hz => aw_iret hz rfl rfl rfl (pc := 139) dX7_size_139
        refine sp_if (fun c26 => ?_) (fun c26 => ?_)
        · refine sp_m (aw_tableIn (tgt := 140) (pc := 38) dX7_size_38 (by rw [c26]; decide) (by rw [c26]; decide) (by rw [c26] <;> rfl) (by decide)) ?_
          refine sp_m (aw_aload_n (pc := 140) dX7_size_140 rfl (lv_at hl 0 rfl)) ?_
          refine sp_b fun x27 ex27 => ?_
          refine sp_m (aw_get (k := 3) okX7 (uS eh2 s1) (by decide) q1505 (Or.inl rfl) (congrArg va_rf ex27) (pc := 141) dX7_size_141) ?_
          refine sp_g fun s28 => ?_
          refine sp_m (aw_getN (k := 6) okX20 s28 (by decide) nq1648 rfl rfl (pc := 144) dX7_size_144) ?_
          refine sp_b fun p29 ep29 => ?_
          refine sp_m (G' := AW (KX7_size l D h0 hE v) h2 (150) ls (.int p29 :: [])) (fun kk => aw_callS (As := [.int (gI h2 x27 6)]) (metX7_bits _ _ ep29) mok_X7_bits q2069 q2070 q125 q2071 (Nat.le_of_ble_eq_true rfl) (Nat.le_of_ble_eq_true rfl) rfl hl.1 rfl (Nat.le_of_ble_eq_true rfl) (pc := 147) dX7_size_147 kk) ?_
          exact sp_r fun hz => aw_iret hz rfl rfl rfl (pc := 150) dX7_size_150
        refine sp_if (fun c30 => ?_) (fun c30 => ?_)
        · refine sp_m (aw_tableIn (tgt := 151) (pc := 38) dX7_size_38 (by rw [c30]; decide) (by rw [c30]; decide) (by rw [c30] <;> rfl) (by decide)) ?_
          refine sp_m (aw_aload_n (pc := 151) dX7_size_151 rfl (lv_at hl 0 rfl)) ?_
          refine sp_b fun x31 ex31 => ?_
          refine sp_m (aw_get (k := 16) okX7 (uS eh2 s1) (by decide) q1518 (Or.inl rfl) (congrArg va_rf ex31) (pc := 152) dX7_size_152) ?_
          refine sp_m (aw_bipush (v := 17) (pc := 155) dX7_size_155 rfl) ?_
          refine sp_g fun s32 => ?_
          refine sp_g fun i33 => ?_
          refine sp_m (aw_iald s32 i33 (pc := 157) dX7_size_157) ?_
          exact sp_r fun hz => aw_iret hz rfl rfl rfl (pc := 158) dX7_size_158
        refine sp_if (fun c34 => ?_) (fun c34 => ?_)
        · refine sp_m (aw_tableIn (tgt := 159) (pc := 38) dX7_size_38 (by rw [c34]; decide) (by rw [c34]; decide) (by rw [c34] <;> rfl) (by decide)) ?_
          refine sp_m (aw_aload_n (pc := 159) dX7_size_159 rfl (lv_at hl 0 rfl)) ?_
          refine sp_b fun x35 ex35 => ?_
          refine sp_m (aw_get (k := 16) okX7 (uS eh2 s1) (by decide) q1518 (Or.inl rfl) (congrArg va_rf ex35) (pc := 160) dX7_size_160) ?_
          refine sp_m (aw_bipush (v := 18) (pc := 163) dX7_size_163 rfl) ?_
          refine sp_g fun s36 => ?_
          refine sp_g fun i37 => ?_
          refine sp_m (aw_iald s36 i37 (pc := 165) dX7_size_165) ?_
          exact sp_r fun hz => aw_iret hz rfl rfl rfl (pc := 166) dX7_size_166
        refine sp_if (fun c38 => ?_) (fun c38 => ?_)
        · refine sp_m (aw_tableIn (tgt := 167) (pc := 38) dX7_size_38 (by rw [c38]; decide) (by rw [c38]; decide) (by rw [c38] <;> rfl) (by decide)) ?_
          refine sp_m (aw_aload_n (pc := 167) dX7_size_167 rfl (lv_at hl 0 rfl)) ?_
          refine sp_m (aw_get (k := 20) okX7 (uS eh2 s1) (by decide) q1522 (Or.inl rfl) rfl (pc := 168) dX7_size_168) ?_
          exact sp_r fun hz => aw_iret hz rfl rfl rfl (pc := 171) dX7_size_171
        exact sp_n
    · refine sp_m (aw_if_ne_f (tgt := 28) (pc := 23) dX7_size_23 (by decide) (Decidable.not_not.mp c5)) ?_
      refine sp_m (aw_iconst (v := (-1)) (pc := 26) dX7_size_26 rfl) ?_
      exact sp_r fun hz => aw_iret hz rfl rfl rfl (pc := 27) dX7_size_27
  · refine sp_m (aw_icmp_ne_f (tgt := 16) (pc := 8) dX7_size_8 (by decide) (Decidable.not_not.mp c3)) ?_
    refine sp_m (aw_aload_n (pc := 11) dX7_size_11 rfl (lv_at hl 0 rfl)) ?_
    refine sp_m (aw_get (k := 6) okX7 (uS eh2 s1) (by decide) q1508 (Or.inl rfl) rfl (pc := 12) dX7_size_12) ?_
    exact sp_r fun hz => aw_iret hz rfl rfl rfl (pc := 15) dX7_size_15
theorem mok_X7_surely : mOK yX7_surely 0 := ⟨⟨by decide +kernel, by decide +kernel⟩, by decide +kernel⟩
abbrev KX7_surely (l : Launch) (D : DD) (h0 hE : AH) (v : Int32) : KT := (l, yX7_surely, cX7_surely, 3, (some .int), RX7, 5, D, h0, hE, .inl (some (.int v)), false, [])
theorem metX7_surely (l : Launch) (D : DD) {a0 : Nat} {h0 : AH} {hE : AH} {v : Int32} (hr : fX7_surely a0 h0 = some (v, hE)) : AMet (KX7_surely l D h0 hE v) [.ref a0] := by
  refine AMet.of (K := (KX7_surely l D h0 hE v)) rfl ⟨_, rfl⟩ rfl rfl rfl (Nat.le_of_ble_eq_true rfl) (fun ls hl => ?_)
  have hl : lv_has ls 3 [(0, .ref a0)] := hl
  suffices hsp : SP (fX7_surely a0 h0) (fun z => z = (v, hE)) (AW (KX7_surely l D h0 hE v) h0 0 ls []) from hsp _ hr rfl
  unfold fX7_surely
  refine sp_m (aw_aload_n (pc := 0) dX7_surely_0 rfl (lv_at hl 0 rfl)) ?_
  refine sp_m (aw_iconst (v := 0) (pc := 1) dX7_surely_1 rfl) ?_
  refine sp_g fun s1 => ?_
  refine sp_t fun h2 eh20 => ?_
  have eh2 : gS h2 = gS h0 := by rw [eh20]; rfl
  refine sp_m (aw_put (k := 0) okX7 opX7 s1 (by decide) q1502 (Or.inl rfl) (Or.inl rfl) (hasV_I' eh20) rfl rfl (pc := 2) dX7_surely_2) ?_
  refine sp_m (aw_aload_n (pc := 5) dX7_surely_5 rfl (lv_at hl 0 rfl)) ?_
  refine sp_o (fun ex3 => ?_) (fun x3 ex3 => ?_)
  · refine sp_m (aw_get (k := 3) okX7 (uS eh2 s1) (by decide) q1505 (Or.inl rfl) (congrArg va_rf ex3) (pc := 6) dX7_surely_6) ?_
    refine sp_m (aw_ifnonnullN (pc := 9) dX7_surely_9) ?_
    refine sp_m (aw_aload_n (pc := 12) dX7_surely_12 rfl (lv_at hl 0 rfl)) ?_
    refine sp_m (aw_iconst (v := 1) (pc := 13) dX7_surely_13 rfl) ?_
    refine sp_b fun p18 ep18 => ?_
    refine sp_m (G' := AW (KX7_surely l D h0 hE v) p18.2 (17) ls (.int p18.1 :: [])) (fun kk => aw_callV (As := [.int 1]) (metX7_refused _ _ ep18) (rcv_o okX7 (uS eh2 s1)) rfl mok_X7_refused q1632 q1634 qs50 q125 q1635 (Nat.le_of_ble_eq_true rfl) (Nat.le_of_ble_eq_true rfl) rfl hl.1 rfl (Nat.le_of_ble_eq_true rfl) (pc := 14) dX7_surely_14 kk) ?_
    exact sp_r fun hz => aw_iret hz rfl rfl rfl (pc := 17) dX7_surely_17
  · refine sp_m (aw_get (k := 3) okX7 (uS eh2 s1) (by decide) q1505 (Or.inl rfl) (congrArg va_rf ex3) (pc := 6) dX7_surely_6) ?_
    refine sp_m (aw_ifnonnull (tgt := 18) (pc := 9) dX7_surely_9 (by decide)) ?_
    refine sp_m (aw_aload_n (pc := 18) dX7_surely_18 rfl (lv_at hl 0 rfl)) ?_
    refine sp_b fun p4 ep4 => ?_
    refine sp_m (G' := AW (KX7_surely l D h0 hE v) p4 (22) ls ([])) (fun kk => aw_callV (As := []) (metX7_trumpets _ _ ep4) (rcv_o okX7 (uS eh2 s1)) rfl mok_X7_trumpets q2119 q2121 qs104 q125 q2122 (Nat.le_of_ble_eq_true rfl) (Nat.le_of_ble_eq_true rfl) rfl hl.1 rfl (Nat.le_of_ble_eq_true rfl) (pc := 19) dX7_surely_19 kk) ?_
    refine sp_m (aw_iconst (v := 0) (pc := 22) dX7_surely_22 rfl) ?_
    refine sp_m (aw_istore_n (lv' := [(1, .int 0), (0, .ref a0)]) (pc := 23) dX7_surely_23 rfl hl (by decide) rfl) (sp_all fun ls hl => ?_)
    refine sp_m (aw_iconst (v := 0) (pc := 24) dX7_surely_24 rfl) ?_
    refine sp_m (aw_istore_n (lv' := [(2, .int 0), (1, .int 0), (0, .ref a0)]) (pc := 25) dX7_surely_25 rfl hl (by decide) rfl) (sp_all fun ls hl => ?_)
    let P5 : Int32 × Int32 → Prop := aLP (KX7_surely l D h0 hE v) 3 26 (fun s5v : Int32 × Int32 => [(0, .ref a0), (1, .int s5v.1), (2, .int s5v.2)]) (fun s5v => p4)
    let E5 : Int32 → Prop := aLP (KX7_surely l D h0 hE v) 3 73 (fun r5v : Int32 => [(0, .ref a0), (1, .int r5v)]) (fun r5v => p4)
    refine sp_bl (P := P5) (E := E5) (fun s5v => sp_all fun ls hl => ?_) (fun k => k ls (lv_sub hl [2, 1, 0] rfl)) (fun r5v => sp_all fun ls hl => ?_)
    · have hl : lv_has ls 3 [(0, .ref a0), (1, .int s5v.1), (2, .int s5v.2)] := hl
      show SP _ _ (AW (KX7_surely l D h0 hE v) p4 26 ls [])
      unfold X7_surely_L26
      refine sp_m (aw_iload_n (pc := 26) dX7_surely_26 rfl (lv_at hl 2 rfl)) ?_
      refine sp_m (aw_aload_n (pc := 27) dX7_surely_27 rfl (lv_at hl 0 rfl)) ?_
      refine sp_g fun s6 => ?_
      refine sp_b fun x7 ex7 => ?_
      refine sp_m (aw_get (k := 3) okX7 s6 (by decide) q1505 (Or.inl rfl) (congrArg va_rf ex7) (pc := 28) dX7_surely_28) ?_
      refine sp_g fun s8 => ?_
      refine sp_m (aw_getN (k := 3) okX20 s8 (by decide) nq1645 rfl rfl (pc := 31) dX7_surely_31) ?_
      refine sp_if (fun c9 => ?_) (fun c9 => ?_)
      · refine sp_m (aw_icmp_ge_t (tgt := 73) (pc := 34) dX7_surely_34 (by decide) c9) ?_
        exact sp_r fun hz => hz ls (lv_sub hl [0, 1] rfl)
      · refine sp_m (aw_icmp_ge_f (tgt := 73) (pc := 34) dX7_surely_34 (by decide) c9) ?_
        refine sp_m (aw_iload_n (pc := 37) dX7_surely_37 rfl (lv_at hl 1 rfl)) ?_
        refine sp_m (aw_aload_n (pc := 38) dX7_surely_38 rfl (lv_at hl 0 rfl)) ?_
        refine sp_m (aw_get (k := 31) okX7 s6 (by decide) q1533 (Or.inl rfl) rfl (pc := 39) dX7_surely_39) ?_
        have hj65_1 : ∀ j10 : Int32, ∀ ls : Array Slot, lv_has ls 3 [(0, .ref a0), (2, .int s5v.2)] → SP (X7_surely_j65 s5v j10) (ZL P5 E5) (AW (KX7_surely l D h0 hE v) p4 65 ls (.int j10 :: .int s5v.1 :: [])) := by
          intro j10 ls hl
          unfold X7_surely_j65
          refine sp_m (aw_ior (pc := 65) dX7_surely_65) ?_
          refine sp_m (aw_istore_n (lv' := [(1, .int (s5v.1 ||| j10)), (0, .ref a0), (2, .int s5v.2)]) (pc := 66) dX7_surely_66 rfl hl (by decide) rfl) (sp_all fun ls hl => ?_)
          refine sp_m (aw_iinc (v := s5v.2 + 1) (lv' := [(2, .int (s5v.2 + 1)), (1, .int (s5v.1 ||| j10)), (0, .ref a0)]) (pc := 67) dX7_surely_67 hl (k := 2) rfl rfl (by decide) rfl) (sp_all fun ls hl => ?_)
          refine sp_m (aw_goto (tgt := 26) (pc := 70) dX7_surely_70 (by decide)) ?_
          exact sp_r fun hz => hz ls (lv_sub hl [2, 1, 0] rfl)
        have hj64_2 : ∀ ls : Array Slot, lv_has ls 3 [(0, .ref a0), (2, .int s5v.2)] → SP (X7_surely_j64 s5v) (ZL P5 E5) (AW (KX7_surely l D h0 hE v) p4 64 ls (.int s5v.1 :: [])) := by
          intro ls hl
          unfold X7_surely_j64
          refine sp_m (aw_iconst (v := 0) (pc := 64) dX7_surely_64 rfl) ?_
          exact hj65_1 0 ls (lv_sub hl [0, 1] rfl)
        refine sp_if (fun c11 => ?_) (fun c11 => ?_)
        · refine sp_m (aw_if_le_t (tgt := 64) (pc := 42) dX7_surely_42 (by decide) c11) ?_
          exact hj64_2 ls (lv_sub hl [0, 2] rfl)
        · refine sp_m (aw_if_le_f (tgt := 64) (pc := 42) dX7_surely_42 (by decide) c11) ?_
          refine sp_m (aw_aload_n (pc := 45) dX7_surely_45 rfl (lv_at hl 0 rfl)) ?_
          refine sp_b fun x12 ex12 => ?_
          refine sp_m (aw_get (k := 30) okX7 s6 (by decide) q1532 (Or.inl rfl) (congrArg va_rf ex12) (pc := 46) dX7_surely_46) ?_
          refine sp_m (aw_iload_n (pc := 49) dX7_surely_49 rfl (lv_at hl 2 rfl)) ?_
          refine sp_g fun s13 => ?_
          refine sp_g fun i14 => ?_
          refine sp_m (aw_iald s13 i14 (pc := 50) dX7_surely_50) ?_
          refine sp_m (aw_aload_n (pc := 51) dX7_surely_51 rfl (lv_at hl 0 rfl)) ?_
          refine sp_m (aw_get (k := 31) okX7 s6 (by decide) q1533 (Or.inl rfl) rfl (pc := 52) dX7_surely_52) ?_
          refine sp_if (fun c15 => ?_) (fun c15 => ?_)
          · refine sp_m (aw_icmp_ne_t (tgt := 64) (pc := 55) dX7_surely_55 (by decide) c15) ?_
            exact hj64_2 ls (lv_sub hl [0, 2] rfl)
          · refine sp_m (aw_icmp_ne_f (tgt := 64) (pc := 55) dX7_surely_55 (by decide) (Decidable.not_not.mp c15)) ?_
            refine sp_m (aw_iconst (v := 1) (pc := 58) dX7_surely_58 rfl) ?_
            refine sp_m (aw_iload_n (pc := 59) dX7_surely_59 rfl (lv_at hl 2 rfl)) ?_
            refine sp_m (aw_ishl (pc := 60) dX7_surely_60) ?_
            refine sp_m (aw_goto (tgt := 65) (pc := 61) dX7_surely_61 (by decide)) ?_
            exact hj65_1 (1 <<< (s5v.2 &&& 31)) ls (lv_sub hl [0, 2] rfl)
    · have hl : lv_has ls 3 [(0, .ref a0), (1, .int r5v)] := hl
      show SP _ _ (AW (KX7_surely l D h0 hE v) p4 73 ls [])
      refine sp_m (aw_aload_n (pc := 73) dX7_surely_73 rfl (lv_at hl 0 rfl)) ?_
      refine sp_m (aw_iload_n (pc := 74) dX7_surely_74 rfl (lv_at hl 1 rfl)) ?_
      refine sp_g fun s17 => ?_
      refine sp_b fun p16 ep16 => ?_
      refine sp_m (G' := AW (KX7_surely l D h0 hE v) p16.2 (78) ls (.int p16.1 :: [])) (fun kk => aw_callV (As := [.int r5v]) (metX7_good _ _ ep16) (rcv_o okX7 s17) rfl mok_X7_good q1865 q1867 qs73 q125 q1868 (Nat.le_of_ble_eq_true rfl) (Nat.le_of_ble_eq_true rfl) rfl hl.1 rfl (Nat.le_of_ble_eq_true rfl) (pc := 75) dX7_surely_75 kk) ?_
      exact sp_r fun hz => aw_iret hz rfl rfl rfl (pc := 78) dX7_surely_78
