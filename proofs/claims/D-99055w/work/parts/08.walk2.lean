/-! WALKS (printed by wip gen/all.py) -/
set_option maxRecDepth 100000
set_option maxHeartbeats 4000000
theorem mok_X18_kind : mOK yX18_kind 0 := ⟨⟨by decide +kernel, by decide +kernel⟩, by decide +kernel⟩
abbrev KX18_kind (l : Launch) (D : DD) (h0 : AH) (v : Int32) : KT := (l, yX18_kind, cX18_kind, 1, (some .int), RX18, 1, D, h0, h0, .inl (some (.int v)), false, [])
theorem metX18_kind (l : Launch) (D : DD) {a0 : Nat} {h0 : AH} {v : Int32} (hr : fX18_kind a0 h0 = some v) : AMet (KX18_kind l D h0 v) [.ref a0] := by
  refine AMet.of (K := (KX18_kind l D h0 v)) rfl ⟨_, rfl⟩ rfl rfl rfl (Nat.le_of_ble_eq_true rfl) (fun ls hl => ?_)
  have hl : lv_has ls 1 [(0, .ref a0)] := hl
  suffices hsp : SP (fX18_kind a0 h0) (fun z => z = v) (AW (KX18_kind l D h0 v) h0 0 ls []) from hsp _ hr rfl
  unfold fX18_kind
  refine sp_m (aw_iconst (v := 3) (pc := 0) dX18_kind_0 rfl) ?_
  exact sp_r fun hz => aw_iret (congrArg (fun z => (z, h0)) hz) rfl rfl rfl (pc := 1) dX18_kind_1
theorem mok_X15_kind : mOK yX15_kind 0 := ⟨⟨by decide +kernel, by decide +kernel⟩, by decide +kernel⟩
abbrev KX15_kind (l : Launch) (D : DD) (h0 : AH) (v : Int32) : KT := (l, yX15_kind, cX15_kind, 1, (some .int), RX15, 1, D, h0, h0, .inl (some (.int v)), false, [])
theorem metX15_kind (l : Launch) (D : DD) {a0 : Nat} {h0 : AH} {v : Int32} (hr : fX15_kind a0 h0 = some v) : AMet (KX15_kind l D h0 v) [.ref a0] := by
  refine AMet.of (K := (KX15_kind l D h0 v)) rfl ⟨_, rfl⟩ rfl rfl rfl (Nat.le_of_ble_eq_true rfl) (fun ls hl => ?_)
  have hl : lv_has ls 1 [(0, .ref a0)] := hl
  suffices hsp : SP (fX15_kind a0 h0) (fun z => z = v) (AW (KX15_kind l D h0 v) h0 0 ls []) from hsp _ hr rfl
  unfold fX15_kind
  refine sp_m (aw_iconst (v := 0) (pc := 0) dX15_kind_0 rfl) ?_
  exact sp_r fun hz => aw_iret (congrArg (fun z => (z, h0)) hz) rfl rfl rfl (pc := 1) dX15_kind_1
theorem fV_X14_kind_c {a0 : Nat} {h0 : AH} {v : Int32} (e : fV_X14_kind a0 h0 = some v) : (gS h0 a0 = 14 ∧ fX15_kind a0 h0 = some v) ∨ (gS h0 a0 = 15 ∧ fX16_kind a0 h0 = some v) ∨ (gS h0 a0 = 16 ∧ fX17_kind a0 h0 = some v) ∨ (gS h0 a0 = 17 ∧ fX18_kind a0 h0 = some v) := by
  unfold fV_X14_kind at e
  by_cases z0 : gS h0 a0 = 14
  · rw [if_pos z0] at e; exact Or.inl ⟨z0, e⟩
  rw [if_neg z0] at e
  by_cases z1 : gS h0 a0 = 15
  · rw [if_pos z1] at e; exact Or.inr (Or.inl ⟨z1, e⟩)
  rw [if_neg z1] at e
  by_cases z2 : gS h0 a0 = 16
  · rw [if_pos z2] at e; exact Or.inr (Or.inr (Or.inl ⟨z2, e⟩))
  rw [if_neg z2] at e
  by_cases z3 : gS h0 a0 = 17
  · rw [if_pos z3] at e; exact Or.inr (Or.inr (Or.inr (⟨z3, e⟩)))
  rw [if_neg z3] at e
  cases e
theorem mokV_X14_kind : mOK ⟨"ElephantLine$Beast", "kind", "()I"⟩ 0 := ⟨⟨by decide +kernel, by decide +kernel⟩, by decide +kernel⟩
theorem mok_X1_beast : mOK yX1_beast 2 := ⟨⟨by decide +kernel, by decide +kernel⟩, by decide +kernel⟩
abbrev KX1_beast (l : Launch) (D : DD) (h0 hE : AH) (v : Int32) : KT := (l, yX1_beast, cX1_beast, 4, (some .int), RX1, 4, D, h0, hE, .inl (some (.int v)), false, [])
theorem metX1_beast (l : Launch) (D : DD) {a0 : Nat} {a1 : Int32} {a2 : Int32} {h0 : AH} {hE : AH} {v : Int32} (hr : fX1_beast a0 a1 a2 h0 = some (v, hE)) : AMet (KX1_beast l D h0 hE v) [.ref a0, .int a1, .int a2] := by
  refine AMet.of (K := (KX1_beast l D h0 hE v)) rfl ⟨_, rfl⟩ rfl rfl rfl (Nat.le_of_ble_eq_true rfl) (fun ls hl => ?_)
  have hl : lv_has ls 4 [(0, .ref a0), (1, .int a1), (2, .int a2)] := hl
  suffices hsp : SP (fX1_beast a0 a1 a2 h0) (fun z => z = (v, hE)) (AW (KX1_beast l D h0 hE v) h0 0 ls []) from hsp _ hr rfl
  unfold fX1_beast
  refine sp_m (aw_aload_n (pc := 0) dX1_beast_0 rfl (lv_at hl 0 rfl)) ?_
  refine sp_g fun s2 => ?_
  refine sp_b fun p1 ep1 => ?_
  refine sp_m (G' := AW (KX1_beast l D h0 hE v) p1 (4) ls ([])) (fun kk => aw_callV (As := []) (metX1_anew _ _ ep1) (rcv_o okX1 s2) rfl mok_X1_anew q452 q454 qs2 q116 q455 (Nat.le_of_ble_eq_true rfl) (Nat.le_of_ble_eq_true rfl) rfl hl.1 rfl (Nat.le_of_ble_eq_true rfl) (pc := 1) dX1_beast_1 kk) ?_
  refine sp_m (aw_aload_n (pc := 4) dX1_beast_4 rfl (lv_at hl 0 rfl)) ?_
  refine sp_m (aw_iload_n (pc := 5) dX1_beast_5 rfl (lv_at hl 1 rfl)) ?_
  refine sp_g fun s4 => ?_
  refine sp_b fun p3 ep3 => ?_
  refine sp_m (G' := AW (KX1_beast l D h0 hE v) p1 (9) ls (.int p3 :: [])) (fun kk => aw_callV (As := [.int a1]) (metX1_isBeast _ _ ep3) (rcv_o okX1 s4) rfl mok_X1_isBeast q974 q976 qs27 q116 q977 (Nat.le_of_ble_eq_true rfl) (Nat.le_of_ble_eq_true rfl) rfl hl.1 rfl (Nat.le_of_ble_eq_true rfl) (pc := 6) dX1_beast_6 kk) ?_
  refine sp_if (fun c5 => ?_) (fun c5 => ?_)
  · refine sp_m (aw_if_ne_t (tgt := 18) (pc := 9) dX1_beast_9 (by decide) c5) ?_
    refine sp_m (aw_aload_n (pc := 18) dX1_beast_18 rfl (lv_at hl 0 rfl)) ?_
    refine sp_b fun x6 ex6 => ?_
    refine sp_m (aw_get (k := 3) okX1 s4 (by decide) q369 (Or.inl rfl) (congrArg va_rf ex6) (pc := 19) dX1_beast_19) ?_
    refine sp_g fun s7 => ?_
    refine sp_b fun x8 ex8 => ?_
    refine sp_m (aw_get (k := 3) okX8 s7 (by decide) q490 (Or.inl rfl) (congrArg va_rf ex8) (pc := 22) dX1_beast_22) ?_
    refine sp_m (aw_iload_n (pc := 25) dX1_beast_25 rfl (lv_at hl 1 rfl)) ?_
    refine sp_g fun s9 => ?_
    refine sp_g fun i10 => ?_
    refine sp_b fun x11 ex11 => ?_
    refine sp_m (aw_aald (t := 5) s9 (by decide) rfl rfl i10 (congrArg va_rf ex11) (pc := 26) dX1_beast_26) ?_
    refine sp_m (aw_astore_n (lv' := [(3, .ref x11), (0, .ref a0), (1, .int a1), (2, .int a2)]) (pc := 27) dX1_beast_27 rfl hl (by decide) rfl) (sp_all fun ls hl => ?_)
    refine sp_m (aw_iload_n (pc := 28) dX1_beast_28 rfl (lv_at hl 3 rfl)) ?_
    refine sp_if (fun c12 => ?_) (fun c12 => ?_)
    · refine sp_m (aw_tableOut (tgt := 146) (pc := 29) dX1_beast_29 (sw_out rfl rfl c12) (by decide)) ?_
      refine sp_m (aw_aload_n (pc := 146) dX1_beast_146 rfl (lv_at hl 1 rfl)) ?_
      refine sp_m (aw_iconst (v := 1) (pc := 147) dX1_beast_147 rfl) ?_
      refine sp_b fun p13 ep13 => ?_
      refine sp_m (G' := AW (KX1_beast l D h0 hE v) p13.2 (151) ls (.int p13.1 :: [])) (fun kk => aw_callV (As := [.int 1]) (metX1_no _ _ ep13) (rcv_o okX1 s4) rfl mok_X1_no q459 q461 qs3 q116 q462 (Nat.le_of_ble_eq_true rfl) (Nat.le_of_ble_eq_true rfl) rfl hl.1 rfl (Nat.le_of_ble_eq_true rfl) (pc := 148) dX1_beast_148 kk) ?_
      exact sp_r fun hz => aw_iret hz rfl rfl rfl (pc := 151) dX1_beast_151
    refine sp_if (fun c14 => ?_) (fun c14 => ?_)
    · refine sp_m (aw_tableIn (tgt := 76) (pc := 29) dX1_beast_29 (by rw [c14]; decide) (by rw [c14]; decide) (by rw [c14] <;> rfl) (by decide)) ?_
      refine sp_m (aw_aload_n (pc := 76) dX1_beast_76 rfl (lv_at hl 0 rfl)) ?_
      refine sp_b fun p15 ep15 => ?_
      refine sp_m (G' := AW (KX1_beast l D h0 hE v) p1 (80) ls (.int p15 :: [])) (fun kk => by rcases fV_X14_kind_c ep15 with z | z | z | z; exact aw_callU (x := ⟨"ElephantLine$Beast", "kind", "()I"⟩) (As := []) (metX15_kind _ _ z.2) (rcv_o okX15 z.1) mokV_X14_kind q978 q980 q990 q991 q138 q992 (Or.inr nq979) (Nat.le_of_ble_eq_true rfl) (Nat.le_of_ble_eq_true rfl) rfl hl.1 rfl (Nat.le_of_ble_eq_true rfl) (pc := 77) dX1_beast_77 kk; exact aw_callU (x := ⟨"ElephantLine$Beast", "kind", "()I"⟩) (As := []) (metX16_kind _ _ z.2) (rcv_o okX16 z.1) mokV_X14_kind q978 q980 q981 q982 q139 q983 (Or.inr nq979) (Nat.le_of_ble_eq_true rfl) (Nat.le_of_ble_eq_true rfl) rfl hl.1 rfl (Nat.le_of_ble_eq_true rfl) (pc := 77) dX1_beast_77 kk; exact aw_callU (x := ⟨"ElephantLine$Beast", "kind", "()I"⟩) (As := []) (metX17_kind _ _ z.2) (rcv_o okX17 z.1) mokV_X14_kind q978 q980 q984 q985 q140 q986 (Or.inr nq979) (Nat.le_of_ble_eq_true rfl) (Nat.le_of_ble_eq_true rfl) rfl hl.1 rfl (Nat.le_of_ble_eq_true rfl) (pc := 77) dX1_beast_77 kk; exact aw_callU (x := ⟨"ElephantLine$Beast", "kind", "()I"⟩) (As := []) (metX18_kind _ _ z.2) (rcv_o okX18 z.1) mokV_X14_kind q978 q980 q987 q988 q141 q989 (Or.inr nq979) (Nat.le_of_ble_eq_true rfl) (Nat.le_of_ble_eq_true rfl) rfl hl.1 rfl (Nat.le_of_ble_eq_true rfl) (pc := 77) dX1_beast_77 kk) ?_
      exact sp_r fun hz => aw_iret hz rfl rfl rfl (pc := 80) dX1_beast_80
    refine sp_if (fun c16 => ?_) (fun c16 => ?_)
    · refine sp_m (aw_tableIn (tgt := 81) (pc := 29) dX1_beast_29 (by rw [c16]; decide) (by rw [c16]; decide) (by rw [c16] <;> rfl) (by decide)) ?_
      refine sp_m (aw_aload_n (pc := 81) dX1_beast_81 rfl (lv_at hl 1 rfl)) ?_
      refine sp_b fun x17 ex17 => ?_
      refine sp_m (aw_get (k := 9) okX1 s4 (by decide) q375 (Or.inl rfl) (congrArg va_rf ex17) (pc := 82) dX1_beast_82) ?_
      refine sp_g fun s18 => ?_
      refine sp_b fun x19 ex19 => ?_
      refine sp_m (aw_get (k := 0) okX4 s18 (by decide) q274 (Or.inl rfl) (congrArg va_rf ex19) (pc := 85) dX1_beast_85) ?_
      refine sp_m (aw_iload_n (pc := 88) dX1_beast_88 rfl (lv_at hl 2 rfl)) ?_
      refine sp_g fun s20 => ?_
      refine sp_g fun i21 => ?_
      refine sp_m (aw_iald s20 i21 (pc := 89) dX1_beast_89) ?_
      exact sp_r fun hz => aw_iret hz rfl rfl rfl (pc := 90) dX1_beast_90
    refine sp_if (fun c22 => ?_) (fun c22 => ?_)
    · refine sp_m (aw_tableIn (tgt := 91) (pc := 29) dX1_beast_29 (by rw [c22]; decide) (by rw [c22]; decide) (by rw [c22] <;> rfl) (by decide)) ?_
      refine sp_m (aw_aload_n (pc := 91) dX1_beast_91 rfl (lv_at hl 0 rfl)) ?_
      refine sp_g fun s23 => ?_
      refine sp_m (G' := AW (KX1_beast l D h0 hE v) p1 (95) ls (.int (gI p1 x11 1) :: [])) (fun kk => by rcases s23 with z | z | z | z; exact aw_get (k := 1) okX15 z (by decide) q820 (Or.inl rfl) rfl (pc := 92) dX1_beast_92 kk; exact aw_get (k := 1) okX16 z (by decide) q820 (Or.inl rfl) rfl (pc := 92) dX1_beast_92 kk; exact aw_get (k := 1) okX17 z (by decide) q820 (Or.inl rfl) rfl (pc := 92) dX1_beast_92 kk; exact aw_get (k := 1) okX18 z (by decide) q820 (Or.inl rfl) rfl (pc := 92) dX1_beast_92 kk) ?_
      exact sp_r fun hz => aw_iret hz rfl rfl rfl (pc := 95) dX1_beast_95
    refine sp_if (fun c24 => ?_) (fun c24 => ?_)
    · refine sp_m (aw_tableIn (tgt := 96) (pc := 29) dX1_beast_29 (by rw [c24]; decide) (by rw [c24]; decide) (by rw [c24] <;> rfl) (by decide)) ?_
      refine sp_m (aw_aload_n (pc := 96) dX1_beast_96 rfl (lv_at hl 0 rfl)) ?_
      refine sp_g fun s25 => ?_
      refine sp_m (G' := AW (KX1_beast l D h0 hE v) p1 (100) ls (.int (gI p1 x11 2) :: [])) (fun kk => by rcases s25 with z | z | z | z; exact aw_get (k := 2) okX15 z (by decide) q822 (Or.inl rfl) rfl (pc := 97) dX1_beast_97 kk; exact aw_get (k := 2) okX16 z (by decide) q822 (Or.inl rfl) rfl (pc := 97) dX1_beast_97 kk; exact aw_get (k := 2) okX17 z (by decide) q822 (Or.inl rfl) rfl (pc := 97) dX1_beast_97 kk; exact aw_get (k := 2) okX18 z (by decide) q822 (Or.inl rfl) rfl (pc := 97) dX1_beast_97 kk) ?_
      exact sp_r fun hz => aw_iret hz rfl rfl rfl (pc := 100) dX1_beast_100
    refine sp_if (fun c26 => ?_) (fun c26 => ?_)
    · refine sp_m (aw_tableIn (tgt := 101) (pc := 29) dX1_beast_29 (by rw [c26]; decide) (by rw [c26]; decide) (by rw [c26] <;> rfl) (by decide)) ?_
      refine sp_m (aw_aload_n (pc := 101) dX1_beast_101 rfl (lv_at hl 1 rfl)) ?_
      refine sp_b fun x27 ex27 => ?_
      refine sp_m (aw_get (k := 9) okX1 s4 (by decide) q375 (Or.inl rfl) (congrArg va_rf ex27) (pc := 102) dX1_beast_102) ?_
      refine sp_m (aw_iload_n (pc := 105) dX1_beast_105 rfl (lv_at hl 2 rfl)) ?_
      refine sp_g fun s29 => ?_
      refine sp_b fun p28 ep28 => ?_
      refine sp_m (G' := AW (KX1_beast l D h0 hE v) p1 (109) ls (.int p28 :: [])) (fun kk => aw_callV (As := [.int a1]) (metX4_force _ _ ep28) (rcv_o okX4 s29) rfl mok_X4_force q993 q994 q995 q122 q996 (Nat.le_of_ble_eq_true rfl) (Nat.le_of_ble_eq_true rfl) rfl hl.1 rfl (Nat.le_of_ble_eq_true rfl) (pc := 106) dX1_beast_106 kk) ?_
      exact sp_r fun hz => aw_iret hz rfl rfl rfl (pc := 109) dX1_beast_109
    refine sp_if (fun c30 => ?_) (fun c30 => ?_)
    · refine sp_m (aw_tableIn (tgt := 110) (pc := 29) dX1_beast_29 (by rw [c30]; decide) (by rw [c30]; decide) (by rw [c30] <;> rfl) (by decide)) ?_
      refine sp_m (aw_aload_n (pc := 110) dX1_beast_110 rfl (lv_at hl 1 rfl)) ?_
      refine sp_b fun x31 ex31 => ?_
      refine sp_m (aw_get (k := 9) okX1 s4 (by decide) q375 (Or.inl rfl) (congrArg va_rf ex31) (pc := 111) dX1_beast_111) ?_
      refine sp_m (aw_iload_n (pc := 114) dX1_beast_114 rfl (lv_at hl 2 rfl)) ?_
      refine sp_g fun s33 => ?_
      refine sp_b fun p32 ep32 => ?_
      refine sp_m (G' := AW (KX1_beast l D h0 hE v) p1 (118) ls (.int p32 :: [])) (fun kk => aw_callV (As := [.int a1]) (metX4_hold _ _ ep32) (rcv_o okX4 s33) rfl mok_X4_hold q1017 q1018 q1019 q122 q1020 (Nat.le_of_ble_eq_true rfl) (Nat.le_of_ble_eq_true rfl) rfl hl.1 rfl (Nat.le_of_ble_eq_true rfl) (pc := 115) dX1_beast_115 kk) ?_
      exact sp_r fun hz => aw_iret hz rfl rfl rfl (pc := 118) dX1_beast_118
    refine sp_if (fun c34 => ?_) (fun c34 => ?_)
    · refine sp_m (aw_tableIn (tgt := 119) (pc := 29) dX1_beast_29 (by rw [c34]; decide) (by rw [c34]; decide) (by rw [c34] <;> rfl) (by decide)) ?_
      refine sp_m (aw_aload_n (pc := 119) dX1_beast_119 rfl (lv_at hl 1 rfl)) ?_
      refine sp_b fun x35 ex35 => ?_
      refine sp_m (aw_get (k := 9) okX1 s4 (by decide) q375 (Or.inl rfl) (congrArg va_rf ex35) (pc := 120) dX1_beast_120) ?_
      refine sp_g fun s36 => ?_
      refine sp_b fun x37 ex37 => ?_
      refine sp_m (aw_get (k := 1) okX4 s36 (by decide) q276 (Or.inl rfl) (congrArg va_rf ex37) (pc := 123) dX1_beast_123) ?_
      refine sp_m (aw_iload_n (pc := 126) dX1_beast_126 rfl (lv_at hl 2 rfl)) ?_
      refine sp_g fun s38 => ?_
      refine sp_g fun i39 => ?_
      refine sp_m (aw_iald s38 i39 (pc := 127) dX1_beast_127) ?_
      exact sp_r fun hz => aw_iret hz rfl rfl rfl (pc := 128) dX1_beast_128
    refine sp_if (fun c40 => ?_) (fun c40 => ?_)
    · refine sp_m (aw_tableIn (tgt := 129) (pc := 29) dX1_beast_29 (by rw [c40]; decide) (by rw [c40]; decide) (by rw [c40] <;> rfl) (by decide)) ?_
      refine sp_m (aw_aload_n (pc := 129) dX1_beast_129 rfl (lv_at hl 1 rfl)) ?_
      refine sp_b fun x41 ex41 => ?_
      refine sp_m (aw_get (k := 9) okX1 s4 (by decide) q375 (Or.inl rfl) (congrArg va_rf ex41) (pc := 130) dX1_beast_130) ?_
      refine sp_m (aw_iload_n (pc := 133) dX1_beast_133 rfl (lv_at hl 2 rfl)) ?_
      refine sp_g fun s43 => ?_
      refine sp_b fun p42 ep42 => ?_
      refine sp_m (G' := AW (KX1_beast l D h0 hE v) p1 (137) ls (.int p42 :: [])) (fun kk => aw_callV (As := [.int a1]) (metX4_isDead _ _ ep42) (rcv_o okX4 s43) rfl mok_X4_isDead q963 q964 q965 q122 q966 (Nat.le_of_ble_eq_true rfl) (Nat.le_of_ble_eq_true rfl) rfl hl.1 rfl (Nat.le_of_ble_eq_true rfl) (pc := 134) dX1_beast_134 kk) ?_
      refine sp_if (fun c44 => ?_) (fun c44 => ?_)
      · refine sp_m (aw_if_eq_t (tgt := 144) (pc := 137) dX1_beast_137 (by decide) c44) ?_
        refine sp_m (aw_iconst (v := 0) (pc := 144) dX1_beast_144 rfl) ?_
        exact sp_r fun hz => aw_iret hz rfl rfl rfl (pc := 145) dX1_beast_145
      · refine sp_m (aw_if_eq_f (tgt := 144) (pc := 137) dX1_beast_137 (by decide) c44) ?_
        refine sp_m (aw_iconst (v := 1) (pc := 140) dX1_beast_140 rfl) ?_
        refine sp_m (aw_goto (tgt := 145) (pc := 141) dX1_beast_141 (by decide)) ?_
        exact sp_r fun hz => aw_iret hz rfl rfl rfl (pc := 145) dX1_beast_145
    exact sp_n
  · refine sp_m (aw_if_ne_f (tgt := 18) (pc := 9) dX1_beast_9 (by decide) (Decidable.not_not.mp c5)) ?_
    refine sp_m (aw_aload_n (pc := 12) dX1_beast_12 rfl (lv_at hl 0 rfl)) ?_
    refine sp_m (aw_iconst (v := 1) (pc := 13) dX1_beast_13 rfl) ?_
    refine sp_b fun p45 ep45 => ?_
    refine sp_m (G' := AW (KX1_beast l D h0 hE v) p45.2 (17) ls (.int p45.1 :: [])) (fun kk => aw_callV (As := [.int 1]) (metX1_no _ _ ep45) (rcv_o okX1 s4) rfl mok_X1_no q459 q461 qs3 q116 q462 (Nat.le_of_ble_eq_true rfl) (Nat.le_of_ble_eq_true rfl) rfl hl.1 rfl (Nat.le_of_ble_eq_true rfl) (pc := 14) dX1_beast_14 kk) ?_
    exact sp_r fun hz => aw_iret hz rfl rfl rfl (pc := 17) dX1_beast_17
theorem mok_X1_beastsIn : mOK yX1_beastsIn 1 := ⟨⟨by decide +kernel, by decide +kernel⟩, by decide +kernel⟩
abbrev KX1_beastsIn (l : Launch) (D : DD) (h0 : AH) (v : Int32) : KT := (l, yX1_beastsIn, cX1_beastsIn, 4, (some .int), RX1, 3, D, h0, h0, .inl (some (.int v)), false, [])
theorem metX1_beastsIn (l : Launch) (D : DD) {a0 : Nat} {a1 : Int32} {h0 : AH} {v : Int32} (hr : fX1_beastsIn a0 a1 h0 = some v) : AMet (KX1_beastsIn l D h0 v) [.ref a0, .int a1] := by
  refine AMet.of (K := (KX1_beastsIn l D h0 v)) rfl ⟨_, rfl⟩ rfl rfl rfl (Nat.le_of_ble_eq_true rfl) (fun ls hl => ?_)
  have hl : lv_has ls 4 [(0, .ref a0), (1, .int a1)] := hl
  suffices hsp : SP (fX1_beastsIn a0 a1 h0) (fun z => z = v) (AW (KX1_beastsIn l D h0 v) h0 0 ls []) from hsp _ hr rfl
  unfold fX1_beastsIn
  refine sp_m (aw_iconst (v := 0) (pc := 0) dX1_beastsIn_0 rfl) ?_
  refine sp_m (aw_istore_n (lv' := [(2, .int 0), (0, .ref a0), (1, .int a1)]) (pc := 1) dX1_beastsIn_1 rfl hl (by decide) rfl) (sp_all fun ls hl => ?_)
  refine sp_m (aw_iconst (v := 0) (pc := 2) dX1_beastsIn_2 rfl) ?_
  refine sp_m (aw_istore_n (lv' := [(3, .int 0), (2, .int 0), (0, .ref a0), (1, .int a1)]) (pc := 3) dX1_beastsIn_3 rfl hl (by decide) rfl) (sp_all fun ls hl => ?_)
  let P1 : Int32 × Int32 → Prop := aLP (KX1_beastsIn l D h0 v) 4 4 (fun s1v : Int32 × Int32 => [(0, .ref a0), (1, .int a1), (2, .int s1v.1), (3, .int s1v.2)]) (fun s1v => h0)
  let E1 : Int32 → Prop := aLP (KX1_beastsIn l D h0 v) 4 55 (fun r1v : Int32 => [(2, .int r1v)]) (fun r1v => h0)
  refine sp_bl (P := P1) (E := E1) (fun s1v => sp_all fun ls hl => ?_) (fun k => k ls (lv_sub hl [2, 3, 1, 0] rfl)) (fun r1v => sp_all fun ls hl => ?_)
  · have hl : lv_has ls 4 [(0, .ref a0), (1, .int a1), (2, .int s1v.1), (3, .int s1v.2)] := hl
    show SP _ _ (AW (KX1_beastsIn l D h0 v) h0 4 ls [])
    unfold X1_beastsIn_L4
    refine sp_m (aw_iload_n (pc := 4) dX1_beastsIn_4 rfl (lv_at hl 3 rfl)) ?_
    refine sp_m (aw_aload_n (pc := 5) dX1_beastsIn_5 rfl (lv_at hl 0 rfl)) ?_
    refine sp_g fun s2 => ?_
    refine sp_b fun x3 ex3 => ?_
    refine sp_m (aw_get (k := 3) okX1 s2 (by decide) q369 (Or.inl rfl) (congrArg va_rf ex3) (pc := 6) dX1_beastsIn_6) ?_
    refine sp_g fun s4 => ?_
    refine sp_m (aw_get (k := 8) okX8 s4 (by decide) q505 (Or.inl rfl) rfl (pc := 9) dX1_beastsIn_9) ?_
    refine sp_if (fun c5 => ?_) (fun c5 => ?_)
    · refine sp_m (aw_icmp_ge_t (tgt := 55) (pc := 12) dX1_beastsIn_12 (by decide) c5) ?_
      exact sp_r fun hz => hz ls (lv_sub hl [2] rfl)
    · refine sp_m (aw_icmp_ge_f (tgt := 55) (pc := 12) dX1_beastsIn_12 (by decide) c5) ?_
      refine sp_m (aw_iload_n (pc := 15) dX1_beastsIn_15 rfl (lv_at hl 2 rfl)) ?_
      refine sp_m (aw_aload_n (pc := 16) dX1_beastsIn_16 rfl (lv_at hl 0 rfl)) ?_
      refine sp_b fun x6 ex6 => ?_
      refine sp_m (aw_get (k := 9) okX1 s2 (by decide) q375 (Or.inl rfl) (congrArg va_rf ex6) (pc := 17) dX1_beastsIn_17) ?_
      refine sp_m (aw_iload_n (pc := 20) dX1_beastsIn_20 rfl (lv_at hl 3 rfl)) ?_
      refine sp_g fun s8 => ?_
      refine sp_b fun p7 ep7 => ?_
      refine sp_m (G' := AW (KX1_beastsIn l D h0 v) h0 (24) ls (.int p7 :: .int s1v.1 :: [])) (fun kk => aw_callV (As := [.int s1v.2]) (metX4_isDead _ _ ep7) (rcv_o okX4 s8) rfl mok_X4_isDead q963 q964 q965 q122 q966 (Nat.le_of_ble_eq_true rfl) (Nat.le_of_ble_eq_true rfl) rfl hl.1 rfl (Nat.le_of_ble_eq_true rfl) (pc := 21) dX1_beastsIn_21 kk) ?_
      have hj47_1 : ∀ j9 : Int32, ∀ ls : Array Slot, lv_has ls 4 [(0, .ref a0), (1, .int a1), (3, .int s1v.2)] → SP (X1_beastsIn_j47 s1v j9) (ZL P1 E1) (AW (KX1_beastsIn l D h0 v) h0 47 ls (.int j9 :: .int s1v.1 :: [])) := by
        intro j9 ls hl
        unfold X1_beastsIn_j47
        refine sp_m (aw_ior (pc := 47) dX1_beastsIn_47) ?_
        refine sp_m (aw_istore_n (lv' := [(2, .int (s1v.1 ||| j9)), (0, .ref a0), (1, .int a1), (3, .int s1v.2)]) (pc := 48) dX1_beastsIn_48 rfl hl (by decide) rfl) (sp_all fun ls hl => ?_)
        refine sp_m (aw_iinc (v := s1v.2 + 1) (lv' := [(3, .int (s1v.2 + 1)), (2, .int (s1v.1 ||| j9)), (0, .ref a0), (1, .int a1)]) (pc := 49) dX1_beastsIn_49 hl (k := 3) rfl rfl (by decide) rfl) (sp_all fun ls hl => ?_)
        refine sp_m (aw_goto (tgt := 4) (pc := 52) dX1_beastsIn_52 (by decide)) ?_
        exact sp_r fun hz => hz ls (lv_sub hl [2, 3, 1, 0] rfl)
      have hj46_2 : ∀ ls : Array Slot, lv_has ls 4 [(0, .ref a0), (1, .int a1), (3, .int s1v.2)] → SP (X1_beastsIn_j46 s1v) (ZL P1 E1) (AW (KX1_beastsIn l D h0 v) h0 46 ls (.int s1v.1 :: [])) := by
        intro ls hl
        unfold X1_beastsIn_j46
        refine sp_m (aw_iconst (v := 0) (pc := 46) dX1_beastsIn_46 rfl) ?_
        exact hj47_1 0 ls (lv_sub hl [0, 1, 2] rfl)
      refine sp_if (fun c10 => ?_) (fun c10 => ?_)
      · refine sp_m (aw_if_ne_t (tgt := 46) (pc := 24) dX1_beastsIn_24 (by decide) c10) ?_
        exact hj46_2 ls (lv_sub hl [0, 1, 3] rfl)
      · refine sp_m (aw_if_ne_f (tgt := 46) (pc := 24) dX1_beastsIn_24 (by decide) (Decidable.not_not.mp c10)) ?_
        refine sp_m (aw_aload_n (pc := 27) dX1_beastsIn_27 rfl (lv_at hl 0 rfl)) ?_
        refine sp_b fun x11 ex11 => ?_
        refine sp_m (aw_get (k := 9) okX1 s2 (by decide) q375 (Or.inl rfl) (congrArg va_rf ex11) (pc := 28) dX1_beastsIn_28) ?_
        refine sp_g fun s12 => ?_
        refine sp_b fun x13 ex13 => ?_
        refine sp_m (aw_get (k := 0) okX4 s12 (by decide) q274 (Or.inl rfl) (congrArg va_rf ex13) (pc := 31) dX1_beastsIn_31) ?_
        refine sp_m (aw_iload_n (pc := 34) dX1_beastsIn_34 rfl (lv_at hl 3 rfl)) ?_
        refine sp_g fun s14 => ?_
        refine sp_g fun i15 => ?_
        refine sp_m (aw_iald s14 i15 (pc := 35) dX1_beastsIn_35) ?_
        refine sp_m (aw_iload_n (pc := 36) dX1_beastsIn_36 rfl (lv_at hl 1 rfl)) ?_
        refine sp_if (fun c16 => ?_) (fun c16 => ?_)
        · refine sp_m (aw_icmp_ne_t (tgt := 46) (pc := 37) dX1_beastsIn_37 (by decide) c16) ?_
          exact hj46_2 ls (lv_sub hl [0, 1, 3] rfl)
        · refine sp_m (aw_icmp_ne_f (tgt := 46) (pc := 37) dX1_beastsIn_37 (by decide) (Decidable.not_not.mp c16)) ?_
          refine sp_m (aw_iconst (v := 1) (pc := 40) dX1_beastsIn_40 rfl) ?_
          refine sp_m (aw_iload_n (pc := 41) dX1_beastsIn_41 rfl (lv_at hl 3 rfl)) ?_
          refine sp_m (aw_ishl (pc := 42) dX1_beastsIn_42) ?_
          refine sp_m (aw_goto (tgt := 47) (pc := 43) dX1_beastsIn_43 (by decide)) ?_
          exact hj47_1 (1 <<< (s1v.2 &&& 31)) ls (lv_sub hl [0, 1, 3] rfl)
  · have hl : lv_has ls 4 [(2, .int r1v)] := hl
    show SP _ _ (AW (KX1_beastsIn l D h0 v) h0 55 ls [])
    refine sp_m (aw_iload_n (pc := 55) dX1_beastsIn_55 rfl (lv_at hl 0 rfl)) ?_
    exact sp_r fun hz => aw_iret (congrArg (fun z => (z, h0)) hz) rfl rfl rfl (pc := 56) dX1_beastsIn_56
theorem mok_X4_worth : mOK yX4_worth 2 := ⟨⟨by decide +kernel, by decide +kernel⟩, by decide +kernel⟩
abbrev KX4_worth (l : Launch) (D : DD) (h0 : AH) (v : Int64) : KT := (l, yX4_worth, cX4_worth, 3, (some .long), RX4, 6, D, h0, h0, .inl (some (.long v)), false, [])
theorem metX4_worth (l : Launch) (D : DD) {a0 : Nat} {a1 : Int32} {a2 : Int32} {h0 : AH} {v : Int64} (hr : fX4_worth a0 a1 a2 h0 = some v) : AMet (KX4_worth l D h0 v) [.ref a0, .int a1, .int a2] := by
  refine AMet.of (K := (KX4_worth l D h0 v)) rfl ⟨_, rfl⟩ rfl rfl rfl (Nat.le_of_ble_eq_true rfl) (fun ls hl => ?_)
  have hl : lv_has ls 3 [(0, .ref a0), (1, .int a1), (2, .int a2)] := hl
  suffices hsp : SP (fX4_worth a0 a1 a2 h0) (fun z => z = v) (AW (KX4_worth l D h0 v) h0 0 ls []) from hsp _ hr rfl
  unfold fX4_worth
  refine sp_m (aw_aload_n (pc := 0) dX4_worth_0 rfl (lv_at hl 0 rfl)) ?_
  refine sp_m (aw_iload_n (pc := 1) dX4_worth_1 rfl (lv_at hl 1 rfl)) ?_
  refine sp_m (aw_iload_n (pc := 2) dX4_worth_2 rfl (lv_at hl 2 rfl)) ?_
  refine sp_g fun s2 => ?_
  refine sp_b fun p1 ep1 => ?_
  refine sp_m (G' := AW (KX4_worth l D h0 v) h0 (6) ls (.long p1 :: [])) (fun kk => aw_callV (As := [.int a1, .int a2]) (metX4_meanFoes _ _ ep1) (rcv_o okX4 s2) rfl mok_X4_meanFoes q1143 q1131 q1132 q122 q1133 (Nat.le_of_ble_eq_true rfl) (Nat.le_of_ble_eq_true rfl) rfl hl.1 rfl (Nat.le_of_ble_eq_true rfl) (pc := 3) dX4_worth_3 kk) ?_
  refine sp_m (aw_aload_n (pc := 6) dX4_worth_6 rfl (lv_at hl 0 rfl)) ?_
  refine sp_m (aw_iload_n (pc := 7) dX4_worth_7 rfl (lv_at hl 1 rfl)) ?_
  refine sp_m (aw_iload_n (pc := 8) dX4_worth_8 rfl (lv_at hl 2 rfl)) ?_
  refine sp_b fun p3 ep3 => ?_
  refine sp_m (G' := AW (KX4_worth l D h0 v) h0 (12) ls (.long p3 :: .long p1 :: [])) (fun kk => aw_callV (As := [.int a1, .int a2]) (metX4_meanOwn _ _ ep3) (rcv_o okX4 s2) rfl mok_X4_meanOwn q1144 q1124 q1125 q122 q1126 (Nat.le_of_ble_eq_true rfl) (Nat.le_of_ble_eq_true rfl) rfl hl.1 rfl (Nat.le_of_ble_eq_true rfl) (pc := 9) dX4_worth_9 kk) ?_
  refine sp_m (aw_lsub (pc := 12) dX4_worth_12) ?_
  exact sp_r fun hz => aw_lret (congrArg (fun z => (z, h0)) hz) rfl rfl rfl (pc := 13) dX4_worth_13
theorem mok_X1_bestLane : mOK yX1_bestLane 1 := ⟨⟨by decide +kernel, by decide +kernel⟩, by decide +kernel⟩
abbrev KX1_bestLane (l : Launch) (D : DD) (h0 hE : AH) (v : Int32) : KT := (l, yX1_bestLane, cX1_bestLane, 4, (some .int), RX1, 7, D, h0, hE, .inl (some (.int v)), false, [])
theorem metX1_bestLane (l : Launch) (D : DD) {a0 : Nat} {a1 : Int32} {h0 : AH} {hE : AH} {v : Int32} (hr : fX1_bestLane a0 a1 h0 = some (v, hE)) : AMet (KX1_bestLane l D h0 hE v) [.ref a0, .int a1] := by
  refine AMet.of (K := (KX1_bestLane l D h0 hE v)) rfl ⟨_, rfl⟩ rfl rfl rfl (Nat.le_of_ble_eq_true rfl) (fun ls hl => ?_)
  have hl : lv_has ls 4 [(0, .ref a0), (1, .int a1)] := hl
  suffices hsp : SP (fX1_bestLane a0 a1 h0) (fun z => z = (v, hE)) (AW (KX1_bestLane l D h0 hE v) h0 0 ls []) from hsp _ hr rfl
  unfold fX1_bestLane
  refine sp_m (aw_aload_n (pc := 0) dX1_bestLane_0 rfl (lv_at hl 0 rfl)) ?_
  refine sp_g fun s2 => ?_
  refine sp_b fun p1 ep1 => ?_
  refine sp_m (G' := AW (KX1_bestLane l D h0 hE v) p1 (4) ls ([])) (fun kk => aw_callV (As := []) (metX1_anew _ _ ep1) (rcv_o okX1 s2) rfl mok_X1_anew q452 q454 qs2 q116 q455 (Nat.le_of_ble_eq_true rfl) (Nat.le_of_ble_eq_true rfl) rfl hl.1 rfl (Nat.le_of_ble_eq_true rfl) (pc := 1) dX1_bestLane_1 kk) ?_
  refine sp_m (aw_aload_n (pc := 4) dX1_bestLane_4 rfl (lv_at hl 0 rfl)) ?_
  refine sp_m (aw_iload_n (pc := 5) dX1_bestLane_5 rfl (lv_at hl 1 rfl)) ?_
  refine sp_g fun s4 => ?_
  refine sp_b fun p3 ep3 => ?_
  refine sp_m (G' := AW (KX1_bestLane l D h0 hE v) p1 (9) ls (.int p3 :: [])) (fun kk => aw_callV (As := [.int a1]) (metX1_isBeast _ _ ep3) (rcv_o okX1 s4) rfl mok_X1_isBeast q974 q976 qs27 q116 q977 (Nat.le_of_ble_eq_true rfl) (Nat.le_of_ble_eq_true rfl) rfl hl.1 rfl (Nat.le_of_ble_eq_true rfl) (pc := 6) dX1_bestLane_6 kk) ?_
  refine sp_if (fun c5 => ?_) (fun c5 => ?_)
  · refine sp_m (aw_if_ne_t (tgt := 18) (pc := 9) dX1_bestLane_9 (by decide) c5) ?_
    refine sp_m (aw_iconst (v := 0) (pc := 18) dX1_bestLane_18 rfl) ?_
    refine sp_m (aw_istore_n (lv' := [(2, .int 0), (0, .ref a0), (1, .int a1)]) (pc := 19) dX1_bestLane_19 rfl hl (by decide) rfl) (sp_all fun ls hl => ?_)
    refine sp_m (aw_iconst (v := 1) (pc := 20) dX1_bestLane_20 rfl) ?_
    refine sp_m (aw_istore_n (lv' := [(3, .int 1), (2, .int 0), (0, .ref a0), (1, .int a1)]) (pc := 21) dX1_bestLane_21 rfl hl (by decide) rfl) (sp_all fun ls hl => ?_)
    let P6 : Int32 × Int32 → Prop := aLP (KX1_bestLane l D h0 hE v) 4 22 (fun s6v : Int32 × Int32 => [(0, .ref a0), (1, .int a1), (2, .int s6v.1), (3, .int s6v.2)]) (fun s6v => p1)
    let E6 : Int32 → Prop := aLP (KX1_bestLane l D h0 hE v) 4 63 (fun r6v : Int32 => [(2, .int r6v)]) (fun r6v => p1)
    refine sp_bl (P := P6) (E := E6) (fun s6v => sp_all fun ls hl => ?_) (fun k => k ls (lv_sub hl [2, 3, 1, 0] rfl)) (fun r6v => sp_all fun ls hl => ?_)
    · have hl : lv_has ls 4 [(0, .ref a0), (1, .int a1), (2, .int s6v.1), (3, .int s6v.2)] := hl
      show SP _ _ (AW (KX1_bestLane l D h0 hE v) p1 22 ls [])
      unfold X1_bestLane_L22
      refine sp_m (aw_iload_n (pc := 22) dX1_bestLane_22 rfl (lv_at hl 3 rfl)) ?_
      refine sp_m (aw_aload_n (pc := 23) dX1_bestLane_23 rfl (lv_at hl 0 rfl)) ?_
      refine sp_b fun x7 ex7 => ?_
      refine sp_m (aw_get (k := 3) okX1 s4 (by decide) q369 (Or.inl rfl) (congrArg va_rf ex7) (pc := 24) dX1_bestLane_24) ?_
      refine sp_g fun s8 => ?_
      refine sp_m (aw_get (k := 5) okX8 s8 (by decide) q496 (Or.inl rfl) rfl (pc := 27) dX1_bestLane_27) ?_
      refine sp_if (fun c9 => ?_) (fun c9 => ?_)
      · refine sp_m (aw_icmp_ge_t (tgt := 63) (pc := 30) dX1_bestLane_30 (by decide) c9) ?_
        exact sp_r fun hz => hz ls (lv_sub hl [2] rfl)
      · refine sp_m (aw_icmp_ge_f (tgt := 63) (pc := 30) dX1_bestLane_30 (by decide) c9) ?_
        refine sp_m (aw_aload_n (pc := 33) dX1_bestLane_33 rfl (lv_at hl 0 rfl)) ?_
        refine sp_b fun x10 ex10 => ?_
        refine sp_m (aw_get (k := 9) okX1 s4 (by decide) q375 (Or.inl rfl) (congrArg va_rf ex10) (pc := 34) dX1_bestLane_34) ?_
        refine sp_m (aw_iload_n (pc := 37) dX1_bestLane_37 rfl (lv_at hl 1 rfl)) ?_
        refine sp_m (aw_iload_n (pc := 38) dX1_bestLane_38 rfl (lv_at hl 3 rfl)) ?_
        refine sp_g fun s12 => ?_
        refine sp_b fun p11 ep11 => ?_
        refine sp_m (G' := AW (KX1_bestLane l D h0 hE v) p1 (42) ls (.long p11 :: [])) (fun kk => aw_callV (As := [.int a1, .int s6v.2]) (metX4_worth _ _ ep11) (rcv_o okX4 s12) rfl mok_X4_worth q1139 q1140 q1141 q122 q1142 (Nat.le_of_ble_eq_true rfl) (Nat.le_of_ble_eq_true rfl) rfl hl.1 rfl (Nat.le_of_ble_eq_true rfl) (pc := 39) dX1_bestLane_39 kk) ?_
        refine sp_m (aw_aload_n (pc := 42) dX1_bestLane_42 rfl (lv_at hl 0 rfl)) ?_
        refine sp_b fun x13 ex13 => ?_
        refine sp_m (aw_get (k := 9) okX1 s4 (by decide) q375 (Or.inl rfl) (congrArg va_rf ex13) (pc := 43) dX1_bestLane_43) ?_
        refine sp_m (aw_iload_n (pc := 46) dX1_bestLane_46 rfl (lv_at hl 1 rfl)) ?_
        refine sp_m (aw_iload_n (pc := 47) dX1_bestLane_47 rfl (lv_at hl 2 rfl)) ?_
        refine sp_g fun s15 => ?_
        refine sp_b fun p14 ep14 => ?_
        refine sp_m (G' := AW (KX1_bestLane l D h0 hE v) p1 (51) ls (.long p14 :: .long p11 :: [])) (fun kk => aw_callV (As := [.int a1, .int s6v.1]) (metX4_worth _ _ ep14) (rcv_o okX4 s15) rfl mok_X4_worth q1139 q1140 q1141 q122 q1142 (Nat.le_of_ble_eq_true rfl) (Nat.le_of_ble_eq_true rfl) rfl hl.1 rfl (Nat.le_of_ble_eq_true rfl) (pc := 48) dX1_bestLane_48 kk) ?_
        refine sp_m (aw_lcmp (pc := 51) dX1_bestLane_51) ?_
        have hj57_1 : ∀ j16 : Int32, ∀ ls : Array Slot, lv_has ls 4 [(0, .ref a0), (1, .int a1), (2, .int j16), (3, .int s6v.2)] → SP (X1_bestLane_j57 s6v j16) (ZL P6 E6) (AW (KX1_bestLane l D h0 hE v) p1 57 ls ([])) := by
          intro j16 ls hl
          unfold X1_bestLane_j57
          refine sp_m (aw_iinc (v := s6v.2 + 1) (lv' := [(3, .int (s6v.2 + 1)), (0, .ref a0), (1, .int a1), (2, .int j16)]) (pc := 57) dX1_bestLane_57 hl (k := 3) rfl rfl (by decide) rfl) (sp_all fun ls hl => ?_)
          refine sp_m (aw_goto (tgt := 22) (pc := 60) dX1_bestLane_60 (by decide)) ?_
          exact sp_r fun hz => hz ls (lv_sub hl [1, 2, 3, 0] rfl)
        refine sp_if (fun c17 => ?_) (fun c17 => ?_)
        · refine sp_m (aw_if_le_t (tgt := 57) (pc := 52) dX1_bestLane_52 (by decide) ((lg_cmp_le _ _).mpr c17)) ?_
          exact hj57_1 s6v.1 ls (lv_sub hl [0, 1, 2, 3] rfl)
        · refine sp_m (aw_if_le_f (tgt := 57) (pc := 52) dX1_bestLane_52 (by decide) (fun z => c17 ((lg_cmp_le _ _).mp z))) ?_
          refine sp_m (aw_iload_n (pc := 55) dX1_bestLane_55 rfl (lv_at hl 3 rfl)) ?_
          refine sp_m (aw_istore_n (lv' := [(2, .int s6v.2), (0, .ref a0), (1, .int a1), (3, .int s6v.2)]) (pc := 56) dX1_bestLane_56 rfl hl (by decide) rfl) (sp_all fun ls hl => ?_)
          exact hj57_1 s6v.2 ls (lv_sub hl [1, 2, 0, 3] rfl)
    · have hl : lv_has ls 4 [(2, .int r6v)] := hl
      show SP _ _ (AW (KX1_bestLane l D h0 hE v) p1 63 ls [])
      refine sp_m (aw_iload_n (pc := 63) dX1_bestLane_63 rfl (lv_at hl 0 rfl)) ?_
      exact sp_r fun hz => aw_iret hz rfl rfl rfl (pc := 64) dX1_bestLane_64
  · refine sp_m (aw_if_ne_f (tgt := 18) (pc := 9) dX1_bestLane_9 (by decide) (Decidable.not_not.mp c5)) ?_
    refine sp_m (aw_aload_n (pc := 12) dX1_bestLane_12 rfl (lv_at hl 0 rfl)) ?_
    refine sp_m (aw_iconst (v := 1) (pc := 13) dX1_bestLane_13 rfl) ?_
    refine sp_b fun p18 ep18 => ?_
    refine sp_m (G' := AW (KX1_bestLane l D h0 hE v) p18.2 (17) ls (.int p18.1 :: [])) (fun kk => aw_callV (As := [.int 1]) (metX1_no _ _ ep18) (rcv_o okX1 s4) rfl mok_X1_no q459 q461 qs3 q116 q462 (Nat.le_of_ble_eq_true rfl) (Nat.le_of_ble_eq_true rfl) rfl hl.1 rfl (Nat.le_of_ble_eq_true rfl) (pc := 14) dX1_bestLane_14 kk) ?_
    exact sp_r fun hz => aw_iret hz rfl rfl rfl (pc := 17) dX1_bestLane_17
theorem mok_X1_bytes : mOK yX1_bytes 1 := ⟨⟨by decide +kernel, by decide +kernel⟩, by decide +kernel⟩
abbrev KX1_bytes (l : Launch) (D : DD) (h0 hE : AH) : KT := (l, yX1_bytes, cX1_bytes, 3, none, RX1, 1, D, h0, hE, .inl (none), false, [])
theorem metX1_bytes (l : Launch) (D : DD) {a0 : Nat} {a1 : Int32} {h0 : AH} {hE : AH} (hr : fX1_bytes a0 a1 h0 = some hE) : AMet (KX1_bytes l D h0 hE) [.ref a0, .int a1] := by
  refine AMet.of (K := (KX1_bytes l D h0 hE)) rfl ⟨_, rfl⟩ rfl rfl rfl (Nat.le_of_ble_eq_true rfl) (fun ls hl => ?_)
  have hl : lv_has ls 3 [(0, .ref a0), (1, .int a1)] := hl
  suffices hsp : SP (fX1_bytes a0 a1 h0) (fun z => z = hE) (AW (KX1_bytes l D h0 hE) h0 0 ls []) from hsp _ hr rfl
  unfold fX1_bytes
  refine sp_m (aw_bipush (v := 24) (pc := 0) dX1_bytes_0 rfl) ?_
  refine sp_m (aw_istore_n (lv' := [(2, .int 24), (0, .ref a0), (1, .int a1)]) (pc := 2) dX1_bytes_2 rfl hl (by decide) rfl) (sp_all fun ls hl => ?_)
  let P1 : Int32 × AH → Prop := aLP (KX1_bytes l D h0 hE) 3 3 (fun s1v : Int32 × AH => [(0, .ref a0), (1, .int a1), (2, .int s1v.1)]) (fun s1v => s1v.2)
  let E1 : AH → Prop := aLP (KX1_bytes l D h0 hE) 3 36 (fun r1v : AH => []) (fun r1v => r1v)
  refine sp_bl (P := P1) (E := E1) (fun s1v => sp_all fun ls hl => ?_) (fun k => k ls (lv_sub hl [1, 2, 0] rfl)) (fun r1v => sp_all fun ls hl => ?_)
  · have hl : lv_has ls 3 [(0, .ref a0), (1, .int a1), (2, .int s1v.1)] := hl
    show SP _ _ (AW (KX1_bytes l D h0 hE) s1v.2 3 ls [])
    unfold X1_bytes_L3
    refine sp_m (aw_iload_n (pc := 3) dX1_bytes_3 rfl (lv_at hl 2 rfl)) ?_
    refine sp_if (fun c2 => ?_) (fun c2 => ?_)
    · refine sp_m (aw_if_lt_t (tgt := 36) (pc := 4) dX1_bytes_4 (by decide) c2) ?_
      exact sp_r fun hz => hz ls (lv_sub hl [] rfl)
    · refine sp_m (aw_if_lt_f (tgt := 36) (pc := 4) dX1_bytes_4 (by decide) c2) ?_
      refine sp_m (aw_aload_n (pc := 7) dX1_bytes_7 rfl (lv_at hl 0 rfl)) ?_
      refine sp_g fun s3 => ?_
      refine sp_b fun x4 ex4 => ?_
      refine sp_m (aw_get (k := 0) okX1 s3 (by decide) q366 (Or.inl rfl) (congrArg va_rf ex4) (pc := 8) dX1_bytes_8) ?_
      refine sp_m (aw_aload_n (pc := 11) dX1_bytes_11 rfl (lv_at hl 0 rfl)) ?_
      refine sp_m (aw_get (k := 1) okX1 s3 (by decide) q367 (Or.inl rfl) rfl (pc := 12) dX1_bytes_12) ?_
      refine sp_m (aw_iload_n (pc := 15) dX1_bytes_15 rfl (lv_at hl 1 rfl)) ?_
      refine sp_m (aw_iload_n (pc := 16) dX1_bytes_16 rfl (lv_at hl 2 rfl)) ?_
      refine sp_m (aw_ishr (pc := 17) dX1_bytes_17) ?_
      refine sp_m (aw_i2b (pc := 18) dX1_bytes_18) ?_
      refine sp_g fun s5 => ?_
      refine sp_g fun i6 => ?_
      refine sp_t fun h7 eh70 => ?_
      have eh7 : gS h7 = gS s1v.2 := by rw [eh70]; rfl
      refine sp_m (fun kk => aw_bast s5 i6 (pc := 19) dX1_bytes_19 (AWe eh70 kk)) ?_
      refine sp_m (aw_aload_n (pc := 20) dX1_bytes_20 rfl (lv_at hl 0 rfl)) ?_
      refine sp_m (aw_dup (pc := 21) dX1_bytes_21 rfl) ?_
      refine sp_m (aw_get (k := 1) okX1 (uS eh7 s3) (by decide) q367 (Or.inl rfl) rfl (pc := 22) dX1_bytes_22) ?_
      refine sp_m (aw_iconst (v := 1) (pc := 25) dX1_bytes_25 rfl) ?_
      refine sp_m (aw_iadd (pc := 26) dX1_bytes_26) ?_
      refine sp_t fun h8 eh80 => ?_
      have eh8 : gS h8 = gS h7 := by rw [eh80]; rfl
      refine sp_m (aw_put (k := 1) okX1 opX1 (uS eh7 s3) (by decide) q367 (Or.inl rfl) (Or.inl rfl) (hasV_I' eh80) rfl rfl (pc := 27) dX1_bytes_27) ?_
      refine sp_m (aw_iinc (v := s1v.1 + (-8)) (lv' := [(2, .int (s1v.1 + (-8))), (0, .ref a0), (1, .int a1)]) (pc := 30) dX1_bytes_30 hl (k := 2) rfl rfl (by decide) rfl) (sp_all fun ls hl => ?_)
      refine sp_m (aw_goto (tgt := 3) (pc := 33) dX1_bytes_33 (by decide)) ?_
      exact sp_r fun hz => hz ls (lv_sub hl [1, 2, 0] rfl)
  · have hl : lv_has ls 3 [] := hl
    show SP _ _ (AW (KX1_bytes l D h0 hE) r1v 36 ls [])
    exact sp_r fun hz => aw_vret hz rfl rfl rfl (pc := 36) dX1_bytes_36
theorem mok_X1_could : mOK yX1_could 0 := ⟨⟨by decide +kernel, by decide +kernel⟩, by decide +kernel⟩
abbrev KX1_could (l : Launch) (D : DD) (h0 hE : AH) (v : Int32) : KT := (l, yX1_could, cX1_could, 1, (some .int), RX1, 6, D, h0, hE, .inl (some (.int v)), false, [])
theorem metX1_could (l : Launch) (D : DD) {a0 : Nat} {h0 : AH} {hE : AH} {v : Int32} (hr : fX1_could a0 h0 = some (v, hE)) : AMet (KX1_could l D h0 hE v) [.ref a0] := by
  refine AMet.of (K := (KX1_could l D h0 hE v)) rfl ⟨_, rfl⟩ rfl rfl rfl (Nat.le_of_ble_eq_true rfl) (fun ls hl => ?_)
  have hl : lv_has ls 1 [(0, .ref a0)] := hl
  suffices hsp : SP (fX1_could a0 h0) (fun z => z = (v, hE)) (AW (KX1_could l D h0 hE v) h0 0 ls []) from hsp _ hr rfl
  unfold fX1_could
  refine sp_m (aw_aload_n (pc := 0) dX1_could_0 rfl (lv_at hl 0 rfl)) ?_
  refine sp_g fun s2 => ?_
  refine sp_b fun p1 ep1 => ?_
  refine sp_m (G' := AW (KX1_could l D h0 hE v) p1 (4) ls ([])) (fun kk => aw_callV (As := []) (metX1_anew _ _ ep1) (rcv_o okX1 s2) rfl mok_X1_anew q452 q454 qs2 q116 q455 (Nat.le_of_ble_eq_true rfl) (Nat.le_of_ble_eq_true rfl) rfl hl.1 rfl (Nat.le_of_ble_eq_true rfl) (pc := 1) dX1_could_1 kk) ?_
  refine sp_m (aw_aload_n (pc := 4) dX1_could_4 rfl (lv_at hl 0 rfl)) ?_
  refine sp_g fun s3 => ?_
  refine sp_o (fun ex4 => ?_) (fun x4 ex4 => ?_)
  · refine sp_m (aw_get (k := 3) okX1 s3 (by decide) q369 (Or.inl rfl) (congrArg va_rf ex4) (pc := 5) dX1_could_5) ?_
    refine sp_m (aw_ifnonnullN (pc := 8) dX1_could_8) ?_
    refine sp_m (aw_aload_n (pc := 11) dX1_could_11 rfl (lv_at hl 0 rfl)) ?_
    refine sp_m (aw_iconst (v := 1) (pc := 12) dX1_could_12 rfl) ?_
    refine sp_b fun p7 ep7 => ?_
    refine sp_m (G' := AW (KX1_could l D h0 hE v) p7.2 (16) ls (.int p7.1 :: [])) (fun kk => aw_callV (As := [.int 1]) (metX1_no _ _ ep7) (rcv_o okX1 s3) rfl mok_X1_no q459 q461 qs3 q116 q462 (Nat.le_of_ble_eq_true rfl) (Nat.le_of_ble_eq_true rfl) rfl hl.1 rfl (Nat.le_of_ble_eq_true rfl) (pc := 13) dX1_could_13 kk) ?_
    exact sp_r fun hz => aw_iret hz rfl rfl rfl (pc := 16) dX1_could_16
  · refine sp_m (aw_get (k := 3) okX1 s3 (by decide) q369 (Or.inl rfl) (congrArg va_rf ex4) (pc := 5) dX1_could_5) ?_
    refine sp_m (aw_ifnonnull (tgt := 17) (pc := 8) dX1_could_8 (by decide)) ?_
    refine sp_m (aw_aload_n (pc := 17) dX1_could_17 rfl (lv_at hl 0 rfl)) ?_
    refine sp_m (aw_iconst (v := (-1)) (pc := 18) dX1_could_18 rfl) ?_
    refine sp_m (aw_iconst (v := 0) (pc := 19) dX1_could_19 rfl) ?_
    refine sp_b fun p5 ep5 => ?_
    refine sp_m (G' := AW (KX1_could l D h0 hE v) p5 (23) ls ([])) (fun kk => aw_callV (As := [.int (-1), .int 0]) (metX1_seekFits _ _ ep5) (rcv_o okX1 s3) rfl mok_X1_seekFits q1333 q1335 qs43 q116 q1336 (Nat.le_of_ble_eq_true rfl) (Nat.le_of_ble_eq_true rfl) rfl hl.1 rfl (Nat.le_of_ble_eq_true rfl) (pc := 20) dX1_could_20 kk) ?_
    refine sp_m (aw_aload_n (pc := 23) dX1_could_23 rfl (lv_at hl 0 rfl)) ?_
    refine sp_g fun s6 => ?_
    refine sp_m (aw_get (k := 18) okX1 s6 (by decide) q384 (Or.inl rfl) rfl (pc := 24) dX1_could_24) ?_
    exact sp_r fun hz => aw_iret hz rfl rfl rfl (pc := 27) dX1_could_27
theorem mok_X1_fault : mOK yX1_fault 0 := ⟨⟨by decide +kernel, by decide +kernel⟩, by decide +kernel⟩
abbrev KX1_fault (l : Launch) (D : DD) (h0 : AH) (v : Int32) : KT := (l, yX1_fault, cX1_fault, 1, (some .int), RX1, 1, D, h0, h0, .inl (some (.int v)), false, [])
theorem metX1_fault (l : Launch) (D : DD) {a0 : Nat} {h0 : AH} {v : Int32} (hr : fX1_fault a0 h0 = some v) : AMet (KX1_fault l D h0 v) [.ref a0] := by
  refine AMet.of (K := (KX1_fault l D h0 v)) rfl ⟨_, rfl⟩ rfl rfl rfl (Nat.le_of_ble_eq_true rfl) (fun ls hl => ?_)
  have hl : lv_has ls 1 [(0, .ref a0)] := hl
  suffices hsp : SP (fX1_fault a0 h0) (fun z => z = v) (AW (KX1_fault l D h0 v) h0 0 ls []) from hsp _ hr rfl
  unfold fX1_fault
  refine sp_m (aw_aload_n (pc := 0) dX1_fault_0 rfl (lv_at hl 0 rfl)) ?_
  refine sp_g fun s1 => ?_
  refine sp_m (aw_get (k := 5) okX1 s1 (by decide) q371 (Or.inl rfl) rfl (pc := 1) dX1_fault_1) ?_
  exact sp_r fun hz => aw_iret (congrArg (fun z => (z, h0)) hz) rfl rfl rfl (pc := 4) dX1_fault_4
theorem mok_X1_feed : mOK yX1_feed 5 := ⟨⟨by decide +kernel, by decide +kernel⟩, by decide +kernel⟩
abbrev KX1_feed (l : Launch) (D : DD) (h0 hE : AH) (v : Int32) : KT := (l, yX1_feed, cX1_feed, 6, (some .int), RX1, 2, D, h0, hE, .inl (some (.int v)), false, [])
theorem metX1_feed (l : Launch) (D : DD) {a0 : Nat} {a1 : Int32} {a2 : Int32} {a3 : Int32} {a4 : Int32} {a5 : Int32} {h0 : AH} {hE : AH} {v : Int32} (hr : fX1_feed a0 a1 a2 a3 a4 a5 h0 = some (v, hE)) : AMet (KX1_feed l D h0 hE v) [.ref a0, .int a1, .int a2, .int a3, .int a4, .int a5] := by
  refine AMet.of (K := (KX1_feed l D h0 hE v)) rfl ⟨_, rfl⟩ rfl rfl rfl (Nat.le_of_ble_eq_true rfl) (fun ls hl => ?_)
  have hl : lv_has ls 6 [(0, .ref a0), (1, .int a1), (2, .int a2), (3, .int a3), (4, .int a4), (5, .int a5)] := hl
  suffices hsp : SP (fX1_feed a0 a1 a2 a3 a4 a5 h0) (fun z => z = (v, hE)) (AW (KX1_feed l D h0 hE v) h0 0 ls []) from hsp _ hr rfl
  unfold fX1_feed
  refine sp_m (aw_aload_n (pc := 0) dX1_feed_0 rfl (lv_at hl 0 rfl)) ?_
  refine sp_g fun s1 => ?_
  refine sp_m (aw_get (k := 1) okX1 s1 (by decide) q367 (Or.inl rfl) rfl (pc := 1) dX1_feed_1) ?_
  refine sp_m (aw_bipush (v := 20) (pc := 4) dX1_feed_4 rfl) ?_
  refine sp_m (aw_iadd (pc := 6) dX1_feed_6) ?_
  refine sp_m (aw_sipush (v := 900) (pc := 7) dX1_feed_7 rfl) ?_
  refine sp_if (fun c2 => ?_) (fun c2 => ?_)
  · refine sp_m (aw_icmp_le_t (tgt := 15) (pc := 10) dX1_feed_10 (by decide) c2) ?_
    refine sp_m (aw_aload_n (pc := 15) dX1_feed_15 rfl (lv_at hl 0 rfl)) ?_
    refine sp_m (aw_iload_n (pc := 16) dX1_feed_16 rfl (lv_at hl 1 rfl)) ?_
    refine sp_b fun p3 ep3 => ?_
    refine sp_m (G' := AW (KX1_feed l D h0 hE v) p3 (20) ls ([])) (fun kk => aw_callV (As := [.int a1]) (metX1_bytes _ _ ep3) (rcv_o okX1 s1) rfl mok_X1_bytes q443 q445 qs1 q116 q446 (Nat.le_of_ble_eq_true rfl) (Nat.le_of_ble_eq_true rfl) rfl hl.1 rfl (Nat.le_of_ble_eq_true rfl) (pc := 17) dX1_feed_17 kk) ?_
    refine sp_m (aw_aload_n (pc := 20) dX1_feed_20 rfl (lv_at hl 0 rfl)) ?_
    refine sp_m (aw_iload_n (pc := 21) dX1_feed_21 rfl (lv_at hl 2 rfl)) ?_
    refine sp_g fun s5 => ?_
    refine sp_b fun p4 ep4 => ?_
    refine sp_m (G' := AW (KX1_feed l D h0 hE v) p4 (25) ls ([])) (fun kk => aw_callV (As := [.int a2]) (metX1_bytes _ _ ep4) (rcv_o okX1 s5) rfl mok_X1_bytes q443 q445 qs1 q116 q446 (Nat.le_of_ble_eq_true rfl) (Nat.le_of_ble_eq_true rfl) rfl hl.1 rfl (Nat.le_of_ble_eq_true rfl) (pc := 22) dX1_feed_22 kk) ?_
    refine sp_m (aw_aload_n (pc := 25) dX1_feed_25 rfl (lv_at hl 0 rfl)) ?_
    refine sp_m (aw_iload_n (pc := 26) dX1_feed_26 rfl (lv_at hl 3 rfl)) ?_
    refine sp_g fun s7 => ?_
    refine sp_b fun p6 ep6 => ?_
    refine sp_m (G' := AW (KX1_feed l D h0 hE v) p6 (30) ls ([])) (fun kk => aw_callV (As := [.int a3]) (metX1_bytes _ _ ep6) (rcv_o okX1 s7) rfl mok_X1_bytes q443 q445 qs1 q116 q446 (Nat.le_of_ble_eq_true rfl) (Nat.le_of_ble_eq_true rfl) rfl hl.1 rfl (Nat.le_of_ble_eq_true rfl) (pc := 27) dX1_feed_27 kk) ?_
    refine sp_m (aw_aload_n (pc := 30) dX1_feed_30 rfl (lv_at hl 0 rfl)) ?_
    refine sp_m (aw_iload (pc := 31) dX1_feed_31 (lv_at hl 4 rfl)) ?_
    refine sp_g fun s9 => ?_
    refine sp_b fun p8 ep8 => ?_
    refine sp_m (G' := AW (KX1_feed l D h0 hE v) p8 (36) ls ([])) (fun kk => aw_callV (As := [.int a4]) (metX1_bytes _ _ ep8) (rcv_o okX1 s9) rfl mok_X1_bytes q443 q445 qs1 q116 q446 (Nat.le_of_ble_eq_true rfl) (Nat.le_of_ble_eq_true rfl) rfl hl.1 rfl (Nat.le_of_ble_eq_true rfl) (pc := 33) dX1_feed_33 kk) ?_
    refine sp_m (aw_aload_n (pc := 36) dX1_feed_36 rfl (lv_at hl 0 rfl)) ?_
    refine sp_m (aw_iload (pc := 37) dX1_feed_37 (lv_at hl 5 rfl)) ?_
    refine sp_g fun s11 => ?_
    refine sp_b fun p10 ep10 => ?_
    refine sp_m (G' := AW (KX1_feed l D h0 hE v) p10 (42) ls ([])) (fun kk => aw_callV (As := [.int a5]) (metX1_bytes _ _ ep10) (rcv_o okX1 s11) rfl mok_X1_bytes q443 q445 qs1 q116 q446 (Nat.le_of_ble_eq_true rfl) (Nat.le_of_ble_eq_true rfl) rfl hl.1 rfl (Nat.le_of_ble_eq_true rfl) (pc := 39) dX1_feed_39 kk) ?_
    refine sp_m (aw_aload_n (pc := 42) dX1_feed_42 rfl (lv_at hl 0 rfl)) ?_
    refine sp_g fun s12 => ?_
    refine sp_m (aw_get (k := 1) okX1 s12 (by decide) q367 (Or.inl rfl) rfl (pc := 43) dX1_feed_43) ?_
    exact sp_r fun hz => aw_iret hz rfl rfl rfl (pc := 46) dX1_feed_46
  · refine sp_m (aw_icmp_le_f (tgt := 15) (pc := 10) dX1_feed_10 (by decide) c2) ?_
    refine sp_m (aw_iconst (v := (-1)) (pc := 13) dX1_feed_13 rfl) ?_
    exact sp_r fun hz => aw_iret hz rfl rfl rfl (pc := 14) dX1_feed_14
theorem mok_X1_fits : mOK yX1_fits 0 := ⟨⟨by decide +kernel, by decide +kernel⟩, by decide +kernel⟩
abbrev KX1_fits (l : Launch) (D : DD) (h0 hE : AH) (v : Int32) : KT := (l, yX1_fits, cX1_fits, 1, (some .int), RX1, 6, D, h0, hE, .inl (some (.int v)), false, [])
theorem metX1_fits (l : Launch) (D : DD) {a0 : Nat} {h0 : AH} {hE : AH} {v : Int32} (hr : fX1_fits a0 h0 = some (v, hE)) : AMet (KX1_fits l D h0 hE v) [.ref a0] := by
  refine AMet.of (K := (KX1_fits l D h0 hE v)) rfl ⟨_, rfl⟩ rfl rfl rfl (Nat.le_of_ble_eq_true rfl) (fun ls hl => ?_)
  have hl : lv_has ls 1 [(0, .ref a0)] := hl
  suffices hsp : SP (fX1_fits a0 h0) (fun z => z = (v, hE)) (AW (KX1_fits l D h0 hE v) h0 0 ls []) from hsp _ hr rfl
  unfold fX1_fits
  refine sp_m (aw_aload_n (pc := 0) dX1_fits_0 rfl (lv_at hl 0 rfl)) ?_
  refine sp_g fun s2 => ?_
  refine sp_b fun p1 ep1 => ?_
  refine sp_m (G' := AW (KX1_fits l D h0 hE v) p1 (4) ls ([])) (fun kk => aw_callV (As := []) (metX1_anew _ _ ep1) (rcv_o okX1 s2) rfl mok_X1_anew q452 q454 qs2 q116 q455 (Nat.le_of_ble_eq_true rfl) (Nat.le_of_ble_eq_true rfl) rfl hl.1 rfl (Nat.le_of_ble_eq_true rfl) (pc := 1) dX1_fits_1 kk) ?_
  refine sp_m (aw_aload_n (pc := 4) dX1_fits_4 rfl (lv_at hl 0 rfl)) ?_
  refine sp_g fun s3 => ?_
  refine sp_o (fun ex4 => ?_) (fun x4 ex4 => ?_)
  · refine sp_m (aw_get (k := 3) okX1 s3 (by decide) q369 (Or.inl rfl) (congrArg va_rf ex4) (pc := 5) dX1_fits_5) ?_
    refine sp_m (aw_ifnonnullN (pc := 8) dX1_fits_8) ?_
    refine sp_m (aw_aload_n (pc := 11) dX1_fits_11 rfl (lv_at hl 0 rfl)) ?_
    refine sp_m (aw_iconst (v := 1) (pc := 12) dX1_fits_12 rfl) ?_
    refine sp_b fun p7 ep7 => ?_
    refine sp_m (G' := AW (KX1_fits l D h0 hE v) p7.2 (16) ls (.int p7.1 :: [])) (fun kk => aw_callV (As := [.int 1]) (metX1_no _ _ ep7) (rcv_o okX1 s3) rfl mok_X1_no q459 q461 qs3 q116 q462 (Nat.le_of_ble_eq_true rfl) (Nat.le_of_ble_eq_true rfl) rfl hl.1 rfl (Nat.le_of_ble_eq_true rfl) (pc := 13) dX1_fits_13 kk) ?_
    exact sp_r fun hz => aw_iret hz rfl rfl rfl (pc := 16) dX1_fits_16
  · refine sp_m (aw_get (k := 3) okX1 s3 (by decide) q369 (Or.inl rfl) (congrArg va_rf ex4) (pc := 5) dX1_fits_5) ?_
    refine sp_m (aw_ifnonnull (tgt := 17) (pc := 8) dX1_fits_8 (by decide)) ?_
    refine sp_m (aw_aload_n (pc := 17) dX1_fits_17 rfl (lv_at hl 0 rfl)) ?_
    refine sp_m (aw_iconst (v := (-1)) (pc := 18) dX1_fits_18 rfl) ?_
    refine sp_m (aw_iconst (v := 0) (pc := 19) dX1_fits_19 rfl) ?_
    refine sp_b fun p5 ep5 => ?_
    refine sp_m (G' := AW (KX1_fits l D h0 hE v) p5 (23) ls ([])) (fun kk => aw_callV (As := [.int (-1), .int 0]) (metX1_seekFits _ _ ep5) (rcv_o okX1 s3) rfl mok_X1_seekFits q1333 q1335 qs43 q116 q1336 (Nat.le_of_ble_eq_true rfl) (Nat.le_of_ble_eq_true rfl) rfl hl.1 rfl (Nat.le_of_ble_eq_true rfl) (pc := 20) dX1_fits_20 kk) ?_
    refine sp_m (aw_aload_n (pc := 23) dX1_fits_23 rfl (lv_at hl 0 rfl)) ?_
    refine sp_g fun s6 => ?_
    refine sp_m (aw_get (k := 17) okX1 s6 (by decide) q383 (Or.inl rfl) rfl (pc := 24) dX1_fits_24) ?_
    exact sp_r fun hz => aw_iret hz rfl rfl rfl (pc := 27) dX1_fits_27
theorem mok_X1_hammer : mOK yX1_hammer 1 := ⟨⟨by decide +kernel, by decide +kernel⟩, by decide +kernel⟩
abbrev KX1_hammer (l : Launch) (D : DD) (h0 hE : AH) (v : Int32) : KT := (l, yX1_hammer, cX1_hammer, 2, (some .boolean), RX1, 3, D, h0, hE, .inl (some (.int v)), false, [])
theorem metX1_hammer (l : Launch) (D : DD) {a0 : Nat} {a1 : Int32} {h0 : AH} {hE : AH} {v : Int32} (hr : fX1_hammer a0 a1 h0 = some (v, hE)) : AMet (KX1_hammer l D h0 hE v) [.ref a0, .int a1] := by
  refine AMet.of (K := (KX1_hammer l D h0 hE v)) rfl ⟨_, rfl⟩ rfl rfl rfl (Nat.le_of_ble_eq_true rfl) (fun ls hl => ?_)
  have hl : lv_has ls 2 [(0, .ref a0), (1, .int a1)] := hl
  suffices hsp : SP (fX1_hammer a0 a1 h0) (fun z => z = (v, hE)) (AW (KX1_hammer l D h0 hE v) h0 0 ls []) from hsp _ hr rfl
  unfold fX1_hammer
  refine sp_m (aw_aload_n (pc := 0) dX1_hammer_0 rfl (lv_at hl 0 rfl)) ?_
  refine sp_m (aw_aload_n (pc := 1) dX1_hammer_1 rfl (lv_at hl 0 rfl)) ?_
  refine sp_m (aw_iload_n (pc := 2) dX1_hammer_2 rfl (lv_at hl 1 rfl)) ?_
  refine sp_g fun s2 => ?_
  refine sp_b fun p1 ep1 => ?_
  refine sp_m (G' := AW (KX1_hammer l D h0 hE v) h0 (6) ls (.int p1 :: .ref a0 :: [])) (fun kk => aw_callV (As := [.int a1]) (metX1_isBeast _ _ ep1) (rcv_o okX1 s2) rfl mok_X1_isBeast q974 q976 qs27 q116 q977 (Nat.le_of_ble_eq_true rfl) (Nat.le_of_ble_eq_true rfl) rfl hl.1 rfl (Nat.le_of_ble_eq_true rfl) (pc := 3) dX1_hammer_3 kk) ?_
  have hj29_1 : ∀ j3 : Int32, ∀ ls : Array Slot, lv_has ls 2 [(0, .ref a0), (1, .int a1)] → SP (X1_hammer_j29 a0 a1 h0 j3) (fun z => z = (v, hE)) (AW (KX1_hammer l D h0 hE v) h0 29 ls (.int j3 :: .ref a0 :: [])) := by
    intro j3 ls hl
    unfold X1_hammer_j29
    refine sp_b fun p4 ep4 => ?_
    refine sp_m (G' := AW (KX1_hammer l D h0 hE v) p4.2 (32) ls (.int p4.1 :: [])) (fun kk => aw_callV (As := [.int j3]) (metX1_yes _ _ ep4) (rcv_o okX1 s2) rfl mok_X1_yes q1410 q1412 qs47 q116 q1413 (Nat.le_of_ble_eq_true rfl) (Nat.le_of_ble_eq_true rfl) rfl hl.1 rfl (Nat.le_of_ble_eq_true rfl) (pc := 29) dX1_hammer_29 kk) ?_
    refine sp_if (fun c5 => ?_) (fun c5 => ?_)
    · refine sp_m (aw_if_ne_t (tgt := 37) (pc := 32) dX1_hammer_32 (by decide) c5) ?_
      refine sp_m (aw_aload_n (pc := 37) dX1_hammer_37 rfl (lv_at hl 0 rfl)) ?_
      refine sp_g fun s7 => ?_
      refine sp_b fun p6 ep6 => ?_
      refine sp_m (G' := AW (KX1_hammer l D h0 hE v) p6 (41) ls ([])) (fun kk => aw_callV (As := []) (metX1_note _ _ ep6) (rcv_o okX1 s7) rfl mok_X1_note q1414 q1416 qs48 q116 q1417 (Nat.le_of_ble_eq_true rfl) (Nat.le_of_ble_eq_true rfl) rfl hl.1 rfl (Nat.le_of_ble_eq_true rfl) (pc := 38) dX1_hammer_38 kk) ?_
      refine sp_m (aw_aload_n (pc := 41) dX1_hammer_41 rfl (lv_at hl 0 rfl)) ?_
      refine sp_g fun s8 => ?_
      refine sp_b fun x9 ex9 => ?_
      refine sp_m (aw_get (k := 9) okX1 s8 (by decide) q375 (Or.inl rfl) (congrArg va_rf ex9) (pc := 42) dX1_hammer_42) ?_
      refine sp_m (aw_dup (pc := 45) dX1_hammer_45 rfl) ?_
      refine sp_g fun s10 => ?_
      refine sp_m (aw_get (k := 4) okX4 s10 (by decide) q281 (Or.inl rfl) rfl (pc := 46) dX1_hammer_46) ?_
      refine sp_m (aw_iconst (v := 1) (pc := 49) dX1_hammer_49 rfl) ?_
      refine sp_m (aw_iload_n (pc := 50) dX1_hammer_50 rfl (lv_at hl 1 rfl)) ?_
      refine sp_m (aw_ishl (pc := 51) dX1_hammer_51) ?_
      refine sp_m (aw_ior (pc := 52) dX1_hammer_52) ?_
      refine sp_t fun h11 eh110 => ?_
      have eh11 : gS h11 = gS p6 := by rw [eh110]; rfl
      refine sp_m (aw_put (k := 4) okX4 opX4 s10 (by decide) q281 (Or.inl rfl) (Or.inl rfl) (hasV_I' eh110) rfl rfl (pc := 53) dX1_hammer_53) ?_
      refine sp_m (aw_aload_n (pc := 56) dX1_hammer_56 rfl (lv_at hl 0 rfl)) ?_
      refine sp_b fun p12 ep12 => ?_
      refine sp_m (G' := AW (KX1_hammer l D h0 hE v) p12.2 (60) ls (.int p12.1 :: [])) (fun kk => aw_callV (As := []) (metX1_done _ _ ep12) (rcv_o okX1 (uS eh11 s8)) rfl mok_X1_done q1418 q1420 qs49 q116 q1421 (Nat.le_of_ble_eq_true rfl) (Nat.le_of_ble_eq_true rfl) rfl hl.1 rfl (Nat.le_of_ble_eq_true rfl) (pc := 57) dX1_hammer_57 kk) ?_
      refine sp_g fun g13 => ?_
      exact sp_r fun hz => aw_zret (nar_b g13) hz rfl rfl rfl (pc := 60) dX1_hammer_60
    · refine sp_m (aw_if_ne_f (tgt := 37) (pc := 32) dX1_hammer_32 (by decide) (Decidable.not_not.mp c5)) ?_
      refine sp_m (aw_iconst (v := 0) (pc := 35) dX1_hammer_35 rfl) ?_
      exact sp_r fun hz => aw_zret (nar_b (Or.inl rfl)) hz rfl rfl rfl (pc := 36) dX1_hammer_36
  refine sp_if (fun c14 => ?_) (fun c14 => ?_)
  · refine sp_m (aw_if_ne_t (tgt := 13) (pc := 6) dX1_hammer_6 (by decide) c14) ?_
    refine sp_m (aw_aload_n (pc := 13) dX1_hammer_13 rfl (lv_at hl 0 rfl)) ?_
    refine sp_b fun x15 ex15 => ?_
    refine sp_m (aw_get (k := 9) okX1 s2 (by decide) q375 (Or.inl rfl) (congrArg va_rf ex15) (pc := 14) dX1_hammer_14) ?_
    refine sp_m (aw_iload_n (pc := 17) dX1_hammer_17 rfl (lv_at hl 1 rfl)) ?_
    refine sp_g fun s17 => ?_
    refine sp_b fun p16 ep16 => ?_
    refine sp_m (G' := AW (KX1_hammer l D h0 hE v) h0 (21) ls (.int p16 :: .ref a0 :: [])) (fun kk => aw_callV (As := [.int a1]) (metX4_isDead _ _ ep16) (rcv_o okX4 s17) rfl mok_X4_isDead q963 q964 q965 q122 q966 (Nat.le_of_ble_eq_true rfl) (Nat.le_of_ble_eq_true rfl) rfl hl.1 rfl (Nat.le_of_ble_eq_true rfl) (pc := 18) dX1_hammer_18 kk) ?_
    refine sp_if (fun c18 => ?_) (fun c18 => ?_)
    · refine sp_m (aw_if_eq_t (tgt := 28) (pc := 21) dX1_hammer_21 (by decide) c18) ?_
      refine sp_m (aw_iconst (v := 0) (pc := 28) dX1_hammer_28 rfl) ?_
      exact hj29_1 0 ls (lv_sub hl [0, 1] rfl)
    · refine sp_m (aw_if_eq_f (tgt := 28) (pc := 21) dX1_hammer_21 (by decide) c18) ?_
      refine sp_m (aw_iconst (v := 5) (pc := 24) dX1_hammer_24 rfl) ?_
      refine sp_m (aw_goto (tgt := 29) (pc := 25) dX1_hammer_25 (by decide)) ?_
      exact hj29_1 5 ls (lv_sub hl [0, 1] rfl)
  · refine sp_m (aw_if_ne_f (tgt := 13) (pc := 6) dX1_hammer_6 (by decide) (Decidable.not_not.mp c14)) ?_
    refine sp_m (aw_iconst (v := 1) (pc := 9) dX1_hammer_9 rfl) ?_
    refine sp_m (aw_goto (tgt := 29) (pc := 10) dX1_hammer_10 (by decide)) ?_
    exact hj29_1 1 ls (lv_sub hl [0, 1] rfl)
theorem mok_X1_isCity : mOK yX1_isCity 1 := ⟨⟨by decide +kernel, by decide +kernel⟩, by decide +kernel⟩
abbrev KX1_isCity (l : Launch) (D : DD) (h0 : AH) (v : Int32) : KT := (l, yX1_isCity, cX1_isCity, 2, (some .boolean), RX1, 2, D, h0, h0, .inl (some (.int v)), false, [])
theorem metX1_isCity (l : Launch) (D : DD) {a0 : Nat} {a1 : Int32} {h0 : AH} {v : Int32} (hr : fX1_isCity a0 a1 h0 = some v) : AMet (KX1_isCity l D h0 v) [.ref a0, .int a1] := by
  refine AMet.of (K := (KX1_isCity l D h0 v)) rfl ⟨_, rfl⟩ rfl rfl rfl (Nat.le_of_ble_eq_true rfl) (fun ls hl => ?_)
  have hl : lv_has ls 2 [(0, .ref a0), (1, .int a1)] := hl
  suffices hsp : SP (fX1_isCity a0 a1 h0) (fun z => z = v) (AW (KX1_isCity l D h0 v) h0 0 ls []) from hsp _ hr rfl
  unfold fX1_isCity
  refine sp_m (aw_aload_n (pc := 0) dX1_isCity_0 rfl (lv_at hl 0 rfl)) ?_
  refine sp_g fun s1 => ?_
  refine sp_o (fun ex2 => ?_) (fun x2 ex2 => ?_)
  · refine sp_m (aw_get (k := 3) okX1 s1 (by decide) q369 (Or.inl rfl) (congrArg va_rf ex2) (pc := 1) dX1_isCity_1) ?_
    refine sp_m (aw_ifnullN (tgt := 28) (pc := 4) dX1_isCity_4 (by decide)) ?_
    refine sp_m (aw_iconst (v := 0) (pc := 28) dX1_isCity_28 rfl) ?_
    exact sp_r fun hz => aw_zret (nar_b (Or.inl rfl)) (congrArg (fun z => (z, h0)) hz) rfl rfl rfl (pc := 29) dX1_isCity_29
  · refine sp_m (aw_get (k := 3) okX1 s1 (by decide) q369 (Or.inl rfl) (congrArg va_rf ex2) (pc := 1) dX1_isCity_1) ?_
    refine sp_m (aw_ifnull (pc := 4) dX1_isCity_4) ?_
    refine sp_m (aw_iload_n (pc := 7) dX1_isCity_7 rfl (lv_at hl 1 rfl)) ?_
    refine sp_m (aw_iconst (v := 0) (pc := 8) dX1_isCity_8 rfl) ?_
    refine sp_m (aw_aload_n (pc := 9) dX1_isCity_9 rfl (lv_at hl 0 rfl)) ?_
    refine sp_b fun x3 ex3 => ?_
    refine sp_m (aw_get (k := 3) okX1 s1 (by decide) q369 (Or.inl rfl) (congrArg va_rf ex3) (pc := 10) dX1_isCity_10) ?_
    refine sp_g fun s4 => ?_
    refine sp_m (aw_get (k := 9) okX8 s4 (by decide) q509 (Or.inl rfl) rfl (pc := 13) dX1_isCity_13) ?_
    refine sp_m (aw_iconst (v := 1) (pc := 16) dX1_isCity_16 rfl) ?_
    refine sp_m (aw_isub (pc := 17) dX1_isCity_17) ?_
    refine sp_b fun p5 ep5 => ?_
    refine sp_m (G' := AW (KX1_isCity l D h0 v) h0 (21) ls (.int p5 :: [])) (fun kk => aw_callS (As := [.int a1, .int 0, .int ((gI h0 x3 9) - 1)]) (metX1_in _ _ ep5) mok_X1_in q456 q457 q116 q458 (Nat.le_of_ble_eq_true rfl) (Nat.le_of_ble_eq_true rfl) rfl hl.1 rfl (Nat.le_of_ble_eq_true rfl) (pc := 18) dX1_isCity_18 kk) ?_
    refine sp_if (fun c6 => ?_) (fun c6 => ?_)
    · refine sp_m (aw_if_eq_t (tgt := 28) (pc := 21) dX1_isCity_21 (by decide) c6) ?_
      refine sp_m (aw_iconst (v := 0) (pc := 28) dX1_isCity_28 rfl) ?_
      exact sp_r fun hz => aw_zret (nar_b (Or.inl rfl)) (congrArg (fun z => (z, h0)) hz) rfl rfl rfl (pc := 29) dX1_isCity_29
    · refine sp_m (aw_if_eq_f (tgt := 28) (pc := 21) dX1_isCity_21 (by decide) c6) ?_
      refine sp_m (aw_iconst (v := 1) (pc := 24) dX1_isCity_24 rfl) ?_
      refine sp_m (aw_goto (tgt := 29) (pc := 25) dX1_isCity_25 (by decide)) ?_
      exact sp_r fun hz => aw_zret (nar_b (Or.inr rfl)) (congrArg (fun z => (z, h0)) hz) rfl rfl rfl (pc := 29) dX1_isCity_29
theorem mok_X1_isHeld : mOK yX1_isHeld 2 := ⟨⟨by decide +kernel, by decide +kernel⟩, by decide +kernel⟩
abbrev KX1_isHeld (l : Launch) (D : DD) (h0 hE : AH) (v : Int32) : KT := (l, yX1_isHeld, cX1_isHeld, 5, (some .boolean), RX1, 7, D, h0, hE, .inl (some (.int v)), false, [])
theorem metX1_isHeld (l : Launch) (D : DD) {a0 : Nat} {a1 : Int32} {a2 : Int32} {h0 : AH} {hE : AH} {v : Int32} (hr : fX1_isHeld a0 a1 a2 h0 = some (v, hE)) : AMet (KX1_isHeld l D h0 hE v) [.ref a0, .int a1, .int a2] := by
  refine AMet.of (K := (KX1_isHeld l D h0 hE v)) rfl ⟨_, rfl⟩ rfl rfl rfl (Nat.le_of_ble_eq_true rfl) (fun ls hl => ?_)
  have hl : lv_has ls 5 [(0, .ref a0), (1, .int a1), (2, .int a2)] := hl
  suffices hsp : SP (fX1_isHeld a0 a1 a2 h0) (fun z => z = (v, hE)) (AW (KX1_isHeld l D h0 hE v) h0 0 ls []) from hsp _ hr rfl
  unfold fX1_isHeld
  refine sp_m (aw_aload_n (pc := 0) dX1_isHeld_0 rfl (lv_at hl 0 rfl)) ?_
  refine sp_g fun s1 => ?_
  refine sp_b fun x2 ex2 => ?_
  refine sp_m (aw_get (k := 11) okX1 s1 (by decide) q377 (Or.inl rfl) (congrArg va_rf ex2) (pc := 1) dX1_isHeld_1) ?_
  refine sp_m (aw_aload_n (pc := 4) dX1_isHeld_4 rfl (lv_at hl 0 rfl)) ?_
  refine sp_b fun x3 ex3 => ?_
  refine sp_m (aw_get (k := 9) okX1 s1 (by decide) q375 (Or.inl rfl) (congrArg va_rf ex3) (pc := 5) dX1_isHeld_5) ?_
  refine sp_g fun s5 => ?_
  refine sp_b fun p4 ep4 => ?_
  refine sp_m (G' := AW (KX1_isHeld l D h0 hE v) p4 (11) ls ([])) (fun kk => aw_callV (As := [.ref x3]) (metX4_become _ _ ep4) (rcv_o okX4 s5) rfl mok_X4_become q1166 q1167 q1168 q122 q1169 (Nat.le_of_ble_eq_true rfl) (Nat.le_of_ble_eq_true rfl) rfl hl.1 rfl (Nat.le_of_ble_eq_true rfl) (pc := 8) dX1_isHeld_8 kk) ?_
  refine sp_m (aw_aload_n (pc := 11) dX1_isHeld_11 rfl (lv_at hl 0 rfl)) ?_
  refine sp_g fun s6 => ?_
  refine sp_b fun x7 ex7 => ?_
  refine sp_m (aw_get (k := 11) okX1 s6 (by decide) q377 (Or.inl rfl) (congrArg va_rf ex7) (pc := 12) dX1_isHeld_12) ?_
  refine sp_g fun s8 => ?_
  refine sp_b fun x9 ex9 => ?_
  refine sp_m (aw_get (k := 2) okX4 s8 (by decide) q278 (Or.inl rfl) (congrArg va_rf ex9) (pc := 15) dX1_isHeld_15) ?_
  refine sp_m (aw_iload_n (pc := 18) dX1_isHeld_18 rfl (lv_at hl 1 rfl)) ?_
  refine sp_m (aw_iload_n (pc := 19) dX1_isHeld_19 rfl (lv_at hl 2 rfl)) ?_
  refine sp_g fun s10 => ?_
  refine sp_g fun i11 => ?_
  refine sp_t fun h12 eh120 => ?_
  have eh12 : gS h12 = gS p4 := by rw [eh120]; rfl
  refine sp_m (fun kk => aw_iast s10 i11 (pc := 20) dX1_isHeld_20 (AWe eh120 kk)) ?_
  refine sp_m (aw_iconst (v := 1) (pc := 21) dX1_isHeld_21 rfl) ?_
  refine sp_m (aw_istore_n (lv' := [(3, .int 1), (0, .ref a0), (1, .int a1), (2, .int a2)]) (pc := 22) dX1_isHeld_22 rfl hl (by decide) rfl) (sp_all fun ls hl => ?_)
  refine sp_m (aw_iconst (v := 0) (pc := 23) dX1_isHeld_23 rfl) ?_
  refine sp_m (aw_istore (lv' := [(4, .int 0), (3, .int 1), (0, .ref a0), (1, .int a1), (2, .int a2)]) (pc := 24) dX1_isHeld_24 hl (by decide) rfl) (sp_all fun ls hl => ?_)
  let P13 : Int32 × Int32 → Prop := aLP (KX1_isHeld l D h0 hE v) 5 26 (fun s13v : Int32 × Int32 => [(0, .ref a0), (1, .int a1), (3, .int s13v.1), (4, .int s13v.2)]) (fun s13v => h12)
  let E13 : Int32 → Prop := aLP (KX1_isHeld l D h0 hE v) 5 81 (fun r13v : Int32 => [(3, .int r13v)]) (fun r13v => h12)
  refine sp_bl (P := P13) (E := E13) (fun s13v => sp_all fun ls hl => ?_) (fun k => k ls (lv_sub hl [2, 3, 1, 0] rfl)) (fun r13v => sp_all fun ls hl => ?_)
  · have hl : lv_has ls 5 [(0, .ref a0), (1, .int a1), (3, .int s13v.1), (4, .int s13v.2)] := hl
    show SP _ _ (AW (KX1_isHeld l D h0 hE v) h12 26 ls [])
    unfold X1_isHeld_L26
    refine sp_m (aw_iload (pc := 26) dX1_isHeld_26 (lv_at hl 3 rfl)) ?_
    refine sp_m (aw_aload_n (pc := 28) dX1_isHeld_28 rfl (lv_at hl 0 rfl)) ?_
    refine sp_b fun x14 ex14 => ?_
    refine sp_m (aw_get (k := 3) okX1 (uS eh12 s6) (by decide) q369 (Or.inl rfl) (congrArg va_rf ex14) (pc := 29) dX1_isHeld_29) ?_
    refine sp_g fun s15 => ?_
    refine sp_m (aw_get (k := 8) okX8 s15 (by decide) q505 (Or.inl rfl) rfl (pc := 32) dX1_isHeld_32) ?_
    refine sp_if (fun c16 => ?_) (fun c16 => ?_)
    · refine sp_m (aw_icmp_ge_t (tgt := 81) (pc := 35) dX1_isHeld_35 (by decide) c16) ?_
      exact sp_r fun hz => hz ls (lv_sub hl [2] rfl)
    · refine sp_m (aw_icmp_ge_f (tgt := 81) (pc := 35) dX1_isHeld_35 (by decide) c16) ?_
      refine sp_m (aw_iload_n (pc := 38) dX1_isHeld_38 rfl (lv_at hl 2 rfl)) ?_
      have hj74_1 : ∀ j17 : Int32, ∀ ls : Array Slot, lv_has ls 5 [(0, .ref a0), (1, .int a1), (4, .int s13v.2)] → SP (X1_isHeld_j74 s13v j17) (ZL P13 E13) (AW (KX1_isHeld l D h0 hE v) h12 74 ls (.int j17 :: [])) := by
        intro j17 ls hl
        unfold X1_isHeld_j74
        refine sp_m (aw_istore_n (lv' := [(3, .int j17), (0, .ref a0), (1, .int a1), (4, .int s13v.2)]) (pc := 74) dX1_isHeld_74 rfl hl (by decide) rfl) (sp_all fun ls hl => ?_)
        refine sp_m (aw_iinc (v := s13v.2 + 1) (lv' := [(4, .int (s13v.2 + 1)), (3, .int j17), (0, .ref a0), (1, .int a1)]) (pc := 75) dX1_isHeld_75 hl (k := 3) rfl rfl (by decide) rfl) (sp_all fun ls hl => ?_)
        refine sp_m (aw_goto (tgt := 26) (pc := 78) dX1_isHeld_78 (by decide)) ?_
        exact sp_r fun hz => hz ls (lv_sub hl [2, 3, 1, 0] rfl)
      have hj73_2 : ∀ ls : Array Slot, lv_has ls 5 [(0, .ref a0), (1, .int a1), (4, .int s13v.2)] → SP (X1_isHeld_j73 s13v) (ZL P13 E13) (AW (KX1_isHeld l D h0 hE v) h12 73 ls ([])) := by
        intro ls hl
        unfold X1_isHeld_j73
        refine sp_m (aw_iconst (v := 0) (pc := 73) dX1_isHeld_73 rfl) ?_
        exact hj74_1 0 ls (lv_sub hl [0, 1, 2] rfl)
      refine sp_if (fun c18 => ?_) (fun c18 => ?_)
      · refine sp_m (aw_if_eq_t (tgt := 73) (pc := 39) dX1_isHeld_39 (by decide) c18) ?_
        exact hj73_2 ls (lv_sub hl [0, 1, 3] rfl)
      · refine sp_m (aw_if_eq_f (tgt := 73) (pc := 39) dX1_isHeld_39 (by decide) c18) ?_
        refine sp_m (aw_aload_n (pc := 42) dX1_isHeld_42 rfl (lv_at hl 0 rfl)) ?_
        refine sp_b fun x19 ex19 => ?_
        refine sp_m (aw_get (k := 9) okX1 (uS eh12 s6) (by decide) q375 (Or.inl rfl) (congrArg va_rf ex19) (pc := 43) dX1_isHeld_43) ?_
        refine sp_m (aw_iload (pc := 46) dX1_isHeld_46 (lv_at hl 3 rfl)) ?_
        refine sp_g fun s21 => ?_
        refine sp_b fun p20 ep20 => ?_
        refine sp_m (G' := AW (KX1_isHeld l D h0 hE v) h12 (51) ls (.int p20 :: [])) (fun kk => aw_callV (As := [.int s13v.2]) (metX4_isDead _ _ ep20) (rcv_o okX4 s21) rfl mok_X4_isDead q963 q964 q965 q122 q966 (Nat.le_of_ble_eq_true rfl) (Nat.le_of_ble_eq_true rfl) rfl hl.1 rfl (Nat.le_of_ble_eq_true rfl) (pc := 48) dX1_isHeld_48 kk) ?_
        have hj69_3 : ∀ ls : Array Slot, lv_has ls 5 [(0, .ref a0), (1, .int a1), (4, .int s13v.2)] → SP (X1_isHeld_j69 s13v) (ZL P13 E13) (AW (KX1_isHeld l D h0 hE v) h12 69 ls ([])) := by
          intro ls hl
          unfold X1_isHeld_j69
          refine sp_m (aw_iconst (v := 1) (pc := 69) dX1_isHeld_69 rfl) ?_
          refine sp_m (aw_goto (tgt := 74) (pc := 70) dX1_isHeld_70 (by decide)) ?_
          exact hj74_1 1 ls (lv_sub hl [0, 1, 2] rfl)
        refine sp_if (fun c22 => ?_) (fun c22 => ?_)
        · refine sp_m (aw_if_ne_t (tgt := 69) (pc := 51) dX1_isHeld_51 (by decide) c22) ?_
          exact hj69_3 ls (lv_sub hl [0, 1, 3] rfl)
        · refine sp_m (aw_if_ne_f (tgt := 69) (pc := 51) dX1_isHeld_51 (by decide) (Decidable.not_not.mp c22)) ?_
          refine sp_m (aw_aload_n (pc := 54) dX1_isHeld_54 rfl (lv_at hl 0 rfl)) ?_
          refine sp_b fun x23 ex23 => ?_
          refine sp_m (aw_get (k := 11) okX1 (uS eh12 s6) (by decide) q377 (Or.inl rfl) (congrArg va_rf ex23) (pc := 55) dX1_isHeld_55) ?_
          refine sp_m (aw_iload (pc := 58) dX1_isHeld_58 (lv_at hl 3 rfl)) ?_
          refine sp_m (aw_iload_n (pc := 60) dX1_isHeld_60 rfl (lv_at hl 1 rfl)) ?_
          refine sp_g fun s25 => ?_
          refine sp_b fun p24 ep24 => ?_
          refine sp_m (G' := AW (KX1_isHeld l D h0 hE v) h12 (64) ls (.long p24 :: [])) (fun kk => aw_callV (As := [.int s13v.2, .int a1]) (metX4_worth _ _ ep24) (rcv_o okX4 s25) rfl mok_X4_worth q1139 q1140 q1141 q122 q1142 (Nat.le_of_ble_eq_true rfl) (Nat.le_of_ble_eq_true rfl) rfl hl.1 rfl (Nat.le_of_ble_eq_true rfl) (pc := 61) dX1_isHeld_61 kk) ?_
          refine sp_m (aw_lconst (v := 0) (pc := 64) dX1_isHeld_64 rfl) ?_
          refine sp_m (aw_lcmp (pc := 65) dX1_isHeld_65) ?_
          refine sp_if (fun c26 => ?_) (fun c26 => ?_)
          · refine sp_m (aw_if_gt_t (tgt := 73) (pc := 66) dX1_isHeld_66 (by decide) ((lg_cmp_gt _ _).mpr c26)) ?_
            exact hj73_2 ls (lv_sub hl [0, 1, 3] rfl)
          · refine sp_m (aw_if_gt_f (tgt := 73) (pc := 66) dX1_isHeld_66 (by decide) (fun z => c26 ((lg_cmp_gt _ _).mp z))) ?_
            exact hj69_3 ls (lv_sub hl [0, 1, 3] rfl)
  · have hl : lv_has ls 5 [(3, .int r13v)] := hl
    show SP _ _ (AW (KX1_isHeld l D h0 hE v) h12 81 ls [])
    refine sp_m (aw_iload_n (pc := 81) dX1_isHeld_81 rfl (lv_at hl 0 rfl)) ?_
    refine sp_g fun g27 => ?_
    exact sp_r fun hz => aw_zret (nar_b g27) hz rfl rfl rfl (pc := 82) dX1_isHeld_82
theorem mok_X1_isHorse : mOK yX1_isHorse 1 := ⟨⟨by decide +kernel, by decide +kernel⟩, by decide +kernel⟩
abbrev KX1_isHorse (l : Launch) (D : DD) (h0 : AH) (v : Int32) : KT := (l, yX1_isHorse, cX1_isHorse, 2, (some .boolean), RX1, 1, D, h0, h0, .inl (some (.int v)), false, [])
theorem metX1_isHorse (l : Launch) (D : DD) {a0 : Nat} {a1 : Int32} {h0 : AH} {v : Int32} (hr : fX1_isHorse a0 a1 h0 = some v) : AMet (KX1_isHorse l D h0 v) [.ref a0, .int a1] := by
  refine AMet.of (K := (KX1_isHorse l D h0 v)) rfl ⟨_, rfl⟩ rfl rfl rfl (Nat.le_of_ble_eq_true rfl) (fun ls hl => ?_)
  have hl : lv_has ls 2 [(0, .ref a0), (1, .int a1)] := hl
  suffices hsp : SP (fX1_isHorse a0 a1 h0) (fun z => z = v) (AW (KX1_isHorse l D h0 v) h0 0 ls []) from hsp _ hr rfl
  unfold fX1_isHorse
  refine sp_m (aw_aload_n (pc := 0) dX1_isHorse_0 rfl (lv_at hl 0 rfl)) ?_
  refine sp_g fun s1 => ?_
  refine sp_b fun x2 ex2 => ?_
  refine sp_m (aw_get (k := 3) okX1 s1 (by decide) q369 (Or.inl rfl) (congrArg va_rf ex2) (pc := 1) dX1_isHorse_1) ?_
  refine sp_g fun s3 => ?_
  refine sp_b fun x4 ex4 => ?_
  refine sp_m (aw_get (k := 0) okX8 s3 (by decide) q482 (Or.inl rfl) (congrArg va_rf ex4) (pc := 4) dX1_isHorse_4) ?_
  refine sp_m (aw_iload_n (pc := 7) dX1_isHorse_7 rfl (lv_at hl 1 rfl)) ?_
  refine sp_g fun s5 => ?_
  refine sp_g fun i6 => ?_
  refine sp_b fun x7 ex7 => ?_
  refine sp_m (aw_aald (t := 6) s5 (by decide) rfl rfl i6 (congrArg va_rf ex7) (pc := 8) dX1_isHorse_8) ?_
  refine sp_if (fun s8 => ?_) (fun _ => sp_g fun s8n => ?_)
  · refine sp_m (G' := AW (KX1_isHorse l D h0 v) h0 (12) ls (.int 1 :: [])) (fun kk => aw_instE (rcv_o okX12 s8) q1247 (pc := 9) dX1_isHorse_9 kk) ?_
    exact sp_r fun hz => aw_zret (nar_b (Or.inr rfl)) (congrArg (fun z => (z, h0)) hz) rfl rfl rfl (pc := 12) dX1_isHorse_12
  · refine sp_m (G' := AW (KX1_isHorse l D h0 v) h0 (12) ls (.int 0 :: [])) (fun kk => by rcases s8n with z | z | z; exact aw_instNo (rcv_o okX9 z) nc_X9_Horse q1247 (pc := 9) dX1_isHorse_9 kk; exact aw_instNo (rcv_o okX10 z) nc_X10_Horse q1247 (pc := 9) dX1_isHorse_9 kk; exact aw_instNo (rcv_o okX11 z) nc_X11_Horse q1247 (pc := 9) dX1_isHorse_9 kk) ?_
    exact sp_r fun hz => aw_zret (nar_b (Or.inl rfl)) (congrArg (fun z => (z, h0)) hz) rfl rfl rfl (pc := 12) dX1_isHorse_12
theorem mok_X1_isLane : mOK yX1_isLane 1 := ⟨⟨by decide +kernel, by decide +kernel⟩, by decide +kernel⟩
abbrev KX1_isLane (l : Launch) (D : DD) (h0 : AH) (v : Int32) : KT := (l, yX1_isLane, cX1_isLane, 2, (some .boolean), RX1, 2, D, h0, h0, .inl (some (.int v)), false, [])
theorem metX1_isLane (l : Launch) (D : DD) {a0 : Nat} {a1 : Int32} {h0 : AH} {v : Int32} (hr : fX1_isLane a0 a1 h0 = some v) : AMet (KX1_isLane l D h0 v) [.ref a0, .int a1] := by
  refine AMet.of (K := (KX1_isLane l D h0 v)) rfl ⟨_, rfl⟩ rfl rfl rfl (Nat.le_of_ble_eq_true rfl) (fun ls hl => ?_)
  have hl : lv_has ls 2 [(0, .ref a0), (1, .int a1)] := hl
  suffices hsp : SP (fX1_isLane a0 a1 h0) (fun z => z = v) (AW (KX1_isLane l D h0 v) h0 0 ls []) from hsp _ hr rfl
  unfold fX1_isLane
  refine sp_m (aw_aload_n (pc := 0) dX1_isLane_0 rfl (lv_at hl 0 rfl)) ?_
  refine sp_g fun s1 => ?_
  refine sp_o (fun ex2 => ?_) (fun x2 ex2 => ?_)
  · refine sp_m (aw_get (k := 3) okX1 s1 (by decide) q369 (Or.inl rfl) (congrArg va_rf ex2) (pc := 1) dX1_isLane_1) ?_
    refine sp_m (aw_ifnullN (tgt := 28) (pc := 4) dX1_isLane_4 (by decide)) ?_
    refine sp_m (aw_iconst (v := 0) (pc := 28) dX1_isLane_28 rfl) ?_
    exact sp_r fun hz => aw_zret (nar_b (Or.inl rfl)) (congrArg (fun z => (z, h0)) hz) rfl rfl rfl (pc := 29) dX1_isLane_29
  · refine sp_m (aw_get (k := 3) okX1 s1 (by decide) q369 (Or.inl rfl) (congrArg va_rf ex2) (pc := 1) dX1_isLane_1) ?_
    refine sp_m (aw_ifnull (pc := 4) dX1_isLane_4) ?_
    refine sp_m (aw_iload_n (pc := 7) dX1_isLane_7 rfl (lv_at hl 1 rfl)) ?_
    refine sp_m (aw_iconst (v := 0) (pc := 8) dX1_isLane_8 rfl) ?_
    refine sp_m (aw_aload_n (pc := 9) dX1_isLane_9 rfl (lv_at hl 0 rfl)) ?_
    refine sp_b fun x3 ex3 => ?_
    refine sp_m (aw_get (k := 3) okX1 s1 (by decide) q369 (Or.inl rfl) (congrArg va_rf ex3) (pc := 10) dX1_isLane_10) ?_
    refine sp_g fun s4 => ?_
    refine sp_m (aw_get (k := 5) okX8 s4 (by decide) q496 (Or.inl rfl) rfl (pc := 13) dX1_isLane_13) ?_
    refine sp_m (aw_iconst (v := 1) (pc := 16) dX1_isLane_16 rfl) ?_
    refine sp_m (aw_isub (pc := 17) dX1_isLane_17) ?_
    refine sp_b fun p5 ep5 => ?_
    refine sp_m (G' := AW (KX1_isLane l D h0 v) h0 (21) ls (.int p5 :: [])) (fun kk => aw_callS (As := [.int a1, .int 0, .int ((gI h0 x3 5) - 1)]) (metX1_in _ _ ep5) mok_X1_in q456 q457 q116 q458 (Nat.le_of_ble_eq_true rfl) (Nat.le_of_ble_eq_true rfl) rfl hl.1 rfl (Nat.le_of_ble_eq_true rfl) (pc := 18) dX1_isLane_18 kk) ?_
    refine sp_if (fun c6 => ?_) (fun c6 => ?_)
    · refine sp_m (aw_if_eq_t (tgt := 28) (pc := 21) dX1_isLane_21 (by decide) c6) ?_
      refine sp_m (aw_iconst (v := 0) (pc := 28) dX1_isLane_28 rfl) ?_
      exact sp_r fun hz => aw_zret (nar_b (Or.inl rfl)) (congrArg (fun z => (z, h0)) hz) rfl rfl rfl (pc := 29) dX1_isLane_29
    · refine sp_m (aw_if_eq_f (tgt := 28) (pc := 21) dX1_isLane_21 (by decide) c6) ?_
      refine sp_m (aw_iconst (v := 1) (pc := 24) dX1_isLane_24 rfl) ?_
      refine sp_m (aw_goto (tgt := 29) (pc := 25) dX1_isLane_25 (by decide)) ?_
      exact sp_r fun hz => aw_zret (nar_b (Or.inr rfl)) (congrArg (fun z => (z, h0)) hz) rfl rfl rfl (pc := 29) dX1_isLane_29
theorem mok_X4_worthBy : mOK yX4_worthBy 3 := ⟨⟨by decide +kernel, by decide +kernel⟩, by decide +kernel⟩
abbrev KX4_worthBy (l : Launch) (D : DD) (h0 : AH) (v : Int64) : KT := (l, yX4_worthBy, cX4_worthBy, 4, (some .long), RX4, 7, D, h0, h0, .inl (some (.long v)), false, [])
theorem metX4_worthBy (l : Launch) (D : DD) {a0 : Nat} {a1 : Int32} {a2 : Int32} {a3 : Int32} {h0 : AH} {v : Int64} (hr : fX4_worthBy a0 a1 a2 a3 h0 = some v) : AMet (KX4_worthBy l D h0 v) [.ref a0, .int a1, .int a2, .int a3] := by
  refine AMet.of (K := (KX4_worthBy l D h0 v)) rfl ⟨_, rfl⟩ rfl rfl rfl (Nat.le_of_ble_eq_true rfl) (fun ls hl => ?_)
  have hl : lv_has ls 4 [(0, .ref a0), (1, .int a1), (2, .int a2), (3, .int a3)] := hl
  suffices hsp : SP (fX4_worthBy a0 a1 a2 a3 h0) (fun z => z = v) (AW (KX4_worthBy l D h0 v) h0 0 ls []) from hsp _ hr rfl
  unfold fX4_worthBy
  refine sp_m (aw_iload_n (pc := 0) dX4_worthBy_0 rfl (lv_at hl 2 rfl)) ?_
  refine sp_m (aw_iload_n (pc := 1) dX4_worthBy_1 rfl (lv_at hl 3 rfl)) ?_
  refine sp_if (fun c1 => ?_) (fun c1 => ?_)
  · refine sp_m (aw_icmp_ne_t (tgt := 28) (pc := 2) dX4_worthBy_2 (by decide) c1) ?_
    refine sp_m (aw_aload_n (pc := 28) dX4_worthBy_28 rfl (lv_at hl 0 rfl)) ?_
    refine sp_m (aw_iload_n (pc := 29) dX4_worthBy_29 rfl (lv_at hl 1 rfl)) ?_
    refine sp_m (aw_iload_n (pc := 30) dX4_worthBy_30 rfl (lv_at hl 2 rfl)) ?_
    refine sp_g fun s3 => ?_
    refine sp_b fun p2 ep2 => ?_
    refine sp_m (G' := AW (KX4_worthBy l D h0 v) h0 (34) ls (.long p2 :: [])) (fun kk => aw_callV (As := [.int a1, .int a2]) (metX4_worth _ _ ep2) (rcv_o okX4 s3) rfl mok_X4_worth q1186 q1140 q1141 q122 q1142 (Nat.le_of_ble_eq_true rfl) (Nat.le_of_ble_eq_true rfl) rfl hl.1 rfl (Nat.le_of_ble_eq_true rfl) (pc := 31) dX4_worthBy_31 kk) ?_
    exact sp_r fun hz => aw_lret (congrArg (fun z => (z, h0)) hz) rfl rfl rfl (pc := 34) dX4_worthBy_34
  · refine sp_m (aw_icmp_ne_f (tgt := 28) (pc := 2) dX4_worthBy_2 (by decide) (Decidable.not_not.mp c1)) ?_
    refine sp_m (aw_aload_n (pc := 5) dX4_worthBy_5 rfl (lv_at hl 0 rfl)) ?_
    refine sp_g fun s5 => ?_
    refine sp_b fun p4 ep4 => ?_
    refine sp_m (G' := AW (KX4_worthBy l D h0 v) h0 (9) ls (.long p4 :: [])) (fun kk => aw_callV (As := []) (metX4_of _ _ ep4) (rcv_o okX4 s5) rfl mok_X4_of q1129 q1056 q1057 q122 q1058 (Nat.le_of_ble_eq_true rfl) (Nat.le_of_ble_eq_true rfl) rfl hl.1 rfl (Nat.le_of_ble_eq_true rfl) (pc := 6) dX4_worthBy_6 kk) ?_
    refine sp_m (aw_aload_n (pc := 9) dX4_worthBy_9 rfl (lv_at hl 0 rfl)) ?_
    refine sp_m (aw_iload_n (pc := 10) dX4_worthBy_10 rfl (lv_at hl 1 rfl)) ?_
    refine sp_b fun p6 ep6 => ?_
    refine sp_m (G' := AW (KX4_worthBy l D h0 v) h0 (14) ls (.long p6 :: .long p4 :: [])) (fun kk => aw_callV (As := [.int a1]) (metX4_across _ _ ep6) (rcv_o okX4 s5) rfl mok_X4_across q1127 q1047 q1048 q122 q1049 (Nat.le_of_ble_eq_true rfl) (Nat.le_of_ble_eq_true rfl) rfl hl.1 rfl (Nat.le_of_ble_eq_true rfl) (pc := 11) dX4_worthBy_11 kk) ?_
    refine sp_m (aw_lsub (pc := 14) dX4_worthBy_14) ?_
    refine sp_m (aw_lneg (pc := 15) dX4_worthBy_15) ?_
    refine sp_m (aw_aload_n (pc := 16) dX4_worthBy_16 rfl (lv_at hl 0 rfl)) ?_
    refine sp_m (aw_iload_n (pc := 17) dX4_worthBy_17 rfl (lv_at hl 1 rfl)) ?_
    refine sp_b fun p7 ep7 => ?_
    refine sp_m (G' := AW (KX4_worthBy l D h0 v) h0 (21) ls (.int p7 :: .long (-(p4 - p6)) :: [])) (fun kk => aw_callV (As := [.int a1]) (metX4_force _ _ ep7) (rcv_o okX4 s5) rfl mok_X4_force q1077 q994 q995 q122 q996 (Nat.le_of_ble_eq_true rfl) (Nat.le_of_ble_eq_true rfl) rfl hl.1 rfl (Nat.le_of_ble_eq_true rfl) (pc := 18) dX4_worthBy_18 kk) ?_
    refine sp_m (aw_iconst (v := 2) (pc := 21) dX4_worthBy_21 rfl) ?_
    refine sp_m (aw_idiv (pc := 22) dX4_worthBy_22 (by decide)) ?_
    refine sp_m (aw_i2l (pc := 23) dX4_worthBy_23) ?_
    refine sp_m (aw_lmul (pc := 24) dX4_worthBy_24) ?_
    refine sp_m (aw_goto (tgt := 34) (pc := 25) dX4_worthBy_25 (by decide)) ?_
    exact sp_r fun hz => aw_lret (congrArg (fun z => (z, h0)) hz) rfl rfl rfl (pc := 34) dX4_worthBy_34
theorem mok_X1_isRest : mOK yX1_isRest 3 := ⟨⟨by decide +kernel, by decide +kernel⟩, by decide +kernel⟩
abbrev KX1_isRest (l : Launch) (D : DD) (h0 : AH) (v : Int32) : KT := (l, yX1_isRest, cX1_isRest, 6, (some .boolean), RX1, 8, D, h0, h0, .inl (some (.int v)), false, [])
theorem metX1_isRest (l : Launch) (D : DD) {a0 : Nat} {a1 : Int32} {a2 : Int32} {a3 : Int32} {h0 : AH} {v : Int32} (hr : fX1_isRest a0 a1 a2 a3 h0 = some v) : AMet (KX1_isRest l D h0 v) [.ref a0, .int a1, .int a2, .int a3] := by
  refine AMet.of (K := (KX1_isRest l D h0 v)) rfl ⟨_, rfl⟩ rfl rfl rfl (Nat.le_of_ble_eq_true rfl) (fun ls hl => ?_)
  have hl : lv_has ls 6 [(0, .ref a0), (1, .int a1), (2, .int a2), (3, .int a3)] := hl
  suffices hsp : SP (fX1_isRest a0 a1 a2 a3 h0) (fun z => z = v) (AW (KX1_isRest l D h0 v) h0 0 ls []) from hsp _ hr rfl
  unfold fX1_isRest
  refine sp_m (aw_iconst (v := 1) (pc := 0) dX1_isRest_0 rfl) ?_
  refine sp_m (aw_istore (lv' := [(4, .int 1), (0, .ref a0), (1, .int a1), (2, .int a2), (3, .int a3)]) (pc := 1) dX1_isRest_1 hl (by decide) rfl) (sp_all fun ls hl => ?_)
  refine sp_m (aw_iconst (v := 0) (pc := 3) dX1_isRest_3 rfl) ?_
  refine sp_m (aw_istore (lv' := [(5, .int 0), (4, .int 1), (0, .ref a0), (1, .int a1), (2, .int a2), (3, .int a3)]) (pc := 4) dX1_isRest_4 hl (by decide) rfl) (sp_all fun ls hl => ?_)
  let P1 : Int32 × Int32 → Prop := aLP (KX1_isRest l D h0 v) 6 6 (fun s1v : Int32 × Int32 => [(0, .ref a0), (1, .int a1), (2, .int a2), (3, .int a3), (4, .int s1v.1), (5, .int s1v.2)]) (fun s1v => h0)
  let E1 : Int32 → Prop := aLP (KX1_isRest l D h0 v) 6 86 (fun r1v : Int32 => [(4, .int r1v)]) (fun r1v => h0)
  refine sp_bl (P := P1) (E := E1) (fun s1v => sp_all fun ls hl => ?_) (fun k => k ls (lv_sub hl [2, 3, 4, 5, 1, 0] rfl)) (fun r1v => sp_all fun ls hl => ?_)
  · have hl : lv_has ls 6 [(0, .ref a0), (1, .int a1), (2, .int a2), (3, .int a3), (4, .int s1v.1), (5, .int s1v.2)] := hl
    show SP _ _ (AW (KX1_isRest l D h0 v) h0 6 ls [])
    unfold X1_isRest_L6
    refine sp_m (aw_iload (pc := 6) dX1_isRest_6 (lv_at hl 5 rfl)) ?_
    refine sp_m (aw_aload_n (pc := 8) dX1_isRest_8 rfl (lv_at hl 0 rfl)) ?_
    refine sp_g fun s2 => ?_
    refine sp_b fun x3 ex3 => ?_
    refine sp_m (aw_get (k := 3) okX1 s2 (by decide) q369 (Or.inl rfl) (congrArg va_rf ex3) (pc := 9) dX1_isRest_9) ?_
    refine sp_g fun s4 => ?_
    refine sp_m (aw_get (k := 5) okX8 s4 (by decide) q496 (Or.inl rfl) rfl (pc := 12) dX1_isRest_12) ?_
    refine sp_if (fun c5 => ?_) (fun c5 => ?_)
    · refine sp_m (aw_icmp_ge_t (tgt := 86) (pc := 15) dX1_isRest_15 (by decide) c5) ?_
      exact sp_r fun hz => hz ls (lv_sub hl [4] rfl)
    · refine sp_m (aw_icmp_ge_f (tgt := 86) (pc := 15) dX1_isRest_15 (by decide) c5) ?_
      refine sp_m (aw_iload (pc := 18) dX1_isRest_18 (lv_at hl 4 rfl)) ?_
      have hj78_1 : ∀ j6 : Int32, ∀ ls : Array Slot, lv_has ls 6 [(0, .ref a0), (1, .int a1), (2, .int a2), (3, .int a3), (5, .int s1v.2)] → SP (X1_isRest_j78 s1v j6) (ZL P1 E1) (AW (KX1_isRest l D h0 v) h0 78 ls (.int j6 :: [])) := by
        intro j6 ls hl
        unfold X1_isRest_j78
        refine sp_m (aw_istore (lv' := [(4, .int j6), (0, .ref a0), (1, .int a1), (2, .int a2), (3, .int a3), (5, .int s1v.2)]) (pc := 78) dX1_isRest_78 hl (by decide) rfl) (sp_all fun ls hl => ?_)
        refine sp_m (aw_iinc (v := s1v.2 + 1) (lv' := [(5, .int (s1v.2 + 1)), (4, .int j6), (0, .ref a0), (1, .int a1), (2, .int a2), (3, .int a3)]) (pc := 80) dX1_isRest_80 hl (k := 5) rfl rfl (by decide) rfl) (sp_all fun ls hl => ?_)
        refine sp_m (aw_goto (tgt := 6) (pc := 83) dX1_isRest_83 (by decide)) ?_
        exact sp_r fun hz => hz ls (lv_sub hl [2, 3, 4, 5, 1, 0] rfl)
      have hj77_2 : ∀ ls : Array Slot, lv_has ls 6 [(0, .ref a0), (1, .int a1), (2, .int a2), (3, .int a3), (5, .int s1v.2)] → SP (X1_isRest_j77 s1v) (ZL P1 E1) (AW (KX1_isRest l D h0 v) h0 77 ls ([])) := by
        intro ls hl
        unfold X1_isRest_j77
        refine sp_m (aw_iconst (v := 0) (pc := 77) dX1_isRest_77 rfl) ?_
        exact hj78_1 0 ls (lv_sub hl [0, 1, 2, 3, 4] rfl)
      refine sp_if (fun c7 => ?_) (fun c7 => ?_)
      · refine sp_m (aw_if_eq_t (tgt := 77) (pc := 20) dX1_isRest_20 (by decide) c7) ?_
        exact hj77_2 ls (lv_sub hl [0, 1, 2, 3, 5] rfl)
      · refine sp_m (aw_if_eq_f (tgt := 77) (pc := 20) dX1_isRest_20 (by decide) c7) ?_
        refine sp_m (aw_aload_n (pc := 23) dX1_isRest_23 rfl (lv_at hl 0 rfl)) ?_
        refine sp_b fun x8 ex8 => ?_
        refine sp_m (aw_get (k := 9) okX1 s2 (by decide) q375 (Or.inl rfl) (congrArg va_rf ex8) (pc := 24) dX1_isRest_24) ?_
        refine sp_m (aw_iload_n (pc := 27) dX1_isRest_27 rfl (lv_at hl 1 rfl)) ?_
        refine sp_m (aw_iload (pc := 28) dX1_isRest_28 (lv_at hl 5 rfl)) ?_
        refine sp_m (aw_iload_n (pc := 30) dX1_isRest_30 rfl (lv_at hl 3 rfl)) ?_
        refine sp_g fun s10 => ?_
        refine sp_b fun p9 ep9 => ?_
        refine sp_m (G' := AW (KX1_isRest l D h0 v) h0 (34) ls (.long p9 :: [])) (fun kk => aw_callV (As := [.int a1, .int s1v.2, .int a3]) (metX4_worthBy _ _ ep9) (rcv_o okX4 s10) rfl mok_X4_worthBy q1182 q1183 q1184 q122 q1185 (Nat.le_of_ble_eq_true rfl) (Nat.le_of_ble_eq_true rfl) rfl hl.1 rfl (Nat.le_of_ble_eq_true rfl) (pc := 31) dX1_isRest_31 kk) ?_
        refine sp_m (aw_aload_n (pc := 34) dX1_isRest_34 rfl (lv_at hl 0 rfl)) ?_
        refine sp_b fun x11 ex11 => ?_
        refine sp_m (aw_get (k := 9) okX1 s2 (by decide) q375 (Or.inl rfl) (congrArg va_rf ex11) (pc := 35) dX1_isRest_35) ?_
        refine sp_m (aw_iload_n (pc := 38) dX1_isRest_38 rfl (lv_at hl 1 rfl)) ?_
        refine sp_m (aw_iload_n (pc := 39) dX1_isRest_39 rfl (lv_at hl 2 rfl)) ?_
        refine sp_m (aw_iload_n (pc := 40) dX1_isRest_40 rfl (lv_at hl 3 rfl)) ?_
        refine sp_g fun s13 => ?_
        refine sp_b fun p12 ep12 => ?_
        refine sp_m (G' := AW (KX1_isRest l D h0 v) h0 (44) ls (.long p12 :: .long p9 :: [])) (fun kk => aw_callV (As := [.int a1, .int a2, .int a3]) (metX4_worthBy _ _ ep12) (rcv_o okX4 s13) rfl mok_X4_worthBy q1182 q1183 q1184 q122 q1185 (Nat.le_of_ble_eq_true rfl) (Nat.le_of_ble_eq_true rfl) rfl hl.1 rfl (Nat.le_of_ble_eq_true rfl) (pc := 41) dX1_isRest_41 kk) ?_
        refine sp_m (aw_lcmp (pc := 44) dX1_isRest_44) ?_
        refine sp_if (fun c14 => ?_) (fun c14 => ?_)
        · refine sp_m (aw_if_gt_t (tgt := 77) (pc := 45) dX1_isRest_45 (by decide) ((lg_cmp_gt _ _).mpr c14)) ?_
          exact hj77_2 ls (lv_sub hl [0, 1, 2, 3, 5] rfl)
        · refine sp_m (aw_if_gt_f (tgt := 77) (pc := 45) dX1_isRest_45 (by decide) (fun z => c14 ((lg_cmp_gt _ _).mp z))) ?_
          refine sp_m (aw_aload_n (pc := 48) dX1_isRest_48 rfl (lv_at hl 0 rfl)) ?_
          refine sp_b fun x15 ex15 => ?_
          refine sp_m (aw_get (k := 9) okX1 s2 (by decide) q375 (Or.inl rfl) (congrArg va_rf ex15) (pc := 49) dX1_isRest_49) ?_
          refine sp_m (aw_iload_n (pc := 52) dX1_isRest_52 rfl (lv_at hl 1 rfl)) ?_
          refine sp_m (aw_iload_n (pc := 53) dX1_isRest_53 rfl (lv_at hl 2 rfl)) ?_
          refine sp_m (aw_iload (pc := 54) dX1_isRest_54 (lv_at hl 5 rfl)) ?_
          refine sp_g fun s17 => ?_
          refine sp_b fun p16 ep16 => ?_
          refine sp_m (G' := AW (KX1_isRest l D h0 v) h0 (59) ls (.long p16 :: [])) (fun kk => aw_callV (As := [.int a1, .int a2, .int s1v.2]) (metX4_worthBy _ _ ep16) (rcv_o okX4 s17) rfl mok_X4_worthBy q1182 q1183 q1184 q122 q1185 (Nat.le_of_ble_eq_true rfl) (Nat.le_of_ble_eq_true rfl) rfl hl.1 rfl (Nat.le_of_ble_eq_true rfl) (pc := 56) dX1_isRest_56 kk) ?_
          refine sp_m (aw_aload_n (pc := 59) dX1_isRest_59 rfl (lv_at hl 0 rfl)) ?_
          refine sp_b fun x18 ex18 => ?_
          refine sp_m (aw_get (k := 9) okX1 s2 (by decide) q375 (Or.inl rfl) (congrArg va_rf ex18) (pc := 60) dX1_isRest_60) ?_
          refine sp_m (aw_iload_n (pc := 63) dX1_isRest_63 rfl (lv_at hl 1 rfl)) ?_
          refine sp_m (aw_iload_n (pc := 64) dX1_isRest_64 rfl (lv_at hl 2 rfl)) ?_
          refine sp_m (aw_iload_n (pc := 65) dX1_isRest_65 rfl (lv_at hl 3 rfl)) ?_
          refine sp_g fun s20 => ?_
          refine sp_b fun p19 ep19 => ?_
          refine sp_m (G' := AW (KX1_isRest l D h0 v) h0 (69) ls (.long p19 :: .long p16 :: [])) (fun kk => aw_callV (As := [.int a1, .int a2, .int a3]) (metX4_worthBy _ _ ep19) (rcv_o okX4 s20) rfl mok_X4_worthBy q1182 q1183 q1184 q122 q1185 (Nat.le_of_ble_eq_true rfl) (Nat.le_of_ble_eq_true rfl) rfl hl.1 rfl (Nat.le_of_ble_eq_true rfl) (pc := 66) dX1_isRest_66 kk) ?_
          refine sp_m (aw_lcmp (pc := 69) dX1_isRest_69) ?_
          refine sp_if (fun c21 => ?_) (fun c21 => ?_)
          · refine sp_m (aw_if_lt_t (tgt := 77) (pc := 70) dX1_isRest_70 (by decide) ((lg_cmp_lt _ _).mpr c21)) ?_
            exact hj77_2 ls (lv_sub hl [0, 1, 2, 3, 5] rfl)
          · refine sp_m (aw_if_lt_f (tgt := 77) (pc := 70) dX1_isRest_70 (by decide) (fun z => c21 ((lg_cmp_lt _ _).mp z))) ?_
            refine sp_m (aw_iconst (v := 1) (pc := 73) dX1_isRest_73 rfl) ?_
            refine sp_m (aw_goto (tgt := 78) (pc := 74) dX1_isRest_74 (by decide)) ?_
            exact hj78_1 1 ls (lv_sub hl [0, 1, 2, 3, 5] rfl)
  · have hl : lv_has ls 6 [(4, .int r1v)] := hl
    show SP _ _ (AW (KX1_isRest l D h0 v) h0 86 ls [])
    refine sp_m (aw_iload (pc := 86) dX1_isRest_86 (lv_at hl 0 rfl)) ?_
    refine sp_g fun g22 => ?_
    exact sp_r fun hz => aw_zret (nar_b g22) (congrArg (fun z => (z, h0)) hz) rfl rfl rfl (pc := 88) dX1_isRest_88
theorem mok_X11_kind : mOK yX11_kind 0 := ⟨⟨by decide +kernel, by decide +kernel⟩, by decide +kernel⟩
abbrev KX11_kind (l : Launch) (D : DD) (h0 : AH) (v : Int32) : KT := (l, yX11_kind, cX11_kind, 1, (some .int), RX11, 1, D, h0, h0, .inl (some (.int v)), false, [])
theorem metX11_kind (l : Launch) (D : DD) {a0 : Nat} {h0 : AH} {v : Int32} (hr : fX11_kind a0 h0 = some v) : AMet (KX11_kind l D h0 v) [.ref a0] := by
  refine AMet.of (K := (KX11_kind l D h0 v)) rfl ⟨_, rfl⟩ rfl rfl rfl (Nat.le_of_ble_eq_true rfl) (fun ls hl => ?_)
  have hl : lv_has ls 1 [(0, .ref a0)] := hl
  suffices hsp : SP (fX11_kind a0 h0) (fun z => z = v) (AW (KX11_kind l D h0 v) h0 0 ls []) from hsp _ hr rfl
  unfold fX11_kind
  refine sp_m (aw_iconst (v := 2) (pc := 0) dX11_kind_0 rfl) ?_
  exact sp_r fun hz => aw_iret (congrArg (fun z => (z, h0)) hz) rfl rfl rfl (pc := 1) dX11_kind_1
theorem mok_X12_kind : mOK yX12_kind 0 := ⟨⟨by decide +kernel, by decide +kernel⟩, by decide +kernel⟩
abbrev KX12_kind (l : Launch) (D : DD) (h0 : AH) (v : Int32) : KT := (l, yX12_kind, cX12_kind, 1, (some .int), RX12, 1, D, h0, h0, .inl (some (.int v)), false, [])
theorem metX12_kind (l : Launch) (D : DD) {a0 : Nat} {h0 : AH} {v : Int32} (hr : fX12_kind a0 h0 = some v) : AMet (KX12_kind l D h0 v) [.ref a0] := by
  refine AMet.of (K := (KX12_kind l D h0 v)) rfl ⟨_, rfl⟩ rfl rfl rfl (Nat.le_of_ble_eq_true rfl) (fun ls hl => ?_)
  have hl : lv_has ls 1 [(0, .ref a0)] := hl
  suffices hsp : SP (fX12_kind a0 h0) (fun z => z = v) (AW (KX12_kind l D h0 v) h0 0 ls []) from hsp _ hr rfl
  unfold fX12_kind
  refine sp_m (aw_iconst (v := 3) (pc := 0) dX12_kind_0 rfl) ?_
  exact sp_r fun hz => aw_iret (congrArg (fun z => (z, h0)) hz) rfl rfl rfl (pc := 1) dX12_kind_1
theorem mok_X10_kind : mOK yX10_kind 0 := ⟨⟨by decide +kernel, by decide +kernel⟩, by decide +kernel⟩
abbrev KX10_kind (l : Launch) (D : DD) (h0 : AH) (v : Int32) : KT := (l, yX10_kind, cX10_kind, 1, (some .int), RX10, 1, D, h0, h0, .inl (some (.int v)), false, [])
theorem metX10_kind (l : Launch) (D : DD) {a0 : Nat} {h0 : AH} {v : Int32} (hr : fX10_kind a0 h0 = some v) : AMet (KX10_kind l D h0 v) [.ref a0] := by
  refine AMet.of (K := (KX10_kind l D h0 v)) rfl ⟨_, rfl⟩ rfl rfl rfl (Nat.le_of_ble_eq_true rfl) (fun ls hl => ?_)
  have hl : lv_has ls 1 [(0, .ref a0)] := hl
  suffices hsp : SP (fX10_kind a0 h0) (fun z => z = v) (AW (KX10_kind l D h0 v) h0 0 ls []) from hsp _ hr rfl
  unfold fX10_kind
  refine sp_m (aw_iconst (v := 1) (pc := 0) dX10_kind_0 rfl) ?_
  exact sp_r fun hz => aw_iret (congrArg (fun z => (z, h0)) hz) rfl rfl rfl (pc := 1) dX10_kind_1
theorem mok_X9_kind : mOK yX9_kind 0 := ⟨⟨by decide +kernel, by decide +kernel⟩, by decide +kernel⟩
abbrev KX9_kind (l : Launch) (D : DD) (h0 : AH) (v : Int32) : KT := (l, yX9_kind, cX9_kind, 1, (some .int), RX9, 1, D, h0, h0, .inl (some (.int v)), false, [])
theorem metX9_kind (l : Launch) (D : DD) {a0 : Nat} {h0 : AH} {v : Int32} (hr : fX9_kind a0 h0 = some v) : AMet (KX9_kind l D h0 v) [.ref a0] := by
  refine AMet.of (K := (KX9_kind l D h0 v)) rfl ⟨_, rfl⟩ rfl rfl rfl (Nat.le_of_ble_eq_true rfl) (fun ls hl => ?_)
  have hl : lv_has ls 1 [(0, .ref a0)] := hl
  suffices hsp : SP (fX9_kind a0 h0) (fun z => z = v) (AW (KX9_kind l D h0 v) h0 0 ls []) from hsp _ hr rfl
  unfold fX9_kind
  refine sp_m (aw_iconst (v := 0) (pc := 0) dX9_kind_0 rfl) ?_
  exact sp_r fun hz => aw_iret (congrArg (fun z => (z, h0)) hz) rfl rfl rfl (pc := 1) dX9_kind_1
theorem fV_X9_kind_c {a0 : Nat} {h0 : AH} {v : Int32} (e : fV_X9_kind a0 h0 = some v) : (gS h0 a0 = 10 ∧ fX9_kind a0 h0 = some v) ∨ (gS h0 a0 = 11 ∧ fX10_kind a0 h0 = some v) ∨ (gS h0 a0 = 12 ∧ fX11_kind a0 h0 = some v) ∨ (gS h0 a0 = 13 ∧ fX12_kind a0 h0 = some v) := by
  unfold fV_X9_kind at e
  by_cases z0 : gS h0 a0 = 10
  · rw [if_pos z0] at e; exact Or.inl ⟨z0, e⟩
  rw [if_neg z0] at e
  by_cases z1 : gS h0 a0 = 11
  · rw [if_pos z1] at e; exact Or.inr (Or.inl ⟨z1, e⟩)
  rw [if_neg z1] at e
  by_cases z2 : gS h0 a0 = 12
  · rw [if_pos z2] at e; exact Or.inr (Or.inr (Or.inl ⟨z2, e⟩))
  rw [if_neg z2] at e
  by_cases z3 : gS h0 a0 = 13
  · rw [if_pos z3] at e; exact Or.inr (Or.inr (Or.inr (⟨z3, e⟩)))
  rw [if_neg z3] at e
  cases e
theorem mokV_X9_kind : mOK ⟨"ElephantLine$Stand", "kind", "()I"⟩ 0 := ⟨⟨by decide +kernel, by decide +kernel⟩, by decide +kernel⟩
theorem mok_X1_lane : mOK yX1_lane 2 := ⟨⟨by decide +kernel, by decide +kernel⟩, by decide +kernel⟩
abbrev KX1_lane (l : Launch) (D : DD) (h0 hE : AH) (v : Int32) : KT := (l, yX1_lane, cX1_lane, 3, (some .int), RX1, 4, D, h0, hE, .inl (some (.int v)), false, [])
theorem metX1_lane (l : Launch) (D : DD) {a0 : Nat} {a1 : Int32} {a2 : Int32} {h0 : AH} {hE : AH} {v : Int32} (hr : fX1_lane a0 a1 a2 h0 = some (v, hE)) : AMet (KX1_lane l D h0 hE v) [.ref a0, .int a1, .int a2] := by
  refine AMet.of (K := (KX1_lane l D h0 hE v)) rfl ⟨_, rfl⟩ rfl rfl rfl (Nat.le_of_ble_eq_true rfl) (fun ls hl => ?_)
  have hl : lv_has ls 3 [(0, .ref a0), (1, .int a1), (2, .int a2)] := hl
  suffices hsp : SP (fX1_lane a0 a1 a2 h0) (fun z => z = (v, hE)) (AW (KX1_lane l D h0 hE v) h0 0 ls []) from hsp _ hr rfl
  unfold fX1_lane
  refine sp_m (aw_aload_n (pc := 0) dX1_lane_0 rfl (lv_at hl 0 rfl)) ?_
  refine sp_g fun s2 => ?_
  refine sp_b fun p1 ep1 => ?_
  refine sp_m (G' := AW (KX1_lane l D h0 hE v) p1 (4) ls ([])) (fun kk => aw_callV (As := []) (metX1_anew _ _ ep1) (rcv_o okX1 s2) rfl mok_X1_anew q452 q454 qs2 q116 q455 (Nat.le_of_ble_eq_true rfl) (Nat.le_of_ble_eq_true rfl) rfl hl.1 rfl (Nat.le_of_ble_eq_true rfl) (pc := 1) dX1_lane_1 kk) ?_
  refine sp_m (aw_aload_n (pc := 4) dX1_lane_4 rfl (lv_at hl 0 rfl)) ?_
  refine sp_m (aw_iload_n (pc := 5) dX1_lane_5 rfl (lv_at hl 1 rfl)) ?_
  refine sp_g fun s4 => ?_
  refine sp_b fun p3 ep3 => ?_
  refine sp_m (G' := AW (KX1_lane l D h0 hE v) p1 (9) ls (.int p3 :: [])) (fun kk => aw_callV (As := [.int a1]) (metX1_isLane _ _ ep3) (rcv_o okX1 s4) rfl mok_X1_isLane q941 q943 qs25 q116 q944 (Nat.le_of_ble_eq_true rfl) (Nat.le_of_ble_eq_true rfl) rfl hl.1 rfl (Nat.le_of_ble_eq_true rfl) (pc := 6) dX1_lane_6 kk) ?_
  refine sp_if (fun c5 => ?_) (fun c5 => ?_)
  · refine sp_m (aw_if_ne_t (tgt := 18) (pc := 9) dX1_lane_9 (by decide) c5) ?_
    refine sp_m (aw_iload_n (pc := 18) dX1_lane_18 rfl (lv_at hl 2 rfl)) ?_
    refine sp_if (fun c6 => ?_) (fun c6 => ?_)
    · refine sp_m (aw_tableOut (tgt := 73) (pc := 19) dX1_lane_19 (sw_out rfl rfl c6) (by decide)) ?_
      refine sp_m (aw_aload_n (pc := 73) dX1_lane_73 rfl (lv_at hl 0 rfl)) ?_
      refine sp_m (aw_iconst (v := 1) (pc := 74) dX1_lane_74 rfl) ?_
      refine sp_b fun p7 ep7 => ?_
      refine sp_m (G' := AW (KX1_lane l D h0 hE v) p7.2 (78) ls (.int p7.1 :: [])) (fun kk => aw_callV (As := [.int 1]) (metX1_no _ _ ep7) (rcv_o okX1 s4) rfl mok_X1_no q459 q461 qs3 q116 q462 (Nat.le_of_ble_eq_true rfl) (Nat.le_of_ble_eq_true rfl) rfl hl.1 rfl (Nat.le_of_ble_eq_true rfl) (pc := 75) dX1_lane_75 kk) ?_
      exact sp_r fun hz => aw_iret hz rfl rfl rfl (pc := 78) dX1_lane_78
    refine sp_if (fun c8 => ?_) (fun c8 => ?_)
    · refine sp_m (aw_tableIn (tgt := 44) (pc := 19) dX1_lane_19 (by rw [c8]; decide) (by rw [c8]; decide) (by rw [c8] <;> rfl) (by decide)) ?_
      refine sp_m (aw_aload_n (pc := 44) dX1_lane_44 rfl (lv_at hl 0 rfl)) ?_
      refine sp_b fun x9 ex9 => ?_
      refine sp_m (aw_get (k := 3) okX1 s4 (by decide) q369 (Or.inl rfl) (congrArg va_rf ex9) (pc := 45) dX1_lane_45) ?_
      refine sp_g fun s10 => ?_
      refine sp_b fun x11 ex11 => ?_
      refine sp_m (aw_get (k := 0) okX8 s10 (by decide) q482 (Or.inl rfl) (congrArg va_rf ex11) (pc := 48) dX1_lane_48) ?_
      refine sp_m (aw_iload_n (pc := 51) dX1_lane_51 rfl (lv_at hl 1 rfl)) ?_
      refine sp_g fun s12 => ?_
      refine sp_g fun i13 => ?_
      refine sp_b fun x14 ex14 => ?_
      refine sp_m (aw_aald (t := 6) s12 (by decide) rfl rfl i13 (congrArg va_rf ex14) (pc := 52) dX1_lane_52) ?_
      refine sp_b fun p15 ep15 => ?_
      refine sp_m (G' := AW (KX1_lane l D h0 hE v) p1 (56) ls (.int p15 :: [])) (fun kk => by rcases fV_X9_kind_c ep15 with z | z | z | z; exact aw_callU (x := ⟨"ElephantLine$Stand", "kind", "()I"⟩) (As := []) (metX9_kind _ _ z.2) (rcv_o okX9 z.1) mokV_X9_kind q945 q948 q947 q946 q132 q958 (Or.inl ⟨q946, _, _, _, q958⟩) (Nat.le_of_ble_eq_true rfl) (Nat.le_of_ble_eq_true rfl) rfl hl.1 rfl (Nat.le_of_ble_eq_true rfl) (pc := 53) dX1_lane_53 kk; exact aw_callU (x := ⟨"ElephantLine$Stand", "kind", "()I"⟩) (As := []) (metX10_kind _ _ z.2) (rcv_o okX10 z.1) mokV_X9_kind q945 q948 q955 q956 q133 q957 (Or.inl ⟨q946, _, _, _, q958⟩) (Nat.le_of_ble_eq_true rfl) (Nat.le_of_ble_eq_true rfl) rfl hl.1 rfl (Nat.le_of_ble_eq_true rfl) (pc := 53) dX1_lane_53 kk; exact aw_callU (x := ⟨"ElephantLine$Stand", "kind", "()I"⟩) (As := []) (metX11_kind _ _ z.2) (rcv_o okX11 z.1) mokV_X9_kind q945 q948 q949 q950 q134 q951 (Or.inl ⟨q946, _, _, _, q958⟩) (Nat.le_of_ble_eq_true rfl) (Nat.le_of_ble_eq_true rfl) rfl hl.1 rfl (Nat.le_of_ble_eq_true rfl) (pc := 53) dX1_lane_53 kk; exact aw_callU (x := ⟨"ElephantLine$Stand", "kind", "()I"⟩) (As := []) (metX12_kind _ _ z.2) (rcv_o okX12 z.1) mokV_X9_kind q945 q948 q952 q953 q135 q954 (Or.inl ⟨q946, _, _, _, q958⟩) (Nat.le_of_ble_eq_true rfl) (Nat.le_of_ble_eq_true rfl) rfl hl.1 rfl (Nat.le_of_ble_eq_true rfl) (pc := 53) dX1_lane_53 kk) ?_
      exact sp_r fun hz => aw_iret hz rfl rfl rfl (pc := 56) dX1_lane_56
    refine sp_if (fun c16 => ?_) (fun c16 => ?_)
    · refine sp_m (aw_tableIn (tgt := 57) (pc := 19) dX1_lane_19 (by rw [c16]; decide) (by rw [c16]; decide) (by rw [c16] <;> rfl) (by decide)) ?_
      refine sp_m (aw_aload_n (pc := 57) dX1_lane_57 rfl (lv_at hl 0 rfl)) ?_
      refine sp_b fun x17 ex17 => ?_
      refine sp_m (aw_get (k := 9) okX1 s4 (by decide) q375 (Or.inl rfl) (congrArg va_rf ex17) (pc := 58) dX1_lane_58) ?_
      refine sp_g fun s18 => ?_
      refine sp_b fun x19 ex19 => ?_
      refine sp_m (aw_get (k := 2) okX4 s18 (by decide) q278 (Or.inl rfl) (congrArg va_rf ex19) (pc := 61) dX1_lane_61) ?_
      refine sp_m (aw_iload_n (pc := 64) dX1_lane_64 rfl (lv_at hl 1 rfl)) ?_
      refine sp_g fun s20 => ?_
      refine sp_g fun i21 => ?_
      refine sp_m (aw_iald s20 i21 (pc := 65) dX1_lane_65) ?_
      exact sp_r fun hz => aw_iret hz rfl rfl rfl (pc := 66) dX1_lane_66
    refine sp_if (fun c22 => ?_) (fun c22 => ?_)
    · refine sp_m (aw_tableIn (tgt := 67) (pc := 19) dX1_lane_19 (by rw [c22]; decide) (by rw [c22]; decide) (by rw [c22] <;> rfl) (by decide)) ?_
      refine sp_m (aw_aload_n (pc := 67) dX1_lane_67 rfl (lv_at hl 0 rfl)) ?_
      refine sp_m (aw_iload_n (pc := 68) dX1_lane_68 rfl (lv_at hl 1 rfl)) ?_
      refine sp_b fun p23 ep23 => ?_
      refine sp_m (G' := AW (KX1_lane l D h0 hE v) p1 (72) ls (.int p23 :: [])) (fun kk => aw_callV (As := [.int a1]) (metX1_beastsIn _ _ ep23) (rcv_o okX1 s4) rfl mok_X1_beastsIn q959 q961 qs26 q116 q962 (Nat.le_of_ble_eq_true rfl) (Nat.le_of_ble_eq_true rfl) rfl hl.1 rfl (Nat.le_of_ble_eq_true rfl) (pc := 69) dX1_lane_69 kk) ?_
      exact sp_r fun hz => aw_iret hz rfl rfl rfl (pc := 72) dX1_lane_72
    exact sp_n
  · refine sp_m (aw_if_ne_f (tgt := 18) (pc := 9) dX1_lane_9 (by decide) (Decidable.not_not.mp c5)) ?_
    refine sp_m (aw_aload_n (pc := 12) dX1_lane_12 rfl (lv_at hl 0 rfl)) ?_
    refine sp_m (aw_iconst (v := 1) (pc := 13) dX1_lane_13 rfl) ?_
    refine sp_b fun p24 ep24 => ?_
    refine sp_m (G' := AW (KX1_lane l D h0 hE v) p24.2 (17) ls (.int p24.1 :: [])) (fun kk => aw_callV (As := [.int 1]) (metX1_no _ _ ep24) (rcv_o okX1 s4) rfl mok_X1_no q459 q461 qs3 q116 q462 (Nat.le_of_ble_eq_true rfl) (Nat.le_of_ble_eq_true rfl) rfl hl.1 rfl (Nat.le_of_ble_eq_true rfl) (pc := 14) dX1_lane_14 kk) ?_
    exact sp_r fun hz => aw_iret hz rfl rfl rfl (pc := 17) dX1_lane_17
theorem mok_X1_led : mOK yX1_led 1 := ⟨⟨by decide +kernel, by decide +kernel⟩, by decide +kernel⟩
abbrev KX1_led (l : Launch) (D : DD) (h0 : AH) (o : (Int32 × AH) ⊕ (Nat × AH)) : KT := (l, yX1_led, cX1_led, 4, (some .int), RX1, 8, D, h0, tE (fun p : Int32 × AH => p.2) o, tV (fun p : Int32 × AH => some (.int p.1)) "java/util/NoSuchElementException" o, true, [])
theorem metX1_led (l : Launch) (D : DD) (hst : l.stackTraces = false) {a0 : Nat} {a1 : Int32} {h0 : AH} {o : (Int32 × AH) ⊕ (Nat × AH)} (hr : fX1_led a0 a1 h0 = some o) : AMetX (KX1_led l D h0 o) [.ref a0, .int a1] := by
  refine AMetX.of (K := (KX1_led l D h0 o)) rfl rfl rfl rfl (Nat.le_of_ble_eq_true rfl) (fun ls hl => ?_)
  have hl : lv_has ls 4 [(0, .ref a0), (1, .int a1)] := hl
  suffices hsp : SP (fX1_led a0 a1 h0) (fun z => z = o) (AW (KX1_led l D h0 o) h0 0 ls []) from hsp _ hr rfl
  unfold fX1_led
  refine sp_m (aw_iconst (v := 0) (pc := 0) dX1_led_0 rfl) ?_
  refine sp_m (aw_istore_n (lv' := [(2, .int 0), (0, .ref a0), (1, .int a1)]) (pc := 1) dX1_led_1 rfl hl (by decide) rfl) (sp_all fun ls hl => ?_)
  refine sp_m (aw_iconst (v := 0) (pc := 2) dX1_led_2 rfl) ?_
  refine sp_m (aw_istore_n (lv' := [(3, .int 0), (2, .int 0), (0, .ref a0), (1, .int a1)]) (pc := 3) dX1_led_3 rfl hl (by decide) rfl) (sp_all fun ls hl => ?_)
  let P1 : Int32 × Int32 → Prop := aLP (KX1_led l D h0 o) 4 4 (fun s1v : Int32 × Int32 => [(0, .ref a0), (1, .int a1), (2, .int s1v.1), (3, .int s1v.2)]) (fun s1v => h0)
  refine sp_loop (P := P1) (fun s1v => sp_all fun ls hl => ?_) (fun k => k ls (lv_sub hl [2, 3, 1, 0] rfl))
  have hl : lv_has ls 4 [(0, .ref a0), (1, .int a1), (2, .int s1v.1), (3, .int s1v.2)] := hl
  show SP _ _ (AW (KX1_led l D h0 o) h0 4 ls [])
  unfold X1_led_L4
  refine sp_m (aw_aload_n (pc := 4) dX1_led_4 rfl (lv_at hl 0 rfl)) ?_
  refine sp_g fun s2 => ?_
  refine sp_o (fun ex3 => ?_) (fun x3 ex3 => ?_)
  · refine sp_m (aw_get (k := 3) okX1 s2 (by decide) q369 (Or.inl rfl) (congrArg va_rf ex3) (pc := 5) dX1_led_5) ?_
    refine sp_m (aw_ifnullN (tgt := 52) (pc := 8) dX1_led_8 (by decide)) ?_
    exact sp_r fun hz => aw_throw0 hst hz hl.1 rfl rfl rfl rfl rfl (Nat.le_of_ble_eq_true rfl) (Nat.le_of_ble_eq_true rfl) (pc := 52) dX1_led_52 dX1_led_55 dX1_led_56 dX1_led_59
  · refine sp_m (aw_get (k := 3) okX1 s2 (by decide) q369 (Or.inl rfl) (congrArg va_rf ex3) (pc := 5) dX1_led_5) ?_
    refine sp_m (aw_ifnull (pc := 8) dX1_led_8) ?_
    refine sp_m (aw_iload_n (pc := 11) dX1_led_11 rfl (lv_at hl 3 rfl)) ?_
    refine sp_m (aw_aload_n (pc := 12) dX1_led_12 rfl (lv_at hl 0 rfl)) ?_
    refine sp_b fun x4 ex4 => ?_
    refine sp_m (aw_get (k := 3) okX1 s2 (by decide) q369 (Or.inl rfl) (congrArg va_rf ex4) (pc := 13) dX1_led_13) ?_
    refine sp_g fun s5 => ?_
    refine sp_m (aw_get (k := 8) okX8 s5 (by decide) q505 (Or.inl rfl) rfl (pc := 16) dX1_led_16) ?_
    refine sp_if (fun c6 => ?_) (fun c6 => ?_)
    · refine sp_m (aw_icmp_ge_t (tgt := 52) (pc := 19) dX1_led_19 (by decide) c6) ?_
      exact sp_r fun hz => aw_throw0 hst hz hl.1 rfl rfl rfl rfl rfl (Nat.le_of_ble_eq_true rfl) (Nat.le_of_ble_eq_true rfl) (pc := 52) dX1_led_52 dX1_led_55 dX1_led_56 dX1_led_59
    · refine sp_m (aw_icmp_ge_f (tgt := 52) (pc := 19) dX1_led_19 (by decide) c6) ?_
      refine sp_m (aw_aload_n (pc := 22) dX1_led_22 rfl (lv_at hl 0 rfl)) ?_
      refine sp_b fun x7 ex7 => ?_
      refine sp_m (aw_get (k := 9) okX1 s2 (by decide) q375 (Or.inl rfl) (congrArg va_rf ex7) (pc := 23) dX1_led_23) ?_
      refine sp_m (aw_iload_n (pc := 26) dX1_led_26 rfl (lv_at hl 3 rfl)) ?_
      refine sp_g fun s9 => ?_
      refine sp_b fun p8 ep8 => ?_
      refine sp_m (G' := AW (KX1_led l D h0 o) h0 (30) ls (.int p8 :: [])) (fun kk => aw_callV (As := [.int s1v.2]) (metX4_isDead _ _ ep8) (rcv_o okX4 s9) rfl mok_X4_isDead q963 q964 q965 q122 q966 (Nat.le_of_ble_eq_true rfl) (Nat.le_of_ble_eq_true rfl) rfl hl.1 rfl (Nat.le_of_ble_eq_true rfl) (pc := 27) dX1_led_27 kk) ?_
      have hj46_1 : ∀ j10 : Int32, ∀ ls : Array Slot, lv_has ls 4 [(0, .ref a0), (1, .int a1), (2, .int j10), (3, .int s1v.2)] → SP (X1_led_j46 s1v j10) (ZL P1 (fun z => z = o)) (AW (KX1_led l D h0 o) h0 46 ls ([])) := by
        intro j10 ls hl
        unfold X1_led_j46
        refine sp_m (aw_iinc (v := s1v.2 + 1) (lv' := [(3, .int (s1v.2 + 1)), (0, .ref a0), (1, .int a1), (2, .int j10)]) (pc := 46) dX1_led_46 hl (k := 3) rfl rfl (by decide) rfl) (sp_all fun ls hl => ?_)
        refine sp_m (aw_goto (tgt := 4) (pc := 49) dX1_led_49 (by decide)) ?_
        exact sp_r fun hz => hz ls (lv_sub hl [1, 2, 3, 0] rfl)
      refine sp_if (fun c11 => ?_) (fun c11 => ?_)
      · refine sp_m (aw_if_ne_t (tgt := 36) (pc := 30) dX1_led_30 (by decide) c11) ?_
        refine sp_m (aw_iload_n (pc := 36) dX1_led_36 rfl (lv_at hl 2 rfl)) ?_
        refine sp_m (aw_iload_n (pc := 37) dX1_led_37 rfl (lv_at hl 1 rfl)) ?_
        refine sp_if (fun c12 => ?_) (fun c12 => ?_)
        · refine sp_m (aw_icmp_ne_t (tgt := 43) (pc := 38) dX1_led_38 (by decide) c12) ?_
          refine sp_m (aw_iinc (v := s1v.1 + 1) (lv' := [(2, .int (s1v.1 + 1)), (0, .ref a0), (1, .int a1), (3, .int s1v.2)]) (pc := 43) dX1_led_43 hl (k := 2) rfl rfl (by decide) rfl) (sp_all fun ls hl => ?_)
          exact hj46_1 (s1v.1 + 1) ls (lv_sub hl [1, 2, 0, 3] rfl)
        · refine sp_m (aw_icmp_ne_f (tgt := 43) (pc := 38) dX1_led_38 (by decide) (Decidable.not_not.mp c12)) ?_
          refine sp_m (aw_iload_n (pc := 41) dX1_led_41 rfl (lv_at hl 3 rfl)) ?_
          exact sp_r fun hz => aw_iretT hz rfl rfl rfl (pc := 42) dX1_led_42
      · refine sp_m (aw_if_ne_f (tgt := 36) (pc := 30) dX1_led_30 (by decide) (Decidable.not_not.mp c11)) ?_
        refine sp_m (aw_goto (tgt := 46) (pc := 33) dX1_led_33 (by decide)) ?_
        exact hj46_1 s1v.1 ls (lv_sub hl [0, 1, 2, 3] rfl)
theorem mok_X1_marchWhy : mOK yX1_marchWhy 3 := ⟨⟨by decide +kernel, by decide +kernel⟩, by decide +kernel⟩
abbrev KX1_marchWhy (l : Launch) (D : DD) (h0 : AH) (v : Int32) : KT := (l, yX1_marchWhy, cX1_marchWhy, 4, (some .int), RX1, 3, D, h0, h0, .inl (some (.int v)), false, [])
theorem metX1_marchWhy (l : Launch) (D : DD) {a0 : Nat} {a1 : Int32} {a2 : Int32} {a3 : Int32} {h0 : AH} {v : Int32} (hr : fX1_marchWhy a0 a1 a2 a3 h0 = some v) : AMet (KX1_marchWhy l D h0 v) [.ref a0, .int a1, .int a2, .int a3] := by
  refine AMet.of (K := (KX1_marchWhy l D h0 v)) rfl ⟨_, rfl⟩ rfl rfl rfl (Nat.le_of_ble_eq_true rfl) (fun ls hl => ?_)
  have hl : lv_has ls 4 [(0, .ref a0), (1, .int a1), (2, .int a2), (3, .int a3)] := hl
  suffices hsp : SP (fX1_marchWhy a0 a1 a2 a3 h0) (fun z => z = v) (AW (KX1_marchWhy l D h0 v) h0 0 ls []) from hsp _ hr rfl
  unfold fX1_marchWhy
  refine sp_m (aw_aload_n (pc := 0) dX1_marchWhy_0 rfl (lv_at hl 0 rfl)) ?_
  refine sp_m (aw_iload_n (pc := 1) dX1_marchWhy_1 rfl (lv_at hl 1 rfl)) ?_
  refine sp_g fun s2 => ?_
  refine sp_b fun p1 ep1 => ?_
  refine sp_m (G' := AW (KX1_marchWhy l D h0 v) h0 (5) ls (.int p1 :: [])) (fun kk => aw_callV (As := [.int a1]) (metX1_isCity _ _ ep1) (rcv_o okX1 s2) rfl mok_X1_isCity q1284 q1286 qs41 q116 q1287 (Nat.le_of_ble_eq_true rfl) (Nat.le_of_ble_eq_true rfl) rfl hl.1 rfl (Nat.le_of_ble_eq_true rfl) (pc := 2) dX1_marchWhy_2 kk) ?_
  refine sp_if (fun c3 => ?_) (fun c3 => ?_)
  · refine sp_m (aw_if_eq_t (tgt := 16) (pc := 5) dX1_marchWhy_5 (by decide) c3) ?_
    refine sp_m (aw_iconst (v := 1) (pc := 16) dX1_marchWhy_16 rfl) ?_
    refine sp_m (aw_goto (tgt := 36) (pc := 17) dX1_marchWhy_17 (by decide)) ?_
    exact sp_r fun hz => aw_iret (congrArg (fun z => (z, h0)) hz) rfl rfl rfl (pc := 36) dX1_marchWhy_36
  · refine sp_m (aw_if_eq_f (tgt := 16) (pc := 5) dX1_marchWhy_5 (by decide) c3) ?_
    refine sp_m (aw_aload_n (pc := 8) dX1_marchWhy_8 rfl (lv_at hl 0 rfl)) ?_
    refine sp_m (aw_iload_n (pc := 9) dX1_marchWhy_9 rfl (lv_at hl 2 rfl)) ?_
    refine sp_b fun p4 ep4 => ?_
    refine sp_m (G' := AW (KX1_marchWhy l D h0 v) h0 (13) ls (.int p4 :: [])) (fun kk => aw_callV (As := [.int a2]) (metX1_isCity _ _ ep4) (rcv_o okX1 s2) rfl mok_X1_isCity q1284 q1286 qs41 q116 q1287 (Nat.le_of_ble_eq_true rfl) (Nat.le_of_ble_eq_true rfl) rfl hl.1 rfl (Nat.le_of_ble_eq_true rfl) (pc := 10) dX1_marchWhy_10 kk) ?_
    refine sp_if (fun c5 => ?_) (fun c5 => ?_)
    · refine sp_m (aw_if_ne_t (tgt := 20) (pc := 13) dX1_marchWhy_13 (by decide) c5) ?_
      refine sp_m (aw_iload_n (pc := 20) dX1_marchWhy_20 rfl (lv_at hl 3 rfl)) ?_
      refine sp_m (aw_iconst (v := 0) (pc := 21) dX1_marchWhy_21 rfl) ?_
      refine sp_m (aw_sipush (v := 999) (pc := 22) dX1_marchWhy_22 rfl) ?_
      refine sp_b fun p6 ep6 => ?_
      refine sp_m (G' := AW (KX1_marchWhy l D h0 v) h0 (28) ls (.int p6 :: [])) (fun kk => aw_callS (As := [.int a3, .int 0, .int 999]) (metX1_in _ _ ep6) mok_X1_in q456 q457 q116 q458 (Nat.le_of_ble_eq_true rfl) (Nat.le_of_ble_eq_true rfl) rfl hl.1 rfl (Nat.le_of_ble_eq_true rfl) (pc := 25) dX1_marchWhy_25 kk) ?_
      refine sp_if (fun c7 => ?_) (fun c7 => ?_)
      · refine sp_m (aw_if_eq_t (tgt := 35) (pc := 28) dX1_marchWhy_28 (by decide) c7) ?_
        refine sp_m (aw_iconst (v := 2) (pc := 35) dX1_marchWhy_35 rfl) ?_
        exact sp_r fun hz => aw_iret (congrArg (fun z => (z, h0)) hz) rfl rfl rfl (pc := 36) dX1_marchWhy_36
      · refine sp_m (aw_if_eq_f (tgt := 35) (pc := 28) dX1_marchWhy_28 (by decide) c7) ?_
        refine sp_m (aw_iconst (v := 0) (pc := 31) dX1_marchWhy_31 rfl) ?_
        refine sp_m (aw_goto (tgt := 36) (pc := 32) dX1_marchWhy_32 (by decide)) ?_
        exact sp_r fun hz => aw_iret (congrArg (fun z => (z, h0)) hz) rfl rfl rfl (pc := 36) dX1_marchWhy_36
    · refine sp_m (aw_if_ne_f (tgt := 20) (pc := 13) dX1_marchWhy_13 (by decide) (Decidable.not_not.mp c5)) ?_
      refine sp_m (aw_iconst (v := 1) (pc := 16) dX1_marchWhy_16 rfl) ?_
      refine sp_m (aw_goto (tgt := 36) (pc := 17) dX1_marchWhy_17 (by decide)) ?_
      exact sp_r fun hz => aw_iret (congrArg (fun z => (z, h0)) hz) rfl rfl rfl (pc := 36) dX1_marchWhy_36
theorem mok_X8_pass : mOK yX8_pass 2 := ⟨⟨by decide +kernel, by decide +kernel⟩, by decide +kernel⟩
abbrev KX8_pass (l : Launch) (D : DD) (h0 : AH) (v : Int32) : KT := (l, yX8_pass, cX8_pass, 3, (some .int), RX8, 1, D, h0, h0, .inl (some (.int v)), false, [])
theorem metX8_pass (l : Launch) (D : DD) {a0 : Nat} {a1 : Int32} {a2 : Int32} {h0 : AH} {v : Int32} (hr : fX8_pass a0 a1 a2 h0 = some v) : AMet (KX8_pass l D h0 v) [.ref a0, .int a1, .int a2] := by
  refine AMet.of (K := (KX8_pass l D h0 v)) rfl ⟨_, rfl⟩ rfl rfl rfl (Nat.le_of_ble_eq_true rfl) (fun ls hl => ?_)
  have hl : lv_has ls 3 [(0, .ref a0), (1, .int a1), (2, .int a2)] := hl
  suffices hsp : SP (fX8_pass a0 a1 a2 h0) (fun z => z = v) (AW (KX8_pass l D h0 v) h0 0 ls []) from hsp _ hr rfl
  unfold fX8_pass
  refine sp_m (aw_aload_n (pc := 0) dX8_pass_0 rfl (lv_at hl 0 rfl)) ?_
  refine sp_g fun s1 => ?_
  refine sp_b fun x2 ex2 => ?_
  refine sp_m (aw_get (k := 2) okX8 s1 (by decide) q486 (Or.inl rfl) (congrArg va_rf ex2) (pc := 1) dX8_pass_1) ?_
  refine sp_m (aw_bipush (v := 6) (pc := 4) dX8_pass_4 rfl) ?_
  refine sp_m (aw_iload_n (pc := 6) dX8_pass_6 rfl (lv_at hl 1 rfl)) ?_
  refine sp_m (aw_imul (pc := 7) dX8_pass_7) ?_
  refine sp_m (aw_iload_n (pc := 8) dX8_pass_8 rfl (lv_at hl 2 rfl)) ?_
  refine sp_m (aw_iadd (pc := 9) dX8_pass_9) ?_
  refine sp_g fun s3 => ?_
  refine sp_g fun i4 => ?_
  refine sp_m (aw_iald s3 i4 (pc := 10) dX8_pass_10) ?_
  exact sp_r fun hz => aw_iret (congrArg (fun z => (z, h0)) hz) rfl rfl rfl (pc := 11) dX8_pass_11
theorem mok_X8_lost : mOK yX8_lost 3 := ⟨⟨by decide +kernel, by decide +kernel⟩, by decide +kernel⟩
abbrev KX8_lost (l : Launch) (D : DD) (h0 : AH) (v : Int32) : KT := (l, yX8_lost, cX8_lost, 4, (some .int), RX8, 2, D, h0, h0, .inl (some (.int v)), false, [])
theorem metX8_lost (l : Launch) (D : DD) {a0 : Nat} {a1 : Int32} {a2 : Int32} {a3 : Int32} {h0 : AH} {v : Int32} (hr : fX8_lost a0 a1 a2 a3 h0 = some v) : AMet (KX8_lost l D h0 v) [.ref a0, .int a1, .int a2, .int a3] := by
  refine AMet.of (K := (KX8_lost l D h0 v)) rfl ⟨_, rfl⟩ rfl rfl rfl (Nat.le_of_ble_eq_true rfl) (fun ls hl => ?_)
  have hl : lv_has ls 4 [(0, .ref a0), (1, .int a1), (2, .int a2), (3, .int a3)] := hl
  suffices hsp : SP (fX8_lost a0 a1 a2 a3 h0) (fun z => z = v) (AW (KX8_lost l D h0 v) h0 0 ls []) from hsp _ hr rfl
  unfold fX8_lost
  refine sp_m (aw_iload_n (pc := 0) dX8_lost_0 rfl (lv_at hl 3 rfl)) ?_
  refine sp_m (aw_aload_n (pc := 1) dX8_lost_1 rfl (lv_at hl 0 rfl)) ?_
  refine sp_m (aw_iload_n (pc := 2) dX8_lost_2 rfl (lv_at hl 1 rfl)) ?_
  refine sp_m (aw_iload_n (pc := 3) dX8_lost_3 rfl (lv_at hl 2 rfl)) ?_
  refine sp_g fun s2 => ?_
  refine sp_b fun p1 ep1 => ?_
  refine sp_m (G' := AW (KX8_lost l D h0 v) h0 (7) ls (.int p1 :: .int a3 :: [])) (fun kk => aw_callV (As := [.int a1, .int a2]) (metX8_pass _ _ ep1) (rcv_o okX8 s2) rfl mok_X8_pass q1303 q913 q914 q126 q915 (Nat.le_of_ble_eq_true rfl) (Nat.le_of_ble_eq_true rfl) rfl hl.1 rfl (Nat.le_of_ble_eq_true rfl) (pc := 4) dX8_lost_4 kk) ?_
  refine sp_m (aw_iconst (v := 1) (pc := 7) dX8_lost_7 rfl) ?_
  refine sp_m (aw_isub (pc := 8) dX8_lost_8) ?_
  refine sp_m (aw_imul (pc := 9) dX8_lost_9) ?_
  refine sp_m (aw_bipush (v := 99) (pc := 10) dX8_lost_10 rfl) ?_
  refine sp_m (aw_iadd (pc := 12) dX8_lost_12) ?_
  refine sp_m (aw_bipush (v := 100) (pc := 13) dX8_lost_13 rfl) ?_
  refine sp_m (aw_idiv (pc := 15) dX8_lost_15 (by decide)) ?_
  exact sp_r fun hz => aw_iret (congrArg (fun z => (z, h0)) hz) rfl rfl rfl (pc := 16) dX8_lost_16
theorem mok_X6_comes : mOK yX6_comes 4 := ⟨⟨by decide +kernel, by decide +kernel⟩, by decide +kernel⟩
abbrev KX6_comes (n : Nat) (l : Launch) (D : DD) (h0 hE : AH) : KT := (l, yX6_comes, cX6_comes, 6, none, RX6, 3 + n, D, h0, hE, .inl (none), false, [])
theorem metX6_comes (n : Nat) (l : Launch) (D : DD)  : ∀ {a0 : Nat} {a1 : Int32} {a2 : Int32} {a3 : Int32} {a4 : Int32} (h0 : AH) {hE : AH}, fX6_comes n a0 a1 a2 a3 a4 h0 = some hE → AMet (KX6_comes n l D h0 hE) [.ref a0, .int a1, .int a2, .int a3, .int a4] := by
  induction n with
  | zero => intro a0 a1 a2 a3 a4 h0 hE hr; cases hr
  | succ n ih =>
    intro a0 a1 a2 a3 a4 h0 hE hr
    refine AMet.of (K := (KX6_comes (n + 1) l D h0 hE)) rfl ⟨_, rfl⟩ rfl rfl rfl (Nat.le_of_ble_eq_true rfl) (fun ls hl => ?_)
    have hl : lv_has ls 6 [(0, .ref a0), (1, .int a1), (2, .int a2), (3, .int a3), (4, .int a4)] := hl
    suffices hsp : SP (fX6_comes (n + 1) a0 a1 a2 a3 a4 h0) (fun z => z = hE) (AW (KX6_comes (n + 1) l D h0 hE) h0 0 ls []) from hsp _ hr rfl
    unfold fX6_comes
    refine sp_m (aw_aload_n (pc := 0) dX6_comes_0 rfl (lv_at hl 0 rfl)) ?_
    refine sp_g fun s1 => ?_
    refine sp_b fun x2 ex2 => ?_
    refine sp_m (aw_get (k := 0) okX6 s1 (by decide) q346 (Or.inl rfl) (congrArg va_rf ex2) (pc := 1) dX6_comes_1) ?_
    refine sp_m (aw_iload_n (pc := 4) dX6_comes_4 rfl (lv_at hl 1 rfl)) ?_
    refine sp_m (aw_iload_n (pc := 5) dX6_comes_5 rfl (lv_at hl 2 rfl)) ?_
    refine sp_g fun s3 => ?_
    refine sp_g fun i4 => ?_
    refine sp_t fun h5 eh50 => ?_
    have eh5 : gS h5 = gS h0 := by rw [eh50]; rfl
    refine sp_m (fun kk => aw_iast s3 i4 (pc := 6) dX6_comes_6 (AWe eh50 kk)) ?_
    refine sp_m (aw_iload_n (pc := 7) dX6_comes_7 rfl (lv_at hl 2 rfl)) ?_
    refine sp_m (aw_aload_n (pc := 8) dX6_comes_8 rfl (lv_at hl 0 rfl)) ?_
    refine sp_m (aw_get (k := 3) okX6 (uS eh5 s1) (by decide) q349 (Or.inl rfl) rfl (pc := 9) dX6_comes_9) ?_
    refine sp_if (fun c6 => ?_) (fun c6 => ?_)
    · refine sp_m (aw_icmp_ne_t (tgt := 54) (pc := 12) dX6_comes_12 (by decide) c6) ?_
      refine sp_m (aw_iconst (v := 0) (pc := 54) dX6_comes_54 rfl) ?_
      refine sp_m (aw_istore (lv' := [(5, .int 0), (0, .ref a0), (1, .int a1), (2, .int a2), (3, .int a3), (4, .int a4)]) (pc := 55) dX6_comes_55 hl (by decide) rfl) (sp_all fun ls hl => ?_)
      let P7 : Int32 × AH → Prop := aLP (KX6_comes (n + 1) l D h0 hE) 6 57 (fun s7v : Int32 × AH => [(0, .ref a0), (1, .int a1), (2, .int a2), (3, .int a3), (4, .int a4), (5, .int s7v.1)]) (fun s7v => s7v.2)
      let E7 : AH → Prop := aLP (KX6_comes (n + 1) l D h0 hE) 6 130 (fun r7v : AH => []) (fun r7v => r7v)
      refine sp_bl (P := P7) (E := E7) (fun s7v => sp_all fun ls hl => ?_) (fun k => k ls (lv_sub hl [1, 2, 3, 4, 5, 0] rfl)) (fun r7v => sp_all fun ls hl => ?_)
      · have hl : lv_has ls 6 [(0, .ref a0), (1, .int a1), (2, .int a2), (3, .int a3), (4, .int a4), (5, .int s7v.1)] := hl
        show SP _ _ (AW (KX6_comes (n + 1) l D h0 hE) s7v.2 57 ls [])
        unfold X6_comes_L57
        refine sp_m (aw_iload (pc := 57) dX6_comes_57 (lv_at hl 5 rfl)) ?_
        refine sp_m (aw_aload_n (pc := 59) dX6_comes_59 rfl (lv_at hl 0 rfl)) ?_
        refine sp_g fun s8 => ?_
        refine sp_b fun x9 ex9 => ?_
        refine sp_m (aw_get (k := 2) okX6 s8 (by decide) q348 (Or.inl rfl) (congrArg va_rf ex9) (pc := 60) dX6_comes_60) ?_
        refine sp_g fun s10 => ?_
        refine sp_m (aw_get (k := 9) okX8 s10 (by decide) q508 (Or.inl rfl) rfl (pc := 63) dX6_comes_63) ?_
        refine sp_if (fun c11 => ?_) (fun c11 => ?_)
        · refine sp_m (aw_icmp_ge_t (tgt := 130) (pc := 66) dX6_comes_66 (by decide) c11) ?_
          exact sp_r fun hz => hz ls (lv_sub hl [] rfl)
        · refine sp_m (aw_icmp_ge_f (tgt := 130) (pc := 66) dX6_comes_66 (by decide) c11) ?_
          refine sp_m (aw_iload_n (pc := 69) dX6_comes_69 rfl (lv_at hl 3 rfl)) ?_
          refine sp_m (aw_iload (pc := 70) dX6_comes_70 (lv_at hl 5 rfl)) ?_
          refine sp_b fun p12 ep12 => ?_
          refine sp_m (G' := AW (KX6_comes (n + 1) l D h0 hE) s7v.2 (75) ls (.int p12 :: [])) (fun kk => aw_callSN (As := [.int a3, .int s7v.1]) (host := "ElephantLine") (metX1_has _ _ ep12) mok_X1_has nq1297 q968 q116 q969 (by show _ ≤ 3 + (n + 1); omega) (Nat.le_of_ble_eq_true rfl) rfl hl.1 rfl (Nat.le_of_ble_eq_true rfl) (pc := 72) dX6_comes_72 kk) ?_
          have hj124_1 : ∀ h13 : AH, ∀ ls : Array Slot, lv_has ls 6 [(0, .ref a0), (1, .int a1), (2, .int a2), (3, .int a3), (4, .int a4), (5, .int s7v.1)] → SP (X6_comes_j124 (fX6_comes n) s7v h13) (ZL P7 E7) (AW (KX6_comes (n + 1) l D h0 hE) h13 124 ls ([])) := by
            intro h13 ls hl
            unfold X6_comes_j124
            refine sp_m (aw_iinc (v := s7v.1 + 1) (lv' := [(5, .int (s7v.1 + 1)), (0, .ref a0), (1, .int a1), (2, .int a2), (3, .int a3), (4, .int a4)]) (pc := 124) dX6_comes_124 hl (k := 5) rfl rfl (by decide) rfl) (sp_all fun ls hl => ?_)
            refine sp_m (aw_goto (tgt := 57) (pc := 127) dX6_comes_127 (by decide)) ?_
            exact sp_r fun hz => hz ls (lv_sub hl [1, 2, 3, 4, 5, 0] rfl)
          refine sp_if (fun c14 => ?_) (fun c14 => ?_)
          · refine sp_m (aw_if_ne_t (tgt := 124) (pc := 75) dX6_comes_75 (by decide) c14) ?_
            exact hj124_1 s7v.2 ls (lv_sub hl [0, 1, 2, 3, 4, 5] rfl)
          · refine sp_m (aw_if_ne_f (tgt := 124) (pc := 75) dX6_comes_75 (by decide) (Decidable.not_not.mp c14)) ?_
            refine sp_m (aw_aload_n (pc := 78) dX6_comes_78 rfl (lv_at hl 0 rfl)) ?_
            refine sp_b fun x15 ex15 => ?_
            refine sp_m (aw_get (k := 2) okX6 s8 (by decide) q348 (Or.inl rfl) (congrArg va_rf ex15) (pc := 79) dX6_comes_79) ?_
            refine sp_m (aw_iload_n (pc := 82) dX6_comes_82 rfl (lv_at hl 2 rfl)) ?_
            refine sp_m (aw_iload (pc := 83) dX6_comes_83 (lv_at hl 5 rfl)) ?_
            refine sp_g fun s17 => ?_
            refine sp_b fun p16 ep16 => ?_
            refine sp_m (G' := AW (KX6_comes (n + 1) l D h0 hE) s7v.2 (88) ls (.int p16 :: [])) (fun kk => aw_callV (As := [.int a2, .int s7v.1]) (metX8_pass _ _ ep16) (rcv_o okX8 s17) rfl mok_X8_pass q1298 q913 q914 q126 q915 (by show _ ≤ 3 + (n + 1); omega) (Nat.le_of_ble_eq_true rfl) rfl hl.1 rfl (Nat.le_of_ble_eq_true rfl) (pc := 85) dX6_comes_85 kk) ?_
            refine sp_if (fun c18 => ?_) (fun c18 => ?_)
            · refine sp_m (aw_if_ne_t (tgt := 94) (pc := 88) dX6_comes_88 (by decide) c18) ?_
              refine sp_m (aw_aload_n (pc := 94) dX6_comes_94 rfl (lv_at hl 0 rfl)) ?_
              refine sp_m (aw_iload_n (pc := 95) dX6_comes_95 rfl (lv_at hl 1 rfl)) ?_
              refine sp_m (aw_iconst (v := 1) (pc := 96) dX6_comes_96 rfl) ?_
              refine sp_m (aw_iadd (pc := 97) dX6_comes_97) ?_
              refine sp_m (aw_iload (pc := 98) dX6_comes_98 (lv_at hl 5 rfl)) ?_
              refine sp_m (aw_iload_n (pc := 100) dX6_comes_100 rfl (lv_at hl 3 rfl)) ?_
              refine sp_m (aw_iconst (v := 1) (pc := 101) dX6_comes_101 rfl) ?_
              refine sp_m (aw_iload (pc := 102) dX6_comes_102 (lv_at hl 5 rfl)) ?_
              refine sp_m (aw_ishl (pc := 104) dX6_comes_104) ?_
              refine sp_m (aw_ior (pc := 105) dX6_comes_105) ?_
              refine sp_m (aw_iload (pc := 106) dX6_comes_106 (lv_at hl 4 rfl)) ?_
              refine sp_m (aw_aload_n (pc := 108) dX6_comes_108 rfl (lv_at hl 0 rfl)) ?_
              refine sp_b fun x19 ex19 => ?_
              refine sp_m (aw_get (k := 2) okX6 s8 (by decide) q348 (Or.inl rfl) (congrArg va_rf ex19) (pc := 109) dX6_comes_109) ?_
              refine sp_m (aw_iload_n (pc := 112) dX6_comes_112 rfl (lv_at hl 2 rfl)) ?_
              refine sp_m (aw_iload (pc := 113) dX6_comes_113 (lv_at hl 5 rfl)) ?_
              refine sp_m (aw_iload (pc := 115) dX6_comes_115 (lv_at hl 4 rfl)) ?_
              refine sp_g fun s21 => ?_
              refine sp_b fun p20 ep20 => ?_
              refine sp_m (G' := AW (KX6_comes (n + 1) l D h0 hE) s7v.2 (120) ls (.int p20 :: .int a4 :: .int (a3 ||| (1 <<< (s7v.1 &&& 31))) :: .int s7v.1 :: .int (a1 + 1) :: .ref a0 :: [])) (fun kk => aw_callV (As := [.int a2, .int s7v.1, .int a4]) (metX8_lost _ _ ep20) (rcv_o okX8 s21) rfl mok_X8_lost q1299 q1300 q1301 q126 q1302 (by show _ ≤ 3 + (n + 1); omega) (Nat.le_of_ble_eq_true rfl) rfl hl.1 rfl (Nat.le_of_ble_eq_true rfl) (pc := 117) dX6_comes_117 kk) ?_
              refine sp_m (aw_isub (pc := 120) dX6_comes_120) ?_
              refine sp_b fun p22 ep22 => ?_
              refine sp_m (G' := AW (KX6_comes (n + 1) l D h0 hE) p22 (124) ls ([])) (fun kk => aw_callV (As := [.int (a1 + 1), .int s7v.1, .int (a3 ||| (1 <<< (s7v.1 &&& 31))), .int (a4 - p20)]) (ih _ ep22) (rcv_o okX6 s8) rfl mok_X6_comes q1292 q1294 qs42 q124 q1295 (Nat.le_refl _) (Nat.le_of_ble_eq_true rfl) rfl hl.1 rfl (Nat.le_of_ble_eq_true rfl) (pc := 121) dX6_comes_121 kk) ?_
              exact hj124_1 p22 ls (lv_sub hl [0, 1, 2, 3, 4, 5] rfl)
            · refine sp_m (aw_if_ne_f (tgt := 94) (pc := 88) dX6_comes_88 (by decide) (Decidable.not_not.mp c18)) ?_
              refine sp_m (aw_goto (tgt := 124) (pc := 91) dX6_comes_91 (by decide)) ?_
              exact hj124_1 s7v.2 ls (lv_sub hl [0, 1, 2, 3, 4, 5] rfl)
      · have hl : lv_has ls 6 [] := hl
        show SP _ _ (AW (KX6_comes (n + 1) l D h0 hE) r7v 130 ls [])
        exact sp_r fun hz => aw_vret hz rfl rfl rfl (pc := 130) dX6_comes_130
    · refine sp_m (aw_icmp_ne_f (tgt := 54) (pc := 12) dX6_comes_12 (by decide) (Decidable.not_not.mp c6)) ?_
      refine sp_m (aw_iload (pc := 15) dX6_comes_15 (lv_at hl 4 rfl)) ?_
      refine sp_m (aw_aload_n (pc := 17) dX6_comes_17 rfl (lv_at hl 0 rfl)) ?_
      refine sp_m (aw_get (k := 4) okX6 (uS eh5 s1) (by decide) q350 (Or.inl rfl) rfl (pc := 18) dX6_comes_18) ?_
      refine sp_if (fun c23 => ?_) (fun c23 => ?_)
      · refine sp_m (aw_icmp_gt_t (tgt := 25) (pc := 21) dX6_comes_21 (by decide) c23) ?_
        refine sp_m (aw_aload_n (pc := 25) dX6_comes_25 rfl (lv_at hl 0 rfl)) ?_
        refine sp_m (aw_iload (pc := 26) dX6_comes_26 (lv_at hl 4 rfl)) ?_
        refine sp_t fun h24 eh240 => ?_
        have eh24 : gS h24 = gS h5 := by rw [eh240]; rfl
        refine sp_m (aw_put (k := 4) okX6 opX6 (uS eh5 s1) (by decide) q350 (Or.inl rfl) (Or.inl rfl) (hasV_I' eh240) rfl rfl (pc := 28) dX6_comes_28) ?_
        refine sp_m (aw_aload_n (pc := 31) dX6_comes_31 rfl (lv_at hl 0 rfl)) ?_
        refine sp_m (aw_iload_n (pc := 32) dX6_comes_32 rfl (lv_at hl 1 rfl)) ?_
        refine sp_m (aw_iconst (v := 1) (pc := 33) dX6_comes_33 rfl) ?_
        refine sp_m (aw_iadd (pc := 34) dX6_comes_34) ?_
        refine sp_t fun h25 eh250 => ?_
        have eh25 : gS h25 = gS h24 := by rw [eh250]; rfl
        refine sp_m (aw_put (k := 5) okX6 opX6 (uS eh24 (uS eh5 s1)) (by decide) q351 (Or.inl rfl) (Or.inl rfl) (hasV_I' eh250) rfl rfl (pc := 35) dX6_comes_35) ?_
        refine sp_m (aw_aload_n (pc := 38) dX6_comes_38 rfl (lv_at hl 0 rfl)) ?_
        refine sp_b fun x26 ex26 => ?_
        refine sp_m (aw_get (k := 0) okX6 (uS eh25 (uS eh24 (uS eh5 s1))) (by decide) q346 (Or.inl rfl) (congrArg va_rf ex26) (pc := 39) dX6_comes_39) ?_
        refine sp_m (aw_iconst (v := 0) (pc := 42) dX6_comes_42 rfl) ?_
        refine sp_m (aw_aload_n (pc := 43) dX6_comes_43 rfl (lv_at hl 0 rfl)) ?_
        refine sp_b fun x27 ex27 => ?_
        refine sp_m (aw_get (k := 1) okX6 (uS eh25 (uS eh24 (uS eh5 s1))) (by decide) q347 (Or.inl rfl) (congrArg va_rf ex27) (pc := 44) dX6_comes_44) ?_
        refine sp_m (aw_iconst (v := 0) (pc := 47) dX6_comes_47 rfl) ?_
        refine sp_m (aw_bipush (v := 6) (pc := 48) dX6_comes_48 rfl) ?_
        refine sp_g fun s28 => ?_
        refine sp_g fun s29 => ?_
        refine sp_g fun g30a => ?_
        refine sp_g fun g30b => ?_
        refine sp_t fun h31 eh310 => ?_
        have eh31 : gS h31 = gS h25 := by rw [eh310]; rfl
        refine sp_m (fun kk => aw_copy hl.1 s28 s29 (by decide) (by decide) (by decide) g30a g30b q1296 q928 q927 q143 (Nat.le_of_ble_eq_true rfl) rfl (pc := 50) dX6_comes_50 (AWe eh310 kk)) ?_
        exact sp_r fun hz => aw_vret hz rfl rfl rfl (pc := 53) dX6_comes_53
      · refine sp_m (aw_icmp_gt_f (tgt := 25) (pc := 21) dX6_comes_21 (by decide) c23) ?_
        exact sp_r fun hz => aw_vret hz rfl rfl rfl (pc := 24) dX6_comes_24
theorem mok_X6_seek : mOK yX6_seek 4 := ⟨⟨by decide +kernel, by decide +kernel⟩, by decide +kernel⟩
abbrev KX6_seek (l : Launch) (D : DD) (h0 hE : AH) (v : Int32) : KT := (l, yX6_seek, cX6_seek, 5, (some .int), RX6, 12, D, h0, hE, .inl (some (.int v)), false, [])
theorem metX6_seek (l : Launch) (D : DD) {a0 : Nat} {a1 : Nat} {a2 : Int32} {a3 : Int32} {a4 : Int32} {h0 : AH} {hE : AH} {v : Int32} (hr : fX6_seek a0 a1 a2 a3 a4 h0 = some (v, hE)) : AMet (KX6_seek l D h0 hE v) [.ref a0, .ref a1, .int a2, .int a3, .int a4] := by
  refine AMet.of (K := (KX6_seek l D h0 hE v)) rfl ⟨_, rfl⟩ rfl rfl rfl (Nat.le_of_ble_eq_true rfl) (fun ls hl => ?_)
  have hl : lv_has ls 5 [(0, .ref a0), (1, .ref a1), (2, .int a2), (3, .int a3), (4, .int a4)] := hl
  suffices hsp : SP (fX6_seek a0 a1 a2 a3 a4 h0) (fun z => z = (v, hE)) (AW (KX6_seek l D h0 hE v) h0 0 ls []) from hsp _ hr rfl
  unfold fX6_seek
  refine sp_m (aw_aload_n (pc := 0) dX6_seek_0 rfl (lv_at hl 0 rfl)) ?_
  refine sp_m (aw_aload_n (pc := 1) dX6_seek_1 rfl (lv_at hl 1 rfl)) ?_
  refine sp_g fun s1 => ?_
  refine sp_t fun h2 eh20 => ?_
  have eh2 : gS h2 = gS h0 := by rw [eh20]; rfl
  refine sp_m (aw_put (k := 2) okX6 opX6 s1 (by decide) q348 (Or.inl rfl) (Or.inl rfl) (hasV_R' eh20) rfl rfl (pc := 2) dX6_seek_2) ?_
  refine sp_m (aw_aload_n (pc := 5) dX6_seek_5 rfl (lv_at hl 0 rfl)) ?_
  refine sp_m (aw_iload_n (pc := 6) dX6_seek_6 rfl (lv_at hl 3 rfl)) ?_
  refine sp_t fun h3 eh30 => ?_
  have eh3 : gS h3 = gS h2 := by rw [eh30]; rfl
  refine sp_m (aw_put (k := 3) okX6 opX6 (uS eh2 s1) (by decide) q349 (Or.inl rfl) (Or.inl rfl) (hasV_I' eh30) rfl rfl (pc := 7) dX6_seek_7) ?_
  refine sp_m (aw_aload_n (pc := 10) dX6_seek_10 rfl (lv_at hl 0 rfl)) ?_
  refine sp_m (aw_bipush (v := (-2)) (pc := 11) dX6_seek_11 rfl) ?_
  refine sp_t fun h4 eh40 => ?_
  have eh4 : gS h4 = gS h3 := by rw [eh40]; rfl
  refine sp_m (aw_put (k := 4) okX6 opX6 (uS eh3 (uS eh2 s1)) (by decide) q350 (Or.inl rfl) (Or.inl rfl) (hasV_I' eh40) rfl rfl (pc := 13) dX6_seek_13) ?_
  refine sp_m (aw_aload_n (pc := 16) dX6_seek_16 rfl (lv_at hl 0 rfl)) ?_
  refine sp_m (aw_iconst (v := 0) (pc := 17) dX6_seek_17 rfl) ?_
  refine sp_t fun h5 eh50 => ?_
  have eh5 : gS h5 = gS h4 := by rw [eh50]; rfl
  refine sp_m (aw_put (k := 5) okX6 opX6 (uS eh4 (uS eh3 (uS eh2 s1))) (by decide) q351 (Or.inl rfl) (Or.inl rfl) (hasV_I' eh50) rfl rfl (pc := 18) dX6_seek_18) ?_
  refine sp_m (aw_aload_n (pc := 21) dX6_seek_21 rfl (lv_at hl 0 rfl)) ?_
  refine sp_m (aw_iconst (v := 0) (pc := 22) dX6_seek_22 rfl) ?_
  refine sp_m (aw_iload_n (pc := 23) dX6_seek_23 rfl (lv_at hl 2 rfl)) ?_
  refine sp_m (aw_iconst (v := 1) (pc := 24) dX6_seek_24 rfl) ?_
  refine sp_m (aw_iload_n (pc := 25) dX6_seek_25 rfl (lv_at hl 2 rfl)) ?_
  refine sp_m (aw_ishl (pc := 26) dX6_seek_26) ?_
  refine sp_m (aw_iload (pc := 27) dX6_seek_27 (lv_at hl 4 rfl)) ?_
  refine sp_b fun p6 ep6 => ?_
  refine sp_m (G' := AW (KX6_seek l D h0 hE v) p6 (32) ls ([])) (fun kk => aw_callV (As := [.int 0, .int a2, .int (1 <<< (a2 &&& 31)), .int a4]) (metX6_comes _ _ _ _ ep6) (rcv_o okX6 (uS eh5 (uS eh4 (uS eh3 (uS eh2 s1))))) rfl mok_X6_comes q1292 q1294 qs42 q124 q1295 (Nat.le_of_ble_eq_true rfl) (Nat.le_of_ble_eq_true rfl) rfl hl.1 rfl (Nat.le_of_ble_eq_true rfl) (pc := 29) dX6_seek_29 kk) ?_
  refine sp_m (aw_aload_n (pc := 32) dX6_seek_32 rfl (lv_at hl 0 rfl)) ?_
  refine sp_g fun s7 => ?_
  refine sp_m (aw_get (k := 4) okX6 s7 (by decide) q350 (Or.inl rfl) rfl (pc := 33) dX6_seek_33) ?_
  exact sp_r fun hz => aw_iret hz rfl rfl rfl (pc := 36) dX6_seek_36
theorem mok_X1_march : mOK yX1_march 3 := ⟨⟨by decide +kernel, by decide +kernel⟩, by decide +kernel⟩
abbrev KX1_march (l : Launch) (D : DD) (h0 hE : AH) (v : Int32) : KT := (l, yX1_march, cX1_march, 5, (some .int), RX1, 13, D, h0, hE, .inl (some (.int v)), false, [])
theorem metX1_march (l : Launch) (D : DD) {a0 : Nat} {a1 : Int32} {a2 : Int32} {a3 : Int32} {h0 : AH} {hE : AH} {v : Int32} (hr : fX1_march a0 a1 a2 a3 h0 = some (v, hE)) : AMet (KX1_march l D h0 hE v) [.ref a0, .int a1, .int a2, .int a3] := by
  refine AMet.of (K := (KX1_march l D h0 hE v)) rfl ⟨_, rfl⟩ rfl rfl rfl (Nat.le_of_ble_eq_true rfl) (fun ls hl => ?_)
  have hl : lv_has ls 5 [(0, .ref a0), (1, .int a1), (2, .int a2), (3, .int a3)] := hl
  suffices hsp : SP (fX1_march a0 a1 a2 a3 h0) (fun z => z = (v, hE)) (AW (KX1_march l D h0 hE v) h0 0 ls []) from hsp _ hr rfl
  unfold fX1_march
  refine sp_m (aw_aload_n (pc := 0) dX1_march_0 rfl (lv_at hl 0 rfl)) ?_
  refine sp_g fun s2 => ?_
  refine sp_b fun p1 ep1 => ?_
  refine sp_m (G' := AW (KX1_march l D h0 hE v) p1 (4) ls ([])) (fun kk => aw_callV (As := []) (metX1_anew _ _ ep1) (rcv_o okX1 s2) rfl mok_X1_anew q452 q454 qs2 q116 q455 (Nat.le_of_ble_eq_true rfl) (Nat.le_of_ble_eq_true rfl) rfl hl.1 rfl (Nat.le_of_ble_eq_true rfl) (pc := 1) dX1_march_1 kk) ?_
  refine sp_m (aw_aload_n (pc := 4) dX1_march_4 rfl (lv_at hl 0 rfl)) ?_
  refine sp_m (aw_iload_n (pc := 5) dX1_march_5 rfl (lv_at hl 1 rfl)) ?_
  refine sp_m (aw_iload_n (pc := 6) dX1_march_6 rfl (lv_at hl 2 rfl)) ?_
  refine sp_m (aw_iload_n (pc := 7) dX1_march_7 rfl (lv_at hl 3 rfl)) ?_
  refine sp_g fun s4 => ?_
  refine sp_b fun p3 ep3 => ?_
  refine sp_m (G' := AW (KX1_march l D h0 hE v) p1 (11) ls (.int p3 :: [])) (fun kk => aw_callV (As := [.int a1, .int a2, .int a3]) (metX1_marchWhy _ _ ep3) (rcv_o okX1 s4) rfl mok_X1_marchWhy q1280 q1282 qs40 q116 q1283 (Nat.le_of_ble_eq_true rfl) (Nat.le_of_ble_eq_true rfl) rfl hl.1 rfl (Nat.le_of_ble_eq_true rfl) (pc := 8) dX1_march_8 kk) ?_
  refine sp_m (aw_istore (lv' := [(4, .int p3), (0, .ref a0), (1, .int a1), (2, .int a2), (3, .int a3)]) (pc := 11) dX1_march_11 hl (by decide) rfl) (sp_all fun ls hl => ?_)
  refine sp_m (aw_iload (pc := 13) dX1_march_13 (lv_at hl 0 rfl)) ?_
  refine sp_if (fun c5 => ?_) (fun c5 => ?_)
  · refine sp_m (aw_if_eq_t (tgt := 27) (pc := 15) dX1_march_15 (by decide) c5) ?_
    refine sp_m (aw_aload_n (pc := 27) dX1_march_27 rfl (lv_at hl 1 rfl)) ?_
    refine sp_b fun x6 ex6 => ?_
    refine sp_m (aw_get (k := 13) okX1 s4 (by decide) q379 (Or.inl rfl) (congrArg va_rf ex6) (pc := 28) dX1_march_28) ?_
    refine sp_m (aw_aload_n (pc := 31) dX1_march_31 rfl (lv_at hl 1 rfl)) ?_
    refine sp_b fun x7 ex7 => ?_
    refine sp_m (aw_get (k := 3) okX1 s4 (by decide) q369 (Or.inl rfl) (congrArg va_rf ex7) (pc := 32) dX1_march_32) ?_
    refine sp_m (aw_iload_n (pc := 35) dX1_march_35 rfl (lv_at hl 2 rfl)) ?_
    refine sp_m (aw_iload_n (pc := 36) dX1_march_36 rfl (lv_at hl 3 rfl)) ?_
    refine sp_m (aw_iload_n (pc := 37) dX1_march_37 rfl (lv_at hl 4 rfl)) ?_
    refine sp_g fun s9 => ?_
    refine sp_b fun p8 ep8 => ?_
    refine sp_m (G' := AW (KX1_march l D h0 hE v) p8.2 (41) ls (.int p8.1 :: [])) (fun kk => aw_callV (As := [.ref x7, .int a1, .int a2, .int a3]) (metX6_seek _ _ ep8) (rcv_o okX6 s9) rfl mok_X6_seek q1288 q1289 q1290 q124 q1291 (Nat.le_of_ble_eq_true rfl) (Nat.le_of_ble_eq_true rfl) rfl hl.1 rfl (Nat.le_of_ble_eq_true rfl) (pc := 38) dX1_march_38 kk) ?_
    exact sp_r fun hz => aw_iret hz rfl rfl rfl (pc := 41) dX1_march_41
  · refine sp_m (aw_if_eq_f (tgt := 27) (pc := 15) dX1_march_15 (by decide) c5) ?_
    refine sp_m (aw_aload_n (pc := 18) dX1_march_18 rfl (lv_at hl 1 rfl)) ?_
    refine sp_m (aw_iload (pc := 19) dX1_march_19 (lv_at hl 0 rfl)) ?_
    refine sp_b fun p10 ep10 => ?_
    refine sp_m (G' := AW (KX1_march l D h0 hE v) p10.2 (24) ls (.int p10.1 :: [])) (fun kk => aw_callV (As := [.int p3]) (metX1_no _ _ ep10) (rcv_o okX1 s4) rfl mok_X1_no q459 q461 qs3 q116 q462 (Nat.le_of_ble_eq_true rfl) (Nat.le_of_ble_eq_true rfl) rfl hl.1 rfl (Nat.le_of_ble_eq_true rfl) (pc := 21) dX1_march_21 kk) ?_
    refine sp_m (aw_goto (tgt := 41) (pc := 24) dX1_march_24 (by decide)) ?_
    exact sp_r fun hz => aw_iret hz rfl rfl rfl (pc := 41) dX1_march_41
theorem mok_X6_at : mOK yX6_at 1 := ⟨⟨by decide +kernel, by decide +kernel⟩, by decide +kernel⟩
abbrev KX6_at (l : Launch) (D : DD) (h0 : AH) (v : Int32) : KT := (l, yX6_at, cX6_at, 2, (some .int), RX6, 1, D, h0, h0, .inl (some (.int v)), false, [])
theorem metX6_at (l : Launch) (D : DD) {a0 : Nat} {a1 : Int32} {h0 : AH} {v : Int32} (hr : fX6_at a0 a1 h0 = some v) : AMet (KX6_at l D h0 v) [.ref a0, .int a1] := by
  refine AMet.of (K := (KX6_at l D h0 v)) rfl ⟨_, rfl⟩ rfl rfl rfl (Nat.le_of_ble_eq_true rfl) (fun ls hl => ?_)
  have hl : lv_has ls 2 [(0, .ref a0), (1, .int a1)] := hl
  suffices hsp : SP (fX6_at a0 a1 h0) (fun z => z = v) (AW (KX6_at l D h0 v) h0 0 ls []) from hsp _ hr rfl
  unfold fX6_at
  refine sp_m (aw_aload_n (pc := 0) dX6_at_0 rfl (lv_at hl 0 rfl)) ?_
  refine sp_g fun s1 => ?_
  refine sp_b fun x2 ex2 => ?_
  refine sp_m (aw_get (k := 1) okX6 s1 (by decide) q347 (Or.inl rfl) (congrArg va_rf ex2) (pc := 1) dX6_at_1) ?_
  refine sp_m (aw_iload_n (pc := 4) dX6_at_4 rfl (lv_at hl 1 rfl)) ?_
  refine sp_g fun s3 => ?_
  refine sp_g fun i4 => ?_
  refine sp_m (aw_iald s3 i4 (pc := 5) dX6_at_5) ?_
  exact sp_r fun hz => aw_iret (congrArg (fun z => (z, h0)) hz) rfl rfl rfl (pc := 6) dX6_at_6
theorem mok_X6_size : mOK yX6_size 0 := ⟨⟨by decide +kernel, by decide +kernel⟩, by decide +kernel⟩
abbrev KX6_size (l : Launch) (D : DD) (h0 : AH) (v : Int32) : KT := (l, yX6_size, cX6_size, 1, (some .int), RX6, 1, D, h0, h0, .inl (some (.int v)), false, [])
theorem metX6_size (l : Launch) (D : DD) {a0 : Nat} {h0 : AH} {v : Int32} (hr : fX6_size a0 h0 = some v) : AMet (KX6_size l D h0 v) [.ref a0] := by
  refine AMet.of (K := (KX6_size l D h0 v)) rfl ⟨_, rfl⟩ rfl rfl rfl (Nat.le_of_ble_eq_true rfl) (fun ls hl => ?_)
  have hl : lv_has ls 1 [(0, .ref a0)] := hl
  suffices hsp : SP (fX6_size a0 h0) (fun z => z = v) (AW (KX6_size l D h0 v) h0 0 ls []) from hsp _ hr rfl
  unfold fX6_size
  refine sp_m (aw_aload_n (pc := 0) dX6_size_0 rfl (lv_at hl 0 rfl)) ?_
  refine sp_g fun s1 => ?_
  refine sp_m (aw_get (k := 5) okX6 s1 (by decide) q351 (Or.inl rfl) rfl (pc := 1) dX6_size_1) ?_
  exact sp_r fun hz => aw_iret (congrArg (fun z => (z, h0)) hz) rfl rfl rfl (pc := 4) dX6_size_4
theorem mok_X1_marchAt : mOK yX1_marchAt 4 := ⟨⟨by decide +kernel, by decide +kernel⟩, by decide +kernel⟩
abbrev KX1_marchAt (l : Launch) (D : DD) (h0 hE : AH) (v : Int32) : KT := (l, yX1_marchAt, cX1_marchAt, 6, (some .int), RX1, 13, D, h0, hE, .inl (some (.int v)), false, [])
theorem metX1_marchAt (l : Launch) (D : DD) {a0 : Nat} {a1 : Int32} {a2 : Int32} {a3 : Int32} {a4 : Int32} {h0 : AH} {hE : AH} {v : Int32} (hr : fX1_marchAt a0 a1 a2 a3 a4 h0 = some (v, hE)) : AMet (KX1_marchAt l D h0 hE v) [.ref a0, .int a1, .int a2, .int a3, .int a4] := by
  refine AMet.of (K := (KX1_marchAt l D h0 hE v)) rfl ⟨_, rfl⟩ rfl rfl rfl (Nat.le_of_ble_eq_true rfl) (fun ls hl => ?_)
  have hl : lv_has ls 6 [(0, .ref a0), (1, .int a1), (2, .int a2), (3, .int a3), (4, .int a4)] := hl
  suffices hsp : SP (fX1_marchAt a0 a1 a2 a3 a4 h0) (fun z => z = (v, hE)) (AW (KX1_marchAt l D h0 hE v) h0 0 ls []) from hsp _ hr rfl
  unfold fX1_marchAt
  refine sp_m (aw_aload_n (pc := 0) dX1_marchAt_0 rfl (lv_at hl 0 rfl)) ?_
  refine sp_g fun s2 => ?_
  refine sp_b fun p1 ep1 => ?_
  refine sp_m (G' := AW (KX1_marchAt l D h0 hE v) p1 (4) ls ([])) (fun kk => aw_callV (As := []) (metX1_anew _ _ ep1) (rcv_o okX1 s2) rfl mok_X1_anew q452 q454 qs2 q116 q455 (Nat.le_of_ble_eq_true rfl) (Nat.le_of_ble_eq_true rfl) rfl hl.1 rfl (Nat.le_of_ble_eq_true rfl) (pc := 1) dX1_marchAt_1 kk) ?_
  refine sp_m (aw_aload_n (pc := 4) dX1_marchAt_4 rfl (lv_at hl 0 rfl)) ?_
  refine sp_m (aw_iload_n (pc := 5) dX1_marchAt_5 rfl (lv_at hl 1 rfl)) ?_
  refine sp_m (aw_iload_n (pc := 6) dX1_marchAt_6 rfl (lv_at hl 2 rfl)) ?_
  refine sp_m (aw_iload_n (pc := 7) dX1_marchAt_7 rfl (lv_at hl 3 rfl)) ?_
  refine sp_g fun s4 => ?_
  refine sp_b fun p3 ep3 => ?_
  refine sp_m (G' := AW (KX1_marchAt l D h0 hE v) p1 (11) ls (.int p3 :: [])) (fun kk => aw_callV (As := [.int a1, .int a2, .int a3]) (metX1_marchWhy _ _ ep3) (rcv_o okX1 s4) rfl mok_X1_marchWhy q1280 q1282 qs40 q116 q1283 (Nat.le_of_ble_eq_true rfl) (Nat.le_of_ble_eq_true rfl) rfl hl.1 rfl (Nat.le_of_ble_eq_true rfl) (pc := 8) dX1_marchAt_8 kk) ?_
  refine sp_m (aw_istore (lv' := [(5, .int p3), (0, .ref a0), (1, .int a1), (2, .int a2), (3, .int a3), (4, .int a4)]) (pc := 11) dX1_marchAt_11 hl (by decide) rfl) (sp_all fun ls hl => ?_)
  refine sp_m (aw_iload (pc := 13) dX1_marchAt_13 (lv_at hl 0 rfl)) ?_
  refine sp_if (fun c5 => ?_) (fun c5 => ?_)
  · refine sp_m (aw_if_eq_t (tgt := 25) (pc := 15) dX1_marchAt_15 (by decide) c5) ?_
    refine sp_m (aw_aload_n (pc := 25) dX1_marchAt_25 rfl (lv_at hl 1 rfl)) ?_
    refine sp_b fun x6 ex6 => ?_
    refine sp_m (aw_get (k := 13) okX1 s4 (by decide) q379 (Or.inl rfl) (congrArg va_rf ex6) (pc := 26) dX1_marchAt_26) ?_
    refine sp_m (aw_aload_n (pc := 29) dX1_marchAt_29 rfl (lv_at hl 1 rfl)) ?_
    refine sp_b fun x7 ex7 => ?_
    refine sp_m (aw_get (k := 3) okX1 s4 (by decide) q369 (Or.inl rfl) (congrArg va_rf ex7) (pc := 30) dX1_marchAt_30) ?_
    refine sp_m (aw_iload_n (pc := 33) dX1_marchAt_33 rfl (lv_at hl 2 rfl)) ?_
    refine sp_m (aw_iload_n (pc := 34) dX1_marchAt_34 rfl (lv_at hl 3 rfl)) ?_
    refine sp_m (aw_iload_n (pc := 35) dX1_marchAt_35 rfl (lv_at hl 4 rfl)) ?_
    refine sp_g fun s9 => ?_
    refine sp_b fun p8 ep8 => ?_
    refine sp_m (G' := AW (KX1_marchAt l D h0 hE v) p8.2 (39) ls (.int p8.1 :: [])) (fun kk => aw_callV (As := [.ref x7, .int a1, .int a2, .int a3]) (metX6_seek _ _ ep8) (rcv_o okX6 s9) rfl mok_X6_seek q1288 q1289 q1290 q124 q1291 (Nat.le_of_ble_eq_true rfl) (Nat.le_of_ble_eq_true rfl) rfl hl.1 rfl (Nat.le_of_ble_eq_true rfl) (pc := 36) dX1_marchAt_36 kk) ?_
    refine sp_m (aw_pop (pc := 39) dX1_marchAt_39 rfl) ?_
    refine sp_m (aw_iload (pc := 40) dX1_marchAt_40 (lv_at hl 5 rfl)) ?_
    refine sp_m (aw_iconst (v := 0) (pc := 42) dX1_marchAt_42 rfl) ?_
    refine sp_m (aw_aload_n (pc := 43) dX1_marchAt_43 rfl (lv_at hl 1 rfl)) ?_
    refine sp_g fun s10 => ?_
    refine sp_b fun x11 ex11 => ?_
    refine sp_m (aw_get (k := 13) okX1 s10 (by decide) q379 (Or.inl rfl) (congrArg va_rf ex11) (pc := 44) dX1_marchAt_44) ?_
    refine sp_g fun s13 => ?_
    refine sp_b fun p12 ep12 => ?_
    refine sp_m (G' := AW (KX1_marchAt l D h0 hE v) p8.2 (50) ls (.int p12 :: .int 0 :: .int a4 :: [])) (fun kk => aw_callV (As := []) (metX6_size _ _ ep12) (rcv_o okX6 s13) rfl mok_X6_size q1308 q1309 q1310 q124 q1311 (Nat.le_of_ble_eq_true rfl) (Nat.le_of_ble_eq_true rfl) rfl hl.1 rfl (Nat.le_of_ble_eq_true rfl) (pc := 47) dX1_marchAt_47 kk) ?_
    refine sp_m (aw_iconst (v := 1) (pc := 50) dX1_marchAt_50 rfl) ?_
    refine sp_m (aw_isub (pc := 51) dX1_marchAt_51) ?_
    refine sp_b fun p14 ep14 => ?_
    refine sp_m (G' := AW (KX1_marchAt l D h0 hE v) p8.2 (55) ls (.int p14 :: [])) (fun kk => aw_callS (As := [.int a4, .int 0, .int (p12 - 1)]) (metX1_in _ _ ep14) mok_X1_in q456 q457 q116 q458 (Nat.le_of_ble_eq_true rfl) (Nat.le_of_ble_eq_true rfl) rfl hl.1 rfl (Nat.le_of_ble_eq_true rfl) (pc := 52) dX1_marchAt_52 kk) ?_
    refine sp_if (fun c15 => ?_) (fun c15 => ?_)
    · refine sp_m (aw_if_eq_t (tgt := 70) (pc := 55) dX1_marchAt_55 (by decide) c15) ?_
      refine sp_m (aw_aload_n (pc := 70) dX1_marchAt_70 rfl (lv_at hl 1 rfl)) ?_
      refine sp_m (aw_iconst (v := 1) (pc := 71) dX1_marchAt_71 rfl) ?_
      refine sp_b fun p16 ep16 => ?_
      refine sp_m (G' := AW (KX1_marchAt l D h0 hE v) p16.2 (75) ls (.int p16.1 :: [])) (fun kk => aw_callV (As := [.int 1]) (metX1_no _ _ ep16) (rcv_o okX1 s10) rfl mok_X1_no q459 q461 qs3 q116 q462 (Nat.le_of_ble_eq_true rfl) (Nat.le_of_ble_eq_true rfl) rfl hl.1 rfl (Nat.le_of_ble_eq_true rfl) (pc := 72) dX1_marchAt_72 kk) ?_
      exact sp_r fun hz => aw_iret hz rfl rfl rfl (pc := 75) dX1_marchAt_75
    · refine sp_m (aw_if_eq_f (tgt := 70) (pc := 55) dX1_marchAt_55 (by decide) c15) ?_
      refine sp_m (aw_aload_n (pc := 58) dX1_marchAt_58 rfl (lv_at hl 1 rfl)) ?_
      refine sp_b fun x17 ex17 => ?_
      refine sp_m (aw_get (k := 13) okX1 s10 (by decide) q379 (Or.inl rfl) (congrArg va_rf ex17) (pc := 59) dX1_marchAt_59) ?_
      refine sp_m (aw_iload (pc := 62) dX1_marchAt_62 (lv_at hl 5 rfl)) ?_
      refine sp_g fun s19 => ?_
      refine sp_b fun p18 ep18 => ?_
      refine sp_m (G' := AW (KX1_marchAt l D h0 hE v) p8.2 (67) ls (.int p18 :: [])) (fun kk => aw_callV (As := [.int a4]) (metX6_at _ _ ep18) (rcv_o okX6 s19) rfl mok_X6_at q1312 q1313 q1314 q124 q1315 (Nat.le_of_ble_eq_true rfl) (Nat.le_of_ble_eq_true rfl) rfl hl.1 rfl (Nat.le_of_ble_eq_true rfl) (pc := 64) dX1_marchAt_64 kk) ?_
      refine sp_m (aw_goto (tgt := 75) (pc := 67) dX1_marchAt_67 (by decide)) ?_
      exact sp_r fun hz => aw_iret hz rfl rfl rfl (pc := 75) dX1_marchAt_75
  · refine sp_m (aw_if_eq_f (tgt := 25) (pc := 15) dX1_marchAt_15 (by decide) c5) ?_
    refine sp_m (aw_aload_n (pc := 18) dX1_marchAt_18 rfl (lv_at hl 1 rfl)) ?_
    refine sp_m (aw_iload (pc := 19) dX1_marchAt_19 (lv_at hl 0 rfl)) ?_
    refine sp_b fun p20 ep20 => ?_
    refine sp_m (G' := AW (KX1_marchAt l D h0 hE v) p20.2 (24) ls (.int p20.1 :: [])) (fun kk => aw_callV (As := [.int p3]) (metX1_no _ _ ep20) (rcv_o okX1 s4) rfl mok_X1_no q459 q461 qs3 q116 q462 (Nat.le_of_ble_eq_true rfl) (Nat.le_of_ble_eq_true rfl) rfl hl.1 rfl (Nat.le_of_ble_eq_true rfl) (pc := 21) dX1_marchAt_21 kk) ?_
    exact sp_r fun hz => aw_iret hz rfl rfl rfl (pc := 24) dX1_marchAt_24
theorem mok_X1_mark : mOK yX1_mark 0 := ⟨⟨by decide +kernel, by decide +kernel⟩, by decide +kernel⟩
abbrev KX1_mark (l : Launch) (D : DD) (h0 hE : AH) (v : Int32) : KT := (l, yX1_mark, cX1_mark, 1, (some .int), RX1, 2, D, h0, hE, .inl (some (.int v)), false, [])
theorem metX1_mark (l : Launch) (D : DD) {a0 : Nat} {h0 : AH} {hE : AH} {v : Int32} (hr : fX1_mark a0 h0 = some (v, hE)) : AMet (KX1_mark l D h0 hE v) [.ref a0] := by
  refine AMet.of (K := (KX1_mark l D h0 hE v)) rfl ⟨_, rfl⟩ rfl rfl rfl (Nat.le_of_ble_eq_true rfl) (fun ls hl => ?_)
  have hl : lv_has ls 1 [(0, .ref a0)] := hl
  suffices hsp : SP (fX1_mark a0 h0) (fun z => z = (v, hE)) (AW (KX1_mark l D h0 hE v) h0 0 ls []) from hsp _ hr rfl
  unfold fX1_mark
  refine sp_m (aw_aload_n (pc := 0) dX1_mark_0 rfl (lv_at hl 0 rfl)) ?_
  refine sp_g fun s2 => ?_
  refine sp_b fun p1 ep1 => ?_
  refine sp_m (G' := AW (KX1_mark l D h0 hE v) p1 (4) ls ([])) (fun kk => aw_callV (As := []) (metX1_anew _ _ ep1) (rcv_o okX1 s2) rfl mok_X1_anew q452 q454 qs2 q116 q455 (Nat.le_of_ble_eq_true rfl) (Nat.le_of_ble_eq_true rfl) rfl hl.1 rfl (Nat.le_of_ble_eq_true rfl) (pc := 1) dX1_mark_1 kk) ?_
  refine sp_m (aw_aload_n (pc := 4) dX1_mark_4 rfl (lv_at hl 0 rfl)) ?_
  refine sp_g fun s3 => ?_
  refine sp_o (fun ex4 => ?_) (fun x4 ex4 => ?_)
  · refine sp_m (aw_get (k := 3) okX1 s3 (by decide) q369 (Or.inl rfl) (congrArg va_rf ex4) (pc := 5) dX1_mark_5) ?_
    refine sp_m (aw_ifnonnullN (pc := 8) dX1_mark_8) ?_
    refine sp_m (aw_aload_n (pc := 11) dX1_mark_11 rfl (lv_at hl 0 rfl)) ?_
    refine sp_m (aw_iconst (v := 1) (pc := 12) dX1_mark_12 rfl) ?_
    refine sp_b fun p16 ep16 => ?_
    refine sp_m (G' := AW (KX1_mark l D h0 hE v) p16.2 (16) ls (.int p16.1 :: [])) (fun kk => aw_callV (As := [.int 1]) (metX1_no _ _ ep16) (rcv_o okX1 s3) rfl mok_X1_no q459 q461 qs3 q116 q462 (Nat.le_of_ble_eq_true rfl) (Nat.le_of_ble_eq_true rfl) rfl hl.1 rfl (Nat.le_of_ble_eq_true rfl) (pc := 13) dX1_mark_13 kk) ?_
    exact sp_r fun hz => aw_iret hz rfl rfl rfl (pc := 16) dX1_mark_16
  · refine sp_m (aw_get (k := 3) okX1 s3 (by decide) q369 (Or.inl rfl) (congrArg va_rf ex4) (pc := 5) dX1_mark_5) ?_
    refine sp_m (aw_ifnonnull (tgt := 17) (pc := 8) dX1_mark_8 (by decide)) ?_
    refine sp_m (aw_aload_n (pc := 17) dX1_mark_17 rfl (lv_at hl 0 rfl)) ?_
    refine sp_m (aw_get (k := 7) okX1 s3 (by decide) q373 (Or.inl rfl) rfl (pc := 18) dX1_mark_18) ?_
    refine sp_m (aw_iconst (v := 3) (pc := 21) dX1_mark_21 rfl) ?_
    refine sp_if (fun c5 => ?_) (fun c5 => ?_)
    · refine sp_m (aw_icmp_ne_t (tgt := 31) (pc := 22) dX1_mark_22 (by decide) c5) ?_
      refine sp_m (aw_aload_n (pc := 31) dX1_mark_31 rfl (lv_at hl 0 rfl)) ?_
      refine sp_b fun x6 ex6 => ?_
      refine sp_m (aw_get (k := 15) okX1 s3 (by decide) q381 (Or.inl rfl) (congrArg va_rf ex6) (pc := 32) dX1_mark_32) ?_
      refine sp_m (aw_aload_n (pc := 35) dX1_mark_35 rfl (lv_at hl 0 rfl)) ?_
      refine sp_m (aw_get (k := 7) okX1 s3 (by decide) q373 (Or.inl rfl) rfl (pc := 36) dX1_mark_36) ?_
      refine sp_g fun s7 => ?_
      refine sp_g fun i8 => ?_
      refine sp_b fun x9 ex9 => ?_
      refine sp_m (aw_aald (t := 4) s7 (by decide) rfl rfl i8 (congrArg va_rf ex9) (pc := 39) dX1_mark_39) ?_
      refine sp_m (aw_aload_n (pc := 40) dX1_mark_40 rfl (lv_at hl 0 rfl)) ?_
      refine sp_b fun x10 ex10 => ?_
      refine sp_m (aw_get (k := 9) okX1 s3 (by decide) q375 (Or.inl rfl) (congrArg va_rf ex10) (pc := 41) dX1_mark_41) ?_
      refine sp_g fun s12 => ?_
      refine sp_b fun p11 ep11 => ?_
      refine sp_m (G' := AW (KX1_mark l D h0 hE v) p11 (47) ls ([])) (fun kk => aw_callV (As := [.ref x10]) (metX4_become _ _ ep11) (rcv_o okX4 s12) rfl mok_X4_become q1166 q1167 q1168 q122 q1169 (Nat.le_of_ble_eq_true rfl) (Nat.le_of_ble_eq_true rfl) rfl hl.1 rfl (Nat.le_of_ble_eq_true rfl) (pc := 44) dX1_mark_44 kk) ?_
      refine sp_m (aw_aload_n (pc := 47) dX1_mark_47 rfl (lv_at hl 0 rfl)) ?_
      refine sp_m (aw_dup (pc := 48) dX1_mark_48 rfl) ?_
      refine sp_g fun s13 => ?_
      refine sp_m (aw_get (k := 7) okX1 s13 (by decide) q373 (Or.inl rfl) rfl (pc := 49) dX1_mark_49) ?_
      refine sp_m (aw_iconst (v := 1) (pc := 52) dX1_mark_52 rfl) ?_
      refine sp_m (aw_iadd (pc := 53) dX1_mark_53) ?_
      refine sp_t fun h14 eh140 => ?_
      have eh14 : gS h14 = gS p11 := by rw [eh140]; rfl
      refine sp_m (aw_put (k := 7) okX1 opX1 s13 (by decide) q373 (Or.inl rfl) (Or.inl rfl) (hasV_I' eh140) rfl rfl (pc := 54) dX1_mark_54) ?_
      refine sp_m (aw_aload_n (pc := 57) dX1_mark_57 rfl (lv_at hl 0 rfl)) ?_
      refine sp_m (aw_get (k := 7) okX1 (uS eh14 s13) (by decide) q373 (Or.inl rfl) rfl (pc := 58) dX1_mark_58) ?_
      refine sp_m (aw_iconst (v := 1) (pc := 61) dX1_mark_61 rfl) ?_
      refine sp_m (aw_isub (pc := 62) dX1_mark_62) ?_
      exact sp_r fun hz => aw_iret hz rfl rfl rfl (pc := 63) dX1_mark_63
    · refine sp_m (aw_icmp_ne_f (tgt := 31) (pc := 22) dX1_mark_22 (by decide) (Decidable.not_not.mp c5)) ?_
      refine sp_m (aw_aload_n (pc := 25) dX1_mark_25 rfl (lv_at hl 0 rfl)) ?_
      refine sp_m (aw_iconst (v := 3) (pc := 26) dX1_mark_26 rfl) ?_
      refine sp_b fun p15 ep15 => ?_
      refine sp_m (G' := AW (KX1_mark l D h0 hE v) p15.2 (30) ls (.int p15.1 :: [])) (fun kk => aw_callV (As := [.int 3]) (metX1_no _ _ ep15) (rcv_o okX1 s3) rfl mok_X1_no q459 q461 qs3 q116 q462 (Nat.le_of_ble_eq_true rfl) (Nat.le_of_ble_eq_true rfl) rfl hl.1 rfl (Nat.le_of_ble_eq_true rfl) (pc := 27) dX1_mark_27 kk) ?_
      exact sp_r fun hz => aw_iret hz rfl rfl rfl (pc := 30) dX1_mark_30
theorem mok_X1_mean : mOK yX1_mean 4 := ⟨⟨by decide +kernel, by decide +kernel⟩, by decide +kernel⟩
abbrev KX1_mean (l : Launch) (D : DD) (h0 hE : AH) (v : Int64) : KT := (l, yX1_mean, cX1_mean, 5, (some .long), RX1, 131, D, h0, hE, .inl (some (.long v)), false, [])
theorem metX1_mean (l : Launch) (D : DD) {a0 : Nat} {a1 : Int32} {a2 : Int32} {a3 : Int32} {a4 : Int32} {h0 : AH} {hE : AH} {v : Int64} (hr : fX1_mean a0 a1 a2 a3 a4 h0 = some (v, hE)) : AMet (KX1_mean l D h0 hE v) [.ref a0, .int a1, .int a2, .int a3, .int a4] := by
  refine AMet.of (K := (KX1_mean l D h0 hE v)) rfl ⟨_, rfl⟩ rfl rfl rfl (Nat.le_of_ble_eq_true rfl) (fun ls hl => ?_)
  have hl : lv_has ls 5 [(0, .ref a0), (1, .int a1), (2, .int a2), (3, .int a3), (4, .int a4)] := hl
  suffices hsp : SP (fX1_mean a0 a1 a2 a3 a4 h0) (fun z => z = (v, hE)) (AW (KX1_mean l D h0 hE v) h0 0 ls []) from hsp _ hr rfl
  unfold fX1_mean
  refine sp_m (aw_aload_n (pc := 0) dX1_mean_0 rfl (lv_at hl 0 rfl)) ?_
  refine sp_g fun s2 => ?_
  refine sp_b fun p1 ep1 => ?_
  refine sp_m (G' := AW (KX1_mean l D h0 hE v) p1 (4) ls ([])) (fun kk => aw_callV (As := []) (metX1_anew _ _ ep1) (rcv_o okX1 s2) rfl mok_X1_anew q452 q454 qs2 q116 q455 (Nat.le_of_ble_eq_true rfl) (Nat.le_of_ble_eq_true rfl) rfl hl.1 rfl (Nat.le_of_ble_eq_true rfl) (pc := 1) dX1_mean_1 kk) ?_
  refine sp_m (aw_aload_n (pc := 4) dX1_mean_4 rfl (lv_at hl 0 rfl)) ?_
  refine sp_m (aw_iload_n (pc := 5) dX1_mean_5 rfl (lv_at hl 1 rfl)) ?_
  refine sp_g fun s4 => ?_
  refine sp_b fun p3 ep3 => ?_
  refine sp_m (G' := AW (KX1_mean l D h0 hE v) p1 (9) ls (.int p3 :: [])) (fun kk => aw_callV (As := [.int a1]) (metX1_isBeast _ _ ep3) (rcv_o okX1 s4) rfl mok_X1_isBeast q974 q976 qs27 q116 q977 (Nat.le_of_ble_eq_true rfl) (Nat.le_of_ble_eq_true rfl) rfl hl.1 rfl (Nat.le_of_ble_eq_true rfl) (pc := 6) dX1_mean_6 kk) ?_
  have hj20_1 : ∀ ls : Array Slot, lv_has ls 5 [(0, .ref a0)] → SP (X1_mean_j20 a0 p1) (fun z => z = (v, hE)) (AW (KX1_mean l D h0 hE v) p1 20 ls ([])) := by
    intro ls hl
    unfold X1_mean_j20
    refine sp_m (aw_aload_n (pc := 20) dX1_mean_20 rfl (lv_at hl 0 rfl)) ?_
    refine sp_m (aw_iconst (v := 1) (pc := 21) dX1_mean_21 rfl) ?_
    refine sp_b fun p5 ep5 => ?_
    refine sp_m (G' := AW (KX1_mean l D h0 hE v) p5.2 (25) ls (.int p5.1 :: [])) (fun kk => aw_callV (As := [.int 1]) (metX1_no _ _ ep5) (rcv_o okX1 s4) rfl mok_X1_no q459 q461 qs3 q116 q462 (Nat.le_of_ble_eq_true rfl) (Nat.le_of_ble_eq_true rfl) rfl hl.1 rfl (Nat.le_of_ble_eq_true rfl) (pc := 22) dX1_mean_22 kk) ?_
    refine sp_m (aw_i2l (pc := 25) dX1_mean_25) ?_
    exact sp_r fun hz => aw_lret hz rfl rfl rfl (pc := 26) dX1_mean_26
  refine sp_if (fun c6 => ?_) (fun c6 => ?_)
  · refine sp_m (aw_if_eq_t (tgt := 20) (pc := 9) dX1_mean_9 (by decide) c6) ?_
    exact hj20_1 ls (lv_sub hl [0] rfl)
  · refine sp_m (aw_if_eq_f (tgt := 20) (pc := 9) dX1_mean_9 (by decide) c6) ?_
    refine sp_m (aw_aload_n (pc := 12) dX1_mean_12 rfl (lv_at hl 0 rfl)) ?_
    refine sp_m (aw_iload_n (pc := 13) dX1_mean_13 rfl (lv_at hl 2 rfl)) ?_
    refine sp_b fun p7 ep7 => ?_
    refine sp_m (G' := AW (KX1_mean l D h0 hE v) p1 (17) ls (.int p7 :: [])) (fun kk => aw_callV (As := [.int a2]) (metX1_isLane _ _ ep7) (rcv_o okX1 s4) rfl mok_X1_isLane q941 q943 qs25 q116 q944 (Nat.le_of_ble_eq_true rfl) (Nat.le_of_ble_eq_true rfl) rfl hl.1 rfl (Nat.le_of_ble_eq_true rfl) (pc := 14) dX1_mean_14 kk) ?_
    refine sp_if (fun c8 => ?_) (fun c8 => ?_)
    · refine sp_m (aw_if_ne_t (tgt := 27) (pc := 17) dX1_mean_17 (by decide) c8) ?_
      refine sp_m (aw_iload_n (pc := 27) dX1_mean_27 rfl (lv_at hl 3 rfl)) ?_
      have hj52_2 : ∀ j9 : Int64, ∀ ls : Array Slot, lv_has ls 5 [(0, .ref a0), (4, .int a4)] → SP (X1_mean_j52 a0 a4 p1 j9) (fun z => z = (v, hE)) (AW (KX1_mean l D h0 hE v) p1 52 ls (.long j9 :: [])) := by
        intro j9 ls hl
        unfold X1_mean_j52
        refine sp_m (aw_aload_n (pc := 52) dX1_mean_52 rfl (lv_at hl 0 rfl)) ?_
        refine sp_b fun x10 ex10 => ?_
        refine sp_m (aw_get (k := 9) okX1 s4 (by decide) q375 (Or.inl rfl) (congrArg va_rf ex10) (pc := 53) dX1_mean_53) ?_
        refine sp_g fun s12 => ?_
        refine sp_b fun p11 ep11 => ?_
        refine sp_m (G' := AW (KX1_mean l D h0 hE v) p1 (59) ls (.long p11 :: .long j9 :: [])) (fun kk => aw_callV (As := []) (metX4_of _ _ ep11) (rcv_o okX4 s12) rfl mok_X4_of q1055 q1056 q1057 q122 q1058 (Nat.le_of_ble_eq_true rfl) (Nat.le_of_ble_eq_true rfl) rfl hl.1 rfl (Nat.le_of_ble_eq_true rfl) (pc := 56) dX1_mean_56 kk) ?_
        refine sp_m (aw_iload (pc := 59) dX1_mean_59 (lv_at hl 1 rfl)) ?_
        refine sp_b fun p13 ep13 => ?_
        refine sp_m (G' := AW (KX1_mean l D h0 hE v) p1 (64) ls (.long p13 :: [])) (fun kk => aw_callS (As := [.long j9, .long p11, .int a4]) (metX1_lowest _ _ ep13) mok_X1_lowest q1060 q1061 q116 q1062 (Nat.le_of_ble_eq_true rfl) (Nat.le_of_ble_eq_true rfl) rfl hl.1 rfl (Nat.le_of_ble_eq_true rfl) (pc := 61) dX1_mean_61 kk) ?_
        exact sp_r fun hz => aw_lret hz rfl rfl rfl (pc := 64) dX1_mean_64
      refine sp_if (fun c14 => ?_) (fun c14 => ?_)
      · refine sp_m (aw_if_eq_t (tgt := 43) (pc := 28) dX1_mean_28 (by decide) c14) ?_
        refine sp_m (aw_aload_n (pc := 43) dX1_mean_43 rfl (lv_at hl 0 rfl)) ?_
        refine sp_b fun x15 ex15 => ?_
        refine sp_m (aw_get (k := 9) okX1 s4 (by decide) q375 (Or.inl rfl) (congrArg va_rf ex15) (pc := 44) dX1_mean_44) ?_
        refine sp_m (aw_iload_n (pc := 47) dX1_mean_47 rfl (lv_at hl 1 rfl)) ?_
        refine sp_m (aw_iload_n (pc := 48) dX1_mean_48 rfl (lv_at hl 2 rfl)) ?_
        refine sp_g fun s17 => ?_
        refine sp_b fun p16 ep16 => ?_
        refine sp_m (G' := AW (KX1_mean l D h0 hE v) p1 (52) ls (.long p16 :: [])) (fun kk => aw_callV (As := [.int a1, .int a2]) (metX4_meanFoes _ _ ep16) (rcv_o okX4 s17) rfl mok_X4_meanFoes q1130 q1131 q1132 q122 q1133 (Nat.le_of_ble_eq_true rfl) (Nat.le_of_ble_eq_true rfl) rfl hl.1 rfl (Nat.le_of_ble_eq_true rfl) (pc := 49) dX1_mean_49 kk) ?_
        exact hj52_2 p16 ls (lv_sub hl [0, 4] rfl)
      · refine sp_m (aw_if_eq_f (tgt := 43) (pc := 28) dX1_mean_28 (by decide) c14) ?_
        refine sp_m (aw_aload_n (pc := 31) dX1_mean_31 rfl (lv_at hl 0 rfl)) ?_
        refine sp_b fun x18 ex18 => ?_
        refine sp_m (aw_get (k := 9) okX1 s4 (by decide) q375 (Or.inl rfl) (congrArg va_rf ex18) (pc := 32) dX1_mean_32) ?_
        refine sp_m (aw_iload_n (pc := 35) dX1_mean_35 rfl (lv_at hl 1 rfl)) ?_
        refine sp_m (aw_iload_n (pc := 36) dX1_mean_36 rfl (lv_at hl 2 rfl)) ?_
        refine sp_g fun s20 => ?_
        refine sp_b fun p19 ep19 => ?_
        refine sp_m (G' := AW (KX1_mean l D h0 hE v) p1 (40) ls (.long p19 :: [])) (fun kk => aw_callV (As := [.int a1, .int a2]) (metX4_meanOwn _ _ ep19) (rcv_o okX4 s20) rfl mok_X4_meanOwn q1123 q1124 q1125 q122 q1126 (Nat.le_of_ble_eq_true rfl) (Nat.le_of_ble_eq_true rfl) rfl hl.1 rfl (Nat.le_of_ble_eq_true rfl) (pc := 37) dX1_mean_37 kk) ?_
        refine sp_m (aw_goto (tgt := 52) (pc := 40) dX1_mean_40 (by decide)) ?_
        exact hj52_2 p19 ls (lv_sub hl [0, 4] rfl)
    · refine sp_m (aw_if_ne_f (tgt := 27) (pc := 17) dX1_mean_17 (by decide) (Decidable.not_not.mp c8)) ?_
      exact hj20_1 ls (lv_sub hl [0] rfl)
theorem mok_X1_meets : mOK yX1_meets 3 := ⟨⟨by decide +kernel, by decide +kernel⟩, by decide +kernel⟩
abbrev KX1_meets (l : Launch) (D : DD) (h0 hE : AH) (v : Int32) : KT := (l, yX1_meets, cX1_meets, 4, (some .int), RX1, 5, D, h0, hE, .inl (some (.int v)), false, [])
theorem metX1_meets (l : Launch) (D : DD) {a0 : Nat} {a1 : Int32} {a2 : Int32} {a3 : Int32} {h0 : AH} {hE : AH} {v : Int32} (hr : fX1_meets a0 a1 a2 a3 h0 = some (v, hE)) : AMet (KX1_meets l D h0 hE v) [.ref a0, .int a1, .int a2, .int a3] := by
  refine AMet.of (K := (KX1_meets l D h0 hE v)) rfl ⟨_, rfl⟩ rfl rfl rfl (Nat.le_of_ble_eq_true rfl) (fun ls hl => ?_)
  have hl : lv_has ls 4 [(0, .ref a0), (1, .int a1), (2, .int a2), (3, .int a3)] := hl
  suffices hsp : SP (fX1_meets a0 a1 a2 a3 h0) (fun z => z = (v, hE)) (AW (KX1_meets l D h0 hE v) h0 0 ls []) from hsp _ hr rfl
  unfold fX1_meets
  refine sp_m (aw_aload_n (pc := 0) dX1_meets_0 rfl (lv_at hl 0 rfl)) ?_
  refine sp_g fun s2 => ?_
  refine sp_b fun p1 ep1 => ?_
  refine sp_m (G' := AW (KX1_meets l D h0 hE v) p1 (4) ls ([])) (fun kk => aw_callV (As := []) (metX1_anew _ _ ep1) (rcv_o okX1 s2) rfl mok_X1_anew q452 q454 qs2 q116 q455 (Nat.le_of_ble_eq_true rfl) (Nat.le_of_ble_eq_true rfl) rfl hl.1 rfl (Nat.le_of_ble_eq_true rfl) (pc := 1) dX1_meets_1 kk) ?_
  refine sp_m (aw_aload_n (pc := 4) dX1_meets_4 rfl (lv_at hl 0 rfl)) ?_
  refine sp_m (aw_iload_n (pc := 5) dX1_meets_5 rfl (lv_at hl 1 rfl)) ?_
  refine sp_g fun s4 => ?_
  refine sp_b fun p3 ep3 => ?_
  refine sp_m (G' := AW (KX1_meets l D h0 hE v) p1 (9) ls (.int p3 :: [])) (fun kk => aw_callV (As := [.int a1]) (metX1_isBeast _ _ ep3) (rcv_o okX1 s4) rfl mok_X1_isBeast q974 q976 qs27 q116 q977 (Nat.le_of_ble_eq_true rfl) (Nat.le_of_ble_eq_true rfl) rfl hl.1 rfl (Nat.le_of_ble_eq_true rfl) (pc := 6) dX1_meets_6 kk) ?_
  have hj20_1 : ∀ ls : Array Slot, lv_has ls 4 [(0, .ref a0)] → SP (X1_meets_j20 a0 p1) (fun z => z = (v, hE)) (AW (KX1_meets l D h0 hE v) p1 20 ls ([])) := by
    intro ls hl
    unfold X1_meets_j20
    refine sp_m (aw_aload_n (pc := 20) dX1_meets_20 rfl (lv_at hl 0 rfl)) ?_
    refine sp_m (aw_iconst (v := 1) (pc := 21) dX1_meets_21 rfl) ?_
    refine sp_b fun p5 ep5 => ?_
    refine sp_m (G' := AW (KX1_meets l D h0 hE v) p5.2 (25) ls (.int p5.1 :: [])) (fun kk => aw_callV (As := [.int 1]) (metX1_no _ _ ep5) (rcv_o okX1 s4) rfl mok_X1_no q459 q461 qs3 q116 q462 (Nat.le_of_ble_eq_true rfl) (Nat.le_of_ble_eq_true rfl) rfl hl.1 rfl (Nat.le_of_ble_eq_true rfl) (pc := 22) dX1_meets_22 kk) ?_
    exact sp_r fun hz => aw_iret hz rfl rfl rfl (pc := 25) dX1_meets_25
  refine sp_if (fun c6 => ?_) (fun c6 => ?_)
  · refine sp_m (aw_if_eq_t (tgt := 20) (pc := 9) dX1_meets_9 (by decide) c6) ?_
    exact hj20_1 ls (lv_sub hl [0] rfl)
  · refine sp_m (aw_if_eq_f (tgt := 20) (pc := 9) dX1_meets_9 (by decide) c6) ?_
    refine sp_m (aw_aload_n (pc := 12) dX1_meets_12 rfl (lv_at hl 0 rfl)) ?_
    refine sp_m (aw_iload_n (pc := 13) dX1_meets_13 rfl (lv_at hl 2 rfl)) ?_
    refine sp_b fun p7 ep7 => ?_
    refine sp_m (G' := AW (KX1_meets l D h0 hE v) p1 (17) ls (.int p7 :: [])) (fun kk => aw_callV (As := [.int a2]) (metX1_isLane _ _ ep7) (rcv_o okX1 s4) rfl mok_X1_isLane q941 q943 qs25 q116 q944 (Nat.le_of_ble_eq_true rfl) (Nat.le_of_ble_eq_true rfl) rfl hl.1 rfl (Nat.le_of_ble_eq_true rfl) (pc := 14) dX1_meets_14 kk) ?_
    refine sp_if (fun c8 => ?_) (fun c8 => ?_)
    · refine sp_m (aw_if_ne_t (tgt := 26) (pc := 17) dX1_meets_17 (by decide) c8) ?_
      refine sp_m (aw_iload_n (pc := 26) dX1_meets_26 rfl (lv_at hl 3 rfl)) ?_
      refine sp_if (fun c9 => ?_) (fun c9 => ?_)
      · refine sp_m (aw_if_eq_t (tgt := 42) (pc := 27) dX1_meets_27 (by decide) c9) ?_
        refine sp_m (aw_aload_n (pc := 42) dX1_meets_42 rfl (lv_at hl 0 rfl)) ?_
        refine sp_b fun x10 ex10 => ?_
        refine sp_m (aw_get (k := 9) okX1 s4 (by decide) q375 (Or.inl rfl) (congrArg va_rf ex10) (pc := 43) dX1_meets_43) ?_
        refine sp_m (aw_iload_n (pc := 46) dX1_meets_46 rfl (lv_at hl 1 rfl)) ?_
        refine sp_m (aw_iload_n (pc := 47) dX1_meets_47 rfl (lv_at hl 2 rfl)) ?_
        refine sp_g fun s12 => ?_
        refine sp_b fun p11 ep11 => ?_
        refine sp_m (G' := AW (KX1_meets l D h0 hE v) p1 (51) ls (.int p11 :: [])) (fun kk => aw_callV (As := [.int a1, .int a2]) (metX4_foes _ _ ep11) (rcv_o okX4 s12) rfl mok_X4_foes q1100 q1101 q1102 q122 q1103 (Nat.le_of_ble_eq_true rfl) (Nat.le_of_ble_eq_true rfl) rfl hl.1 rfl (Nat.le_of_ble_eq_true rfl) (pc := 48) dX1_meets_48 kk) ?_
        exact sp_r fun hz => aw_iret hz rfl rfl rfl (pc := 51) dX1_meets_51
      · refine sp_m (aw_if_eq_f (tgt := 42) (pc := 27) dX1_meets_27 (by decide) c9) ?_
        refine sp_m (aw_aload_n (pc := 30) dX1_meets_30 rfl (lv_at hl 0 rfl)) ?_
        refine sp_b fun x13 ex13 => ?_
        refine sp_m (aw_get (k := 9) okX1 s4 (by decide) q375 (Or.inl rfl) (congrArg va_rf ex13) (pc := 31) dX1_meets_31) ?_
        refine sp_m (aw_iload_n (pc := 34) dX1_meets_34 rfl (lv_at hl 1 rfl)) ?_
        refine sp_m (aw_iload_n (pc := 35) dX1_meets_35 rfl (lv_at hl 2 rfl)) ?_
        refine sp_g fun s15 => ?_
        refine sp_b fun p14 ep14 => ?_
        refine sp_m (G' := AW (KX1_meets l D h0 hE v) p1 (39) ls (.int p14 :: [])) (fun kk => aw_callV (As := [.int a1, .int a2]) (metX4_own _ _ ep14) (rcv_o okX4 s15) rfl mok_X4_own q1073 q1074 q1075 q122 q1076 (Nat.le_of_ble_eq_true rfl) (Nat.le_of_ble_eq_true rfl) rfl hl.1 rfl (Nat.le_of_ble_eq_true rfl) (pc := 36) dX1_meets_36 kk) ?_
        refine sp_m (aw_goto (tgt := 51) (pc := 39) dX1_meets_39 (by decide)) ?_
        exact sp_r fun hz => aw_iret hz rfl rfl rfl (pc := 51) dX1_meets_51
    · refine sp_m (aw_if_ne_f (tgt := 26) (pc := 17) dX1_meets_17 (by decide) (Decidable.not_not.mp c8)) ?_
      exact hj20_1 ls (lv_sub hl [0] rfl)
theorem mok_X1_moodFor : mOK yX1_moodFor 2 := ⟨⟨by decide +kernel, by decide +kernel⟩, by decide +kernel⟩
abbrev KX1_moodFor (l : Launch) (D : DD) (h0 hE : AH) (v : Int32) : KT := (l, yX1_moodFor, cX1_moodFor, 6, (some .int), RX1, 7, D, h0, hE, .inl (some (.int v)), false, [])
theorem metX1_moodFor (l : Launch) (D : DD) {a0 : Nat} {a1 : Int32} {a2 : Int32} {h0 : AH} {hE : AH} {v : Int32} (hr : fX1_moodFor a0 a1 a2 h0 = some (v, hE)) : AMet (KX1_moodFor l D h0 hE v) [.ref a0, .int a1, .int a2] := by
  refine AMet.of (K := (KX1_moodFor l D h0 hE v)) rfl ⟨_, rfl⟩ rfl rfl rfl (Nat.le_of_ble_eq_true rfl) (fun ls hl => ?_)
  have hl : lv_has ls 6 [(0, .ref a0), (1, .int a1), (2, .int a2)] := hl
  suffices hsp : SP (fX1_moodFor a0 a1 a2 h0) (fun z => z = (v, hE)) (AW (KX1_moodFor l D h0 hE v) h0 0 ls []) from hsp _ hr rfl
  unfold fX1_moodFor
  refine sp_m (aw_aload_n (pc := 0) dX1_moodFor_0 rfl (lv_at hl 0 rfl)) ?_
  refine sp_g fun s2 => ?_
  refine sp_b fun p1 ep1 => ?_
  refine sp_m (G' := AW (KX1_moodFor l D h0 hE v) p1 (4) ls ([])) (fun kk => aw_callV (As := []) (metX1_anew _ _ ep1) (rcv_o okX1 s2) rfl mok_X1_anew q452 q454 qs2 q116 q455 (Nat.le_of_ble_eq_true rfl) (Nat.le_of_ble_eq_true rfl) rfl hl.1 rfl (Nat.le_of_ble_eq_true rfl) (pc := 1) dX1_moodFor_1 kk) ?_
  refine sp_m (aw_aload_n (pc := 4) dX1_moodFor_4 rfl (lv_at hl 0 rfl)) ?_
  refine sp_m (aw_iload_n (pc := 5) dX1_moodFor_5 rfl (lv_at hl 1 rfl)) ?_
  refine sp_g fun s4 => ?_
  refine sp_b fun p3 ep3 => ?_
  refine sp_m (G' := AW (KX1_moodFor l D h0 hE v) p1 (9) ls (.int p3 :: [])) (fun kk => aw_callV (As := [.int a1]) (metX1_isBeast _ _ ep3) (rcv_o okX1 s4) rfl mok_X1_isBeast q974 q976 qs27 q116 q977 (Nat.le_of_ble_eq_true rfl) (Nat.le_of_ble_eq_true rfl) rfl hl.1 rfl (Nat.le_of_ble_eq_true rfl) (pc := 6) dX1_moodFor_6 kk) ?_
  have hj20_1 : ∀ ls : Array Slot, lv_has ls 6 [(0, .ref a0)] → SP (X1_moodFor_j20 a0 p1) (fun z => z = (v, hE)) (AW (KX1_moodFor l D h0 hE v) p1 20 ls ([])) := by
    intro ls hl
    unfold X1_moodFor_j20
    refine sp_m (aw_aload_n (pc := 20) dX1_moodFor_20 rfl (lv_at hl 0 rfl)) ?_
    refine sp_m (aw_iconst (v := 1) (pc := 21) dX1_moodFor_21 rfl) ?_
    refine sp_b fun p5 ep5 => ?_
    refine sp_m (G' := AW (KX1_moodFor l D h0 hE v) p5.2 (25) ls (.int p5.1 :: [])) (fun kk => aw_callV (As := [.int 1]) (metX1_no _ _ ep5) (rcv_o okX1 s4) rfl mok_X1_no q459 q461 qs3 q116 q462 (Nat.le_of_ble_eq_true rfl) (Nat.le_of_ble_eq_true rfl) rfl hl.1 rfl (Nat.le_of_ble_eq_true rfl) (pc := 22) dX1_moodFor_22 kk) ?_
    exact sp_r fun hz => aw_iret hz rfl rfl rfl (pc := 25) dX1_moodFor_25
  refine sp_if (fun c6 => ?_) (fun c6 => ?_)
  · refine sp_m (aw_if_eq_t (tgt := 20) (pc := 9) dX1_moodFor_9 (by decide) c6) ?_
    exact hj20_1 ls (lv_sub hl [0] rfl)
  · refine sp_m (aw_if_eq_f (tgt := 20) (pc := 9) dX1_moodFor_9 (by decide) c6) ?_
    refine sp_m (aw_aload_n (pc := 12) dX1_moodFor_12 rfl (lv_at hl 0 rfl)) ?_
    refine sp_m (aw_iload_n (pc := 13) dX1_moodFor_13 rfl (lv_at hl 2 rfl)) ?_
    refine sp_b fun p7 ep7 => ?_
    refine sp_m (G' := AW (KX1_moodFor l D h0 hE v) p1 (17) ls (.int p7 :: [])) (fun kk => aw_callV (As := [.int a2]) (metX1_isLane _ _ ep7) (rcv_o okX1 s4) rfl mok_X1_isLane q941 q943 qs25 q116 q944 (Nat.le_of_ble_eq_true rfl) (Nat.le_of_ble_eq_true rfl) rfl hl.1 rfl (Nat.le_of_ble_eq_true rfl) (pc := 14) dX1_moodFor_14 kk) ?_
    refine sp_if (fun c8 => ?_) (fun c8 => ?_)
    · refine sp_m (aw_if_ne_t (tgt := 26) (pc := 17) dX1_moodFor_17 (by decide) c8) ?_
      refine sp_m (aw_aload_n (pc := 26) dX1_moodFor_26 rfl (lv_at hl 0 rfl)) ?_
      refine sp_b fun x9 ex9 => ?_
      refine sp_m (aw_get (k := 3) okX1 s4 (by decide) q369 (Or.inl rfl) (congrArg va_rf ex9) (pc := 27) dX1_moodFor_27) ?_
      refine sp_g fun s10 => ?_
      refine sp_b fun x11 ex11 => ?_
      refine sp_m (aw_get (k := 3) okX8 s10 (by decide) q490 (Or.inl rfl) (congrArg va_rf ex11) (pc := 30) dX1_moodFor_30) ?_
      refine sp_m (aw_iload_n (pc := 33) dX1_moodFor_33 rfl (lv_at hl 1 rfl)) ?_
      refine sp_g fun s12 => ?_
      refine sp_g fun i13 => ?_
      refine sp_b fun x14 ex14 => ?_
      refine sp_m (aw_aald (t := 5) s12 (by decide) rfl rfl i13 (congrArg va_rf ex14) (pc := 34) dX1_moodFor_34) ?_
      refine sp_m (aw_astore_n (lv' := [(3, .ref x14), (0, .ref a0), (1, .int a1), (2, .int a2)]) (pc := 35) dX1_moodFor_35 rfl hl (by decide) rfl) (sp_all fun ls hl => ?_)
      refine sp_m (aw_aload_n (pc := 36) dX1_moodFor_36 rfl (lv_at hl 0 rfl)) ?_
      refine sp_g fun s15 => ?_
      refine sp_m (G' := AW (KX1_moodFor l D h0 hE v) p1 (40) ls (.int (gI p1 x14 1) :: [])) (fun kk => by rcases s15 with z | z | z | z; exact aw_get (k := 1) okX15 z (by decide) q820 (Or.inl rfl) rfl (pc := 37) dX1_moodFor_37 kk; exact aw_get (k := 1) okX16 z (by decide) q820 (Or.inl rfl) rfl (pc := 37) dX1_moodFor_37 kk; exact aw_get (k := 1) okX17 z (by decide) q820 (Or.inl rfl) rfl (pc := 37) dX1_moodFor_37 kk; exact aw_get (k := 1) okX18 z (by decide) q820 (Or.inl rfl) rfl (pc := 37) dX1_moodFor_37 kk) ?_
      refine sp_m (aw_istore (lv' := [(4, .int (gI p1 x14 1)), (3, .ref x14), (0, .ref a0), (1, .int a1), (2, .int a2)]) (pc := 40) dX1_moodFor_40 hl (by decide) rfl) (sp_all fun ls hl => ?_)
      refine sp_m (aw_iconst (v := 0) (pc := 42) dX1_moodFor_42 rfl) ?_
      refine sp_m (aw_istore (lv' := [(5, .int 0), (4, .int (gI p1 x14 1)), (3, .ref x14), (0, .ref a0), (1, .int a1), (2, .int a2)]) (pc := 43) dX1_moodFor_43 hl (by decide) rfl) (sp_all fun ls hl => ?_)
      refine sp_m (aw_aload_n (pc := 45) dX1_moodFor_45 rfl (lv_at hl 2 rfl)) ?_
      refine sp_m (aw_iload (pc := 46) dX1_moodFor_46 (lv_at hl 0 rfl)) ?_
      refine sp_t fun h16 eh160 => ?_
      have eh16 : gS h16 = gS p1 := by rw [eh160]; rfl
      refine sp_m (G' := AW (KX1_moodFor l D h0 hE v) h16 (51) ls ([])) (fun kk => by rcases s15 with z | z | z | z; exact aw_put (k := 1) okX15 opX15 z (by decide) q820 (Or.inl rfl) (Or.inl rfl) (hasV_I' eh160) rfl rfl (pc := 48) dX1_moodFor_48 kk; exact aw_put (k := 1) okX16 opX16 z (by decide) q820 (Or.inl rfl) (Or.inl rfl) (hasV_I' eh160) rfl rfl (pc := 48) dX1_moodFor_48 kk; exact aw_put (k := 1) okX17 opX17 z (by decide) q820 (Or.inl rfl) (Or.inl rfl) (hasV_I' eh160) rfl rfl (pc := 48) dX1_moodFor_48 kk; exact aw_put (k := 1) okX18 opX18 z (by decide) q820 (Or.inl rfl) (Or.inl rfl) (hasV_I' eh160) rfl rfl (pc := 48) dX1_moodFor_48 kk) ?_
      let P17 : Int32 × AH → Prop := aLP (KX1_moodFor l D h0 hE v) 6 51 (fun s17v : Int32 × AH => [(0, .ref a0), (1, .int a1), (2, .int a2), (3, .ref x14), (4, .int (gI p1 x14 1)), (5, .int s17v.1)]) (fun s17v => s17v.2)
      let E17 : Int32 × AH → Prop := aLP (KX1_moodFor l D h0 hE v) 6 84 (fun r17v : Int32 × AH => [(3, .ref x14), (4, .int (gI p1 x14 1)), (5, .int r17v.1)]) (fun r17v => r17v.2)
      refine sp_bl (P := P17) (E := E17) (fun s17v => sp_all fun ls hl => ?_) (fun k => k ls (lv_sub hl [3, 4, 5, 2, 1, 0] rfl)) (fun r17v => sp_all fun ls hl => ?_)
      · have hl : lv_has ls 6 [(0, .ref a0), (1, .int a1), (2, .int a2), (3, .ref x14), (4, .int (gI p1 x14 1)), (5, .int s17v.1)] := hl
        show SP _ _ (AW (KX1_moodFor l D h0 hE v) s17v.2 51 ls [])
        unfold X1_moodFor_L51
        refine sp_m (aw_iload (pc := 51) dX1_moodFor_51 (lv_at hl 5 rfl)) ?_
        refine sp_m (aw_bipush (v := 100) (pc := 53) dX1_moodFor_53 rfl) ?_
        refine sp_if (fun c18 => ?_) (fun c18 => ?_)
        · refine sp_m (aw_icmp_gt_t (tgt := 84) (pc := 55) dX1_moodFor_55 (by decide) c18) ?_
          exact sp_r fun hz => hz ls (lv_sub hl [3, 4, 5] rfl)
        · refine sp_m (aw_icmp_gt_f (tgt := 84) (pc := 55) dX1_moodFor_55 (by decide) c18) ?_
          refine sp_m (aw_aload_n (pc := 58) dX1_moodFor_58 rfl (lv_at hl 0 rfl)) ?_
          refine sp_g fun s19 => ?_
          refine sp_b fun x20 ex20 => ?_
          refine sp_m (aw_get (k := 9) okX1 s19 (by decide) q375 (Or.inl rfl) (congrArg va_rf ex20) (pc := 59) dX1_moodFor_59) ?_
          refine sp_m (aw_iload_n (pc := 62) dX1_moodFor_62 rfl (lv_at hl 1 rfl)) ?_
          refine sp_m (aw_iload_n (pc := 63) dX1_moodFor_63 rfl (lv_at hl 2 rfl)) ?_
          refine sp_g fun s22 => ?_
          refine sp_b fun p21 ep21 => ?_
          refine sp_m (G' := AW (KX1_moodFor l D h0 hE v) s17v.2 (67) ls (.long p21 :: [])) (fun kk => aw_callV (As := [.int a1, .int a2]) (metX4_worth _ _ ep21) (rcv_o okX4 s22) rfl mok_X4_worth q1139 q1140 q1141 q122 q1142 (Nat.le_of_ble_eq_true rfl) (Nat.le_of_ble_eq_true rfl) rfl hl.1 rfl (Nat.le_of_ble_eq_true rfl) (pc := 64) dX1_moodFor_64 kk) ?_
          refine sp_m (aw_lconst (v := 0) (pc := 67) dX1_moodFor_67 rfl) ?_
          refine sp_m (aw_lcmp (pc := 68) dX1_moodFor_68) ?_
          refine sp_if (fun c23 => ?_) (fun c23 => ?_)
          · refine sp_m (aw_if_gt_t (tgt := 84) (pc := 69) dX1_moodFor_69 (by decide) ((lg_cmp_gt _ _).mpr c23)) ?_
            exact sp_r fun hz => hz ls (lv_sub hl [3, 4, 5] rfl)
          · refine sp_m (aw_if_gt_f (tgt := 84) (pc := 69) dX1_moodFor_69 (by decide) (fun z => c23 ((lg_cmp_gt _ _).mp z))) ?_
            refine sp_m (aw_iinc (v := s17v.1 + 1) (lv' := [(5, .int (s17v.1 + 1)), (0, .ref a0), (1, .int a1), (2, .int a2), (3, .ref x14), (4, .int (gI p1 x14 1))]) (pc := 72) dX1_moodFor_72 hl (k := 5) rfl rfl (by decide) rfl) (sp_all fun ls hl => ?_)
            refine sp_m (aw_aload_n (pc := 75) dX1_moodFor_75 rfl (lv_at hl 4 rfl)) ?_
            refine sp_m (aw_iload (pc := 76) dX1_moodFor_76 (lv_at hl 0 rfl)) ?_
            refine sp_g fun s24 => ?_
            refine sp_t fun h25 eh250 => ?_
            have eh25 : gS h25 = gS s17v.2 := by rw [eh250]; rfl
            refine sp_m (G' := AW (KX1_moodFor l D h0 hE v) h25 (81) ls ([])) (fun kk => by rcases s24 with z | z | z | z; exact aw_put (k := 1) okX15 opX15 z (by decide) q820 (Or.inl rfl) (Or.inl rfl) (hasV_I' eh250) rfl rfl (pc := 78) dX1_moodFor_78 kk; exact aw_put (k := 1) okX16 opX16 z (by decide) q820 (Or.inl rfl) (Or.inl rfl) (hasV_I' eh250) rfl rfl (pc := 78) dX1_moodFor_78 kk; exact aw_put (k := 1) okX17 opX17 z (by decide) q820 (Or.inl rfl) (Or.inl rfl) (hasV_I' eh250) rfl rfl (pc := 78) dX1_moodFor_78 kk; exact aw_put (k := 1) okX18 opX18 z (by decide) q820 (Or.inl rfl) (Or.inl rfl) (hasV_I' eh250) rfl rfl (pc := 78) dX1_moodFor_78 kk) ?_
            refine sp_m (aw_goto (tgt := 51) (pc := 81) dX1_moodFor_81 (by decide)) ?_
            exact sp_r fun hz => hz ls (lv_sub hl [1, 2, 3, 4, 5, 0] rfl)
      · have hl : lv_has ls 6 [(3, .ref x14), (4, .int (gI p1 x14 1)), (5, .int r17v.1)] := hl
        show SP _ _ (AW (KX1_moodFor l D h0 hE v) r17v.2 84 ls [])
        refine sp_m (aw_aload_n (pc := 84) dX1_moodFor_84 rfl (lv_at hl 0 rfl)) ?_
        refine sp_m (aw_iload (pc := 85) dX1_moodFor_85 (lv_at hl 1 rfl)) ?_
        refine sp_g fun s26 => ?_
        refine sp_t fun h27 eh270 => ?_
        have eh27 : gS h27 = gS r17v.2 := by rw [eh270]; rfl
        refine sp_m (G' := AW (KX1_moodFor l D h0 hE v) h27 (90) ls ([])) (fun kk => by rcases s26 with z | z | z | z; exact aw_put (k := 1) okX15 opX15 z (by decide) q820 (Or.inl rfl) (Or.inl rfl) (hasV_I' eh270) rfl rfl (pc := 87) dX1_moodFor_87 kk; exact aw_put (k := 1) okX16 opX16 z (by decide) q820 (Or.inl rfl) (Or.inl rfl) (hasV_I' eh270) rfl rfl (pc := 87) dX1_moodFor_87 kk; exact aw_put (k := 1) okX17 opX17 z (by decide) q820 (Or.inl rfl) (Or.inl rfl) (hasV_I' eh270) rfl rfl (pc := 87) dX1_moodFor_87 kk; exact aw_put (k := 1) okX18 opX18 z (by decide) q820 (Or.inl rfl) (Or.inl rfl) (hasV_I' eh270) rfl rfl (pc := 87) dX1_moodFor_87 kk) ?_
        refine sp_m (aw_iload (pc := 90) dX1_moodFor_90 (lv_at hl 2 rfl)) ?_
        refine sp_m (aw_bipush (v := 100) (pc := 92) dX1_moodFor_92 rfl) ?_
        refine sp_if (fun c28 => ?_) (fun c28 => ?_)
        · refine sp_m (aw_icmp_gt_t (tgt := 102) (pc := 94) dX1_moodFor_94 (by decide) c28) ?_
          refine sp_m (aw_bipush (v := (-2)) (pc := 102) dX1_moodFor_102 rfl) ?_
          exact sp_r fun hz => aw_iret hz rfl rfl rfl (pc := 104) dX1_moodFor_104
        · refine sp_m (aw_icmp_gt_f (tgt := 102) (pc := 94) dX1_moodFor_94 (by decide) c28) ?_
          refine sp_m (aw_iload (pc := 97) dX1_moodFor_97 (lv_at hl 2 rfl)) ?_
          refine sp_m (aw_goto (tgt := 104) (pc := 99) dX1_moodFor_99 (by decide)) ?_
          exact sp_r fun hz => aw_iret hz rfl rfl rfl (pc := 104) dX1_moodFor_104
    · refine sp_m (aw_if_ne_f (tgt := 26) (pc := 17) dX1_moodFor_17 (by decide) (Decidable.not_not.mp c8)) ?_
      exact hj20_1 ls (lv_sub hl [0] rfl)
theorem mok_X1_move : mOK yX1_move 2 := ⟨⟨by decide +kernel, by decide +kernel⟩, by decide +kernel⟩
abbrev KX1_move (l : Launch) (D : DD) (h0 hE : AH) (v : Int32) : KT := (l, yX1_move, cX1_move, 3, (some .boolean), RX1, 3, D, h0, hE, .inl (some (.int v)), false, [])
theorem metX1_move (l : Launch) (D : DD) {a0 : Nat} {a1 : Int32} {a2 : Int32} {h0 : AH} {hE : AH} {v : Int32} (hr : fX1_move a0 a1 a2 h0 = some (v, hE)) : AMet (KX1_move l D h0 hE v) [.ref a0, .int a1, .int a2] := by
  refine AMet.of (K := (KX1_move l D h0 hE v)) rfl ⟨_, rfl⟩ rfl rfl rfl (Nat.le_of_ble_eq_true rfl) (fun ls hl => ?_)
  have hl : lv_has ls 3 [(0, .ref a0), (1, .int a1), (2, .int a2)] := hl
  suffices hsp : SP (fX1_move a0 a1 a2 h0) (fun z => z = (v, hE)) (AW (KX1_move l D h0 hE v) h0 0 ls []) from hsp _ hr rfl
  unfold fX1_move
  refine sp_m (aw_aload_n (pc := 0) dX1_move_0 rfl (lv_at hl 0 rfl)) ?_
  refine sp_m (aw_aload_n (pc := 1) dX1_move_1 rfl (lv_at hl 0 rfl)) ?_
  refine sp_m (aw_iload_n (pc := 2) dX1_move_2 rfl (lv_at hl 1 rfl)) ?_
  refine sp_g fun s2 => ?_
  refine sp_b fun p1 ep1 => ?_
  refine sp_m (G' := AW (KX1_move l D h0 hE v) h0 (6) ls (.int p1 :: .ref a0 :: [])) (fun kk => aw_callV (As := [.int a1]) (metX1_isBeast _ _ ep1) (rcv_o okX1 s2) rfl mok_X1_isBeast q974 q976 qs27 q116 q977 (Nat.le_of_ble_eq_true rfl) (Nat.le_of_ble_eq_true rfl) rfl hl.1 rfl (Nat.le_of_ble_eq_true rfl) (pc := 3) dX1_move_3 kk) ?_
  have hj50_1 : ∀ j3 : Int32, ∀ ls : Array Slot, lv_has ls 3 [(0, .ref a0), (1, .int a1), (2, .int a2)] → SP (X1_move_j50 a0 a1 a2 h0 j3) (fun z => z = (v, hE)) (AW (KX1_move l D h0 hE v) h0 50 ls (.int j3 :: .ref a0 :: [])) := by
    intro j3 ls hl
    unfold X1_move_j50
    refine sp_b fun p4 ep4 => ?_
    refine sp_m (G' := AW (KX1_move l D h0 hE v) p4.2 (53) ls (.int p4.1 :: [])) (fun kk => aw_callV (As := [.int j3]) (metX1_yes _ _ ep4) (rcv_o okX1 s2) rfl mok_X1_yes q1410 q1412 qs47 q116 q1413 (Nat.le_of_ble_eq_true rfl) (Nat.le_of_ble_eq_true rfl) rfl hl.1 rfl (Nat.le_of_ble_eq_true rfl) (pc := 50) dX1_move_50 kk) ?_
    refine sp_if (fun c5 => ?_) (fun c5 => ?_)
    · refine sp_m (aw_if_ne_t (tgt := 58) (pc := 53) dX1_move_53 (by decide) c5) ?_
      refine sp_m (aw_aload_n (pc := 58) dX1_move_58 rfl (lv_at hl 0 rfl)) ?_
      refine sp_g fun s7 => ?_
      refine sp_b fun p6 ep6 => ?_
      refine sp_m (G' := AW (KX1_move l D h0 hE v) p6 (62) ls ([])) (fun kk => aw_callV (As := []) (metX1_note _ _ ep6) (rcv_o okX1 s7) rfl mok_X1_note q1414 q1416 qs48 q116 q1417 (Nat.le_of_ble_eq_true rfl) (Nat.le_of_ble_eq_true rfl) rfl hl.1 rfl (Nat.le_of_ble_eq_true rfl) (pc := 59) dX1_move_59 kk) ?_
      refine sp_m (aw_aload_n (pc := 62) dX1_move_62 rfl (lv_at hl 0 rfl)) ?_
      refine sp_g fun s8 => ?_
      refine sp_b fun x9 ex9 => ?_
      refine sp_m (aw_get (k := 9) okX1 s8 (by decide) q375 (Or.inl rfl) (congrArg va_rf ex9) (pc := 63) dX1_move_63) ?_
      refine sp_g fun s10 => ?_
      refine sp_b fun x11 ex11 => ?_
      refine sp_m (aw_get (k := 0) okX4 s10 (by decide) q274 (Or.inl rfl) (congrArg va_rf ex11) (pc := 66) dX1_move_66) ?_
      refine sp_m (aw_iload_n (pc := 69) dX1_move_69 rfl (lv_at hl 1 rfl)) ?_
      refine sp_m (aw_iload_n (pc := 70) dX1_move_70 rfl (lv_at hl 2 rfl)) ?_
      refine sp_g fun s12 => ?_
      refine sp_g fun i13 => ?_
      refine sp_t fun h14 eh140 => ?_
      have eh14 : gS h14 = gS p6 := by rw [eh140]; rfl
      refine sp_m (fun kk => aw_iast s12 i13 (pc := 71) dX1_move_71 (AWe eh140 kk)) ?_
      refine sp_m (aw_aload_n (pc := 72) dX1_move_72 rfl (lv_at hl 0 rfl)) ?_
      refine sp_b fun p15 ep15 => ?_
      refine sp_m (G' := AW (KX1_move l D h0 hE v) p15.2 (76) ls (.int p15.1 :: [])) (fun kk => aw_callV (As := []) (metX1_done _ _ ep15) (rcv_o okX1 (uS eh14 s8)) rfl mok_X1_done q1418 q1420 qs49 q116 q1421 (Nat.le_of_ble_eq_true rfl) (Nat.le_of_ble_eq_true rfl) rfl hl.1 rfl (Nat.le_of_ble_eq_true rfl) (pc := 73) dX1_move_73 kk) ?_
      refine sp_g fun g16 => ?_
      exact sp_r fun hz => aw_zret (nar_b g16) hz rfl rfl rfl (pc := 76) dX1_move_76
    · refine sp_m (aw_if_ne_f (tgt := 58) (pc := 53) dX1_move_53 (by decide) (Decidable.not_not.mp c5)) ?_
      refine sp_m (aw_iconst (v := 0) (pc := 56) dX1_move_56 rfl) ?_
      exact sp_r fun hz => aw_zret (nar_b (Or.inl rfl)) hz rfl rfl rfl (pc := 57) dX1_move_57
  have hj17_2 : ∀ ls : Array Slot, lv_has ls 3 [(0, .ref a0), (1, .int a1), (2, .int a2)] → SP (X1_move_j17 a0 a1 a2 h0) (fun z => z = (v, hE)) (AW (KX1_move l D h0 hE v) h0 17 ls (.ref a0 :: [])) := by
    intro ls hl
    unfold X1_move_j17
    refine sp_m (aw_iconst (v := 1) (pc := 17) dX1_move_17 rfl) ?_
    refine sp_m (aw_goto (tgt := 50) (pc := 18) dX1_move_18 (by decide)) ?_
    exact hj50_1 1 ls (lv_sub hl [0, 1, 2] rfl)
  refine sp_if (fun c17 => ?_) (fun c17 => ?_)
  · refine sp_m (aw_if_eq_t (tgt := 17) (pc := 6) dX1_move_6 (by decide) c17) ?_
    exact hj17_2 ls (lv_sub hl [0, 1, 2] rfl)
  · refine sp_m (aw_if_eq_f (tgt := 17) (pc := 6) dX1_move_6 (by decide) c17) ?_
    refine sp_m (aw_aload_n (pc := 9) dX1_move_9 rfl (lv_at hl 0 rfl)) ?_
    refine sp_m (aw_iload_n (pc := 10) dX1_move_10 rfl (lv_at hl 2 rfl)) ?_
    refine sp_b fun p18 ep18 => ?_
    refine sp_m (G' := AW (KX1_move l D h0 hE v) h0 (14) ls (.int p18 :: .ref a0 :: [])) (fun kk => aw_callV (As := [.int a2]) (metX1_isLane _ _ ep18) (rcv_o okX1 s2) rfl mok_X1_isLane q941 q943 qs25 q116 q944 (Nat.le_of_ble_eq_true rfl) (Nat.le_of_ble_eq_true rfl) rfl hl.1 rfl (Nat.le_of_ble_eq_true rfl) (pc := 11) dX1_move_11 kk) ?_
    refine sp_if (fun c19 => ?_) (fun c19 => ?_)
    · refine sp_m (aw_if_ne_t (tgt := 21) (pc := 14) dX1_move_14 (by decide) c19) ?_
      refine sp_m (aw_aload_n (pc := 21) dX1_move_21 rfl (lv_at hl 0 rfl)) ?_
      refine sp_b fun x20 ex20 => ?_
      refine sp_m (aw_get (k := 9) okX1 s2 (by decide) q375 (Or.inl rfl) (congrArg va_rf ex20) (pc := 22) dX1_move_22) ?_
      refine sp_m (aw_iload_n (pc := 25) dX1_move_25 rfl (lv_at hl 1 rfl)) ?_
      refine sp_g fun s22 => ?_
      refine sp_b fun p21 ep21 => ?_
      refine sp_m (G' := AW (KX1_move l D h0 hE v) h0 (29) ls (.int p21 :: .ref a0 :: [])) (fun kk => aw_callV (As := [.int a1]) (metX4_isDead _ _ ep21) (rcv_o okX4 s22) rfl mok_X4_isDead q963 q964 q965 q122 q966 (Nat.le_of_ble_eq_true rfl) (Nat.le_of_ble_eq_true rfl) rfl hl.1 rfl (Nat.le_of_ble_eq_true rfl) (pc := 26) dX1_move_26 kk) ?_
      have hj45_3 : ∀ ls : Array Slot, lv_has ls 3 [(0, .ref a0), (1, .int a1), (2, .int a2)] → SP (X1_move_j45 a0 a1 a2 h0) (fun z => z = (v, hE)) (AW (KX1_move l D h0 hE v) h0 45 ls (.ref a0 :: [])) := by
        intro ls hl
        unfold X1_move_j45
        refine sp_m (aw_iconst (v := 5) (pc := 45) dX1_move_45 rfl) ?_
        refine sp_m (aw_goto (tgt := 50) (pc := 46) dX1_move_46 (by decide)) ?_
        exact hj50_1 5 ls (lv_sub hl [0, 1, 2] rfl)
      refine sp_if (fun c23 => ?_) (fun c23 => ?_)
      · refine sp_m (aw_if_ne_t (tgt := 45) (pc := 29) dX1_move_29 (by decide) c23) ?_
        exact hj45_3 ls (lv_sub hl [0, 1, 2] rfl)
      · refine sp_m (aw_if_ne_f (tgt := 45) (pc := 29) dX1_move_29 (by decide) (Decidable.not_not.mp c23)) ?_
        refine sp_m (aw_aload_n (pc := 32) dX1_move_32 rfl (lv_at hl 0 rfl)) ?_
        refine sp_b fun x24 ex24 => ?_
        refine sp_m (aw_get (k := 9) okX1 s2 (by decide) q375 (Or.inl rfl) (congrArg va_rf ex24) (pc := 33) dX1_move_33) ?_
        refine sp_g fun s25 => ?_
        refine sp_b fun x26 ex26 => ?_
        refine sp_m (aw_get (k := 0) okX4 s25 (by decide) q274 (Or.inl rfl) (congrArg va_rf ex26) (pc := 36) dX1_move_36) ?_
        refine sp_m (aw_iload_n (pc := 39) dX1_move_39 rfl (lv_at hl 1 rfl)) ?_
        refine sp_g fun s27 => ?_
        refine sp_g fun i28 => ?_
        refine sp_m (aw_iald s27 i28 (pc := 40) dX1_move_40) ?_
        refine sp_m (aw_iload_n (pc := 41) dX1_move_41 rfl (lv_at hl 2 rfl)) ?_
        refine sp_if (fun c29 => ?_) (fun c29 => ?_)
        · refine sp_m (aw_icmp_ne_t (tgt := 49) (pc := 42) dX1_move_42 (by decide) c29) ?_
          refine sp_m (aw_iconst (v := 0) (pc := 49) dX1_move_49 rfl) ?_
          exact hj50_1 0 ls (lv_sub hl [0, 1, 2] rfl)
        · refine sp_m (aw_icmp_ne_f (tgt := 49) (pc := 42) dX1_move_42 (by decide) (Decidable.not_not.mp c29)) ?_
          exact hj45_3 ls (lv_sub hl [0, 1, 2] rfl)
    · refine sp_m (aw_if_ne_f (tgt := 21) (pc := 14) dX1_move_14 (by decide) (Decidable.not_not.mp c19)) ?_
      exact hj17_2 ls (lv_sub hl [0, 1, 2] rfl)
theorem mok_X1_none : mOK yX1_none 1 := ⟨⟨by decide +kernel, by decide +kernel⟩, by decide +kernel⟩
abbrev KX1_none (l : Launch) (D : DD) (h0 hE : AH) (v : Int64) : KT := (l, yX1_none, cX1_none, 2, (some .long), RX1, 1, D, h0, hE, .inl (some (.long v)), false, [])
theorem metX1_none (l : Launch) (D : DD) {a0 : Nat} {a1 : Int32} {h0 : AH} {hE : AH} {v : Int64} (hr : fX1_none a0 a1 h0 = some (v, hE)) : AMet (KX1_none l D h0 hE v) [.ref a0, .int a1] := by
  refine AMet.of (K := (KX1_none l D h0 hE v)) rfl ⟨_, rfl⟩ rfl rfl rfl (Nat.le_of_ble_eq_true rfl) (fun ls hl => ?_)
  have hl : lv_has ls 2 [(0, .ref a0), (1, .int a1)] := hl
  suffices hsp : SP (fX1_none a0 a1 h0) (fun z => z = (v, hE)) (AW (KX1_none l D h0 hE v) h0 0 ls []) from hsp _ hr rfl
  unfold fX1_none
  refine sp_m (aw_aload_n (pc := 0) dX1_none_0 rfl (lv_at hl 0 rfl)) ?_
  refine sp_m (aw_iload_n (pc := 1) dX1_none_1 rfl (lv_at hl 1 rfl)) ?_
  refine sp_g fun s1 => ?_
  refine sp_t fun h2 eh20 => ?_
  have eh2 : gS h2 = gS h0 := by rw [eh20]; rfl
  refine sp_m (aw_put (k := 4) okX1 opX1 s1 (by decide) q370 (Or.inl rfl) (Or.inl rfl) (hasV_I' eh20) rfl rfl (pc := 2) dX1_none_2) ?_
  refine sp_m (aw_ldc2 q1149 (pc := 5) dX1_none_5) ?_
  exact sp_r fun hz => aw_lret hz rfl rfl rfl (pc := 8) dX1_none_8
theorem mok_X1_ones : mOK yX1_ones 1 := ⟨⟨by decide +kernel, by decide +kernel⟩, by decide +kernel⟩
abbrev KX1_ones (l : Launch) (D : DD) (h0 : AH) (v : Int32) : KT := (l, yX1_ones, cX1_ones, 3, (some .int), RX1, 1, D, h0, h0, .inl (some (.int v)), false, [])
theorem metX1_ones (l : Launch) (D : DD) {a0 : Int32} {h0 : AH} {v : Int32} (hr : fX1_ones a0 h0 = some v) : AMet (KX1_ones l D h0 v) [.int a0] := by
  refine AMet.of (K := (KX1_ones l D h0 v)) rfl ⟨_, rfl⟩ rfl rfl rfl (Nat.le_of_ble_eq_true rfl) (fun ls hl => ?_)
  have hl : lv_has ls 3 [(0, .int a0)] := hl
  suffices hsp : SP (fX1_ones a0 h0) (fun z => z = v) (AW (KX1_ones l D h0 v) h0 0 ls []) from hsp _ hr rfl
  unfold fX1_ones
  refine sp_m (aw_iconst (v := 0) (pc := 0) dX1_ones_0 rfl) ?_
  refine sp_m (aw_istore_n (lv' := [(1, .int 0), (0, .int a0)]) (pc := 1) dX1_ones_1 rfl hl (by decide) rfl) (sp_all fun ls hl => ?_)
  refine sp_m (aw_iload_n (pc := 2) dX1_ones_2 rfl (lv_at hl 1 rfl)) ?_
  refine sp_m (aw_istore_n (lv' := [(2, .int a0), (1, .int 0), (0, .int a0)]) (pc := 3) dX1_ones_3 rfl hl (by decide) rfl) (sp_all fun ls hl => ?_)
  let P1 : Int32 × Int32 → Prop := aLP (KX1_ones l D h0 v) 3 4 (fun s1v : Int32 × Int32 => [(1, .int s1v.1), (2, .int s1v.2)]) (fun s1v => h0)
  let E1 : Int32 → Prop := aLP (KX1_ones l D h0 v) 3 20 (fun r1v : Int32 => [(1, .int r1v)]) (fun r1v => h0)
  refine sp_bl (P := P1) (E := E1) (fun s1v => sp_all fun ls hl => ?_) (fun k => k ls (lv_sub hl [1, 0] rfl)) (fun r1v => sp_all fun ls hl => ?_)
  · have hl : lv_has ls 3 [(1, .int s1v.1), (2, .int s1v.2)] := hl
    show SP _ _ (AW (KX1_ones l D h0 v) h0 4 ls [])
    unfold X1_ones_L4
    refine sp_m (aw_iload_n (pc := 4) dX1_ones_4 rfl (lv_at hl 1 rfl)) ?_
    refine sp_if (fun c2 => ?_) (fun c2 => ?_)
    · refine sp_m (aw_if_eq_t (tgt := 20) (pc := 5) dX1_ones_5 (by decide) c2) ?_
      exact sp_r fun hz => hz ls (lv_sub hl [0] rfl)
    · refine sp_m (aw_if_eq_f (tgt := 20) (pc := 5) dX1_ones_5 (by decide) c2) ?_
      refine sp_m (aw_iinc (v := s1v.1 + 1) (lv' := [(1, .int (s1v.1 + 1)), (2, .int s1v.2)]) (pc := 8) dX1_ones_8 hl (k := 0) rfl rfl (by decide) rfl) (sp_all fun ls hl => ?_)
      refine sp_m (aw_iload_n (pc := 11) dX1_ones_11 rfl (lv_at hl 1 rfl)) ?_
      refine sp_m (aw_iload_n (pc := 12) dX1_ones_12 rfl (lv_at hl 1 rfl)) ?_
      refine sp_m (aw_iconst (v := 1) (pc := 13) dX1_ones_13 rfl) ?_
      refine sp_m (aw_isub (pc := 14) dX1_ones_14) ?_
      refine sp_m (aw_iand (pc := 15) dX1_ones_15) ?_
      refine sp_m (aw_istore_n (lv' := [(2, .int (s1v.2 &&& (s1v.2 - 1))), (1, .int (s1v.1 + 1))]) (pc := 16) dX1_ones_16 rfl hl (by decide) rfl) (sp_all fun ls hl => ?_)
      refine sp_m (aw_goto (tgt := 4) (pc := 17) dX1_ones_17 (by decide)) ?_
      exact sp_r fun hz => hz ls (lv_sub hl [1, 0] rfl)
  · have hl : lv_has ls 3 [(1, .int r1v)] := hl
    show SP _ _ (AW (KX1_ones l D h0 v) h0 20 ls [])
    refine sp_m (aw_iload_n (pc := 20) dX1_ones_20 rfl (lv_at hl 0 rfl)) ?_
    exact sp_r fun hz => aw_iret (congrArg (fun z => (z, h0)) hz) rfl rfl rfl (pc := 21) dX1_ones_21
theorem mok_X5_at : mOK yX5_at 1 := ⟨⟨by decide +kernel, by decide +kernel⟩, by decide +kernel⟩
abbrev KX5_at (l : Launch) (D : DD) (h0 : AH) (v : Int32) : KT := (l, yX5_at, cX5_at, 2, (some .int), RX5, 1, D, h0, h0, .inl (some (.int v)), false, [])
theorem metX5_at (l : Launch) (D : DD) {a0 : Nat} {a1 : Int32} {h0 : AH} {v : Int32} (hr : fX5_at a0 a1 h0 = some v) : AMet (KX5_at l D h0 v) [.ref a0, .int a1] := by
  refine AMet.of (K := (KX5_at l D h0 v)) rfl ⟨_, rfl⟩ rfl rfl rfl (Nat.le_of_ble_eq_true rfl) (fun ls hl => ?_)
  have hl : lv_has ls 2 [(0, .ref a0), (1, .int a1)] := hl
  suffices hsp : SP (fX5_at a0 a1 h0) (fun z => z = v) (AW (KX5_at l D h0 v) h0 0 ls []) from hsp _ hr rfl
  unfold fX5_at
  refine sp_m (aw_aload_n (pc := 0) dX5_at_0 rfl (lv_at hl 0 rfl)) ?_
  refine sp_g fun s1 => ?_
  refine sp_b fun x2 ex2 => ?_
  refine sp_m (aw_get (k := 1) okX5 s1 (by decide) q321 (Or.inl rfl) (congrArg va_rf ex2) (pc := 1) dX5_at_1) ?_
  refine sp_m (aw_iload_n (pc := 4) dX5_at_4 rfl (lv_at hl 1 rfl)) ?_
  refine sp_g fun s3 => ?_
  refine sp_g fun i4 => ?_
  refine sp_m (aw_iald s3 i4 (pc := 5) dX5_at_5) ?_
  exact sp_r fun hz => aw_iret (congrArg (fun z => (z, h0)) hz) rfl rfl rfl (pc := 6) dX5_at_6
theorem mok_X5_tries : mOK yX5_tries 3 := ⟨⟨by decide +kernel, by decide +kernel⟩, by decide +kernel⟩
abbrev KX5_tries (n : Nat) (l : Launch) (D : DD) (h0 hE : AH) : KT := (l, yX5_tries, cX5_tries, 6, none, RX5, 7 + n, D, h0, hE, .inl (none), false, [])
theorem metX5_tries (n : Nat) (l : Launch) (D : DD)  : ∀ {a0 : Nat} {a1 : Int32} {a2 : Int32} {a3 : Int64} (h0 : AH) {hE : AH}, fX5_tries n a0 a1 a2 a3 h0 = some hE → AMet (KX5_tries n l D h0 hE) [.ref a0, .int a1, .int a2, .long a3] := by
  induction n with
  | zero => intro a0 a1 a2 a3 h0 hE hr; cases hr
  | succ n ih =>
    intro a0 a1 a2 a3 h0 hE hr
    refine AMet.of (K := (KX5_tries (n + 1) l D h0 hE)) rfl ⟨_, rfl⟩ rfl rfl rfl (Nat.le_of_ble_eq_true rfl) (fun ls hl => ?_)
    have hl : lv_has ls 6 [(0, .ref a0), (1, .int a1), (2, .int a2), (3, .long a3)] := hl
    suffices hsp : SP (fX5_tries (n + 1) a0 a1 a2 a3 h0) (fun z => z = hE) (AW (KX5_tries (n + 1) l D h0 hE) h0 0 ls []) from hsp _ hr rfl
    unfold fX5_tries
    refine sp_m (aw_iload_n (pc := 0) dX5_tries_0 rfl (lv_at hl 1 rfl)) ?_
    refine sp_m (aw_aload_n (pc := 1) dX5_tries_1 rfl (lv_at hl 0 rfl)) ?_
    refine sp_g fun s1 => ?_
    refine sp_b fun x2 ex2 => ?_
    refine sp_m (aw_get (k := 2) okX5 s1 (by decide) q322 (Or.inl rfl) (congrArg va_rf ex2) (pc := 2) dX5_tries_2) ?_
    refine sp_g fun s3 => ?_
    refine sp_m (aw_get (k := 8) okX8 s3 (by decide) q504 (Or.inl rfl) rfl (pc := 5) dX5_tries_5) ?_
    refine sp_if (fun c4 => ?_) (fun c4 => ?_)
    · refine sp_m (aw_icmp_ne_t (tgt := 53) (pc := 8) dX5_tries_8 (by decide) c4) ?_
      refine sp_m (aw_iconst (v := 0) (pc := 53) dX5_tries_53 rfl) ?_
      refine sp_m (aw_istore (lv' := [(5, .int 0), (0, .ref a0), (1, .int a1), (2, .int a2), (3, .long a3)]) (pc := 54) dX5_tries_54 hl (by decide) rfl) (sp_all fun ls hl => ?_)
      let P5 : Int32 × AH → Prop := aLP (KX5_tries (n + 1) l D h0 hE) 6 56 (fun s5v : Int32 × AH => [(0, .ref a0), (1, .int a1), (2, .int a2), (3, .long a3), (5, .int s5v.1)]) (fun s5v => s5v.2)
      let E5 : AH → Prop := aLP (KX5_tries (n + 1) l D h0 hE) 6 130 (fun r5v : AH => [(0, .ref a0), (1, .int a1), (2, .int a2), (3, .long a3)]) (fun r5v => r5v)
      refine sp_bl (P := P5) (E := E5) (fun s5v => sp_all fun ls hl => ?_) (fun k => k ls (lv_sub hl [1, 2, 3, 4, 0] rfl)) (fun r5v => sp_all fun ls hl => ?_)
      · have hl : lv_has ls 6 [(0, .ref a0), (1, .int a1), (2, .int a2), (3, .long a3), (5, .int s5v.1)] := hl
        show SP _ _ (AW (KX5_tries (n + 1) l D h0 hE) s5v.2 56 ls [])
        unfold X5_tries_L56
        refine sp_m (aw_iload (pc := 56) dX5_tries_56 (lv_at hl 4 rfl)) ?_
        refine sp_m (aw_aload_n (pc := 58) dX5_tries_58 rfl (lv_at hl 0 rfl)) ?_
        refine sp_g fun s6 => ?_
        refine sp_b fun x7 ex7 => ?_
        refine sp_m (aw_get (k := 2) okX5 s6 (by decide) q322 (Or.inl rfl) (congrArg va_rf ex7) (pc := 59) dX5_tries_59) ?_
        refine sp_g fun s8 => ?_
        refine sp_m (aw_get (k := 5) okX8 s8 (by decide) q494 (Or.inl rfl) rfl (pc := 62) dX5_tries_62) ?_
        refine sp_if (fun c9 => ?_) (fun c9 => ?_)
        · refine sp_m (aw_icmp_ge_t (tgt := 130) (pc := 65) dX5_tries_65 (by decide) c9) ?_
          exact sp_r fun hz => hz ls (lv_sub hl [0, 1, 2, 3] rfl)
        · refine sp_m (aw_icmp_ge_f (tgt := 130) (pc := 65) dX5_tries_65 (by decide) c9) ?_
          refine sp_m (aw_aload_n (pc := 68) dX5_tries_68 rfl (lv_at hl 0 rfl)) ?_
          refine sp_b fun x10 ex10 => ?_
          refine sp_m (aw_get (k := 3) okX5 s6 (by decide) q323 (Or.inl rfl) (congrArg va_rf ex10) (pc := 69) dX5_tries_69) ?_
          refine sp_m (aw_iload_n (pc := 72) dX5_tries_72 rfl (lv_at hl 1 rfl)) ?_
          refine sp_g fun s12 => ?_
          refine sp_b fun p11 ep11 => ?_
          refine sp_m (G' := AW (KX5_tries (n + 1) l D h0 hE) s5v.2 (76) ls (.int p11 :: [])) (fun kk => aw_callV (As := [.int a1]) (metX4_isDead _ _ ep11) (rcv_o okX4 s12) rfl mok_X4_isDead q1204 q964 q965 q122 q966 (by show _ ≤ 7 + (n + 1); omega) (Nat.le_of_ble_eq_true rfl) rfl hl.1 rfl (Nat.le_of_ble_eq_true rfl) (pc := 73) dX5_tries_73 kk) ?_
          refine sp_if (fun c13 => ?_) (fun c13 => ?_)
          · refine sp_m (aw_if_ne_t (tgt := 130) (pc := 76) dX5_tries_76 (by decide) c13) ?_
            exact sp_r fun hz => hz ls (lv_sub hl [0, 1, 2, 3] rfl)
          · refine sp_m (aw_if_ne_f (tgt := 130) (pc := 76) dX5_tries_76 (by decide) (Decidable.not_not.mp c13)) ?_
            refine sp_m (aw_iload_n (pc := 79) dX5_tries_79 rfl (lv_at hl 2 rfl)) ?_
            refine sp_m (aw_iload (pc := 80) dX5_tries_80 (lv_at hl 4 rfl)) ?_
            refine sp_b fun p14 ep14 => ?_
            refine sp_m (G' := AW (KX5_tries (n + 1) l D h0 hE) s5v.2 (85) ls (.int p14 :: [])) (fun kk => aw_callSN (As := [.int a2, .int s5v.1]) (host := "ElephantLine") (metX1_has _ _ ep14) mok_X1_has nq1205 q968 q116 q969 (by show _ ≤ 7 + (n + 1); omega) (Nat.le_of_ble_eq_true rfl) rfl hl.1 rfl (Nat.le_of_ble_eq_true rfl) (pc := 82) dX5_tries_82 kk) ?_
            have hj124_1 : ∀ h15 : AH, ∀ ls : Array Slot, lv_has ls 6 [(0, .ref a0), (1, .int a1), (2, .int a2), (3, .long a3), (5, .int s5v.1)] → SP (X5_tries_j124 (fX5_tries n) s5v h15) (ZL P5 E5) (AW (KX5_tries (n + 1) l D h0 hE) h15 124 ls ([])) := by
              intro h15 ls hl
              unfold X5_tries_j124
              refine sp_m (aw_iinc (v := s5v.1 + 1) (lv' := [(5, .int (s5v.1 + 1)), (0, .ref a0), (1, .int a1), (2, .int a2), (3, .long a3)]) (pc := 124) dX5_tries_124 hl (k := 4) rfl rfl (by decide) rfl) (sp_all fun ls hl => ?_)
              refine sp_m (aw_goto (tgt := 56) (pc := 127) dX5_tries_127 (by decide)) ?_
              exact sp_r fun hz => hz ls (lv_sub hl [1, 2, 3, 4, 0] rfl)
            refine sp_if (fun c16 => ?_) (fun c16 => ?_)
            · refine sp_m (aw_if_eq_t (tgt := 91) (pc := 85) dX5_tries_85 (by decide) c16) ?_
              refine sp_m (aw_aload_n (pc := 91) dX5_tries_91 rfl (lv_at hl 0 rfl)) ?_
              refine sp_b fun x17 ex17 => ?_
              refine sp_m (aw_get (k := 0) okX5 s6 (by decide) q320 (Or.inl rfl) (congrArg va_rf ex17) (pc := 92) dX5_tries_92) ?_
              refine sp_m (aw_iload_n (pc := 95) dX5_tries_95 rfl (lv_at hl 1 rfl)) ?_
              refine sp_m (aw_iload (pc := 96) dX5_tries_96 (lv_at hl 4 rfl)) ?_
              refine sp_g fun s18 => ?_
              refine sp_g fun i19 => ?_
              refine sp_t fun h20 eh200 => ?_
              have eh20 : gS h20 = gS s5v.2 := by rw [eh200]; rfl
              refine sp_m (fun kk => aw_iast s18 i19 (pc := 98) dX5_tries_98 (AWe eh200 kk)) ?_
              refine sp_m (aw_aload_n (pc := 99) dX5_tries_99 rfl (lv_at hl 0 rfl)) ?_
              refine sp_m (aw_iload_n (pc := 100) dX5_tries_100 rfl (lv_at hl 1 rfl)) ?_
              refine sp_m (aw_iconst (v := 1) (pc := 101) dX5_tries_101 rfl) ?_
              refine sp_m (aw_iadd (pc := 102) dX5_tries_102) ?_
              refine sp_m (aw_iload_n (pc := 103) dX5_tries_103 rfl (lv_at hl 2 rfl)) ?_
              refine sp_m (aw_iconst (v := 1) (pc := 104) dX5_tries_104 rfl) ?_
              refine sp_m (aw_iload (pc := 105) dX5_tries_105 (lv_at hl 4 rfl)) ?_
              refine sp_m (aw_ishl (pc := 107) dX5_tries_107) ?_
              refine sp_m (aw_ior (pc := 108) dX5_tries_108) ?_
              refine sp_m (aw_lload_n (pc := 109) dX5_tries_109 rfl (lv_at hl 3 rfl)) ?_
              refine sp_m (aw_aload_n (pc := 110) dX5_tries_110 rfl (lv_at hl 0 rfl)) ?_
              refine sp_b fun x21 ex21 => ?_
              refine sp_m (aw_get (k := 3) okX5 (uS eh20 s6) (by decide) q323 (Or.inl rfl) (congrArg va_rf ex21) (pc := 111) dX5_tries_111) ?_
              refine sp_m (aw_iload_n (pc := 114) dX5_tries_114 rfl (lv_at hl 1 rfl)) ?_
              refine sp_m (aw_iload (pc := 115) dX5_tries_115 (lv_at hl 4 rfl)) ?_
              refine sp_g fun s23 => ?_
              refine sp_b fun p22 ep22 => ?_
              refine sp_m (G' := AW (KX5_tries (n + 1) l D h0 hE) h20 (120) ls (.long p22 :: .long a3 :: .int (a2 ||| (1 <<< (s5v.1 &&& 31))) :: .int (a1 + 1) :: .ref a0 :: [])) (fun kk => aw_callV (As := [.int a1, .int s5v.1]) (metX4_worth _ _ ep22) (rcv_o okX4 s23) rfl mok_X4_worth q1206 q1140 q1141 q122 q1142 (by show _ ≤ 7 + (n + 1); omega) (Nat.le_of_ble_eq_true rfl) rfl hl.1 rfl (Nat.le_of_ble_eq_true rfl) (pc := 117) dX5_tries_117 kk) ?_
              refine sp_m (aw_ladd (pc := 120) dX5_tries_120) ?_
              refine sp_b fun p24 ep24 => ?_
              refine sp_m (G' := AW (KX5_tries (n + 1) l D h0 hE) p24 (124) ls ([])) (fun kk => aw_callV (As := [.int (a1 + 1), .int (a2 ||| (1 <<< (s5v.1 &&& 31))), .long (a3 + p22)]) (ih _ ep24) (rcv_o okX5 (uS eh20 s6)) rfl mok_X5_tries q1199 q1201 qs32 q123 q1202 (Nat.le_refl _) (Nat.le_of_ble_eq_true rfl) rfl hl.1 rfl (Nat.le_of_ble_eq_true rfl) (pc := 121) dX5_tries_121 kk) ?_
              exact hj124_1 p24 ls (lv_sub hl [0, 1, 2, 3, 4] rfl)
            · refine sp_m (aw_if_eq_f (tgt := 91) (pc := 85) dX5_tries_85 (by decide) c16) ?_
              refine sp_m (aw_goto (tgt := 124) (pc := 88) dX5_tries_88 (by decide)) ?_
              exact hj124_1 s5v.2 ls (lv_sub hl [0, 1, 2, 3, 4] rfl)
      · have hl : lv_has ls 6 [(0, .ref a0), (1, .int a1), (2, .int a2), (3, .long a3)] := hl
        show SP _ _ (AW (KX5_tries (n + 1) l D h0 hE) r5v 130 ls [])
        refine sp_m (aw_aload_n (pc := 130) dX5_tries_130 rfl (lv_at hl 0 rfl)) ?_
        refine sp_g fun s25 => ?_
        refine sp_b fun x26 ex26 => ?_
        refine sp_m (aw_get (k := 0) okX5 s25 (by decide) q320 (Or.inl rfl) (congrArg va_rf ex26) (pc := 131) dX5_tries_131) ?_
        refine sp_m (aw_iload_n (pc := 134) dX5_tries_134 rfl (lv_at hl 1 rfl)) ?_
        refine sp_m (aw_bipush (v := (-2)) (pc := 135) dX5_tries_135 rfl) ?_
        refine sp_g fun s27 => ?_
        refine sp_g fun i28 => ?_
        refine sp_t fun h29 eh290 => ?_
        have eh29 : gS h29 = gS r5v := by rw [eh290]; rfl
        refine sp_m (fun kk => aw_iast s27 i28 (pc := 137) dX5_tries_137 (AWe eh290 kk)) ?_
        refine sp_m (aw_aload_n (pc := 138) dX5_tries_138 rfl (lv_at hl 0 rfl)) ?_
        refine sp_m (aw_iload_n (pc := 139) dX5_tries_139 rfl (lv_at hl 1 rfl)) ?_
        refine sp_m (aw_iconst (v := 1) (pc := 140) dX5_tries_140 rfl) ?_
        refine sp_m (aw_iadd (pc := 141) dX5_tries_141) ?_
        refine sp_m (aw_iload_n (pc := 142) dX5_tries_142 rfl (lv_at hl 2 rfl)) ?_
        refine sp_m (aw_lload_n (pc := 143) dX5_tries_143 rfl (lv_at hl 3 rfl)) ?_
        refine sp_b fun p30 ep30 => ?_
        refine sp_m (G' := AW (KX5_tries (n + 1) l D h0 hE) p30 (147) ls ([])) (fun kk => aw_callV (As := [.int (a1 + 1), .int a2, .long a3]) (ih _ ep30) (rcv_o okX5 (uS eh29 s25)) rfl mok_X5_tries q1199 q1201 qs32 q123 q1202 (Nat.le_refl _) (Nat.le_of_ble_eq_true rfl) rfl hl.1 rfl (Nat.le_of_ble_eq_true rfl) (pc := 144) dX5_tries_144 kk) ?_
        exact sp_r fun hz => aw_vret hz rfl rfl rfl (pc := 147) dX5_tries_147
    · refine sp_m (aw_icmp_ne_f (tgt := 53) (pc := 8) dX5_tries_8 (by decide) (Decidable.not_not.mp c4)) ?_
      refine sp_m (aw_aload_n (pc := 11) dX5_tries_11 rfl (lv_at hl 0 rfl)) ?_
      refine sp_m (aw_get (k := 4) okX5 s1 (by decide) q324 (Or.inl rfl) rfl (pc := 12) dX5_tries_12) ?_
      have hj28_3 : ∀ ls : Array Slot, lv_has ls 6 [(0, .ref a0), (3, .long a3)] → SP (X5_tries_j28 (fX5_tries n) a0 a3 h0) (fun z => z = hE) (AW (KX5_tries (n + 1) l D h0 hE) h0 28 ls ([])) := by
        intro ls hl
        unfold X5_tries_j28
        refine sp_m (aw_aload_n (pc := 28) dX5_tries_28 rfl (lv_at hl 0 rfl)) ?_
        refine sp_m (aw_iconst (v := 1) (pc := 29) dX5_tries_29 rfl) ?_
        refine sp_t fun h31 eh310 => ?_
        have eh31 : gS h31 = gS h0 := by rw [eh310]; rfl
        refine sp_m (aw_put (k := 4) okX5 opX5 s1 (by decide) q324 (Or.inl rfl) (Or.inl rfl) (hasV_I' eh310) (nar_b (Or.inr rfl)) (fit_b (Or.inr rfl)) (pc := 30) dX5_tries_30) ?_
        refine sp_m (aw_aload_n (pc := 33) dX5_tries_33 rfl (lv_at hl 0 rfl)) ?_
        refine sp_m (aw_lload_n (pc := 34) dX5_tries_34 rfl (lv_at hl 1 rfl)) ?_
        refine sp_t fun h32 eh320 => ?_
        have eh32 : gS h32 = gS h31 := by rw [eh320]; rfl
        refine sp_m (aw_put (k := 5) okX5 opX5 (uS eh31 s1) (by decide) q325 (Or.inl rfl) (Or.inl rfl) (hasV_L' eh320) rfl rfl (pc := 35) dX5_tries_35) ?_
        refine sp_m (aw_aload_n (pc := 38) dX5_tries_38 rfl (lv_at hl 0 rfl)) ?_
        refine sp_b fun x33 ex33 => ?_
        refine sp_m (aw_get (k := 0) okX5 (uS eh32 (uS eh31 s1)) (by decide) q320 (Or.inl rfl) (congrArg va_rf ex33) (pc := 39) dX5_tries_39) ?_
        refine sp_m (aw_iconst (v := 0) (pc := 42) dX5_tries_42 rfl) ?_
        refine sp_m (aw_aload_n (pc := 43) dX5_tries_43 rfl (lv_at hl 0 rfl)) ?_
        refine sp_b fun x34 ex34 => ?_
        refine sp_m (aw_get (k := 1) okX5 (uS eh32 (uS eh31 s1)) (by decide) q321 (Or.inl rfl) (congrArg va_rf ex34) (pc := 44) dX5_tries_44) ?_
        refine sp_m (aw_iconst (v := 0) (pc := 47) dX5_tries_47 rfl) ?_
        refine sp_m (aw_iconst (v := 5) (pc := 48) dX5_tries_48 rfl) ?_
        refine sp_g fun s35 => ?_
        refine sp_g fun s36 => ?_
        refine sp_g fun g37a => ?_
        refine sp_g fun g37b => ?_
        refine sp_t fun h38 eh380 => ?_
        have eh38 : gS h38 = gS h32 := by rw [eh380]; rfl
        refine sp_m (fun kk => aw_copy hl.1 s35 s36 (by decide) (by decide) (by decide) g37a g37b q1203 q928 q927 q143 (Nat.le_of_ble_eq_true rfl) rfl (pc := 49) dX5_tries_49 (AWe eh380 kk)) ?_
        exact sp_r fun hz => aw_vret hz rfl rfl rfl (pc := 52) dX5_tries_52
      refine sp_if (fun c39 => ?_) (fun c39 => ?_)
      · refine sp_m (aw_if_eq_t (tgt := 28) (pc := 15) dX5_tries_15 (by decide) c39) ?_
        exact hj28_3 ls (lv_sub hl [0, 3] rfl)
      · refine sp_m (aw_if_eq_f (tgt := 28) (pc := 15) dX5_tries_15 (by decide) c39) ?_
        refine sp_m (aw_lload_n (pc := 18) dX5_tries_18 rfl (lv_at hl 3 rfl)) ?_
        refine sp_m (aw_aload_n (pc := 19) dX5_tries_19 rfl (lv_at hl 0 rfl)) ?_
        refine sp_m (aw_get (k := 5) okX5 s1 (by decide) q325 (Or.inl rfl) rfl (pc := 20) dX5_tries_20) ?_
        refine sp_m (aw_lcmp (pc := 23) dX5_tries_23) ?_
        refine sp_if (fun c40 => ?_) (fun c40 => ?_)
        · refine sp_m (aw_if_gt_t (tgt := 28) (pc := 24) dX5_tries_24 (by decide) ((lg_cmp_gt _ _).mpr c40)) ?_
          exact hj28_3 ls (lv_sub hl [0, 3] rfl)
        · refine sp_m (aw_if_gt_f (tgt := 28) (pc := 24) dX5_tries_24 (by decide) (fun z => c40 ((lg_cmp_gt _ _).mp z))) ?_
          exact sp_r fun hz => aw_vret hz rfl rfl rfl (pc := 27) dX5_tries_27
theorem mok_X5_seek : mOK yX5_seek 2 := ⟨⟨by decide +kernel, by decide +kernel⟩, by decide +kernel⟩
abbrev KX5_seek (l : Launch) (D : DD) (h0 hE : AH) : KT := (l, yX5_seek, cX5_seek, 3, none, RX5, 16, D, h0, hE, .inl (none), false, [])
theorem metX5_seek (l : Launch) (D : DD) {a0 : Nat} {a1 : Nat} {a2 : Nat} {h0 : AH} {hE : AH} (hr : fX5_seek a0 a1 a2 h0 = some hE) : AMet (KX5_seek l D h0 hE) [.ref a0, .ref a1, .ref a2] := by
  refine AMet.of (K := (KX5_seek l D h0 hE)) rfl ⟨_, rfl⟩ rfl rfl rfl (Nat.le_of_ble_eq_true rfl) (fun ls hl => ?_)
  have hl : lv_has ls 3 [(0, .ref a0), (1, .ref a1), (2, .ref a2)] := hl
  suffices hsp : SP (fX5_seek a0 a1 a2 h0) (fun z => z = hE) (AW (KX5_seek l D h0 hE) h0 0 ls []) from hsp _ hr rfl
  unfold fX5_seek
  refine sp_m (aw_aload_n (pc := 0) dX5_seek_0 rfl (lv_at hl 0 rfl)) ?_
  refine sp_m (aw_aload_n (pc := 1) dX5_seek_1 rfl (lv_at hl 1 rfl)) ?_
  refine sp_g fun s1 => ?_
  refine sp_t fun h2 eh20 => ?_
  have eh2 : gS h2 = gS h0 := by rw [eh20]; rfl
  refine sp_m (aw_put (k := 2) okX5 opX5 s1 (by decide) q322 (Or.inl rfl) (Or.inl rfl) (hasV_R' eh20) rfl rfl (pc := 2) dX5_seek_2) ?_
  refine sp_m (aw_aload_n (pc := 5) dX5_seek_5 rfl (lv_at hl 0 rfl)) ?_
  refine sp_m (aw_aload_n (pc := 6) dX5_seek_6 rfl (lv_at hl 2 rfl)) ?_
  refine sp_t fun h3 eh30 => ?_
  have eh3 : gS h3 = gS h2 := by rw [eh30]; rfl
  refine sp_m (aw_put (k := 3) okX5 opX5 (uS eh2 s1) (by decide) q323 (Or.inl rfl) (Or.inl rfl) (hasV_R' eh30) rfl rfl (pc := 7) dX5_seek_7) ?_
  refine sp_m (aw_aload_n (pc := 10) dX5_seek_10 rfl (lv_at hl 0 rfl)) ?_
  refine sp_m (aw_iconst (v := 0) (pc := 11) dX5_seek_11 rfl) ?_
  refine sp_t fun h4 eh40 => ?_
  have eh4 : gS h4 = gS h3 := by rw [eh40]; rfl
  refine sp_m (aw_put (k := 4) okX5 opX5 (uS eh3 (uS eh2 s1)) (by decide) q324 (Or.inl rfl) (Or.inl rfl) (hasV_I' eh40) (nar_b (Or.inl rfl)) (fit_b (Or.inl rfl)) (pc := 12) dX5_seek_12) ?_
  refine sp_m (aw_aload_n (pc := 15) dX5_seek_15 rfl (lv_at hl 0 rfl)) ?_
  refine sp_m (aw_lconst (v := 0) (pc := 16) dX5_seek_16 rfl) ?_
  refine sp_t fun h5 eh50 => ?_
  have eh5 : gS h5 = gS h4 := by rw [eh50]; rfl
  refine sp_m (aw_put (k := 5) okX5 opX5 (uS eh4 (uS eh3 (uS eh2 s1))) (by decide) q325 (Or.inl rfl) (Or.inl rfl) (hasV_L' eh50) rfl rfl (pc := 17) dX5_seek_17) ?_
  refine sp_m (aw_aload_n (pc := 20) dX5_seek_20 rfl (lv_at hl 0 rfl)) ?_
  refine sp_m (aw_iconst (v := 0) (pc := 21) dX5_seek_21 rfl) ?_
  refine sp_m (aw_iconst (v := 0) (pc := 22) dX5_seek_22 rfl) ?_
  refine sp_m (aw_lconst (v := 0) (pc := 23) dX5_seek_23 rfl) ?_
  refine sp_b fun p6 ep6 => ?_
  refine sp_m (G' := AW (KX5_seek l D h0 hE) p6 (27) ls ([])) (fun kk => aw_callV (As := [.int 0, .int 0, .long 0]) (metX5_tries _ _ _ _ ep6) (rcv_o okX5 (uS eh5 (uS eh4 (uS eh3 (uS eh2 s1))))) rfl mok_X5_tries q1199 q1201 qs32 q123 q1202 (Nat.le_of_ble_eq_true rfl) (Nat.le_of_ble_eq_true rfl) rfl hl.1 rfl (Nat.le_of_ble_eq_true rfl) (pc := 24) dX5_seek_24 kk) ?_
  exact sp_r fun hz => aw_vret hz rfl rfl rfl (pc := 27) dX5_seek_27
theorem mok_X1_out : mOK yX1_out 0 := ⟨⟨by decide +kernel, by decide +kernel⟩, by decide +kernel⟩
abbrev KX1_out (l : Launch) (D : DD) (h0 hE : AH) (v : Int32) : KT := (l, yX1_out, cX1_out, 3, (some .int), RX1, 17, D, h0, hE, .inl (some (.int v)), false, [])
theorem metX1_out (l : Launch) (D : DD) {a0 : Nat} {h0 : AH} {hE : AH} {v : Int32} (hr : fX1_out a0 h0 = some (v, hE)) : AMet (KX1_out l D h0 hE v) [.ref a0] := by
  refine AMet.of (K := (KX1_out l D h0 hE v)) rfl ⟨_, rfl⟩ rfl rfl rfl (Nat.le_of_ble_eq_true rfl) (fun ls hl => ?_)
  have hl : lv_has ls 3 [(0, .ref a0)] := hl
  suffices hsp : SP (fX1_out a0 h0) (fun z => z = (v, hE)) (AW (KX1_out l D h0 hE v) h0 0 ls []) from hsp _ hr rfl
  unfold fX1_out
  refine sp_m (aw_aload_n (pc := 0) dX1_out_0 rfl (lv_at hl 0 rfl)) ?_
  refine sp_g fun s2 => ?_
  refine sp_b fun p1 ep1 => ?_
  refine sp_m (G' := AW (KX1_out l D h0 hE v) p1 (4) ls ([])) (fun kk => aw_callV (As := []) (metX1_anew _ _ ep1) (rcv_o okX1 s2) rfl mok_X1_anew q452 q454 qs2 q116 q455 (Nat.le_of_ble_eq_true rfl) (Nat.le_of_ble_eq_true rfl) rfl hl.1 rfl (Nat.le_of_ble_eq_true rfl) (pc := 1) dX1_out_1 kk) ?_
  refine sp_m (aw_aload_n (pc := 4) dX1_out_4 rfl (lv_at hl 0 rfl)) ?_
  refine sp_g fun s3 => ?_
  refine sp_o (fun ex4 => ?_) (fun x4 ex4 => ?_)
  · refine sp_m (aw_get (k := 3) okX1 s3 (by decide) q369 (Or.inl rfl) (congrArg va_rf ex4) (pc := 5) dX1_out_5) ?_
    refine sp_m (aw_ifnonnullN (pc := 8) dX1_out_8) ?_
    refine sp_m (aw_aload_n (pc := 11) dX1_out_11 rfl (lv_at hl 0 rfl)) ?_
    refine sp_m (aw_iconst (v := 1) (pc := 12) dX1_out_12 rfl) ?_
    refine sp_b fun p24 ep24 => ?_
    refine sp_m (G' := AW (KX1_out l D h0 hE v) p24.2 (16) ls (.int p24.1 :: [])) (fun kk => aw_callV (As := [.int 1]) (metX1_no _ _ ep24) (rcv_o okX1 s3) rfl mok_X1_no q459 q461 qs3 q116 q462 (Nat.le_of_ble_eq_true rfl) (Nat.le_of_ble_eq_true rfl) rfl hl.1 rfl (Nat.le_of_ble_eq_true rfl) (pc := 13) dX1_out_13 kk) ?_
    exact sp_r fun hz => aw_iret hz rfl rfl rfl (pc := 16) dX1_out_16
  · refine sp_m (aw_get (k := 3) okX1 s3 (by decide) q369 (Or.inl rfl) (congrArg va_rf ex4) (pc := 5) dX1_out_5) ?_
    refine sp_m (aw_ifnonnull (tgt := 17) (pc := 8) dX1_out_8 (by decide)) ?_
    refine sp_m (aw_aload_n (pc := 17) dX1_out_17 rfl (lv_at hl 0 rfl)) ?_
    refine sp_b fun x5 ex5 => ?_
    refine sp_m (aw_get (k := 12) okX1 s3 (by decide) q378 (Or.inl rfl) (congrArg va_rf ex5) (pc := 18) dX1_out_18) ?_
    refine sp_m (aw_aload_n (pc := 21) dX1_out_21 rfl (lv_at hl 0 rfl)) ?_
    refine sp_b fun x6 ex6 => ?_
    refine sp_m (aw_get (k := 3) okX1 s3 (by decide) q369 (Or.inl rfl) (congrArg va_rf ex6) (pc := 22) dX1_out_22) ?_
    refine sp_m (aw_aload_n (pc := 25) dX1_out_25 rfl (lv_at hl 0 rfl)) ?_
    refine sp_b fun x7 ex7 => ?_
    refine sp_m (aw_get (k := 9) okX1 s3 (by decide) q375 (Or.inl rfl) (congrArg va_rf ex7) (pc := 26) dX1_out_26) ?_
    refine sp_g fun s9 => ?_
    refine sp_b fun p8 ep8 => ?_
    refine sp_m (G' := AW (KX1_out l D h0 hE v) p8 (32) ls ([])) (fun kk => aw_callV (As := [.ref x6, .ref x7]) (metX5_seek _ _ ep8) (rcv_o okX5 s9) rfl mok_X5_seek q1195 q1196 q1197 q123 q1198 (Nat.le_of_ble_eq_true rfl) (Nat.le_of_ble_eq_true rfl) rfl hl.1 rfl (Nat.le_of_ble_eq_true rfl) (pc := 29) dX1_out_29 kk) ?_
    refine sp_m (aw_iconst (v := 0) (pc := 32) dX1_out_32 rfl) ?_
    refine sp_m (aw_istore_n (lv' := [(1, .int 0), (0, .ref a0)]) (pc := 33) dX1_out_33 rfl hl (by decide) rfl) (sp_all fun ls hl => ?_)
    refine sp_m (aw_iconst (v := 0) (pc := 34) dX1_out_34 rfl) ?_
    refine sp_m (aw_istore_n (lv' := [(2, .int 0), (1, .int 0), (0, .ref a0)]) (pc := 35) dX1_out_35 rfl hl (by decide) rfl) (sp_all fun ls hl => ?_)
    let P10 : Int32 × Int32 → Prop := aLP (KX1_out l D h0 hE v) 3 36 (fun s10v : Int32 × Int32 => [(0, .ref a0), (1, .int s10v.1), (2, .int s10v.2)]) (fun s10v => p8)
    let E10 : Int32 → Prop := aLP (KX1_out l D h0 hE v) 3 85 (fun r10v : Int32 => [(1, .int r10v)]) (fun r10v => p8)
    refine sp_bl (P := P10) (E := E10) (fun s10v => sp_all fun ls hl => ?_) (fun k => k ls (lv_sub hl [2, 1, 0] rfl)) (fun r10v => sp_all fun ls hl => ?_)
    · have hl : lv_has ls 3 [(0, .ref a0), (1, .int s10v.1), (2, .int s10v.2)] := hl
      show SP _ _ (AW (KX1_out l D h0 hE v) p8 36 ls [])
      unfold X1_out_L36
      refine sp_m (aw_iload_n (pc := 36) dX1_out_36 rfl (lv_at hl 2 rfl)) ?_
      refine sp_m (aw_aload_n (pc := 37) dX1_out_37 rfl (lv_at hl 0 rfl)) ?_
      refine sp_g fun s11 => ?_
      refine sp_b fun x12 ex12 => ?_
      refine sp_m (aw_get (k := 3) okX1 s11 (by decide) q369 (Or.inl rfl) (congrArg va_rf ex12) (pc := 38) dX1_out_38) ?_
      refine sp_g fun s13 => ?_
      refine sp_m (aw_get (k := 8) okX8 s13 (by decide) q505 (Or.inl rfl) rfl (pc := 41) dX1_out_41) ?_
      refine sp_if (fun c14 => ?_) (fun c14 => ?_)
      · refine sp_m (aw_icmp_ge_t (tgt := 85) (pc := 44) dX1_out_44 (by decide) c14) ?_
        exact sp_r fun hz => hz ls (lv_sub hl [1] rfl)
      · refine sp_m (aw_icmp_ge_f (tgt := 85) (pc := 44) dX1_out_44 (by decide) c14) ?_
        refine sp_m (aw_iload_n (pc := 47) dX1_out_47 rfl (lv_at hl 1 rfl)) ?_
        refine sp_m (aw_aload_n (pc := 48) dX1_out_48 rfl (lv_at hl 0 rfl)) ?_
        refine sp_b fun x15 ex15 => ?_
        refine sp_m (aw_get (k := 9) okX1 s11 (by decide) q375 (Or.inl rfl) (congrArg va_rf ex15) (pc := 49) dX1_out_49) ?_
        refine sp_m (aw_iload_n (pc := 52) dX1_out_52 rfl (lv_at hl 2 rfl)) ?_
        refine sp_g fun s17 => ?_
        refine sp_b fun p16 ep16 => ?_
        refine sp_m (G' := AW (KX1_out l D h0 hE v) p8 (56) ls (.int p16 :: .int s10v.1 :: [])) (fun kk => aw_callV (As := [.int s10v.2]) (metX4_isDead _ _ ep16) (rcv_o okX4 s17) rfl mok_X4_isDead q963 q964 q965 q122 q966 (Nat.le_of_ble_eq_true rfl) (Nat.le_of_ble_eq_true rfl) rfl hl.1 rfl (Nat.le_of_ble_eq_true rfl) (pc := 53) dX1_out_53 kk) ?_
        have hj77_1 : ∀ j18 : Int32, ∀ ls : Array Slot, lv_has ls 3 [(0, .ref a0), (2, .int s10v.2)] → SP (X1_out_j77 s10v j18) (ZL P10 E10) (AW (KX1_out l D h0 hE v) p8 77 ls (.int j18 :: .int s10v.1 :: [])) := by
          intro j18 ls hl
          unfold X1_out_j77
          refine sp_m (aw_iadd (pc := 77) dX1_out_77) ?_
          refine sp_m (aw_istore_n (lv' := [(1, .int (s10v.1 + j18)), (0, .ref a0), (2, .int s10v.2)]) (pc := 78) dX1_out_78 rfl hl (by decide) rfl) (sp_all fun ls hl => ?_)
          refine sp_m (aw_iinc (v := s10v.2 + 1) (lv' := [(2, .int (s10v.2 + 1)), (1, .int (s10v.1 + j18)), (0, .ref a0)]) (pc := 79) dX1_out_79 hl (k := 2) rfl rfl (by decide) rfl) (sp_all fun ls hl => ?_)
          refine sp_m (aw_goto (tgt := 36) (pc := 82) dX1_out_82 (by decide)) ?_
          exact sp_r fun hz => hz ls (lv_sub hl [2, 1, 0] rfl)
        have hj76_2 : ∀ ls : Array Slot, lv_has ls 3 [(0, .ref a0), (2, .int s10v.2)] → SP (X1_out_j76 s10v) (ZL P10 E10) (AW (KX1_out l D h0 hE v) p8 76 ls (.int s10v.1 :: [])) := by
          intro ls hl
          unfold X1_out_j76
          refine sp_m (aw_iconst (v := 0) (pc := 76) dX1_out_76 rfl) ?_
          exact hj77_1 0 ls (lv_sub hl [0, 1] rfl)
        refine sp_if (fun c19 => ?_) (fun c19 => ?_)
        · refine sp_m (aw_if_ne_t (tgt := 76) (pc := 56) dX1_out_56 (by decide) c19) ?_
          exact hj76_2 ls (lv_sub hl [0, 2] rfl)
        · refine sp_m (aw_if_ne_f (tgt := 76) (pc := 56) dX1_out_56 (by decide) (Decidable.not_not.mp c19)) ?_
          refine sp_m (aw_aload_n (pc := 59) dX1_out_59 rfl (lv_at hl 0 rfl)) ?_
          refine sp_b fun x20 ex20 => ?_
          refine sp_m (aw_get (k := 12) okX1 s11 (by decide) q378 (Or.inl rfl) (congrArg va_rf ex20) (pc := 60) dX1_out_60) ?_
          refine sp_m (aw_iload_n (pc := 63) dX1_out_63 rfl (lv_at hl 2 rfl)) ?_
          refine sp_g fun s22 => ?_
          refine sp_b fun p21 ep21 => ?_
          refine sp_m (G' := AW (KX1_out l D h0 hE v) p8 (67) ls (.int p21 :: .int s10v.1 :: [])) (fun kk => aw_callV (As := [.int s10v.2]) (metX5_at _ _ ep21) (rcv_o okX5 s22) rfl mok_X5_at q1207 q1208 q1209 q123 q1210 (Nat.le_of_ble_eq_true rfl) (Nat.le_of_ble_eq_true rfl) rfl hl.1 rfl (Nat.le_of_ble_eq_true rfl) (pc := 64) dX1_out_64 kk) ?_
          refine sp_m (aw_bipush (v := (-2)) (pc := 67) dX1_out_67 rfl) ?_
          refine sp_if (fun c23 => ?_) (fun c23 => ?_)
          · refine sp_m (aw_icmp_ne_t (tgt := 76) (pc := 69) dX1_out_69 (by decide) c23) ?_
            exact hj76_2 ls (lv_sub hl [0, 2] rfl)
          · refine sp_m (aw_icmp_ne_f (tgt := 76) (pc := 69) dX1_out_69 (by decide) (Decidable.not_not.mp c23)) ?_
            refine sp_m (aw_iconst (v := 1) (pc := 72) dX1_out_72 rfl) ?_
            refine sp_m (aw_goto (tgt := 77) (pc := 73) dX1_out_73 (by decide)) ?_
            exact hj77_1 1 ls (lv_sub hl [0, 2] rfl)
    · have hl : lv_has ls 3 [(1, .int r10v)] := hl
      show SP _ _ (AW (KX1_out l D h0 hE v) p8 85 ls [])
      refine sp_m (aw_iload_n (pc := 85) dX1_out_85 rfl (lv_at hl 0 rfl)) ?_
      exact sp_r fun hz => aw_iret hz rfl rfl rfl (pc := 86) dX1_out_86
theorem mok_X1_place : mOK yX1_place 1 := ⟨⟨by decide +kernel, by decide +kernel⟩, by decide +kernel⟩
abbrev KX1_place (l : Launch) (D : DD) (h0 hE : AH) (v : Int32) : KT := (l, yX1_place, cX1_place, 2, (some .int), RX1, 17, D, h0, hE, .inl (some (.int v)), false, [])
theorem metX1_place (l : Launch) (D : DD) {a0 : Nat} {a1 : Int32} {h0 : AH} {hE : AH} {v : Int32} (hr : fX1_place a0 a1 h0 = some (v, hE)) : AMet (KX1_place l D h0 hE v) [.ref a0, .int a1] := by
  refine AMet.of (K := (KX1_place l D h0 hE v)) rfl ⟨_, rfl⟩ rfl rfl rfl (Nat.le_of_ble_eq_true rfl) (fun ls hl => ?_)
  have hl : lv_has ls 2 [(0, .ref a0), (1, .int a1)] := hl
  suffices hsp : SP (fX1_place a0 a1 h0) (fun z => z = (v, hE)) (AW (KX1_place l D h0 hE v) h0 0 ls []) from hsp _ hr rfl
  unfold fX1_place
  refine sp_m (aw_aload_n (pc := 0) dX1_place_0 rfl (lv_at hl 0 rfl)) ?_
  refine sp_g fun s2 => ?_
  refine sp_b fun p1 ep1 => ?_
  refine sp_m (G' := AW (KX1_place l D h0 hE v) p1 (4) ls ([])) (fun kk => aw_callV (As := []) (metX1_anew _ _ ep1) (rcv_o okX1 s2) rfl mok_X1_anew q452 q454 qs2 q116 q455 (Nat.le_of_ble_eq_true rfl) (Nat.le_of_ble_eq_true rfl) rfl hl.1 rfl (Nat.le_of_ble_eq_true rfl) (pc := 1) dX1_place_1 kk) ?_
  refine sp_m (aw_aload_n (pc := 4) dX1_place_4 rfl (lv_at hl 0 rfl)) ?_
  refine sp_m (aw_iload_n (pc := 5) dX1_place_5 rfl (lv_at hl 1 rfl)) ?_
  refine sp_g fun s4 => ?_
  refine sp_b fun p3 ep3 => ?_
  refine sp_m (G' := AW (KX1_place l D h0 hE v) p1 (9) ls (.int p3 :: [])) (fun kk => aw_callV (As := [.int a1]) (metX1_isBeast _ _ ep3) (rcv_o okX1 s4) rfl mok_X1_isBeast q974 q976 qs27 q116 q977 (Nat.le_of_ble_eq_true rfl) (Nat.le_of_ble_eq_true rfl) rfl hl.1 rfl (Nat.le_of_ble_eq_true rfl) (pc := 6) dX1_place_6 kk) ?_
  refine sp_if (fun c5 => ?_) (fun c5 => ?_)
  · refine sp_m (aw_if_ne_t (tgt := 18) (pc := 9) dX1_place_9 (by decide) c5) ?_
    refine sp_m (aw_aload_n (pc := 18) dX1_place_18 rfl (lv_at hl 0 rfl)) ?_
    refine sp_b fun x6 ex6 => ?_
    refine sp_m (aw_get (k := 12) okX1 s4 (by decide) q378 (Or.inl rfl) (congrArg va_rf ex6) (pc := 19) dX1_place_19) ?_
    refine sp_m (aw_aload_n (pc := 22) dX1_place_22 rfl (lv_at hl 0 rfl)) ?_
    refine sp_b fun x7 ex7 => ?_
    refine sp_m (aw_get (k := 3) okX1 s4 (by decide) q369 (Or.inl rfl) (congrArg va_rf ex7) (pc := 23) dX1_place_23) ?_
    refine sp_m (aw_aload_n (pc := 26) dX1_place_26 rfl (lv_at hl 0 rfl)) ?_
    refine sp_b fun x8 ex8 => ?_
    refine sp_m (aw_get (k := 9) okX1 s4 (by decide) q375 (Or.inl rfl) (congrArg va_rf ex8) (pc := 27) dX1_place_27) ?_
    refine sp_g fun s10 => ?_
    refine sp_b fun p9 ep9 => ?_
    refine sp_m (G' := AW (KX1_place l D h0 hE v) p9 (33) ls ([])) (fun kk => aw_callV (As := [.ref x7, .ref x8]) (metX5_seek _ _ ep9) (rcv_o okX5 s10) rfl mok_X5_seek q1195 q1196 q1197 q123 q1198 (Nat.le_of_ble_eq_true rfl) (Nat.le_of_ble_eq_true rfl) rfl hl.1 rfl (Nat.le_of_ble_eq_true rfl) (pc := 30) dX1_place_30 kk) ?_
    refine sp_m (aw_aload_n (pc := 33) dX1_place_33 rfl (lv_at hl 0 rfl)) ?_
    refine sp_g fun s11 => ?_
    refine sp_b fun x12 ex12 => ?_
    refine sp_m (aw_get (k := 12) okX1 s11 (by decide) q378 (Or.inl rfl) (congrArg va_rf ex12) (pc := 34) dX1_place_34) ?_
    refine sp_m (aw_iload_n (pc := 37) dX1_place_37 rfl (lv_at hl 1 rfl)) ?_
    refine sp_g fun s14 => ?_
    refine sp_b fun p13 ep13 => ?_
    refine sp_m (G' := AW (KX1_place l D h0 hE v) p9 (41) ls (.int p13 :: [])) (fun kk => aw_callV (As := [.int a1]) (metX5_at _ _ ep13) (rcv_o okX5 s14) rfl mok_X5_at q1207 q1208 q1209 q123 q1210 (Nat.le_of_ble_eq_true rfl) (Nat.le_of_ble_eq_true rfl) rfl hl.1 rfl (Nat.le_of_ble_eq_true rfl) (pc := 38) dX1_place_38 kk) ?_
    exact sp_r fun hz => aw_iret hz rfl rfl rfl (pc := 41) dX1_place_41
  · refine sp_m (aw_if_ne_f (tgt := 18) (pc := 9) dX1_place_9 (by decide) (Decidable.not_not.mp c5)) ?_
    refine sp_m (aw_aload_n (pc := 12) dX1_place_12 rfl (lv_at hl 0 rfl)) ?_
    refine sp_m (aw_iconst (v := 1) (pc := 13) dX1_place_13 rfl) ?_
    refine sp_b fun p15 ep15 => ?_
    refine sp_m (G' := AW (KX1_place l D h0 hE v) p15.2 (17) ls (.int p15.1 :: [])) (fun kk => aw_callV (As := [.int 1]) (metX1_no _ _ ep15) (rcv_o okX1 s4) rfl mok_X1_no q459 q461 qs3 q116 q462 (Nat.le_of_ble_eq_true rfl) (Nat.le_of_ble_eq_true rfl) rfl hl.1 rfl (Nat.le_of_ble_eq_true rfl) (pc := 14) dX1_place_14 kk) ?_
    exact sp_r fun hz => aw_iret hz rfl rfl rfl (pc := 17) dX1_place_17
theorem mok_X1_placed : mOK yX1_placed 1 := ⟨⟨by decide +kernel, by decide +kernel⟩, by decide +kernel⟩
abbrev KX1_placed (l : Launch) (D : DD) (h0 hE : AH) (v : Int64) : KT := (l, yX1_placed, cX1_placed, 2, (some .long), RX1, 131, D, h0, hE, .inl (some (.long v)), false, [])
theorem metX1_placed (l : Launch) (D : DD) {a0 : Nat} {a1 : Int32} {h0 : AH} {hE : AH} {v : Int64} (hr : fX1_placed a0 a1 h0 = some (v, hE)) : AMet (KX1_placed l D h0 hE v) [.ref a0, .int a1] := by
  refine AMet.of (K := (KX1_placed l D h0 hE v)) rfl ⟨_, rfl⟩ rfl rfl rfl (Nat.le_of_ble_eq_true rfl) (fun ls hl => ?_)
  have hl : lv_has ls 2 [(0, .ref a0), (1, .int a1)] := hl
  suffices hsp : SP (fX1_placed a0 a1 h0) (fun z => z = (v, hE)) (AW (KX1_placed l D h0 hE v) h0 0 ls []) from hsp _ hr rfl
  unfold fX1_placed
  refine sp_m (aw_aload_n (pc := 0) dX1_placed_0 rfl (lv_at hl 0 rfl)) ?_
  refine sp_g fun s2 => ?_
  refine sp_b fun p1 ep1 => ?_
  refine sp_m (G' := AW (KX1_placed l D h0 hE v) p1 (4) ls ([])) (fun kk => aw_callV (As := []) (metX1_anew _ _ ep1) (rcv_o okX1 s2) rfl mok_X1_anew q452 q454 qs2 q116 q455 (Nat.le_of_ble_eq_true rfl) (Nat.le_of_ble_eq_true rfl) rfl hl.1 rfl (Nat.le_of_ble_eq_true rfl) (pc := 1) dX1_placed_1 kk) ?_
  refine sp_m (aw_aload_n (pc := 4) dX1_placed_4 rfl (lv_at hl 0 rfl)) ?_
  refine sp_g fun s3 => ?_
  refine sp_o (fun ex4 => ?_) (fun x4 ex4 => ?_)
  · refine sp_m (aw_get (k := 3) okX1 s3 (by decide) q369 (Or.inl rfl) (congrArg va_rf ex4) (pc := 5) dX1_placed_5) ?_
    refine sp_m (aw_ifnonnullN (pc := 8) dX1_placed_8) ?_
    refine sp_m (aw_aload_n (pc := 11) dX1_placed_11 rfl (lv_at hl 0 rfl)) ?_
    refine sp_m (aw_iconst (v := 1) (pc := 12) dX1_placed_12 rfl) ?_
    refine sp_b fun p17 ep17 => ?_
    refine sp_m (G' := AW (KX1_placed l D h0 hE v) p17.2 (16) ls (.long p17.1 :: [])) (fun kk => aw_callV (As := [.int 1]) (metX1_none _ _ ep17) (rcv_o okX1 s3) rfl mok_X1_none q1145 q1147 qs29 q116 q1148 (Nat.le_of_ble_eq_true rfl) (Nat.le_of_ble_eq_true rfl) rfl hl.1 rfl (Nat.le_of_ble_eq_true rfl) (pc := 13) dX1_placed_13 kk) ?_
    exact sp_r fun hz => aw_lret hz rfl rfl rfl (pc := 16) dX1_placed_16
  · refine sp_m (aw_get (k := 3) okX1 s3 (by decide) q369 (Or.inl rfl) (congrArg va_rf ex4) (pc := 5) dX1_placed_5) ?_
    refine sp_m (aw_ifnonnull (tgt := 17) (pc := 8) dX1_placed_8 (by decide)) ?_
    refine sp_m (aw_aload_n (pc := 17) dX1_placed_17 rfl (lv_at hl 0 rfl)) ?_
    refine sp_b fun x5 ex5 => ?_
    refine sp_m (aw_get (k := 12) okX1 s3 (by decide) q378 (Or.inl rfl) (congrArg va_rf ex5) (pc := 18) dX1_placed_18) ?_
    refine sp_m (aw_aload_n (pc := 21) dX1_placed_21 rfl (lv_at hl 0 rfl)) ?_
    refine sp_b fun x6 ex6 => ?_
    refine sp_m (aw_get (k := 3) okX1 s3 (by decide) q369 (Or.inl rfl) (congrArg va_rf ex6) (pc := 22) dX1_placed_22) ?_
    refine sp_m (aw_aload_n (pc := 25) dX1_placed_25 rfl (lv_at hl 0 rfl)) ?_
    refine sp_b fun x7 ex7 => ?_
    refine sp_m (aw_get (k := 9) okX1 s3 (by decide) q375 (Or.inl rfl) (congrArg va_rf ex7) (pc := 26) dX1_placed_26) ?_
    refine sp_g fun s9 => ?_
    refine sp_b fun p8 ep8 => ?_
    refine sp_m (G' := AW (KX1_placed l D h0 hE v) p8 (32) ls ([])) (fun kk => aw_callV (As := [.ref x6, .ref x7]) (metX5_seek _ _ ep8) (rcv_o okX5 s9) rfl mok_X5_seek q1195 q1196 q1197 q123 q1198 (Nat.le_of_ble_eq_true rfl) (Nat.le_of_ble_eq_true rfl) rfl hl.1 rfl (Nat.le_of_ble_eq_true rfl) (pc := 29) dX1_placed_29 kk) ?_
    refine sp_m (aw_aload_n (pc := 32) dX1_placed_32 rfl (lv_at hl 0 rfl)) ?_
    refine sp_g fun s10 => ?_
    refine sp_b fun x11 ex11 => ?_
    refine sp_m (aw_get (k := 12) okX1 s10 (by decide) q378 (Or.inl rfl) (congrArg va_rf ex11) (pc := 33) dX1_placed_33) ?_
    refine sp_g fun s12 => ?_
    refine sp_m (aw_get (k := 5) okX5 s12 (by decide) q326 (Or.inl rfl) rfl (pc := 36) dX1_placed_36) ?_
    refine sp_m (aw_aload_n (pc := 39) dX1_placed_39 rfl (lv_at hl 0 rfl)) ?_
    refine sp_b fun x13 ex13 => ?_
    refine sp_m (aw_get (k := 9) okX1 s10 (by decide) q375 (Or.inl rfl) (congrArg va_rf ex13) (pc := 40) dX1_placed_40) ?_
    refine sp_g fun s15 => ?_
    refine sp_b fun p14 ep14 => ?_
    refine sp_m (G' := AW (KX1_placed l D h0 hE v) p8 (46) ls (.long p14 :: .long (gL p8 x11 5) :: [])) (fun kk => aw_callV (As := []) (metX4_of _ _ ep14) (rcv_o okX4 s15) rfl mok_X4_of q1055 q1056 q1057 q122 q1058 (Nat.le_of_ble_eq_true rfl) (Nat.le_of_ble_eq_true rfl) rfl hl.1 rfl (Nat.le_of_ble_eq_true rfl) (pc := 43) dX1_placed_43 kk) ?_
    refine sp_m (aw_iload_n (pc := 46) dX1_placed_46 rfl (lv_at hl 1 rfl)) ?_
    refine sp_b fun p16 ep16 => ?_
    refine sp_m (G' := AW (KX1_placed l D h0 hE v) p8 (50) ls (.long p16 :: [])) (fun kk => aw_callS (As := [.long (gL p8 x11 5), .long p14, .int a1]) (metX1_lowest _ _ ep16) mok_X1_lowest q1060 q1061 q116 q1062 (Nat.le_of_ble_eq_true rfl) (Nat.le_of_ble_eq_true rfl) rfl hl.1 rfl (Nat.le_of_ble_eq_true rfl) (pc := 47) dX1_placed_47 kk) ?_
    exact sp_r fun hz => aw_lret hz rfl rfl rfl (pc := 50) dX1_placed_50
theorem mok_X1_priceOf : mOK yX1_priceOf 1 := ⟨⟨by decide +kernel, by decide +kernel⟩, by decide +kernel⟩
abbrev KX1_priceOf (l : Launch) (D : DD) (h0 : AH) (v : Int32) : KT := (l, yX1_priceOf, cX1_priceOf, 4, (some .int), RX1, 2, D, h0, h0, .inl (some (.int v)), false, [])
theorem metX1_priceOf (l : Launch) (D : DD) {a0 : Nat} {a1 : Int32} {h0 : AH} {v : Int32} (hr : fX1_priceOf a0 a1 h0 = some v) : AMet (KX1_priceOf l D h0 v) [.ref a0, .int a1] := by
  refine AMet.of (K := (KX1_priceOf l D h0 v)) rfl ⟨_, rfl⟩ rfl rfl rfl (Nat.le_of_ble_eq_true rfl) (fun ls hl => ?_)
  have hl : lv_has ls 4 [(0, .ref a0), (1, .int a1)] := hl
  suffices hsp : SP (fX1_priceOf a0 a1 h0) (fun z => z = v) (AW (KX1_priceOf l D h0 v) h0 0 ls []) from hsp _ hr rfl
  unfold fX1_priceOf
  refine sp_m (aw_iconst (v := 0) (pc := 0) dX1_priceOf_0 rfl) ?_
  refine sp_m (aw_istore_n (lv' := [(2, .int 0), (0, .ref a0), (1, .int a1)]) (pc := 1) dX1_priceOf_1 rfl hl (by decide) rfl) (sp_all fun ls hl => ?_)
  refine sp_m (aw_iconst (v := 0) (pc := 2) dX1_priceOf_2 rfl) ?_
  refine sp_m (aw_istore_n (lv' := [(3, .int 0), (2, .int 0), (0, .ref a0), (1, .int a1)]) (pc := 3) dX1_priceOf_3 rfl hl (by decide) rfl) (sp_all fun ls hl => ?_)
  let P1 : Int32 × Int32 → Prop := aLP (KX1_priceOf l D h0 v) 4 4 (fun s1v : Int32 × Int32 => [(0, .ref a0), (1, .int a1), (2, .int s1v.1), (3, .int s1v.2)]) (fun s1v => h0)
  let E1 : Int32 → Prop := aLP (KX1_priceOf l D h0 v) 4 48 (fun r1v : Int32 => [(2, .int r1v)]) (fun r1v => h0)
  refine sp_bl (P := P1) (E := E1) (fun s1v => sp_all fun ls hl => ?_) (fun k => k ls (lv_sub hl [2, 3, 1, 0] rfl)) (fun r1v => sp_all fun ls hl => ?_)
  · have hl : lv_has ls 4 [(0, .ref a0), (1, .int a1), (2, .int s1v.1), (3, .int s1v.2)] := hl
    show SP _ _ (AW (KX1_priceOf l D h0 v) h0 4 ls [])
    unfold X1_priceOf_L4
    refine sp_m (aw_iload_n (pc := 4) dX1_priceOf_4 rfl (lv_at hl 3 rfl)) ?_
    refine sp_m (aw_aload_n (pc := 5) dX1_priceOf_5 rfl (lv_at hl 0 rfl)) ?_
    refine sp_g fun s2 => ?_
    refine sp_b fun x3 ex3 => ?_
    refine sp_m (aw_get (k := 3) okX1 s2 (by decide) q369 (Or.inl rfl) (congrArg va_rf ex3) (pc := 6) dX1_priceOf_6) ?_
    refine sp_g fun s4 => ?_
    refine sp_m (aw_get (k := 8) okX8 s4 (by decide) q505 (Or.inl rfl) rfl (pc := 9) dX1_priceOf_9) ?_
    refine sp_if (fun c5 => ?_) (fun c5 => ?_)
    · refine sp_m (aw_icmp_ge_t (tgt := 48) (pc := 12) dX1_priceOf_12 (by decide) c5) ?_
      exact sp_r fun hz => hz ls (lv_sub hl [2] rfl)
    · refine sp_m (aw_icmp_ge_f (tgt := 48) (pc := 12) dX1_priceOf_12 (by decide) c5) ?_
      refine sp_m (aw_iload_n (pc := 15) dX1_priceOf_15 rfl (lv_at hl 2 rfl)) ?_
      refine sp_m (aw_iload_n (pc := 16) dX1_priceOf_16 rfl (lv_at hl 1 rfl)) ?_
      refine sp_m (aw_iload_n (pc := 17) dX1_priceOf_17 rfl (lv_at hl 3 rfl)) ?_
      refine sp_b fun p6 ep6 => ?_
      refine sp_m (G' := AW (KX1_priceOf l D h0 v) h0 (21) ls (.int p6 :: .int s1v.1 :: [])) (fun kk => aw_callS (As := [.int a1, .int s1v.2]) (metX1_has _ _ ep6) mok_X1_has q1268 q968 q116 q969 (Nat.le_of_ble_eq_true rfl) (Nat.le_of_ble_eq_true rfl) rfl hl.1 rfl (Nat.le_of_ble_eq_true rfl) (pc := 18) dX1_priceOf_18 kk) ?_
      have hj40_1 : ∀ j7 : Int32, ∀ ls : Array Slot, lv_has ls 4 [(0, .ref a0), (1, .int a1), (3, .int s1v.2)] → SP (X1_priceOf_j40 s1v j7) (ZL P1 E1) (AW (KX1_priceOf l D h0 v) h0 40 ls (.int j7 :: .int s1v.1 :: [])) := by
        intro j7 ls hl
        unfold X1_priceOf_j40
        refine sp_m (aw_iadd (pc := 40) dX1_priceOf_40) ?_
        refine sp_m (aw_istore_n (lv' := [(2, .int (s1v.1 + j7)), (0, .ref a0), (1, .int a1), (3, .int s1v.2)]) (pc := 41) dX1_priceOf_41 rfl hl (by decide) rfl) (sp_all fun ls hl => ?_)
        refine sp_m (aw_iinc (v := s1v.2 + 1) (lv' := [(3, .int (s1v.2 + 1)), (2, .int (s1v.1 + j7)), (0, .ref a0), (1, .int a1)]) (pc := 42) dX1_priceOf_42 hl (k := 3) rfl rfl (by decide) rfl) (sp_all fun ls hl => ?_)
        refine sp_m (aw_goto (tgt := 4) (pc := 45) dX1_priceOf_45 (by decide)) ?_
        exact sp_r fun hz => hz ls (lv_sub hl [2, 3, 1, 0] rfl)
      refine sp_if (fun c8 => ?_) (fun c8 => ?_)
      · refine sp_m (aw_if_eq_t (tgt := 39) (pc := 21) dX1_priceOf_21 (by decide) c8) ?_
        refine sp_m (aw_iconst (v := 0) (pc := 39) dX1_priceOf_39 rfl) ?_
        exact hj40_1 0 ls (lv_sub hl [0, 1, 3] rfl)
      · refine sp_m (aw_if_eq_f (tgt := 39) (pc := 21) dX1_priceOf_21 (by decide) c8) ?_
        refine sp_m (aw_aload_n (pc := 24) dX1_priceOf_24 rfl (lv_at hl 0 rfl)) ?_
        refine sp_b fun x9 ex9 => ?_
        refine sp_m (aw_get (k := 3) okX1 s2 (by decide) q369 (Or.inl rfl) (congrArg va_rf ex9) (pc := 25) dX1_priceOf_25) ?_
        refine sp_g fun s10 => ?_
        refine sp_b fun x11 ex11 => ?_
        refine sp_m (aw_get (k := 3) okX8 s10 (by decide) q490 (Or.inl rfl) (congrArg va_rf ex11) (pc := 28) dX1_priceOf_28) ?_
        refine sp_m (aw_iload_n (pc := 31) dX1_priceOf_31 rfl (lv_at hl 3 rfl)) ?_
        refine sp_g fun s12 => ?_
        refine sp_g fun i13 => ?_
        refine sp_b fun x14 ex14 => ?_
        refine sp_m (aw_aald (t := 5) s12 (by decide) rfl rfl i13 (congrArg va_rf ex14) (pc := 32) dX1_priceOf_32) ?_
        refine sp_g fun s15 => ?_
        refine sp_m (G' := AW (KX1_priceOf l D h0 v) h0 (36) ls (.int (gI h0 x14 2) :: .int s1v.1 :: [])) (fun kk => by rcases s15 with z | z | z | z; exact aw_get (k := 2) okX15 z (by decide) q822 (Or.inl rfl) rfl (pc := 33) dX1_priceOf_33 kk; exact aw_get (k := 2) okX16 z (by decide) q822 (Or.inl rfl) rfl (pc := 33) dX1_priceOf_33 kk; exact aw_get (k := 2) okX17 z (by decide) q822 (Or.inl rfl) rfl (pc := 33) dX1_priceOf_33 kk; exact aw_get (k := 2) okX18 z (by decide) q822 (Or.inl rfl) rfl (pc := 33) dX1_priceOf_33 kk) ?_
        refine sp_m (aw_goto (tgt := 40) (pc := 36) dX1_priceOf_36 (by decide)) ?_
        exact hj40_1 (gI h0 x14 2) ls (lv_sub hl [0, 1, 3] rfl)
  · have hl : lv_has ls 4 [(2, .int r1v)] := hl
    show SP _ _ (AW (KX1_priceOf l D h0 v) h0 48 ls [])
    refine sp_m (aw_iload_n (pc := 48) dX1_priceOf_48 rfl (lv_at hl 0 rfl)) ?_
    exact sp_r fun hz => aw_iret (congrArg (fun z => (z, h0)) hz) rfl rfl rfl (pc := 49) dX1_priceOf_49
theorem mok_X1_rain : mOK yX1_rain 1 := ⟨⟨by decide +kernel, by decide +kernel⟩, by decide +kernel⟩
abbrev KX1_rain (l : Launch) (D : DD) (h0 hE : AH) (v : Int32) : KT := (l, yX1_rain, cX1_rain, 2, (some .boolean), RX1, 3, D, h0, hE, .inl (some (.int v)), false, [])
theorem metX1_rain (l : Launch) (D : DD) {a0 : Nat} {a1 : Int32} {h0 : AH} {hE : AH} {v : Int32} (hr : fX1_rain a0 a1 h0 = some (v, hE)) : AMet (KX1_rain l D h0 hE v) [.ref a0, .int a1] := by
  refine AMet.of (K := (KX1_rain l D h0 hE v)) rfl ⟨_, rfl⟩ rfl rfl rfl (Nat.le_of_ble_eq_true rfl) (fun ls hl => ?_)
  have hl : lv_has ls 2 [(0, .ref a0), (1, .int a1)] := hl
  suffices hsp : SP (fX1_rain a0 a1 h0) (fun z => z = (v, hE)) (AW (KX1_rain l D h0 hE v) h0 0 ls []) from hsp _ hr rfl
  unfold fX1_rain
  refine sp_m (aw_aload_n (pc := 0) dX1_rain_0 rfl (lv_at hl 0 rfl)) ?_
  refine sp_m (aw_aload_n (pc := 1) dX1_rain_1 rfl (lv_at hl 0 rfl)) ?_
  refine sp_g fun s1 => ?_
  refine sp_o (fun ex2 => ?_) (fun x2 ex2 => ?_)
  · refine sp_m (aw_get (k := 3) okX1 s1 (by decide) q369 (Or.inl rfl) (congrArg va_rf ex2) (pc := 2) dX1_rain_2) ?_
    refine sp_m (aw_ifnonnullN (pc := 5) dX1_rain_5) ?_
    refine sp_m (aw_iconst (v := 1) (pc := 8) dX1_rain_8 rfl) ?_
    refine sp_m (aw_goto (tgt := 28) (pc := 9) dX1_rain_9 (by decide)) ?_
    refine sp_b fun p28 ep28 => ?_
    refine sp_m (G' := AW (KX1_rain l D h0 hE v) p28.2 (31) ls (.int p28.1 :: [])) (fun kk => aw_callV (As := [.int 1]) (metX1_yes _ _ ep28) (rcv_o okX1 s1) rfl mok_X1_yes q1410 q1412 qs47 q116 q1413 (Nat.le_of_ble_eq_true rfl) (Nat.le_of_ble_eq_true rfl) rfl hl.1 rfl (Nat.le_of_ble_eq_true rfl) (pc := 28) dX1_rain_28 kk) ?_
    refine sp_if (fun c29 => ?_) (fun c29 => ?_)
    · refine sp_m (aw_if_ne_t (tgt := 36) (pc := 31) dX1_rain_31 (by decide) c29) ?_
      refine sp_m (aw_aload_n (pc := 36) dX1_rain_36 rfl (lv_at hl 0 rfl)) ?_
      refine sp_g fun s31 => ?_
      refine sp_b fun p30 ep30 => ?_
      refine sp_m (G' := AW (KX1_rain l D h0 hE v) p30 (40) ls ([])) (fun kk => aw_callV (As := []) (metX1_note _ _ ep30) (rcv_o okX1 s31) rfl mok_X1_note q1414 q1416 qs48 q116 q1417 (Nat.le_of_ble_eq_true rfl) (Nat.le_of_ble_eq_true rfl) rfl hl.1 rfl (Nat.le_of_ble_eq_true rfl) (pc := 37) dX1_rain_37 kk) ?_
      refine sp_m (aw_aload_n (pc := 40) dX1_rain_40 rfl (lv_at hl 0 rfl)) ?_
      refine sp_g fun s32 => ?_
      refine sp_b fun x33 ex33 => ?_
      refine sp_m (aw_get (k := 9) okX1 s32 (by decide) q375 (Or.inl rfl) (congrArg va_rf ex33) (pc := 41) dX1_rain_41) ?_
      refine sp_m (aw_iload_n (pc := 44) dX1_rain_44 rfl (lv_at hl 1 rfl)) ?_
      refine sp_g fun g34 => ?_
      refine sp_g fun s35 => ?_
      refine sp_t fun h36 eh360 => ?_
      have eh36 : gS h36 = gS p30 := by rw [eh360]; rfl
      refine sp_m (aw_put (k := 6) okX4 opX4 s35 (by decide) q285 (Or.inl rfl) (Or.inl rfl) (hasV_I' eh360) (nar_b g34) (fit_b g34) (pc := 45) dX1_rain_45) ?_
      refine sp_m (aw_aload_n (pc := 48) dX1_rain_48 rfl (lv_at hl 0 rfl)) ?_
      refine sp_b fun p37 ep37 => ?_
      refine sp_m (G' := AW (KX1_rain l D h0 hE v) p37.2 (52) ls (.int p37.1 :: [])) (fun kk => aw_callV (As := []) (metX1_done _ _ ep37) (rcv_o okX1 (uS eh36 s32)) rfl mok_X1_done q1418 q1420 qs49 q116 q1421 (Nat.le_of_ble_eq_true rfl) (Nat.le_of_ble_eq_true rfl) rfl hl.1 rfl (Nat.le_of_ble_eq_true rfl) (pc := 49) dX1_rain_49 kk) ?_
      refine sp_g fun g38 => ?_
      exact sp_r fun hz => aw_zret (nar_b g38) hz rfl rfl rfl (pc := 52) dX1_rain_52
    · refine sp_m (aw_if_ne_f (tgt := 36) (pc := 31) dX1_rain_31 (by decide) (Decidable.not_not.mp c29)) ?_
      refine sp_m (aw_iconst (v := 0) (pc := 34) dX1_rain_34 rfl) ?_
      exact sp_r fun hz => aw_zret (nar_b (Or.inl rfl)) hz rfl rfl rfl (pc := 35) dX1_rain_35
  · refine sp_m (aw_get (k := 3) okX1 s1 (by decide) q369 (Or.inl rfl) (congrArg va_rf ex2) (pc := 2) dX1_rain_2) ?_
    refine sp_m (aw_ifnonnull (tgt := 12) (pc := 5) dX1_rain_5 (by decide)) ?_
    refine sp_m (aw_aload_n (pc := 12) dX1_rain_12 rfl (lv_at hl 0 rfl)) ?_
    refine sp_b fun x3 ex3 => ?_
    refine sp_m (aw_get (k := 9) okX1 s1 (by decide) q375 (Or.inl rfl) (congrArg va_rf ex3) (pc := 13) dX1_rain_13) ?_
    refine sp_g fun s4 => ?_
    refine sp_m (aw_get (k := 6) okX4 s4 (by decide) q285 (Or.inl rfl) rfl (pc := 16) dX1_rain_16) ?_
    refine sp_m (aw_iload_n (pc := 19) dX1_rain_19 rfl (lv_at hl 1 rfl)) ?_
    refine sp_if (fun c5 => ?_) (fun c5 => ?_)
    · refine sp_m (aw_icmp_ne_t (tgt := 27) (pc := 20) dX1_rain_20 (by decide) c5) ?_
      refine sp_m (aw_iconst (v := 0) (pc := 27) dX1_rain_27 rfl) ?_
      refine sp_b fun p6 ep6 => ?_
      refine sp_m (G' := AW (KX1_rain l D h0 hE v) p6.2 (31) ls (.int p6.1 :: [])) (fun kk => aw_callV (As := [.int 0]) (metX1_yes _ _ ep6) (rcv_o okX1 s1) rfl mok_X1_yes q1410 q1412 qs47 q116 q1413 (Nat.le_of_ble_eq_true rfl) (Nat.le_of_ble_eq_true rfl) rfl hl.1 rfl (Nat.le_of_ble_eq_true rfl) (pc := 28) dX1_rain_28 kk) ?_
      refine sp_if (fun c7 => ?_) (fun c7 => ?_)
      · refine sp_m (aw_if_ne_t (tgt := 36) (pc := 31) dX1_rain_31 (by decide) c7) ?_
        refine sp_m (aw_aload_n (pc := 36) dX1_rain_36 rfl (lv_at hl 0 rfl)) ?_
        refine sp_g fun s9 => ?_
        refine sp_b fun p8 ep8 => ?_
        refine sp_m (G' := AW (KX1_rain l D h0 hE v) p8 (40) ls ([])) (fun kk => aw_callV (As := []) (metX1_note _ _ ep8) (rcv_o okX1 s9) rfl mok_X1_note q1414 q1416 qs48 q116 q1417 (Nat.le_of_ble_eq_true rfl) (Nat.le_of_ble_eq_true rfl) rfl hl.1 rfl (Nat.le_of_ble_eq_true rfl) (pc := 37) dX1_rain_37 kk) ?_
        refine sp_m (aw_aload_n (pc := 40) dX1_rain_40 rfl (lv_at hl 0 rfl)) ?_
        refine sp_g fun s10 => ?_
        refine sp_b fun x11 ex11 => ?_
        refine sp_m (aw_get (k := 9) okX1 s10 (by decide) q375 (Or.inl rfl) (congrArg va_rf ex11) (pc := 41) dX1_rain_41) ?_
        refine sp_m (aw_iload_n (pc := 44) dX1_rain_44 rfl (lv_at hl 1 rfl)) ?_
        refine sp_g fun g12 => ?_
        refine sp_g fun s13 => ?_
        refine sp_t fun h14 eh140 => ?_
        have eh14 : gS h14 = gS p8 := by rw [eh140]; rfl
        refine sp_m (aw_put (k := 6) okX4 opX4 s13 (by decide) q285 (Or.inl rfl) (Or.inl rfl) (hasV_I' eh140) (nar_b g12) (fit_b g12) (pc := 45) dX1_rain_45) ?_
        refine sp_m (aw_aload_n (pc := 48) dX1_rain_48 rfl (lv_at hl 0 rfl)) ?_
        refine sp_b fun p15 ep15 => ?_
        refine sp_m (G' := AW (KX1_rain l D h0 hE v) p15.2 (52) ls (.int p15.1 :: [])) (fun kk => aw_callV (As := []) (metX1_done _ _ ep15) (rcv_o okX1 (uS eh14 s10)) rfl mok_X1_done q1418 q1420 qs49 q116 q1421 (Nat.le_of_ble_eq_true rfl) (Nat.le_of_ble_eq_true rfl) rfl hl.1 rfl (Nat.le_of_ble_eq_true rfl) (pc := 49) dX1_rain_49 kk) ?_
        refine sp_g fun g16 => ?_
        exact sp_r fun hz => aw_zret (nar_b g16) hz rfl rfl rfl (pc := 52) dX1_rain_52
      · refine sp_m (aw_if_ne_f (tgt := 36) (pc := 31) dX1_rain_31 (by decide) (Decidable.not_not.mp c7)) ?_
        refine sp_m (aw_iconst (v := 0) (pc := 34) dX1_rain_34 rfl) ?_
        exact sp_r fun hz => aw_zret (nar_b (Or.inl rfl)) hz rfl rfl rfl (pc := 35) dX1_rain_35
    · refine sp_m (aw_icmp_ne_f (tgt := 27) (pc := 20) dX1_rain_20 (by decide) (Decidable.not_not.mp c5)) ?_
      refine sp_m (aw_iconst (v := 5) (pc := 23) dX1_rain_23 rfl) ?_
      refine sp_m (aw_goto (tgt := 28) (pc := 24) dX1_rain_24 (by decide)) ?_
      refine sp_b fun p17 ep17 => ?_
      refine sp_m (G' := AW (KX1_rain l D h0 hE v) p17.2 (31) ls (.int p17.1 :: [])) (fun kk => aw_callV (As := [.int 5]) (metX1_yes _ _ ep17) (rcv_o okX1 s1) rfl mok_X1_yes q1410 q1412 qs47 q116 q1413 (Nat.le_of_ble_eq_true rfl) (Nat.le_of_ble_eq_true rfl) rfl hl.1 rfl (Nat.le_of_ble_eq_true rfl) (pc := 28) dX1_rain_28 kk) ?_
      refine sp_if (fun c18 => ?_) (fun c18 => ?_)
      · refine sp_m (aw_if_ne_t (tgt := 36) (pc := 31) dX1_rain_31 (by decide) c18) ?_
        refine sp_m (aw_aload_n (pc := 36) dX1_rain_36 rfl (lv_at hl 0 rfl)) ?_
        refine sp_g fun s20 => ?_
        refine sp_b fun p19 ep19 => ?_
        refine sp_m (G' := AW (KX1_rain l D h0 hE v) p19 (40) ls ([])) (fun kk => aw_callV (As := []) (metX1_note _ _ ep19) (rcv_o okX1 s20) rfl mok_X1_note q1414 q1416 qs48 q116 q1417 (Nat.le_of_ble_eq_true rfl) (Nat.le_of_ble_eq_true rfl) rfl hl.1 rfl (Nat.le_of_ble_eq_true rfl) (pc := 37) dX1_rain_37 kk) ?_
        refine sp_m (aw_aload_n (pc := 40) dX1_rain_40 rfl (lv_at hl 0 rfl)) ?_
        refine sp_g fun s21 => ?_
        refine sp_b fun x22 ex22 => ?_
        refine sp_m (aw_get (k := 9) okX1 s21 (by decide) q375 (Or.inl rfl) (congrArg va_rf ex22) (pc := 41) dX1_rain_41) ?_
        refine sp_m (aw_iload_n (pc := 44) dX1_rain_44 rfl (lv_at hl 1 rfl)) ?_
        refine sp_g fun g23 => ?_
        refine sp_g fun s24 => ?_
        refine sp_t fun h25 eh250 => ?_
        have eh25 : gS h25 = gS p19 := by rw [eh250]; rfl
        refine sp_m (aw_put (k := 6) okX4 opX4 s24 (by decide) q285 (Or.inl rfl) (Or.inl rfl) (hasV_I' eh250) (nar_b g23) (fit_b g23) (pc := 45) dX1_rain_45) ?_
        refine sp_m (aw_aload_n (pc := 48) dX1_rain_48 rfl (lv_at hl 0 rfl)) ?_
        refine sp_b fun p26 ep26 => ?_
        refine sp_m (G' := AW (KX1_rain l D h0 hE v) p26.2 (52) ls (.int p26.1 :: [])) (fun kk => aw_callV (As := []) (metX1_done _ _ ep26) (rcv_o okX1 (uS eh25 s21)) rfl mok_X1_done q1418 q1420 qs49 q116 q1421 (Nat.le_of_ble_eq_true rfl) (Nat.le_of_ble_eq_true rfl) rfl hl.1 rfl (Nat.le_of_ble_eq_true rfl) (pc := 49) dX1_rain_49 kk) ?_
        refine sp_g fun g27 => ?_
        exact sp_r fun hz => aw_zret (nar_b g27) hz rfl rfl rfl (pc := 52) dX1_rain_52
      · refine sp_m (aw_if_ne_f (tgt := 36) (pc := 31) dX1_rain_31 (by decide) (Decidable.not_not.mp c18)) ?_
        refine sp_m (aw_iconst (v := 0) (pc := 34) dX1_rain_34 rfl) ?_
        exact sp_r fun hz => aw_zret (nar_b (Or.inl rfl)) hz rfl rfl rfl (pc := 35) dX1_rain_35
theorem mok_X1_reach : mOK yX1_reach 1 := ⟨⟨by decide +kernel, by decide +kernel⟩, by decide +kernel⟩
abbrev KX1_reach (l : Launch) (D : DD) (h0 hE : AH) (v : Int32) : KT := (l, yX1_reach, cX1_reach, 4, (some .int), RX1, 13, D, h0, hE, .inl (some (.int v)), false, [])
theorem metX1_reach (l : Launch) (D : DD) {a0 : Nat} {a1 : Int32} {h0 : AH} {hE : AH} {v : Int32} (hr : fX1_reach a0 a1 h0 = some (v, hE)) : AMet (KX1_reach l D h0 hE v) [.ref a0, .int a1] := by
  refine AMet.of (K := (KX1_reach l D h0 hE v)) rfl ⟨_, rfl⟩ rfl rfl rfl (Nat.le_of_ble_eq_true rfl) (fun ls hl => ?_)
  have hl : lv_has ls 4 [(0, .ref a0), (1, .int a1)] := hl
  suffices hsp : SP (fX1_reach a0 a1 h0) (fun z => z = (v, hE)) (AW (KX1_reach l D h0 hE v) h0 0 ls []) from hsp _ hr rfl
  unfold fX1_reach
  refine sp_m (aw_aload_n (pc := 0) dX1_reach_0 rfl (lv_at hl 0 rfl)) ?_
  refine sp_g fun s2 => ?_
  refine sp_b fun p1 ep1 => ?_
  refine sp_m (G' := AW (KX1_reach l D h0 hE v) p1 (4) ls ([])) (fun kk => aw_callV (As := []) (metX1_anew _ _ ep1) (rcv_o okX1 s2) rfl mok_X1_anew q452 q454 qs2 q116 q455 (Nat.le_of_ble_eq_true rfl) (Nat.le_of_ble_eq_true rfl) rfl hl.1 rfl (Nat.le_of_ble_eq_true rfl) (pc := 1) dX1_reach_1 kk) ?_
  refine sp_m (aw_aload_n (pc := 4) dX1_reach_4 rfl (lv_at hl 0 rfl)) ?_
  refine sp_m (aw_iload_n (pc := 5) dX1_reach_5 rfl (lv_at hl 1 rfl)) ?_
  refine sp_g fun s4 => ?_
  refine sp_b fun p3 ep3 => ?_
  refine sp_m (G' := AW (KX1_reach l D h0 hE v) p1 (9) ls (.int p3 :: [])) (fun kk => aw_callV (As := [.int a1]) (metX1_isCity _ _ ep3) (rcv_o okX1 s4) rfl mok_X1_isCity q1284 q1286 qs41 q116 q1287 (Nat.le_of_ble_eq_true rfl) (Nat.le_of_ble_eq_true rfl) rfl hl.1 rfl (Nat.le_of_ble_eq_true rfl) (pc := 6) dX1_reach_6 kk) ?_
  refine sp_if (fun c5 => ?_) (fun c5 => ?_)
  · refine sp_m (aw_if_ne_t (tgt := 18) (pc := 9) dX1_reach_9 (by decide) c5) ?_
    refine sp_m (aw_iconst (v := 0) (pc := 18) dX1_reach_18 rfl) ?_
    refine sp_m (aw_istore_n (lv' := [(2, .int 0), (0, .ref a0), (1, .int a1)]) (pc := 19) dX1_reach_19 rfl hl (by decide) rfl) (sp_all fun ls hl => ?_)
    refine sp_m (aw_iconst (v := 0) (pc := 20) dX1_reach_20 rfl) ?_
    refine sp_m (aw_istore_n (lv' := [(3, .int 0), (2, .int 0), (0, .ref a0), (1, .int a1)]) (pc := 21) dX1_reach_21 rfl hl (by decide) rfl) (sp_all fun ls hl => ?_)
    let P6 : Int32 × Int32 × AH → Prop := aLP (KX1_reach l D h0 hE v) 4 22 (fun s6v : Int32 × Int32 × AH => [(0, .ref a0), (1, .int a1), (2, .int s6v.1), (3, .int s6v.2.1)]) (fun s6v => s6v.2.2)
    let E6 : Int32 × AH → Prop := aLP (KX1_reach l D h0 hE v) 4 68 (fun r6v : Int32 × AH => [(2, .int r6v.1)]) (fun r6v => r6v.2)
    refine sp_bl (P := P6) (E := E6) (fun s6v => sp_all fun ls hl => ?_) (fun k => k ls (lv_sub hl [2, 3, 1, 0] rfl)) (fun r6v => sp_all fun ls hl => ?_)
    · have hl : lv_has ls 4 [(0, .ref a0), (1, .int a1), (2, .int s6v.1), (3, .int s6v.2.1)] := hl
      show SP _ _ (AW (KX1_reach l D h0 hE v) s6v.2.2 22 ls [])
      unfold X1_reach_L22
      refine sp_m (aw_iload_n (pc := 22) dX1_reach_22 rfl (lv_at hl 3 rfl)) ?_
      refine sp_m (aw_aload_n (pc := 23) dX1_reach_23 rfl (lv_at hl 0 rfl)) ?_
      refine sp_g fun s7 => ?_
      refine sp_b fun x8 ex8 => ?_
      refine sp_m (aw_get (k := 3) okX1 s7 (by decide) q369 (Or.inl rfl) (congrArg va_rf ex8) (pc := 24) dX1_reach_24) ?_
      refine sp_g fun s9 => ?_
      refine sp_m (aw_get (k := 9) okX8 s9 (by decide) q509 (Or.inl rfl) rfl (pc := 27) dX1_reach_27) ?_
      refine sp_if (fun c10 => ?_) (fun c10 => ?_)
      · refine sp_m (aw_icmp_ge_t (tgt := 68) (pc := 30) dX1_reach_30 (by decide) c10) ?_
        exact sp_r fun hz => hz ls (lv_sub hl [2] rfl)
      · refine sp_m (aw_icmp_ge_f (tgt := 68) (pc := 30) dX1_reach_30 (by decide) c10) ?_
        refine sp_m (aw_iload_n (pc := 33) dX1_reach_33 rfl (lv_at hl 2 rfl)) ?_
        refine sp_m (aw_aload_n (pc := 34) dX1_reach_34 rfl (lv_at hl 0 rfl)) ?_
        refine sp_b fun x11 ex11 => ?_
        refine sp_m (aw_get (k := 13) okX1 s7 (by decide) q379 (Or.inl rfl) (congrArg va_rf ex11) (pc := 35) dX1_reach_35) ?_
        refine sp_m (aw_aload_n (pc := 38) dX1_reach_38 rfl (lv_at hl 0 rfl)) ?_
        refine sp_b fun x12 ex12 => ?_
        refine sp_m (aw_get (k := 3) okX1 s7 (by decide) q369 (Or.inl rfl) (congrArg va_rf ex12) (pc := 39) dX1_reach_39) ?_
        refine sp_m (aw_iload_n (pc := 42) dX1_reach_42 rfl (lv_at hl 1 rfl)) ?_
        refine sp_m (aw_iload_n (pc := 43) dX1_reach_43 rfl (lv_at hl 3 rfl)) ?_
        refine sp_m (aw_iconst (v := 1) (pc := 44) dX1_reach_44 rfl) ?_
        refine sp_g fun s14 => ?_
        refine sp_b fun p13 ep13 => ?_
        refine sp_m (G' := AW (KX1_reach l D h0 hE v) p13.2 (48) ls (.int p13.1 :: .int s6v.1 :: [])) (fun kk => aw_callV (As := [.ref x12, .int a1, .int s6v.2.1, .int 1]) (metX6_seek _ _ ep13) (rcv_o okX6 s14) rfl mok_X6_seek q1288 q1289 q1290 q124 q1291 (Nat.le_of_ble_eq_true rfl) (Nat.le_of_ble_eq_true rfl) rfl hl.1 rfl (Nat.le_of_ble_eq_true rfl) (pc := 45) dX1_reach_45 kk) ?_
        refine sp_m (aw_bipush (v := (-2)) (pc := 48) dX1_reach_48 rfl) ?_
        have hj60_1 : ∀ j15 : Int32, ∀ ls : Array Slot, lv_has ls 4 [(0, .ref a0), (1, .int a1), (3, .int s6v.2.1)] → SP (X1_reach_j60 s6v p13 j15) (ZL P6 E6) (AW (KX1_reach l D h0 hE v) p13.2 60 ls (.int j15 :: .int s6v.1 :: [])) := by
          intro j15 ls hl
          unfold X1_reach_j60
          refine sp_m (aw_ior (pc := 60) dX1_reach_60) ?_
          refine sp_m (aw_istore_n (lv' := [(2, .int (s6v.1 ||| j15)), (0, .ref a0), (1, .int a1), (3, .int s6v.2.1)]) (pc := 61) dX1_reach_61 rfl hl (by decide) rfl) (sp_all fun ls hl => ?_)
          refine sp_m (aw_iinc (v := s6v.2.1 + 1) (lv' := [(3, .int (s6v.2.1 + 1)), (2, .int (s6v.1 ||| j15)), (0, .ref a0), (1, .int a1)]) (pc := 62) dX1_reach_62 hl (k := 3) rfl rfl (by decide) rfl) (sp_all fun ls hl => ?_)
          refine sp_m (aw_goto (tgt := 22) (pc := 65) dX1_reach_65 (by decide)) ?_
          exact sp_r fun hz => hz ls (lv_sub hl [2, 3, 1, 0] rfl)
        refine sp_if (fun c16 => ?_) (fun c16 => ?_)
        · refine sp_m (aw_icmp_ne_t (tgt := 57) (pc := 50) dX1_reach_50 (by decide) c16) ?_
          refine sp_m (aw_iconst (v := 1) (pc := 57) dX1_reach_57 rfl) ?_
          refine sp_m (aw_iload_n (pc := 58) dX1_reach_58 rfl (lv_at hl 3 rfl)) ?_
          refine sp_m (aw_ishl (pc := 59) dX1_reach_59) ?_
          exact hj60_1 (1 <<< (s6v.2.1 &&& 31)) ls (lv_sub hl [0, 1, 3] rfl)
        · refine sp_m (aw_icmp_ne_f (tgt := 57) (pc := 50) dX1_reach_50 (by decide) (Decidable.not_not.mp c16)) ?_
          refine sp_m (aw_iconst (v := 0) (pc := 53) dX1_reach_53 rfl) ?_
          refine sp_m (aw_goto (tgt := 60) (pc := 54) dX1_reach_54 (by decide)) ?_
          exact hj60_1 0 ls (lv_sub hl [0, 1, 3] rfl)
    · have hl : lv_has ls 4 [(2, .int r6v.1)] := hl
      show SP _ _ (AW (KX1_reach l D h0 hE v) r6v.2 68 ls [])
      refine sp_m (aw_iload_n (pc := 68) dX1_reach_68 rfl (lv_at hl 0 rfl)) ?_
      exact sp_r fun hz => aw_iret hz rfl rfl rfl (pc := 69) dX1_reach_69
  · refine sp_m (aw_if_ne_f (tgt := 18) (pc := 9) dX1_reach_9 (by decide) (Decidable.not_not.mp c5)) ?_
    refine sp_m (aw_aload_n (pc := 12) dX1_reach_12 rfl (lv_at hl 0 rfl)) ?_
    refine sp_m (aw_iconst (v := 1) (pc := 13) dX1_reach_13 rfl) ?_
    refine sp_b fun p17 ep17 => ?_
    refine sp_m (G' := AW (KX1_reach l D h0 hE v) p17.2 (17) ls (.int p17.1 :: [])) (fun kk => aw_callV (As := [.int 1]) (metX1_no _ _ ep17) (rcv_o okX1 s4) rfl mok_X1_no q459 q461 qs3 q116 q462 (Nat.le_of_ble_eq_true rfl) (Nat.le_of_ble_eq_true rfl) rfl hl.1 rfl (Nat.le_of_ble_eq_true rfl) (pc := 14) dX1_reach_14 kk) ?_
    exact sp_r fun hz => aw_iret hz rfl rfl rfl (pc := 17) dX1_reach_17
theorem mok_X1_seekRests : mOK yX1_seekRests 1 := ⟨⟨by decide +kernel, by decide +kernel⟩, by decide +kernel⟩
abbrev KX1_seekRests (l : Launch) (D : DD) (h0 hE : AH) (v : Int32) : KT := (l, yX1_seekRests, cX1_seekRests, 5, (some .int), RX1, 9, D, h0, hE, .inl (some (.int v)), false, [])
theorem metX1_seekRests (l : Launch) (D : DD) {a0 : Nat} {a1 : Int32} {h0 : AH} {hE : AH} {v : Int32} (hr : fX1_seekRests a0 a1 h0 = some (v, hE)) : AMet (KX1_seekRests l D h0 hE v) [.ref a0, .int a1] := by
  refine AMet.of (K := (KX1_seekRests l D h0 hE v)) rfl ⟨_, rfl⟩ rfl rfl rfl (Nat.le_of_ble_eq_true rfl) (fun ls hl => ?_)
  have hl : lv_has ls 5 [(0, .ref a0), (1, .int a1)] := hl
  suffices hsp : SP (fX1_seekRests a0 a1 h0) (fun z => z = (v, hE)) (AW (KX1_seekRests l D h0 hE v) h0 0 ls []) from hsp _ hr rfl
  unfold fX1_seekRests
  refine sp_m (aw_iconst (v := 0) (pc := 0) dX1_seekRests_0 rfl) ?_
  refine sp_m (aw_istore_n (lv' := [(2, .int 0), (0, .ref a0), (1, .int a1)]) (pc := 1) dX1_seekRests_1 rfl hl (by decide) rfl) (sp_all fun ls hl => ?_)
  refine sp_m (aw_aload_n (pc := 2) dX1_seekRests_2 rfl (lv_at hl 1 rfl)) ?_
  refine sp_m (aw_bipush (v := (-2)) (pc := 3) dX1_seekRests_3 rfl) ?_
  refine sp_g fun s1 => ?_
  refine sp_t fun h2 eh20 => ?_
  have eh2 : gS h2 = gS h0 := by rw [eh20]; rfl
  refine sp_m (aw_put (k := 16) okX1 opX1 s1 (by decide) q382 (Or.inl rfl) (Or.inl rfl) (hasV_I' eh20) rfl rfl (pc := 5) dX1_seekRests_5) ?_
  refine sp_m (aw_iconst (v := 0) (pc := 8) dX1_seekRests_8 rfl) ?_
  refine sp_m (aw_istore_n (lv' := [(3, .int 0), (2, .int 0), (0, .ref a0), (1, .int a1)]) (pc := 9) dX1_seekRests_9 rfl hl (by decide) rfl) (sp_all fun ls hl => ?_)
  let P3 : Int32 × Int32 × AH → Prop := aLP (KX1_seekRests l D h0 hE v) 5 10 (fun s3v : Int32 × Int32 × AH => [(0, .ref a0), (1, .int a1), (2, .int s3v.1), (3, .int s3v.2.1)]) (fun s3v => s3v.2.2)
  let E3 : Int32 × AH → Prop := aLP (KX1_seekRests l D h0 hE v) 5 80 (fun r3v : Int32 × AH => [(2, .int r3v.1)]) (fun r3v => r3v.2)
  refine sp_bl (P := P3) (E := E3) (fun s3v => sp_all fun ls hl => ?_) (fun k => k ls (lv_sub hl [2, 3, 1, 0] rfl)) (fun r3v => sp_all fun ls hl => ?_)
  · have hl : lv_has ls 5 [(0, .ref a0), (1, .int a1), (2, .int s3v.1), (3, .int s3v.2.1)] := hl
    show SP _ _ (AW (KX1_seekRests l D h0 hE v) s3v.2.2 10 ls [])
    unfold X1_seekRests_L10
    refine sp_m (aw_iload_n (pc := 10) dX1_seekRests_10 rfl (lv_at hl 3 rfl)) ?_
    refine sp_m (aw_aload_n (pc := 11) dX1_seekRests_11 rfl (lv_at hl 0 rfl)) ?_
    refine sp_g fun s4 => ?_
    refine sp_b fun x5 ex5 => ?_
    refine sp_m (aw_get (k := 3) okX1 s4 (by decide) q369 (Or.inl rfl) (congrArg va_rf ex5) (pc := 12) dX1_seekRests_12) ?_
    refine sp_g fun s6 => ?_
    refine sp_m (aw_get (k := 5) okX8 s6 (by decide) q496 (Or.inl rfl) rfl (pc := 15) dX1_seekRests_15) ?_
    refine sp_if (fun c7 => ?_) (fun c7 => ?_)
    · refine sp_m (aw_icmp_ge_t (tgt := 80) (pc := 18) dX1_seekRests_18 (by decide) c7) ?_
      exact sp_r fun hz => hz ls (lv_sub hl [2] rfl)
    · refine sp_m (aw_icmp_ge_f (tgt := 80) (pc := 18) dX1_seekRests_18 (by decide) c7) ?_
      refine sp_m (aw_iconst (v := 0) (pc := 21) dX1_seekRests_21 rfl) ?_
      refine sp_m (aw_istore (lv' := [(4, .int 0), (0, .ref a0), (1, .int a1), (2, .int s3v.1), (3, .int s3v.2.1)]) (pc := 22) dX1_seekRests_22 hl (by decide) rfl) (sp_all fun ls hl => ?_)
      let P8 : Int32 × Int32 × AH → Prop := aLP (KX1_seekRests l D h0 hE v) 5 24 (fun s8v : Int32 × Int32 × AH => [(0, .ref a0), (1, .int a1), (2, .int s8v.1), (3, .int s3v.2.1), (4, .int s8v.2.1)]) (fun s8v => s8v.2.2)
      let E8 : Int32 × AH → Prop := aLP (KX1_seekRests l D h0 hE v) 5 74 (fun r8v : Int32 × AH => [(0, .ref a0), (1, .int a1), (2, .int r8v.1), (3, .int s3v.2.1)]) (fun r8v => r8v.2)
      refine sp_bl (P := P8) (E := E8) (fun s8v => sp_all fun ls hl => ?_) (fun k => k ls (lv_sub hl [1, 2, 3, 4, 0] rfl)) (fun r8v => sp_all fun ls hl => ?_)
      · have hl : lv_has ls 5 [(0, .ref a0), (1, .int a1), (2, .int s8v.1), (3, .int s3v.2.1), (4, .int s8v.2.1)] := hl
        show SP _ _ (AW (KX1_seekRests l D h0 hE v) s8v.2.2 24 ls [])
        unfold X1_seekRests_L24
        refine sp_m (aw_iload (pc := 24) dX1_seekRests_24 (lv_at hl 4 rfl)) ?_
        refine sp_m (aw_aload_n (pc := 26) dX1_seekRests_26 rfl (lv_at hl 0 rfl)) ?_
        refine sp_g fun s9 => ?_
        refine sp_b fun x10 ex10 => ?_
        refine sp_m (aw_get (k := 3) okX1 s9 (by decide) q369 (Or.inl rfl) (congrArg va_rf ex10) (pc := 27) dX1_seekRests_27) ?_
        refine sp_g fun s11 => ?_
        refine sp_m (aw_get (k := 5) okX8 s11 (by decide) q496 (Or.inl rfl) rfl (pc := 30) dX1_seekRests_30) ?_
        refine sp_if (fun c12 => ?_) (fun c12 => ?_)
        · refine sp_m (aw_icmp_ge_t (tgt := 74) (pc := 33) dX1_seekRests_33 (by decide) c12) ?_
          exact sp_r fun hz => hz ls (lv_sub hl [0, 1, 2, 3] rfl)
        · refine sp_m (aw_icmp_ge_f (tgt := 74) (pc := 33) dX1_seekRests_33 (by decide) c12) ?_
          refine sp_m (aw_aload_n (pc := 36) dX1_seekRests_36 rfl (lv_at hl 0 rfl)) ?_
          refine sp_m (aw_iload_n (pc := 37) dX1_seekRests_37 rfl (lv_at hl 1 rfl)) ?_
          refine sp_m (aw_iload_n (pc := 38) dX1_seekRests_38 rfl (lv_at hl 3 rfl)) ?_
          refine sp_m (aw_iload (pc := 39) dX1_seekRests_39 (lv_at hl 4 rfl)) ?_
          refine sp_b fun p13 ep13 => ?_
          refine sp_m (G' := AW (KX1_seekRests l D h0 hE v) s8v.2.2 (44) ls (.int p13 :: [])) (fun kk => aw_callV (As := [.int a1, .int s3v.2.1, .int s8v.2.1]) (metX1_isRest _ _ ep13) (rcv_o okX1 s9) rfl mok_X1_isRest q1231 q1233 qs34 q116 q1234 (Nat.le_of_ble_eq_true rfl) (Nat.le_of_ble_eq_true rfl) rfl hl.1 rfl (Nat.le_of_ble_eq_true rfl) (pc := 41) dX1_seekRests_41 kk) ?_
          have hj68_1 : ∀ j14 : Int32, ∀ h15 : AH, ∀ ls : Array Slot, lv_has ls 5 [(0, .ref a0), (1, .int a1), (2, .int j14), (3, .int s3v.2.1), (4, .int s8v.2.1)] → SP (X1_seekRests_j68 s8v j14 h15) (ZL P8 E8) (AW (KX1_seekRests l D h0 hE v) h15 68 ls ([])) := by
            intro j14 h15 ls hl
            unfold X1_seekRests_j68
            refine sp_m (aw_iinc (v := s8v.2.1 + 1) (lv' := [(4, .int (s8v.2.1 + 1)), (0, .ref a0), (1, .int a1), (2, .int j14), (3, .int s3v.2.1)]) (pc := 68) dX1_seekRests_68 hl (k := 4) rfl rfl (by decide) rfl) (sp_all fun ls hl => ?_)
            refine sp_m (aw_goto (tgt := 24) (pc := 71) dX1_seekRests_71 (by decide)) ?_
            exact sp_r fun hz => hz ls (lv_sub hl [1, 2, 3, 4, 0] rfl)
          refine sp_if (fun c16 => ?_) (fun c16 => ?_)
          · refine sp_m (aw_if_ne_t (tgt := 50) (pc := 44) dX1_seekRests_44 (by decide) c16) ?_
            refine sp_m (aw_iload_n (pc := 50) dX1_seekRests_50 rfl (lv_at hl 2 rfl)) ?_
            have hj65_2 : ∀ h17 : AH, ∀ ls : Array Slot, lv_has ls 5 [(0, .ref a0), (1, .int a1), (2, .int s8v.1), (3, .int s3v.2.1), (4, .int s8v.2.1)] → SP (X1_seekRests_j65 s8v h17) (ZL P8 E8) (AW (KX1_seekRests l D h0 hE v) h17 65 ls ([])) := by
              intro h17 ls hl
              unfold X1_seekRests_j65
              refine sp_m (aw_iinc (v := s8v.1 + 1) (lv' := [(2, .int (s8v.1 + 1)), (0, .ref a0), (1, .int a1), (3, .int s3v.2.1), (4, .int s8v.2.1)]) (pc := 65) dX1_seekRests_65 hl (k := 2) rfl rfl (by decide) rfl) (sp_all fun ls hl => ?_)
              exact hj68_1 (s8v.1 + 1) h17 ls (lv_sub hl [1, 2, 0, 3, 4] rfl)
            refine sp_if (fun c18 => ?_) (fun c18 => ?_)
            · refine sp_m (aw_if_ne_t (tgt := 65) (pc := 51) dX1_seekRests_51 (by decide) c18) ?_
              exact hj65_2 s8v.2.2 ls (lv_sub hl [0, 1, 2, 3, 4] rfl)
            · refine sp_m (aw_if_ne_f (tgt := 65) (pc := 51) dX1_seekRests_51 (by decide) (Decidable.not_not.mp c18)) ?_
              refine sp_m (aw_aload_n (pc := 54) dX1_seekRests_54 rfl (lv_at hl 0 rfl)) ?_
              refine sp_m (aw_bipush (v := 10) (pc := 55) dX1_seekRests_55 rfl) ?_
              refine sp_m (aw_iload_n (pc := 57) dX1_seekRests_57 rfl (lv_at hl 3 rfl)) ?_
              refine sp_m (aw_imul (pc := 58) dX1_seekRests_58) ?_
              refine sp_m (aw_iload (pc := 59) dX1_seekRests_59 (lv_at hl 4 rfl)) ?_
              refine sp_m (aw_iadd (pc := 61) dX1_seekRests_61) ?_
              refine sp_t fun h19 eh190 => ?_
              have eh19 : gS h19 = gS s8v.2.2 := by rw [eh190]; rfl
              refine sp_m (aw_put (k := 16) okX1 opX1 s9 (by decide) q382 (Or.inl rfl) (Or.inl rfl) (hasV_I' eh190) rfl rfl (pc := 62) dX1_seekRests_62) ?_
              exact hj65_2 h19 ls (lv_sub hl [0, 1, 2, 3, 4] rfl)
          · refine sp_m (aw_if_ne_f (tgt := 50) (pc := 44) dX1_seekRests_44 (by decide) (Decidable.not_not.mp c16)) ?_
            refine sp_m (aw_goto (tgt := 68) (pc := 47) dX1_seekRests_47 (by decide)) ?_
            exact hj68_1 s8v.1 s8v.2.2 ls (lv_sub hl [0, 1, 2, 3, 4] rfl)
      · have hl : lv_has ls 5 [(0, .ref a0), (1, .int a1), (2, .int r8v.1), (3, .int s3v.2.1)] := hl
        show SP _ _ (AW (KX1_seekRests l D h0 hE v) r8v.2 74 ls [])
        refine sp_m (aw_iinc (v := s3v.2.1 + 1) (lv' := [(3, .int (s3v.2.1 + 1)), (0, .ref a0), (1, .int a1), (2, .int r8v.1)]) (pc := 74) dX1_seekRests_74 hl (k := 3) rfl rfl (by decide) rfl) (sp_all fun ls hl => ?_)
        refine sp_m (aw_goto (tgt := 10) (pc := 77) dX1_seekRests_77 (by decide)) ?_
        exact sp_r fun hz => hz ls (lv_sub hl [1, 2, 3, 0] rfl)
  · have hl : lv_has ls 5 [(2, .int r3v.1)] := hl
    show SP _ _ (AW (KX1_seekRests l D h0 hE v) r3v.2 80 ls [])
    refine sp_m (aw_iload_n (pc := 80) dX1_seekRests_80 rfl (lv_at hl 0 rfl)) ?_
    exact sp_r fun hz => aw_iret hz rfl rfl rfl (pc := 81) dX1_seekRests_81
theorem mok_X1_rest : mOK yX1_rest 1 := ⟨⟨by decide +kernel, by decide +kernel⟩, by decide +kernel⟩
abbrev KX1_rest (l : Launch) (D : DD) (h0 hE : AH) (v : Int32) : KT := (l, yX1_rest, cX1_rest, 2, (some .int), RX1, 10, D, h0, hE, .inl (some (.int v)), false, [])
theorem metX1_rest (l : Launch) (D : DD) {a0 : Nat} {a1 : Int32} {h0 : AH} {hE : AH} {v : Int32} (hr : fX1_rest a0 a1 h0 = some (v, hE)) : AMet (KX1_rest l D h0 hE v) [.ref a0, .int a1] := by
  refine AMet.of (K := (KX1_rest l D h0 hE v)) rfl ⟨_, rfl⟩ rfl rfl rfl (Nat.le_of_ble_eq_true rfl) (fun ls hl => ?_)
  have hl : lv_has ls 2 [(0, .ref a0), (1, .int a1)] := hl
  suffices hsp : SP (fX1_rest a0 a1 h0) (fun z => z = (v, hE)) (AW (KX1_rest l D h0 hE v) h0 0 ls []) from hsp _ hr rfl
  unfold fX1_rest
  refine sp_m (aw_aload_n (pc := 0) dX1_rest_0 rfl (lv_at hl 0 rfl)) ?_
  refine sp_g fun s2 => ?_
  refine sp_b fun p1 ep1 => ?_
  refine sp_m (G' := AW (KX1_rest l D h0 hE v) p1 (4) ls ([])) (fun kk => aw_callV (As := []) (metX1_anew _ _ ep1) (rcv_o okX1 s2) rfl mok_X1_anew q452 q454 qs2 q116 q455 (Nat.le_of_ble_eq_true rfl) (Nat.le_of_ble_eq_true rfl) rfl hl.1 rfl (Nat.le_of_ble_eq_true rfl) (pc := 1) dX1_rest_1 kk) ?_
  refine sp_m (aw_aload_n (pc := 4) dX1_rest_4 rfl (lv_at hl 0 rfl)) ?_
  refine sp_m (aw_iload_n (pc := 5) dX1_rest_5 rfl (lv_at hl 1 rfl)) ?_
  refine sp_g fun s4 => ?_
  refine sp_b fun p3 ep3 => ?_
  refine sp_m (G' := AW (KX1_rest l D h0 hE v) p1 (9) ls (.int p3 :: [])) (fun kk => aw_callV (As := [.int a1]) (metX1_isBeast _ _ ep3) (rcv_o okX1 s4) rfl mok_X1_isBeast q974 q976 qs27 q116 q977 (Nat.le_of_ble_eq_true rfl) (Nat.le_of_ble_eq_true rfl) rfl hl.1 rfl (Nat.le_of_ble_eq_true rfl) (pc := 6) dX1_rest_6 kk) ?_
  refine sp_if (fun c5 => ?_) (fun c5 => ?_)
  · refine sp_m (aw_if_ne_t (tgt := 18) (pc := 9) dX1_rest_9 (by decide) c5) ?_
    refine sp_m (aw_aload_n (pc := 18) dX1_rest_18 rfl (lv_at hl 0 rfl)) ?_
    refine sp_m (aw_iload_n (pc := 19) dX1_rest_19 rfl (lv_at hl 1 rfl)) ?_
    refine sp_b fun p6 ep6 => ?_
    refine sp_m (G' := AW (KX1_rest l D h0 hE v) p6.2 (23) ls (.int p6.1 :: [])) (fun kk => aw_callV (As := [.int a1]) (metX1_seekRests _ _ ep6) (rcv_o okX1 s4) rfl mok_X1_seekRests q1227 q1229 qs33 q116 q1230 (Nat.le_of_ble_eq_true rfl) (Nat.le_of_ble_eq_true rfl) rfl hl.1 rfl (Nat.le_of_ble_eq_true rfl) (pc := 20) dX1_rest_20 kk) ?_
    refine sp_m (aw_pop (pc := 23) dX1_rest_23 rfl) ?_
    refine sp_m (aw_aload_n (pc := 24) dX1_rest_24 rfl (lv_at hl 0 rfl)) ?_
    refine sp_g fun s7 => ?_
    refine sp_m (aw_get (k := 16) okX1 s7 (by decide) q382 (Or.inl rfl) rfl (pc := 25) dX1_rest_25) ?_
    exact sp_r fun hz => aw_iret hz rfl rfl rfl (pc := 28) dX1_rest_28
  · refine sp_m (aw_if_ne_f (tgt := 18) (pc := 9) dX1_rest_9 (by decide) (Decidable.not_not.mp c5)) ?_
    refine sp_m (aw_aload_n (pc := 12) dX1_rest_12 rfl (lv_at hl 0 rfl)) ?_
    refine sp_m (aw_iconst (v := 1) (pc := 13) dX1_rest_13 rfl) ?_
    refine sp_b fun p8 ep8 => ?_
    refine sp_m (G' := AW (KX1_rest l D h0 hE v) p8.2 (17) ls (.int p8.1 :: [])) (fun kk => aw_callV (As := [.int 1]) (metX1_no _ _ ep8) (rcv_o okX1 s4) rfl mok_X1_no q459 q461 qs3 q116 q462 (Nat.le_of_ble_eq_true rfl) (Nat.le_of_ble_eq_true rfl) rfl hl.1 rfl (Nat.le_of_ble_eq_true rfl) (pc := 14) dX1_rest_14 kk) ?_
    exact sp_r fun hz => aw_iret hz rfl rfl rfl (pc := 17) dX1_rest_17
