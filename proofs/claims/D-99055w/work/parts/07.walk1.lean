/-! WALKS (printed by wip gen/all.py) -/
set_option maxRecDepth 100000
set_option maxHeartbeats 4000000
theorem mok_X4_init : mOK yX4_init 0 := ⟨⟨by decide +kernel, by decide +kernel⟩, by decide +kernel⟩
abbrev KX4_init (l : Launch) (D : DD) (h0 hE : AH) : KT := (l, yX4_init, cX4_init, 1, none, RX4, 1, D, h0, hE, .inl (none), false, [])
theorem metX4_init (l : Launch) (D : DD) {a0 : Nat} {h0 : AH} {hE : AH} (hr : fX4_init a0 h0 = some hE) : AMet (KX4_init l D h0 hE) [.ref a0] := by
  refine AMet.of (K := (KX4_init l D h0 hE)) rfl ⟨_, rfl⟩ rfl rfl rfl (Nat.le_of_ble_eq_true rfl) (fun ls hl => ?_)
  have hl : lv_has ls 1 [(0, .ref a0)] := hl
  suffices hsp : SP (fX4_init a0 h0) (fun z => z = hE) (AW (KX4_init l D h0 hE) h0 0 ls []) from hsp _ hr rfl
  unfold fX4_init
  refine sp_m (aw_aload_n (pc := 0) dX4_init_0 rfl (lv_at hl 0 rfl)) ?_
  refine sp_m (aw_objInit hl.1 q272 q153 q154 (Nat.le_of_ble_eq_true rfl) rfl (pc := 1) dX4_init_1) ?_
  refine sp_m (aw_aload_n (pc := 4) dX4_init_4 rfl (lv_at hl 0 rfl)) ?_
  refine sp_m (aw_iconst (v := 5) (pc := 5) dX4_init_5 rfl) ?_
  refine sp_t fun h1 eh10 => ?_
  refine sp_m (fun kk => aw_newI q313 (by decide) (by decide) (pc := 6) dX4_init_6 (AWe eh10 kk)) ?_
  refine sp_g fun s2 => ?_
  refine sp_t fun h3 eh30 => ?_
  have eh3 : gS h3 = gS h1 := by rw [eh30]; rfl
  refine sp_m (aw_put (k := 0) okX4 opX4 s2 (by decide) q273 (Or.inl rfl) (Or.inr ⟨rfl, rfl, rfl⟩) (hasV_R' eh30) rfl rfl (pc := 8) dX4_init_8) ?_
  refine sp_m (aw_aload_n (pc := 11) dX4_init_11 rfl (lv_at hl 0 rfl)) ?_
  refine sp_m (aw_iconst (v := 5) (pc := 12) dX4_init_12 rfl) ?_
  refine sp_t fun h4 eh40 => ?_
  refine sp_m (fun kk => aw_newI q313 (by decide) (by decide) (pc := 13) dX4_init_13 (AWe eh40 kk)) ?_
  refine sp_g fun s5 => ?_
  refine sp_t fun h6 eh60 => ?_
  have eh6 : gS h6 = gS h4 := by rw [eh60]; rfl
  refine sp_m (aw_put (k := 1) okX4 opX4 s5 (by decide) q275 (Or.inl rfl) (Or.inr ⟨rfl, rfl, rfl⟩) (hasV_R' eh60) rfl rfl (pc := 15) dX4_init_15) ?_
  refine sp_m (aw_aload_n (pc := 18) dX4_init_18 rfl (lv_at hl 0 rfl)) ?_
  refine sp_m (aw_bipush (v := 6) (pc := 19) dX4_init_19 rfl) ?_
  refine sp_t fun h7 eh70 => ?_
  refine sp_m (fun kk => aw_newI q313 (by decide) (by decide) (pc := 21) dX4_init_21 (AWe eh70 kk)) ?_
  refine sp_g fun s8 => ?_
  refine sp_t fun h9 eh90 => ?_
  have eh9 : gS h9 = gS h7 := by rw [eh90]; rfl
  refine sp_m (aw_put (k := 2) okX4 opX4 s8 (by decide) q277 (Or.inl rfl) (Or.inr ⟨rfl, rfl, rfl⟩) (hasV_R' eh90) rfl rfl (pc := 23) dX4_init_23) ?_
  exact sp_r fun hz => aw_vret hz rfl rfl rfl (pc := 26) dX4_init_26
theorem mok_X6_init : mOK yX6_init 0 := ⟨⟨by decide +kernel, by decide +kernel⟩, by decide +kernel⟩
abbrev KX6_init (l : Launch) (D : DD) (h0 hE : AH) : KT := (l, yX6_init, cX6_init, 1, none, RX6, 1, D, h0, hE, .inl (none), false, [])
theorem metX6_init (l : Launch) (D : DD) {a0 : Nat} {h0 : AH} {hE : AH} (hr : fX6_init a0 h0 = some hE) : AMet (KX6_init l D h0 hE) [.ref a0] := by
  refine AMet.of (K := (KX6_init l D h0 hE)) rfl ⟨_, rfl⟩ rfl rfl rfl (Nat.le_of_ble_eq_true rfl) (fun ls hl => ?_)
  have hl : lv_has ls 1 [(0, .ref a0)] := hl
  suffices hsp : SP (fX6_init a0 h0) (fun z => z = hE) (AW (KX6_init l D h0 hE) h0 0 ls []) from hsp _ hr rfl
  unfold fX6_init
  refine sp_m (aw_aload_n (pc := 0) dX6_init_0 rfl (lv_at hl 0 rfl)) ?_
  refine sp_m (aw_objInit hl.1 q345 q153 q154 (Nat.le_of_ble_eq_true rfl) rfl (pc := 1) dX6_init_1) ?_
  refine sp_m (aw_aload_n (pc := 4) dX6_init_4 rfl (lv_at hl 0 rfl)) ?_
  refine sp_m (aw_bipush (v := 6) (pc := 5) dX6_init_5 rfl) ?_
  refine sp_t fun h1 eh10 => ?_
  refine sp_m (fun kk => aw_newI q313 (by decide) (by decide) (pc := 7) dX6_init_7 (AWe eh10 kk)) ?_
  refine sp_g fun s2 => ?_
  refine sp_t fun h3 eh30 => ?_
  have eh3 : gS h3 = gS h1 := by rw [eh30]; rfl
  refine sp_m (aw_put (k := 0) okX6 opX6 s2 (by decide) q346 (Or.inl rfl) (Or.inr ⟨rfl, rfl, rfl⟩) (hasV_R' eh30) rfl rfl (pc := 9) dX6_init_9) ?_
  refine sp_m (aw_aload_n (pc := 12) dX6_init_12 rfl (lv_at hl 0 rfl)) ?_
  refine sp_m (aw_bipush (v := 6) (pc := 13) dX6_init_13 rfl) ?_
  refine sp_t fun h4 eh40 => ?_
  refine sp_m (fun kk => aw_newI q313 (by decide) (by decide) (pc := 15) dX6_init_15 (AWe eh40 kk)) ?_
  refine sp_g fun s5 => ?_
  refine sp_t fun h6 eh60 => ?_
  have eh6 : gS h6 = gS h4 := by rw [eh60]; rfl
  refine sp_m (aw_put (k := 1) okX6 opX6 s5 (by decide) q347 (Or.inl rfl) (Or.inr ⟨rfl, rfl, rfl⟩) (hasV_R' eh60) rfl rfl (pc := 17) dX6_init_17) ?_
  exact sp_r fun hz => aw_vret hz rfl rfl rfl (pc := 20) dX6_init_20
theorem mok_X5_init : mOK yX5_init 0 := ⟨⟨by decide +kernel, by decide +kernel⟩, by decide +kernel⟩
abbrev KX5_init (l : Launch) (D : DD) (h0 hE : AH) : KT := (l, yX5_init, cX5_init, 1, none, RX5, 1, D, h0, hE, .inl (none), false, [])
theorem metX5_init (l : Launch) (D : DD) {a0 : Nat} {h0 : AH} {hE : AH} (hr : fX5_init a0 h0 = some hE) : AMet (KX5_init l D h0 hE) [.ref a0] := by
  refine AMet.of (K := (KX5_init l D h0 hE)) rfl ⟨_, rfl⟩ rfl rfl rfl (Nat.le_of_ble_eq_true rfl) (fun ls hl => ?_)
  have hl : lv_has ls 1 [(0, .ref a0)] := hl
  suffices hsp : SP (fX5_init a0 h0) (fun z => z = hE) (AW (KX5_init l D h0 hE) h0 0 ls []) from hsp _ hr rfl
  unfold fX5_init
  refine sp_m (aw_aload_n (pc := 0) dX5_init_0 rfl (lv_at hl 0 rfl)) ?_
  refine sp_m (aw_objInit hl.1 q319 q153 q154 (Nat.le_of_ble_eq_true rfl) rfl (pc := 1) dX5_init_1) ?_
  refine sp_m (aw_aload_n (pc := 4) dX5_init_4 rfl (lv_at hl 0 rfl)) ?_
  refine sp_m (aw_iconst (v := 5) (pc := 5) dX5_init_5 rfl) ?_
  refine sp_t fun h1 eh10 => ?_
  refine sp_m (fun kk => aw_newI q313 (by decide) (by decide) (pc := 6) dX5_init_6 (AWe eh10 kk)) ?_
  refine sp_g fun s2 => ?_
  refine sp_t fun h3 eh30 => ?_
  have eh3 : gS h3 = gS h1 := by rw [eh30]; rfl
  refine sp_m (aw_put (k := 0) okX5 opX5 s2 (by decide) q320 (Or.inl rfl) (Or.inr ⟨rfl, rfl, rfl⟩) (hasV_R' eh30) rfl rfl (pc := 8) dX5_init_8) ?_
  refine sp_m (aw_aload_n (pc := 11) dX5_init_11 rfl (lv_at hl 0 rfl)) ?_
  refine sp_m (aw_iconst (v := 5) (pc := 12) dX5_init_12 rfl) ?_
  refine sp_t fun h4 eh40 => ?_
  refine sp_m (fun kk => aw_newI q313 (by decide) (by decide) (pc := 13) dX5_init_13 (AWe eh40 kk)) ?_
  refine sp_g fun s5 => ?_
  refine sp_t fun h6 eh60 => ?_
  have eh6 : gS h6 = gS h4 := by rw [eh60]; rfl
  refine sp_m (aw_put (k := 1) okX5 opX5 s5 (by decide) q321 (Or.inl rfl) (Or.inr ⟨rfl, rfl, rfl⟩) (hasV_R' eh60) rfl rfl (pc := 15) dX5_init_15) ?_
  exact sp_r fun hz => aw_vret hz rfl rfl rfl (pc := 18) dX5_init_18
theorem mok_J0_init_2 : mOK yJ0_init_2 4 := ⟨⟨by decide +kernel, by decide +kernel⟩, by decide +kernel⟩
abbrev KJ0_init_2 (l : Launch) (D : DD) (h0 hE : AH) : KT := (l, yJ0_init_2, cJ0_init_2, 5, none, RJ0, 1, D, h0, hE, .inl (none), false, [])
theorem metJ0_init_2 (l : Launch) (D : DD) {a0 : Nat} {a3 : Int32} {a4 : Int32} {h0 : AH} {hE : AH} (hr : fJ0_init_2 a0 a3 a4 h0 = some hE) : AMet (KJ0_init_2 l D h0 hE) [.ref a0, .null, .null, .int a3, .int a4] := by
  refine AMet.of (K := (KJ0_init_2 l D h0 hE)) rfl ⟨_, rfl⟩ rfl rfl rfl (Nat.le_of_ble_eq_true rfl) (fun ls hl => ?_)
  have hl : lv_has ls 5 [(0, .ref a0), (1, .null), (2, .null), (3, .int a3), (4, .int a4)] := hl
  suffices hsp : SP (fJ0_init_2 a0 a3 a4 h0) (fun z => z = hE) (AW (KJ0_init_2 l D h0 hE) h0 0 ls []) from hsp _ hr rfl
  unfold fJ0_init_2
  refine sp_m (aw_aload_n (pc := 0) dJ0_init_2_0 rfl (lv_at hl 0 rfl)) ?_
  refine sp_m (aw_objInit hl.1 q186 q153 q154 (Nat.le_of_ble_eq_true rfl) rfl (pc := 1) dJ0_init_2_1) ?_
  refine sp_m (aw_aload_n (pc := 4) dJ0_init_2_4 rfl (lv_at hl 0 rfl)) ?_
  refine sp_m (aw_aload_n (pc := 5) dJ0_init_2_5 rfl (lv_at hl 0 rfl)) ?_
  refine sp_g fun s1 => ?_
  refine sp_t fun h2 eh20 => ?_
  have eh2 : gS h2 = gS h0 := by rw [eh20]; rfl
  refine sp_m (aw_put (k := 0) okX3 opX3 s1 (by decide) q219 (Or.inl rfl) (Or.inl rfl) (hasV_R' eh20) rfl rfl (pc := 6) dJ0_init_2_6) ?_
  refine sp_m (aw_aload_n (pc := 9) dJ0_init_2_9 rfl (lv_at hl 0 rfl)) ?_
  refine sp_m (aw_sgetR sr_0 rfl q187 (pc := 10) dJ0_init_2_10) ?_
  refine sp_t fun h3 eh30 => ?_
  have eh3 : gS h3 = gS h2 := by rw [eh30]; rfl
  refine sp_m (aw_put (k := 1) okX3 opX3 (uS eh2 s1) (by decide) q220 (Or.inl rfl) (Or.inl rfl) (hasV_R' eh30) (nar_a _) (fit_a _) (pc := 13) dJ0_init_2_13) ?_
  refine sp_m (aw_aload_n (pc := 16) dJ0_init_2_16 rfl (lv_at hl 0 rfl)) ?_
  refine sp_m (aw_sgetR sr_1 rfl q189 (pc := 17) dJ0_init_2_17) ?_
  refine sp_t fun h4 eh40 => ?_
  have eh4 : gS h4 = gS h3 := by rw [eh40]; rfl
  refine sp_m (aw_put (k := 2) okX3 opX3 (uS eh3 (uS eh2 s1)) (by decide) q221 (Or.inl rfl) (Or.inl rfl) (hasV_R' eh40) (nar_o _) (fit_o _) (pc := 20) dJ0_init_2_20) ?_
  refine sp_m (aw_iload (pc := 23) dJ0_init_2_23 (lv_at hl 4 rfl)) ?_
  refine sp_if (fun c5 => ?_) (fun c5 => ?_)
  · refine sp_m (aw_if_eq_t (tgt := 36) (pc := 25) dJ0_init_2_25 (by decide) c5) ?_
    refine sp_m (aw_aload_n (pc := 36) dJ0_init_2_36 rfl (lv_at hl 0 rfl)) ?_
    refine sp_m (aw_null (pc := 37) dJ0_init_2_37) ?_
    refine sp_t fun h6 eh60 => ?_
    have eh6 : gS h6 = gS h4 := by rw [eh60]; rfl
    refine sp_m (aw_put (k := 1) okX3 opX3 (uS eh4 (uS eh3 (uS eh2 s1))) (by decide) q220 (Or.inl rfl) (Or.inl rfl) (hasV_R' eh60) rfl rfl (pc := 38) dJ0_init_2_38) ?_
    refine sp_m (aw_aload_n (pc := 41) dJ0_init_2_41 rfl (lv_at hl 0 rfl)) ?_
    refine sp_m (aw_aload_nN (pc := 42) dJ0_init_2_42 rfl (lv_at hl 1 rfl)) ?_
    refine sp_t fun h7 eh70 => ?_
    have eh7 : gS h7 = gS h6 := by rw [eh70]; rfl
    refine sp_m (aw_put (k := 3) okX3 opX3 (uS eh6 (uS eh4 (uS eh3 (uS eh2 s1)))) (by decide) q218 (Or.inl rfl) (Or.inl rfl) (hasV_R' eh70) rfl rfl (pc := 43) dJ0_init_2_43) ?_
    refine sp_m (aw_aload_n (pc := 46) dJ0_init_2_46 rfl (lv_at hl 0 rfl)) ?_
    refine sp_m (aw_aload_nN (pc := 47) dJ0_init_2_47 rfl (lv_at hl 2 rfl)) ?_
    refine sp_t fun h8 eh80 => ?_
    have eh8 : gS h8 = gS h7 := by rw [eh80]; rfl
    refine sp_m (aw_put (k := 0) okX3 opX3 (uS eh7 (uS eh6 (uS eh4 (uS eh3 (uS eh2 s1))))) (by decide) q219 (Or.inl rfl) (Or.inl rfl) (hasV_R' eh80) rfl rfl (pc := 48) dJ0_init_2_48) ?_
    refine sp_m (aw_iload_n (pc := 51) dJ0_init_2_51 rfl (lv_at hl 3 rfl)) ?_
    refine sp_if (fun c9 => ?_) (fun c9 => ?_)
    · refine sp_m (aw_if_ne_t (tgt := 60) (pc := 52) dJ0_init_2_52 (by decide) c9) ?_
      exact sp_r fun hz => aw_vret hz rfl rfl rfl (pc := 60) dJ0_init_2_60
    · refine sp_m (aw_if_ne_f (tgt := 60) (pc := 52) dJ0_init_2_52 (by decide) (Decidable.not_not.mp c9)) ?_
      refine sp_m (aw_aload_n (pc := 55) dJ0_init_2_55 rfl (lv_at hl 0 rfl)) ?_
      refine sp_m (aw_null (pc := 56) dJ0_init_2_56) ?_
      refine sp_t fun h10 eh100 => ?_
      have eh10 : gS h10 = gS h8 := by rw [eh100]; rfl
      refine sp_m (aw_put (k := 2) okX3 opX3 (uS eh8 (uS eh7 (uS eh6 (uS eh4 (uS eh3 (uS eh2 s1)))))) (by decide) q221 (Or.inl rfl) (Or.inl rfl) (hasV_R' eh100) rfl rfl (pc := 57) dJ0_init_2_57) ?_
      exact sp_r fun hz => aw_vret hz rfl rfl rfl (pc := 60) dJ0_init_2_60
  · refine sp_m (aw_if_eq_f (tgt := 36) (pc := 25) dJ0_init_2_25 (by decide) c5) ?_
    refine sp_m (aw_aload_n (pc := 28) dJ0_init_2_28 rfl (lv_at hl 0 rfl)) ?_
    exact sp_n
theorem mok_J1_init : mOK yJ1_init 4 := ⟨⟨by decide +kernel, by decide +kernel⟩, by decide +kernel⟩
abbrev KJ1_init (l : Launch) (D : DD) (h0 hE : AH) : KT := (l, yJ1_init, cJ1_init, 5, none, RJ1, 2, D, h0, hE, .inl (none), false, [])
theorem metJ1_init (l : Launch) (D : DD) {a0 : Nat} {a3 : Int32} {a4 : Int32} {h0 : AH} {hE : AH} (hr : fJ1_init a0 a3 a4 h0 = some hE) : AMet (KJ1_init l D h0 hE) [.ref a0, .null, .null, .int a3, .int a4] := by
  refine AMet.of (K := (KJ1_init l D h0 hE)) rfl ⟨_, rfl⟩ rfl rfl rfl (Nat.le_of_ble_eq_true rfl) (fun ls hl => ?_)
  have hl : lv_has ls 5 [(0, .ref a0), (1, .null), (2, .null), (3, .int a3), (4, .int a4)] := hl
  suffices hsp : SP (fJ1_init a0 a3 a4 h0) (fun z => z = hE) (AW (KJ1_init l D h0 hE) h0 0 ls []) from hsp _ hr rfl
  unfold fJ1_init
  refine sp_m (aw_aload_n (pc := 0) dJ1_init_0 rfl (lv_at hl 0 rfl)) ?_
  refine sp_m (aw_aload_nN (pc := 1) dJ1_init_1 rfl (lv_at hl 1 rfl)) ?_
  refine sp_m (aw_aload_nN (pc := 2) dJ1_init_2 rfl (lv_at hl 2 rfl)) ?_
  refine sp_m (aw_iload_n (pc := 3) dJ1_init_3 rfl (lv_at hl 3 rfl)) ?_
  refine sp_m (aw_iload (pc := 4) dJ1_init_4 (lv_at hl 4 rfl)) ?_
  refine sp_b fun p1 ep1 => ?_
  refine sp_m (G' := AW (KJ1_init l D h0 hE) p1 (9) ls ([])) (fun kk => aw_callI (As := [.null, .null, .int a3, .int a4]) (metJ0_init_2 _ _ ep1) mok_J0_init_2 rfl q210 q211 q118 q212 (Nat.le_of_ble_eq_true rfl) (Nat.le_of_ble_eq_true rfl) rfl hl.1 rfl (Nat.le_of_ble_eq_true rfl) (pc := 6) dJ1_init_6 kk) ?_
  exact sp_r fun hz => aw_vret hz rfl rfl rfl (pc := 9) dJ1_init_9
theorem mok_J2_init : mOK yJ2_init 4 := ⟨⟨by decide +kernel, by decide +kernel⟩, by decide +kernel⟩
abbrev KJ2_init (l : Launch) (D : DD) (h0 hE : AH) : KT := (l, yJ2_init, cJ2_init, 5, none, RJ2, 3, D, h0, hE, .inl (none), false, [])
theorem metJ2_init (l : Launch) (D : DD) {a0 : Nat} {a3 : Int32} {a4 : Int32} {h0 : AH} {hE : AH} (hr : fJ2_init a0 a3 a4 h0 = some hE) : AMet (KJ2_init l D h0 hE) [.ref a0, .null, .null, .int a3, .int a4] := by
  refine AMet.of (K := (KJ2_init l D h0 hE)) rfl ⟨_, rfl⟩ rfl rfl rfl (Nat.le_of_ble_eq_true rfl) (fun ls hl => ?_)
  have hl : lv_has ls 5 [(0, .ref a0), (1, .null), (2, .null), (3, .int a3), (4, .int a4)] := hl
  suffices hsp : SP (fJ2_init a0 a3 a4 h0) (fun z => z = hE) (AW (KJ2_init l D h0 hE) h0 0 ls []) from hsp _ hr rfl
  unfold fJ2_init
  refine sp_m (aw_aload_n (pc := 0) dJ2_init_0 rfl (lv_at hl 0 rfl)) ?_
  refine sp_m (aw_aload_nN (pc := 1) dJ2_init_1 rfl (lv_at hl 1 rfl)) ?_
  refine sp_m (aw_aload_nN (pc := 2) dJ2_init_2 rfl (lv_at hl 2 rfl)) ?_
  refine sp_m (aw_iload_n (pc := 3) dJ2_init_3 rfl (lv_at hl 3 rfl)) ?_
  refine sp_m (aw_iload (pc := 4) dJ2_init_4 (lv_at hl 4 rfl)) ?_
  refine sp_b fun p1 ep1 => ?_
  refine sp_m (G' := AW (KJ2_init l D h0 hE) p1 (9) ls ([])) (fun kk => aw_callI (As := [.null, .null, .int a3, .int a4]) (metJ1_init _ _ ep1) mok_J1_init rfl q207 q208 q119 q209 (Nat.le_of_ble_eq_true rfl) (Nat.le_of_ble_eq_true rfl) rfl hl.1 rfl (Nat.le_of_ble_eq_true rfl) (pc := 6) dJ2_init_6 kk) ?_
  exact sp_r fun hz => aw_vret hz rfl rfl rfl (pc := 9) dJ2_init_9
theorem mok_X3_init : mOK yX3_init 0 := ⟨⟨by decide +kernel, by decide +kernel⟩, by decide +kernel⟩
abbrev KX3_init (l : Launch) (D : DD) (h0 hE : AH) : KT := (l, yX3_init, cX3_init, 1, none, RX3, 4, D, h0, hE, .inl (none), false, [])
theorem metX3_init (l : Launch) (D : DD) {a0 : Nat} {h0 : AH} {hE : AH} (hr : fX3_init a0 h0 = some hE) : AMet (KX3_init l D h0 hE) [.ref a0] := by
  refine AMet.of (K := (KX3_init l D h0 hE)) rfl ⟨_, rfl⟩ rfl rfl rfl (Nat.le_of_ble_eq_true rfl) (fun ls hl => ?_)
  have hl : lv_has ls 1 [(0, .ref a0)] := hl
  suffices hsp : SP (fX3_init a0 h0) (fun z => z = hE) (AW (KX3_init l D h0 hE) h0 0 ls []) from hsp _ hr rfl
  unfold fX3_init
  refine sp_m (aw_aload_n (pc := 0) dX3_init_0 rfl (lv_at hl 0 rfl)) ?_
  refine sp_m (aw_null (pc := 1) dX3_init_1) ?_
  refine sp_m (aw_null (pc := 2) dX3_init_2) ?_
  refine sp_m (aw_iconst (v := 0) (pc := 3) dX3_init_3 rfl) ?_
  refine sp_m (aw_iconst (v := 0) (pc := 4) dX3_init_4 rfl) ?_
  refine sp_b fun p1 ep1 => ?_
  refine sp_m (G' := AW (KX3_init l D h0 hE) p1 (8) ls ([])) (fun kk => aw_callI (As := [.null, .null, .int 0, .int 0]) (metJ2_init _ _ ep1) mok_J2_init rfl q204 q205 q120 q206 (Nat.le_of_ble_eq_true rfl) (Nat.le_of_ble_eq_true rfl) rfl hl.1 rfl (Nat.le_of_ble_eq_true rfl) (pc := 5) dX3_init_5 kk) ?_
  refine sp_m (aw_aload_n (pc := 8) dX3_init_8 rfl (lv_at hl 0 rfl)) ?_
  refine sp_m (aw_iconst (v := (-1)) (pc := 9) dX3_init_9 rfl) ?_
  refine sp_g fun s2 => ?_
  refine sp_t fun h3 eh30 => ?_
  have eh3 : gS h3 = gS p1 := by rw [eh30]; rfl
  refine sp_m (aw_put (k := 7) okX3 opX3 s2 (by decide) q215 (Or.inl rfl) (Or.inl rfl) (hasV_I' eh30) rfl rfl (pc := 10) dX3_init_10) ?_
  exact sp_r fun hz => aw_vret hz rfl rfl rfl (pc := 13) dX3_init_13
theorem mok_X2_init : mOK yX2_init 1 := ⟨⟨by decide +kernel, by decide +kernel⟩, by decide +kernel⟩
abbrev KX2_init (l : Launch) (D : DD) (h0 hE : AH) : KT := (l, yX2_init, cX2_init, 2, none, RX2, 5, D, h0, hE, .inl (none), false, [])
theorem metX2_init (l : Launch) (D : DD) {a0 : Nat} {a1 : Nat} {h0 : AH} {hE : AH} (hr : fX2_init a0 a1 h0 = some hE) : AMet (KX2_init l D h0 hE) [.ref a0, .ref a1] := by
  refine AMet.of (K := (KX2_init l D h0 hE)) rfl ⟨_, rfl⟩ rfl rfl rfl (Nat.le_of_ble_eq_true rfl) (fun ls hl => ?_)
  have hl : lv_has ls 2 [(0, .ref a0), (1, .ref a1)] := hl
  suffices hsp : SP (fX2_init a0 a1 h0) (fun z => z = hE) (AW (KX2_init l D h0 hE) h0 0 ls []) from hsp _ hr rfl
  unfold fX2_init
  refine sp_m (aw_aload_n (pc := 0) dX2_init_0 rfl (lv_at hl 0 rfl)) ?_
  refine sp_m (aw_objInit hl.1 q160 q153 q154 (Nat.le_of_ble_eq_true rfl) rfl (pc := 1) dX2_init_1) ?_
  refine sp_m (aw_aload_n (pc := 4) dX2_init_4 rfl (lv_at hl 0 rfl)) ?_
  refine sp_t fun h1 eh10 => ?_
  refine sp_m (fun kk => aw_new okX3 opX3 odX3 q161 q162 q121 (pc := 5) dX2_init_5 (AWe eh10 kk)) ?_
  refine sp_m (aw_dup (pc := 8) dX2_init_8 rfl) ?_
  refine sp_b fun p2 ep2 => ?_
  refine sp_m (G' := AW (KX2_init l D h0 hE) p2 (12) ls (.ref (gZ h0) :: .ref a0 :: [])) (fun kk => aw_callI (As := []) (metX3_init _ _ ep2) mok_X3_init rfl q201 q202 q121 q203 (Nat.le_of_ble_eq_true rfl) (Nat.le_of_ble_eq_true rfl) rfl hl.1 rfl (Nat.le_of_ble_eq_true rfl) (pc := 9) dX2_init_9 kk) ?_
  refine sp_g fun s3 => ?_
  refine sp_t fun h4 eh40 => ?_
  have eh4 : gS h4 = gS p2 := by rw [eh40]; rfl
  refine sp_m (aw_put (k := 0) okX2 opX2 s3 (by decide) q235 (Or.inl rfl) (Or.inr ⟨rfl, rfl, rfl⟩) (hasV_R' eh40) rfl rfl (pc := 12) dX2_init_12) ?_
  refine sp_m (aw_aload_n (pc := 15) dX2_init_15 rfl (lv_at hl 0 rfl)) ?_
  refine sp_m (aw_bipush (v := 8) (pc := 16) dX2_init_16 rfl) ?_
  refine sp_t fun h5 eh50 => ?_
  refine sp_m (fun kk => aw_newC q266 (by decide) (by decide) (pc := 18) dX2_init_18 (AWe eh50 kk)) ?_
  refine sp_g fun s6 => ?_
  refine sp_t fun h7 eh70 => ?_
  have eh7 : gS h7 = gS h5 := by rw [eh70]; rfl
  refine sp_m (aw_put (k := 2) okX2 opX2 s6 (by decide) q237 (Or.inl rfl) (Or.inr ⟨rfl, rfl, rfl⟩) (hasV_R' eh70) rfl rfl (pc := 20) dX2_init_20) ?_
  refine sp_m (aw_aload_n (pc := 23) dX2_init_23 rfl (lv_at hl 0 rfl)) ?_
  refine sp_m (aw_aload_n (pc := 24) dX2_init_24 rfl (lv_at hl 1 rfl)) ?_
  refine sp_t fun h8 eh80 => ?_
  have eh8 : gS h8 = gS h7 := by rw [eh80]; rfl
  refine sp_m (aw_put (k := 1) okX2 opX2 (uS eh7 s6) (by decide) q236 (Or.inl rfl) (Or.inr ⟨rfl, rfl, rfl⟩) (hasV_R' eh80) rfl rfl (pc := 25) dX2_init_25) ?_
  exact sp_r fun hz => aw_vret hz rfl rfl rfl (pc := 28) dX2_init_28
theorem mok_X1_init : mOK yX1_init 0 := ⟨⟨by decide +kernel, by decide +kernel⟩, by decide +kernel⟩
abbrev KX1_init (l : Launch) (D : DD) (h0 hE : AH) : KT := (l, yX1_init, cX1_init, 2, none, RX1, 6, D, h0, hE, .inl (none), false, [])
theorem metX1_init (l : Launch) (D : DD) {a0 : Nat} {h0 : AH} {hE : AH} (hr : fX1_init a0 h0 = some hE) : AMet (KX1_init l D h0 hE) [.ref a0] := by
  refine AMet.of (K := (KX1_init l D h0 hE)) rfl ⟨_, rfl⟩ rfl rfl rfl (Nat.le_of_ble_eq_true rfl) (fun ls hl => ?_)
  have hl : lv_has ls 2 [(0, .ref a0)] := hl
  suffices hsp : SP (fX1_init a0 h0) (fun z => z = hE) (AW (KX1_init l D h0 hE) h0 0 ls []) from hsp _ hr rfl
  unfold fX1_init
  refine sp_m (aw_aload_n (pc := 0) dX1_init_0 rfl (lv_at hl 0 rfl)) ?_
  refine sp_m (aw_objInit hl.1 q152 q153 q154 (Nat.le_of_ble_eq_true rfl) rfl (pc := 1) dX1_init_1) ?_
  refine sp_m (aw_aload_n (pc := 4) dX1_init_4 rfl (lv_at hl 0 rfl)) ?_
  refine sp_m (aw_sipush (v := 900) (pc := 5) dX1_init_5 rfl) ?_
  refine sp_t fun h1 eh10 => ?_
  refine sp_m (fun kk => aw_newB q234 (by decide) (by decide) (pc := 8) dX1_init_8 (AWe eh10 kk)) ?_
  refine sp_g fun s2 => ?_
  refine sp_t fun h3 eh30 => ?_
  have eh3 : gS h3 = gS h1 := by rw [eh30]; rfl
  refine sp_m (aw_put (k := 0) okX1 opX1 s2 (by decide) q366 (Or.inl rfl) (Or.inr ⟨rfl, rfl, rfl⟩) (hasV_R' eh30) rfl rfl (pc := 10) dX1_init_10) ?_
  refine sp_m (aw_aload_n (pc := 13) dX1_init_13 rfl (lv_at hl 0 rfl)) ?_
  refine sp_t fun h4 eh40 => ?_
  refine sp_m (fun kk => aw_new okX2 opX2 odX2 q155 q156 q117 (pc := 14) dX1_init_14 (AWe eh40 kk)) ?_
  refine sp_m (aw_dup (pc := 17) dX1_init_17 rfl) ?_
  refine sp_m (aw_aload_n (pc := 18) dX1_init_18 rfl (lv_at hl 0 rfl)) ?_
  refine sp_g fun s5 => ?_
  refine sp_b fun x6 ex6 => ?_
  refine sp_m (aw_get (k := 0) okX1 s5 (by decide) q366 (Or.inl rfl) (congrArg va_rf ex6) (pc := 19) dX1_init_19) ?_
  refine sp_b fun p7 ep7 => ?_
  refine sp_m (G' := AW (KX1_init l D h0 hE) p7 (25) ls (.ref (gZ h3) :: .ref a0 :: [])) (fun kk => aw_callI (As := [.ref x6]) (metX2_init _ _ ep7) mok_X2_init rfl q157 q158 q117 q159 (Nat.le_of_ble_eq_true rfl) (Nat.le_of_ble_eq_true rfl) rfl hl.1 rfl (Nat.le_of_ble_eq_true rfl) (pc := 22) dX1_init_22 kk) ?_
  refine sp_g fun s8 => ?_
  refine sp_t fun h9 eh90 => ?_
  have eh9 : gS h9 = gS p7 := by rw [eh90]; rfl
  refine sp_m (aw_put (k := 2) okX1 opX1 s8 (by decide) q368 (Or.inl rfl) (Or.inr ⟨rfl, rfl, rfl⟩) (hasV_R' eh90) rfl rfl (pc := 25) dX1_init_25) ?_
  refine sp_m (aw_aload_n (pc := 28) dX1_init_28 rfl (lv_at hl 0 rfl)) ?_
  refine sp_m (aw_iconst (v := (-1)) (pc := 29) dX1_init_29 rfl) ?_
  refine sp_t fun h10 eh100 => ?_
  have eh10 : gS h10 = gS h9 := by rw [eh100]; rfl
  refine sp_m (aw_put (k := 6) okX1 opX1 (uS eh9 s8) (by decide) q372 (Or.inl rfl) (Or.inl rfl) (hasV_I' eh100) rfl rfl (pc := 30) dX1_init_30) ?_
  refine sp_m (aw_aload_n (pc := 33) dX1_init_33 rfl (lv_at hl 0 rfl)) ?_
  refine sp_t fun h11 eh110 => ?_
  refine sp_m (fun kk => aw_new okX4 opX4 odX4 q267 q268 q122 (pc := 34) dX1_init_34 (AWe eh110 kk)) ?_
  refine sp_m (aw_dup (pc := 37) dX1_init_37 rfl) ?_
  refine sp_b fun p12 ep12 => ?_
  refine sp_m (G' := AW (KX1_init l D h0 hE) p12 (41) ls (.ref (gZ h10) :: .ref a0 :: [])) (fun kk => aw_callIN (As := []) (host := "ElephantLine") (metX4_init _ _ ep12) mok_X4_init rfl nq269 q270 q122 q271 (Nat.le_of_ble_eq_true rfl) (Nat.le_of_ble_eq_true rfl) rfl hl.1 rfl (Nat.le_of_ble_eq_true rfl) (pc := 38) dX1_init_38 kk) ?_
  refine sp_g fun s13 => ?_
  refine sp_t fun h14 eh140 => ?_
  have eh14 : gS h14 = gS p12 := by rw [eh140]; rfl
  refine sp_m (aw_put (k := 9) okX1 opX1 s13 (by decide) q375 (Or.inl rfl) (Or.inr ⟨rfl, rfl, rfl⟩) (hasV_R' eh140) rfl rfl (pc := 41) dX1_init_41) ?_
  refine sp_m (aw_aload_n (pc := 44) dX1_init_44 rfl (lv_at hl 0 rfl)) ?_
  refine sp_t fun h15 eh150 => ?_
  refine sp_m (fun kk => aw_new okX4 opX4 odX4 q267 q268 q122 (pc := 45) dX1_init_45 (AWe eh150 kk)) ?_
  refine sp_m (aw_dup (pc := 48) dX1_init_48 rfl) ?_
  refine sp_b fun p16 ep16 => ?_
  refine sp_m (G' := AW (KX1_init l D h0 hE) p16 (52) ls (.ref (gZ h14) :: .ref a0 :: [])) (fun kk => aw_callIN (As := []) (host := "ElephantLine") (metX4_init _ _ ep16) mok_X4_init rfl nq269 q270 q122 q271 (Nat.le_of_ble_eq_true rfl) (Nat.le_of_ble_eq_true rfl) rfl hl.1 rfl (Nat.le_of_ble_eq_true rfl) (pc := 49) dX1_init_49 kk) ?_
  refine sp_g fun s17 => ?_
  refine sp_t fun h18 eh180 => ?_
  have eh18 : gS h18 = gS p16 := by rw [eh180]; rfl
  refine sp_m (aw_put (k := 10) okX1 opX1 s17 (by decide) q376 (Or.inl rfl) (Or.inr ⟨rfl, rfl, rfl⟩) (hasV_R' eh180) rfl rfl (pc := 52) dX1_init_52) ?_
  refine sp_m (aw_aload_n (pc := 55) dX1_init_55 rfl (lv_at hl 0 rfl)) ?_
  refine sp_t fun h19 eh190 => ?_
  refine sp_m (fun kk => aw_new okX4 opX4 odX4 q267 q268 q122 (pc := 56) dX1_init_56 (AWe eh190 kk)) ?_
  refine sp_m (aw_dup (pc := 59) dX1_init_59 rfl) ?_
  refine sp_b fun p20 ep20 => ?_
  refine sp_m (G' := AW (KX1_init l D h0 hE) p20 (63) ls (.ref (gZ h18) :: .ref a0 :: [])) (fun kk => aw_callIN (As := []) (host := "ElephantLine") (metX4_init _ _ ep20) mok_X4_init rfl nq269 q270 q122 q271 (Nat.le_of_ble_eq_true rfl) (Nat.le_of_ble_eq_true rfl) rfl hl.1 rfl (Nat.le_of_ble_eq_true rfl) (pc := 60) dX1_init_60 kk) ?_
  refine sp_g fun s21 => ?_
  refine sp_t fun h22 eh220 => ?_
  have eh22 : gS h22 = gS p20 := by rw [eh220]; rfl
  refine sp_m (aw_put (k := 11) okX1 opX1 s21 (by decide) q377 (Or.inl rfl) (Or.inr ⟨rfl, rfl, rfl⟩) (hasV_R' eh220) rfl rfl (pc := 63) dX1_init_63) ?_
  refine sp_m (aw_aload_n (pc := 66) dX1_init_66 rfl (lv_at hl 0 rfl)) ?_
  refine sp_t fun h23 eh230 => ?_
  refine sp_m (fun kk => aw_new okX5 opX5 odX5 q314 q315 q123 (pc := 67) dX1_init_67 (AWe eh230 kk)) ?_
  refine sp_m (aw_dup (pc := 70) dX1_init_70 rfl) ?_
  refine sp_b fun p24 ep24 => ?_
  refine sp_m (G' := AW (KX1_init l D h0 hE) p24 (74) ls (.ref (gZ h22) :: .ref a0 :: [])) (fun kk => aw_callIN (As := []) (host := "ElephantLine") (metX5_init _ _ ep24) mok_X5_init rfl nq316 q317 q123 q318 (Nat.le_of_ble_eq_true rfl) (Nat.le_of_ble_eq_true rfl) rfl hl.1 rfl (Nat.le_of_ble_eq_true rfl) (pc := 71) dX1_init_71 kk) ?_
  refine sp_g fun s25 => ?_
  refine sp_t fun h26 eh260 => ?_
  have eh26 : gS h26 = gS p24 := by rw [eh260]; rfl
  refine sp_m (aw_put (k := 12) okX1 opX1 s25 (by decide) q378 (Or.inl rfl) (Or.inr ⟨rfl, rfl, rfl⟩) (hasV_R' eh260) rfl rfl (pc := 74) dX1_init_74) ?_
  refine sp_m (aw_aload_n (pc := 77) dX1_init_77 rfl (lv_at hl 0 rfl)) ?_
  refine sp_t fun h27 eh270 => ?_
  refine sp_m (fun kk => aw_new okX6 opX6 odX6 q340 q341 q124 (pc := 78) dX1_init_78 (AWe eh270 kk)) ?_
  refine sp_m (aw_dup (pc := 81) dX1_init_81 rfl) ?_
  refine sp_b fun p28 ep28 => ?_
  refine sp_m (G' := AW (KX1_init l D h0 hE) p28 (85) ls (.ref (gZ h26) :: .ref a0 :: [])) (fun kk => aw_callIN (As := []) (host := "ElephantLine") (metX6_init _ _ ep28) mok_X6_init rfl nq342 q343 q124 q344 (Nat.le_of_ble_eq_true rfl) (Nat.le_of_ble_eq_true rfl) rfl hl.1 rfl (Nat.le_of_ble_eq_true rfl) (pc := 82) dX1_init_82 kk) ?_
  refine sp_g fun s29 => ?_
  refine sp_t fun h30 eh300 => ?_
  have eh30 : gS h30 = gS p28 := by rw [eh300]; rfl
  refine sp_m (aw_put (k := 13) okX1 opX1 s29 (by decide) q379 (Or.inl rfl) (Or.inr ⟨rfl, rfl, rfl⟩) (hasV_R' eh300) rfl rfl (pc := 85) dX1_init_85) ?_
  refine sp_m (aw_aload_n (pc := 88) dX1_init_88 rfl (lv_at hl 0 rfl)) ?_
  refine sp_m (aw_bipush (v := 16) (pc := 89) dX1_init_89 rfl) ?_
  refine sp_t fun h31 eh310 => ?_
  refine sp_m (fun kk => aw_newq (t := 4) (Cc := "ElephantLine$Front") (by decide) rfl rfl q267 (by decide) (by decide) (by decide) (pc := 91) dX1_init_91 (AWe eh310 kk)) ?_
  refine sp_g fun s32 => ?_
  refine sp_t fun h33 eh330 => ?_
  have eh33 : gS h33 = gS h31 := by rw [eh330]; rfl
  refine sp_m (aw_put (k := 14) okX1 opX1 s32 (by decide) q380 (Or.inl rfl) (Or.inr ⟨rfl, rfl, rfl⟩) (hasV_R' eh330) rfl rfl (pc := 94) dX1_init_94) ?_
  refine sp_m (aw_aload_n (pc := 97) dX1_init_97 rfl (lv_at hl 0 rfl)) ?_
  refine sp_m (aw_iconst (v := 3) (pc := 98) dX1_init_98 rfl) ?_
  refine sp_t fun h34 eh340 => ?_
  refine sp_m (fun kk => aw_newq (t := 4) (Cc := "ElephantLine$Front") (by decide) rfl rfl q267 (by decide) (by decide) (by decide) (pc := 99) dX1_init_99 (AWe eh340 kk)) ?_
  refine sp_g fun s35 => ?_
  refine sp_t fun h36 eh360 => ?_
  have eh36 : gS h36 = gS h34 := by rw [eh360]; rfl
  refine sp_m (aw_put (k := 15) okX1 opX1 s35 (by decide) q381 (Or.inl rfl) (Or.inr ⟨rfl, rfl, rfl⟩) (hasV_R' eh360) rfl rfl (pc := 102) dX1_init_102) ?_
  refine sp_m (aw_aload_n (pc := 105) dX1_init_105 rfl (lv_at hl 0 rfl)) ?_
  refine sp_m (aw_iconst (v := 5) (pc := 106) dX1_init_106 rfl) ?_
  refine sp_t fun h37 eh370 => ?_
  refine sp_m (fun kk => aw_newI q313 (by decide) (by decide) (pc := 107) dX1_init_107 (AWe eh370 kk)) ?_
  refine sp_g fun s38 => ?_
  refine sp_t fun h39 eh390 => ?_
  have eh39 : gS h39 = gS h37 := by rw [eh390]; rfl
  refine sp_m (aw_put (k := 23) okX1 opX1 s38 (by decide) q389 (Or.inl rfl) (Or.inr ⟨rfl, rfl, rfl⟩) (hasV_R' eh390) rfl rfl (pc := 109) dX1_init_109) ?_
  refine sp_m (aw_iconst (v := 0) (pc := 112) dX1_init_112 rfl) ?_
  refine sp_m (aw_istore_n (lv' := [(1, .int 0), (0, .ref a0)]) (pc := 113) dX1_init_113 rfl hl (by decide) rfl) (sp_all fun ls hl => ?_)
  let P40 : Int32 × AH → Prop := aLP (KX1_init l D h0 hE) 2 114 (fun s40v : Int32 × AH => [(0, .ref a0), (1, .int s40v.1)]) (fun s40v => s40v.2)
  let E40 : AH → Prop := aLP (KX1_init l D h0 hE) 2 139 (fun r40v : AH => [(0, .ref a0)]) (fun r40v => r40v)
  refine sp_bl (P := P40) (E := E40) (fun s40v => sp_all fun ls hl => ?_) (fun k => k ls (lv_sub hl [1, 0] rfl)) (fun r40v => sp_all fun ls hl => ?_)
  · have hl : lv_has ls 2 [(0, .ref a0), (1, .int s40v.1)] := hl
    show SP _ _ (AW (KX1_init l D h0 hE) s40v.2 114 ls [])
    unfold X1_init_L114
    refine sp_m (aw_iload_n (pc := 114) dX1_init_114 rfl (lv_at hl 1 rfl)) ?_
    refine sp_m (aw_bipush (v := 16) (pc := 115) dX1_init_115 rfl) ?_
    refine sp_if (fun c41 => ?_) (fun c41 => ?_)
    · refine sp_m (aw_icmp_ge_t (tgt := 139) (pc := 117) dX1_init_117 (by decide) c41) ?_
      exact sp_r fun hz => hz ls (lv_sub hl [0] rfl)
    · refine sp_m (aw_icmp_ge_f (tgt := 139) (pc := 117) dX1_init_117 (by decide) c41) ?_
      refine sp_m (aw_aload_n (pc := 120) dX1_init_120 rfl (lv_at hl 0 rfl)) ?_
      refine sp_g fun s42 => ?_
      refine sp_b fun x43 ex43 => ?_
      refine sp_m (aw_get (k := 14) okX1 s42 (by decide) q380 (Or.inl rfl) (congrArg va_rf ex43) (pc := 121) dX1_init_121) ?_
      refine sp_m (aw_iload_n (pc := 124) dX1_init_124 rfl (lv_at hl 1 rfl)) ?_
      refine sp_t fun h44 eh440 => ?_
      refine sp_m (fun kk => aw_new okX4 opX4 odX4 q267 q268 q122 (pc := 125) dX1_init_125 (AWe eh440 kk)) ?_
      refine sp_m (aw_dup (pc := 128) dX1_init_128 rfl) ?_
      refine sp_b fun p45 ep45 => ?_
      refine sp_m (G' := AW (KX1_init l D h0 hE) p45 (132) ls (.ref (gZ s40v.2) :: .int s40v.1 :: .ref x43 :: [])) (fun kk => aw_callIN (As := []) (host := "ElephantLine") (metX4_init _ _ ep45) mok_X4_init rfl nq269 q270 q122 q271 (Nat.le_of_ble_eq_true rfl) (Nat.le_of_ble_eq_true rfl) rfl hl.1 rfl (Nat.le_of_ble_eq_true rfl) (pc := 129) dX1_init_129 kk) ?_
      refine sp_g fun s46 => ?_
      refine sp_g fun s47 => ?_
      refine sp_g fun i48 => ?_
      refine sp_t fun h49 eh490 => ?_
      have eh49 : gS h49 = gS p45 := by rw [eh490]; rfl
      refine sp_m (G' := AW (KX1_init l D h0 hE) h49 (133) ls ([])) (fun kk => aw_aast (t := 4) (Cc := "ElephantLine$Front") s47 (by decide) rfl rfl okX4 s46 (Or.inl rfl) i48 (pc := 132) dX1_init_132 (AWe eh490 kk)) ?_
      refine sp_m (aw_iinc (v := s40v.1 + 1) (lv' := [(1, .int (s40v.1 + 1)), (0, .ref a0)]) (pc := 133) dX1_init_133 hl (k := 1) rfl rfl (by decide) rfl) (sp_all fun ls hl => ?_)
      refine sp_m (aw_goto (tgt := 114) (pc := 136) dX1_init_136 (by decide)) ?_
      exact sp_r fun hz => hz ls (lv_sub hl [1, 0] rfl)
  · have hl : lv_has ls 2 [(0, .ref a0)] := hl
    show SP _ _ (AW (KX1_init l D h0 hE) r40v 139 ls [])
    refine sp_m (aw_iconst (v := 0) (pc := 139) dX1_init_139 rfl) ?_
    refine sp_m (aw_istore_n (lv' := [(1, .int 0), (0, .ref a0)]) (pc := 140) dX1_init_140 rfl hl (by decide) rfl) (sp_all fun ls hl => ?_)
    let P50 : Int32 × AH → Prop := aLP (KX1_init l D h0 hE) 2 141 (fun s50v : Int32 × AH => [(0, .ref a0), (1, .int s50v.1)]) (fun s50v => s50v.2)
    let E50 : AH → Prop := aLP (KX1_init l D h0 hE) 2 165 (fun r50v : AH => []) (fun r50v => r50v)
    refine sp_bl (P := P50) (E := E50) (fun s50v => sp_all fun ls hl => ?_) (fun k => k ls (lv_sub hl [1, 0] rfl)) (fun r50v => sp_all fun ls hl => ?_)
    · have hl : lv_has ls 2 [(0, .ref a0), (1, .int s50v.1)] := hl
      show SP _ _ (AW (KX1_init l D h0 hE) s50v.2 141 ls [])
      unfold X1_init_L141
      refine sp_m (aw_iload_n (pc := 141) dX1_init_141 rfl (lv_at hl 1 rfl)) ?_
      refine sp_m (aw_iconst (v := 3) (pc := 142) dX1_init_142 rfl) ?_
      refine sp_if (fun c51 => ?_) (fun c51 => ?_)
      · refine sp_m (aw_icmp_ge_t (tgt := 165) (pc := 143) dX1_init_143 (by decide) c51) ?_
        exact sp_r fun hz => hz ls (lv_sub hl [] rfl)
      · refine sp_m (aw_icmp_ge_f (tgt := 165) (pc := 143) dX1_init_143 (by decide) c51) ?_
        refine sp_m (aw_aload_n (pc := 146) dX1_init_146 rfl (lv_at hl 0 rfl)) ?_
        refine sp_g fun s52 => ?_
        refine sp_b fun x53 ex53 => ?_
        refine sp_m (aw_get (k := 15) okX1 s52 (by decide) q381 (Or.inl rfl) (congrArg va_rf ex53) (pc := 147) dX1_init_147) ?_
        refine sp_m (aw_iload_n (pc := 150) dX1_init_150 rfl (lv_at hl 1 rfl)) ?_
        refine sp_t fun h54 eh540 => ?_
        refine sp_m (fun kk => aw_new okX4 opX4 odX4 q267 q268 q122 (pc := 151) dX1_init_151 (AWe eh540 kk)) ?_
        refine sp_m (aw_dup (pc := 154) dX1_init_154 rfl) ?_
        refine sp_b fun p55 ep55 => ?_
        refine sp_m (G' := AW (KX1_init l D h0 hE) p55 (158) ls (.ref (gZ s50v.2) :: .int s50v.1 :: .ref x53 :: [])) (fun kk => aw_callIN (As := []) (host := "ElephantLine") (metX4_init _ _ ep55) mok_X4_init rfl nq269 q270 q122 q271 (Nat.le_of_ble_eq_true rfl) (Nat.le_of_ble_eq_true rfl) rfl hl.1 rfl (Nat.le_of_ble_eq_true rfl) (pc := 155) dX1_init_155 kk) ?_
        refine sp_g fun s56 => ?_
        refine sp_g fun s57 => ?_
        refine sp_g fun i58 => ?_
        refine sp_t fun h59 eh590 => ?_
        have eh59 : gS h59 = gS p55 := by rw [eh590]; rfl
        refine sp_m (G' := AW (KX1_init l D h0 hE) h59 (159) ls ([])) (fun kk => aw_aast (t := 4) (Cc := "ElephantLine$Front") s57 (by decide) rfl rfl okX4 s56 (Or.inl rfl) i58 (pc := 158) dX1_init_158 (AWe eh590 kk)) ?_
        refine sp_m (aw_iinc (v := s50v.1 + 1) (lv' := [(1, .int (s50v.1 + 1)), (0, .ref a0)]) (pc := 159) dX1_init_159 hl (k := 1) rfl rfl (by decide) rfl) (sp_all fun ls hl => ?_)
        refine sp_m (aw_goto (tgt := 141) (pc := 162) dX1_init_162 (by decide)) ?_
        exact sp_r fun hz => hz ls (lv_sub hl [1, 0] rfl)
    · have hl : lv_has ls 2 [] := hl
      show SP _ _ (AW (KX1_init l D h0 hE) r50v 165 ls [])
      exact sp_r fun hz => aw_vret hz rfl rfl rfl (pc := 165) dX1_init_165
theorem mok_X1_anew : mOK yX1_anew 0 := ⟨⟨by decide +kernel, by decide +kernel⟩, by decide +kernel⟩
abbrev KX1_anew (l : Launch) (D : DD) (h0 hE : AH) : KT := (l, yX1_anew, cX1_anew, 1, none, RX1, 1, D, h0, hE, .inl (none), false, [])
theorem metX1_anew (l : Launch) (D : DD) {a0 : Nat} {h0 : AH} {hE : AH} (hr : fX1_anew a0 h0 = some hE) : AMet (KX1_anew l D h0 hE) [.ref a0] := by
  refine AMet.of (K := (KX1_anew l D h0 hE)) rfl ⟨_, rfl⟩ rfl rfl rfl (Nat.le_of_ble_eq_true rfl) (fun ls hl => ?_)
  have hl : lv_has ls 1 [(0, .ref a0)] := hl
  suffices hsp : SP (fX1_anew a0 h0) (fun z => z = hE) (AW (KX1_anew l D h0 hE) h0 0 ls []) from hsp _ hr rfl
  unfold fX1_anew
  refine sp_m (aw_aload_n (pc := 0) dX1_anew_0 rfl (lv_at hl 0 rfl)) ?_
  refine sp_m (aw_iconst (v := 0) (pc := 1) dX1_anew_1 rfl) ?_
  refine sp_g fun s1 => ?_
  refine sp_t fun h2 eh20 => ?_
  have eh2 : gS h2 = gS h0 := by rw [eh20]; rfl
  refine sp_m (aw_put (k := 4) okX1 opX1 s1 (by decide) q370 (Or.inl rfl) (Or.inl rfl) (hasV_I' eh20) rfl rfl (pc := 2) dX1_anew_2) ?_
  refine sp_m (aw_aload_n (pc := 5) dX1_anew_5 rfl (lv_at hl 0 rfl)) ?_
  refine sp_m (aw_iconst (v := (-1)) (pc := 6) dX1_anew_6 rfl) ?_
  refine sp_t fun h3 eh30 => ?_
  have eh3 : gS h3 = gS h2 := by rw [eh30]; rfl
  refine sp_m (aw_put (k := 6) okX1 opX1 (uS eh2 s1) (by decide) q372 (Or.inl rfl) (Or.inl rfl) (hasV_I' eh30) rfl rfl (pc := 7) dX1_anew_7) ?_
  exact sp_r fun hz => aw_vret hz rfl rfl rfl (pc := 10) dX1_anew_10
theorem mok_X1_in : mOK yX1_in 3 := ⟨⟨by decide +kernel, by decide +kernel⟩, by decide +kernel⟩
abbrev KX1_in (l : Launch) (D : DD) (h0 : AH) (v : Int32) : KT := (l, yX1_in, cX1_in, 3, (some .boolean), RX1, 1, D, h0, h0, .inl (some (.int v)), false, [])
theorem metX1_in (l : Launch) (D : DD) {a0 : Int32} {a1 : Int32} {a2 : Int32} {h0 : AH} {v : Int32} (hr : fX1_in a0 a1 a2 h0 = some v) : AMet (KX1_in l D h0 v) [.int a0, .int a1, .int a2] := by
  refine AMet.of (K := (KX1_in l D h0 v)) rfl ⟨_, rfl⟩ rfl rfl rfl (Nat.le_of_ble_eq_true rfl) (fun ls hl => ?_)
  have hl : lv_has ls 3 [(0, .int a0), (1, .int a1), (2, .int a2)] := hl
  suffices hsp : SP (fX1_in a0 a1 a2 h0) (fun z => z = v) (AW (KX1_in l D h0 v) h0 0 ls []) from hsp _ hr rfl
  unfold fX1_in
  refine sp_m (aw_iload_n (pc := 0) dX1_in_0 rfl (lv_at hl 0 rfl)) ?_
  refine sp_m (aw_iload_n (pc := 1) dX1_in_1 rfl (lv_at hl 1 rfl)) ?_
  refine sp_if (fun c1 => ?_) (fun c1 => ?_)
  · refine sp_m (aw_icmp_lt_t (tgt := 14) (pc := 2) dX1_in_2 (by decide) c1) ?_
    refine sp_m (aw_iconst (v := 0) (pc := 14) dX1_in_14 rfl) ?_
    exact sp_r fun hz => aw_zret (nar_b (Or.inl rfl)) (congrArg (fun z => (z, h0)) hz) rfl rfl rfl (pc := 15) dX1_in_15
  · refine sp_m (aw_icmp_lt_f (tgt := 14) (pc := 2) dX1_in_2 (by decide) c1) ?_
    refine sp_m (aw_iload_n (pc := 5) dX1_in_5 rfl (lv_at hl 0 rfl)) ?_
    refine sp_m (aw_iload_n (pc := 6) dX1_in_6 rfl (lv_at hl 2 rfl)) ?_
    refine sp_if (fun c2 => ?_) (fun c2 => ?_)
    · refine sp_m (aw_icmp_gt_t (tgt := 14) (pc := 7) dX1_in_7 (by decide) c2) ?_
      refine sp_m (aw_iconst (v := 0) (pc := 14) dX1_in_14 rfl) ?_
      exact sp_r fun hz => aw_zret (nar_b (Or.inl rfl)) (congrArg (fun z => (z, h0)) hz) rfl rfl rfl (pc := 15) dX1_in_15
    · refine sp_m (aw_icmp_gt_f (tgt := 14) (pc := 7) dX1_in_7 (by decide) c2) ?_
      refine sp_m (aw_iconst (v := 1) (pc := 10) dX1_in_10 rfl) ?_
      refine sp_m (aw_goto (tgt := 15) (pc := 11) dX1_in_11 (by decide)) ?_
      exact sp_r fun hz => aw_zret (nar_b (Or.inr rfl)) (congrArg (fun z => (z, h0)) hz) rfl rfl rfl (pc := 15) dX1_in_15
theorem mok_X1_isBeast : mOK yX1_isBeast 1 := ⟨⟨by decide +kernel, by decide +kernel⟩, by decide +kernel⟩
abbrev KX1_isBeast (l : Launch) (D : DD) (h0 : AH) (v : Int32) : KT := (l, yX1_isBeast, cX1_isBeast, 2, (some .boolean), RX1, 2, D, h0, h0, .inl (some (.int v)), false, [])
theorem metX1_isBeast (l : Launch) (D : DD) {a0 : Nat} {a1 : Int32} {h0 : AH} {v : Int32} (hr : fX1_isBeast a0 a1 h0 = some v) : AMet (KX1_isBeast l D h0 v) [.ref a0, .int a1] := by
  refine AMet.of (K := (KX1_isBeast l D h0 v)) rfl ⟨_, rfl⟩ rfl rfl rfl (Nat.le_of_ble_eq_true rfl) (fun ls hl => ?_)
  have hl : lv_has ls 2 [(0, .ref a0), (1, .int a1)] := hl
  suffices hsp : SP (fX1_isBeast a0 a1 h0) (fun z => z = v) (AW (KX1_isBeast l D h0 v) h0 0 ls []) from hsp _ hr rfl
  unfold fX1_isBeast
  refine sp_m (aw_aload_n (pc := 0) dX1_isBeast_0 rfl (lv_at hl 0 rfl)) ?_
  refine sp_g fun s1 => ?_
  refine sp_o (fun ex2 => ?_) (fun x2 ex2 => ?_)
  · refine sp_m (aw_get (k := 3) okX1 s1 (by decide) q369 (Or.inl rfl) (congrArg va_rf ex2) (pc := 1) dX1_isBeast_1) ?_
    refine sp_m (aw_ifnullN (tgt := 28) (pc := 4) dX1_isBeast_4 (by decide)) ?_
    refine sp_m (aw_iconst (v := 0) (pc := 28) dX1_isBeast_28 rfl) ?_
    exact sp_r fun hz => aw_zret (nar_b (Or.inl rfl)) (congrArg (fun z => (z, h0)) hz) rfl rfl rfl (pc := 29) dX1_isBeast_29
  · refine sp_m (aw_get (k := 3) okX1 s1 (by decide) q369 (Or.inl rfl) (congrArg va_rf ex2) (pc := 1) dX1_isBeast_1) ?_
    refine sp_m (aw_ifnull (pc := 4) dX1_isBeast_4) ?_
    refine sp_m (aw_iload_n (pc := 7) dX1_isBeast_7 rfl (lv_at hl 1 rfl)) ?_
    refine sp_m (aw_iconst (v := 0) (pc := 8) dX1_isBeast_8 rfl) ?_
    refine sp_m (aw_aload_n (pc := 9) dX1_isBeast_9 rfl (lv_at hl 0 rfl)) ?_
    refine sp_b fun x3 ex3 => ?_
    refine sp_m (aw_get (k := 3) okX1 s1 (by decide) q369 (Or.inl rfl) (congrArg va_rf ex3) (pc := 10) dX1_isBeast_10) ?_
    refine sp_g fun s4 => ?_
    refine sp_m (aw_get (k := 8) okX8 s4 (by decide) q505 (Or.inl rfl) rfl (pc := 13) dX1_isBeast_13) ?_
    refine sp_m (aw_iconst (v := 1) (pc := 16) dX1_isBeast_16 rfl) ?_
    refine sp_m (aw_isub (pc := 17) dX1_isBeast_17) ?_
    refine sp_b fun p5 ep5 => ?_
    refine sp_m (G' := AW (KX1_isBeast l D h0 v) h0 (21) ls (.int p5 :: [])) (fun kk => aw_callS (As := [.int a1, .int 0, .int ((gI h0 x3 8) - 1)]) (metX1_in _ _ ep5) mok_X1_in q456 q457 q116 q458 (Nat.le_of_ble_eq_true rfl) (Nat.le_of_ble_eq_true rfl) rfl hl.1 rfl (Nat.le_of_ble_eq_true rfl) (pc := 18) dX1_isBeast_18 kk) ?_
    refine sp_if (fun c6 => ?_) (fun c6 => ?_)
    · refine sp_m (aw_if_eq_t (tgt := 28) (pc := 21) dX1_isBeast_21 (by decide) c6) ?_
      refine sp_m (aw_iconst (v := 0) (pc := 28) dX1_isBeast_28 rfl) ?_
      exact sp_r fun hz => aw_zret (nar_b (Or.inl rfl)) (congrArg (fun z => (z, h0)) hz) rfl rfl rfl (pc := 29) dX1_isBeast_29
    · refine sp_m (aw_if_eq_f (tgt := 28) (pc := 21) dX1_isBeast_21 (by decide) c6) ?_
      refine sp_m (aw_iconst (v := 1) (pc := 24) dX1_isBeast_24 rfl) ?_
      refine sp_m (aw_goto (tgt := 29) (pc := 25) dX1_isBeast_25 (by decide)) ?_
      exact sp_r fun hz => aw_zret (nar_b (Or.inr rfl)) (congrArg (fun z => (z, h0)) hz) rfl rfl rfl (pc := 29) dX1_isBeast_29
theorem mok_X1_dividing : mOK yX1_dividing 2 := ⟨⟨by decide +kernel, by decide +kernel⟩, by decide +kernel⟩
abbrev KX1_dividing (n : Nat) (l : Launch) (D : DD) (h0 : AH) (v : Int64) : KT := (l, yX1_dividing, cX1_dividing, 4, (some .long), RX1, 1 + n, D, h0, h0, .inl (some (.long v)), false, [])
theorem metX1_dividing (n : Nat) (l : Launch) (D : DD)  : ∀ {a0 : Int64} {a1 : Int64} (h0 : AH) {v : Int64}, fX1_dividing n a0 a1 h0 = some v → AMet (KX1_dividing n l D h0 v) [.long a0, .long a1] := by
  induction n with
  | zero => intro a0 a1 h0 v hr; cases hr
  | succ n ih =>
    intro a0 a1 h0 v hr
    refine AMet.of (K := (KX1_dividing (n + 1) l D h0 v)) rfl ⟨_, rfl⟩ rfl rfl rfl (Nat.le_of_ble_eq_true rfl) (fun ls hl => ?_)
    have hl : lv_has ls 4 [(0, .long a0), (2, .long a1)] := hl
    suffices hsp : SP (fX1_dividing (n + 1) a0 a1 h0) (fun z => z = v) (AW (KX1_dividing (n + 1) l D h0 v) h0 0 ls []) from hsp _ hr rfl
    unfold fX1_dividing
    refine sp_m (aw_lload_n (pc := 0) dX1_dividing_0 rfl (lv_at hl 1 rfl)) ?_
    refine sp_m (aw_lconst (v := 0) (pc := 1) dX1_dividing_1 rfl) ?_
    refine sp_m (aw_lcmp (pc := 2) dX1_dividing_2) ?_
    refine sp_if (fun c1 => ?_) (fun c1 => ?_)
    · refine sp_m (aw_if_ne_t (tgt := 10) (pc := 3) dX1_dividing_3 (by decide) (fun z => c1 ((lg_cmp_eq _ _).mp z))) ?_
      refine sp_m (aw_lload_n (pc := 10) dX1_dividing_10 rfl (lv_at hl 1 rfl)) ?_
      refine sp_m (aw_lload_n (pc := 11) dX1_dividing_11 rfl (lv_at hl 0 rfl)) ?_
      refine sp_m (aw_lload_n (pc := 12) dX1_dividing_12 rfl (lv_at hl 1 rfl)) ?_
      refine sp_g fun s2 => ?_
      refine sp_m (aw_lrem (pc := 13) dX1_dividing_13 s2) ?_
      refine sp_b fun p3 ep3 => ?_
      refine sp_m (G' := AW (KX1_dividing (n + 1) l D h0 v) h0 (17) ls (.long p3 :: [])) (fun kk => aw_callS (As := [.long a1, .long (a0 - a0 / a1 * a1)]) (ih _ ep3) mok_X1_dividing q1066 q1067 q116 q1068 (Nat.le_refl _) (Nat.le_of_ble_eq_true rfl) rfl hl.1 rfl (Nat.le_of_ble_eq_true rfl) (pc := 14) dX1_dividing_14 kk) ?_
      exact sp_r fun hz => aw_lret (congrArg (fun z => (z, h0)) hz) rfl rfl rfl (pc := 17) dX1_dividing_17
    · refine sp_m (aw_if_ne_f (tgt := 10) (pc := 3) dX1_dividing_3 (by decide) ((lg_cmp_eq _ _).mpr (Decidable.not_not.mp c1))) ?_
      refine sp_m (aw_lload_n (pc := 6) dX1_dividing_6 rfl (lv_at hl 0 rfl)) ?_
      refine sp_m (aw_goto (tgt := 17) (pc := 7) dX1_dividing_7 (by decide)) ?_
      exact sp_r fun hz => aw_lret (congrArg (fun z => (z, h0)) hz) rfl rfl rfl (pc := 17) dX1_dividing_17
theorem mok_X1_lowest : mOK yX1_lowest 3 := ⟨⟨by decide +kernel, by decide +kernel⟩, by decide +kernel⟩
abbrev KX1_lowest (l : Launch) (D : DD) (h0 : AH) (v : Int64) : KT := (l, yX1_lowest, cX1_lowest, 5, (some .long), RX1, 130, D, h0, h0, .inl (some (.long v)), false, [])
theorem metX1_lowest (l : Launch) (D : DD) {a0 : Int64} {a1 : Int64} {a2 : Int32} {h0 : AH} {v : Int64} (hr : fX1_lowest a0 a1 a2 h0 = some v) : AMet (KX1_lowest l D h0 v) [.long a0, .long a1, .int a2] := by
  refine AMet.of (K := (KX1_lowest l D h0 v)) rfl ⟨_, rfl⟩ rfl rfl rfl (Nat.le_of_ble_eq_true rfl) (fun ls hl => ?_)
  have hl : lv_has ls 5 [(0, .long a0), (2, .long a1), (4, .int a2)] := hl
  suffices hsp : SP (fX1_lowest a0 a1 a2 h0) (fun z => z = v) (AW (KX1_lowest l D h0 v) h0 0 ls []) from hsp _ hr rfl
  unfold fX1_lowest
  refine sp_m (aw_iload (pc := 0) dX1_lowest_0 (lv_at hl 2 rfl)) ?_
  have hj10_1 : ∀ j1 : Int64, ∀ ls : Array Slot, lv_has ls 5 [(0, .long a0), (2, .long a1)] → SP (X1_lowest_j10 a0 a1 h0 j1) (fun z => z = v) (AW (KX1_lowest l D h0 v) h0 10 ls (.long j1 :: [])) := by
    intro j1 ls hl
    unfold X1_lowest_j10
    refine sp_m (aw_lload_n (pc := 10) dX1_lowest_10 rfl (lv_at hl 1 rfl)) ?_
    refine sp_m (aw_lload_n (pc := 11) dX1_lowest_11 rfl (lv_at hl 0 rfl)) ?_
    refine sp_m (aw_mabsL hl.1 q1063 q1064 q145 q1065 (Nat.le_of_ble_eq_true rfl) (Nat.le_of_ble_eq_true rfl) (pc := 12) dX1_lowest_12) ?_
    refine sp_b fun p2 ep2 => ?_
    refine sp_m (G' := AW (KX1_lowest l D h0 v) h0 (18) ls (.long p2 :: .long j1 :: [])) (fun kk => aw_callS (As := [.long a1, .long (labs a0)]) (metX1_dividing _ _ _ _ ep2) mok_X1_dividing q1066 q1067 q116 q1068 (Nat.le_of_ble_eq_true rfl) (Nat.le_of_ble_eq_true rfl) rfl hl.1 rfl (Nat.le_of_ble_eq_true rfl) (pc := 15) dX1_lowest_15 kk) ?_
    refine sp_g fun s3 => ?_
    refine sp_m (aw_ldiv (pc := 18) dX1_lowest_18 s3) ?_
    exact sp_r fun hz => aw_lret (congrArg (fun z => (z, h0)) hz) rfl rfl rfl (pc := 19) dX1_lowest_19
  refine sp_if (fun c4 => ?_) (fun c4 => ?_)
  · refine sp_m (aw_if_eq_t (tgt := 9) (pc := 2) dX1_lowest_2 (by decide) c4) ?_
    refine sp_m (aw_lload_n (pc := 9) dX1_lowest_9 rfl (lv_at hl 0 rfl)) ?_
    exact hj10_1 a0 ls (lv_sub hl [0, 1] rfl)
  · refine sp_m (aw_if_eq_f (tgt := 9) (pc := 2) dX1_lowest_2 (by decide) c4) ?_
    refine sp_m (aw_lload_n (pc := 5) dX1_lowest_5 rfl (lv_at hl 1 rfl)) ?_
    refine sp_m (aw_goto (tgt := 10) (pc := 6) dX1_lowest_6 (by decide)) ?_
    exact hj10_1 a1 ls (lv_sub hl [0, 1] rfl)
theorem mok_X1_no : mOK yX1_no 1 := ⟨⟨by decide +kernel, by decide +kernel⟩, by decide +kernel⟩
abbrev KX1_no (l : Launch) (D : DD) (h0 hE : AH) (v : Int32) : KT := (l, yX1_no, cX1_no, 2, (some .int), RX1, 1, D, h0, hE, .inl (some (.int v)), false, [])
theorem metX1_no (l : Launch) (D : DD) {a0 : Nat} {a1 : Int32} {h0 : AH} {hE : AH} {v : Int32} (hr : fX1_no a0 a1 h0 = some (v, hE)) : AMet (KX1_no l D h0 hE v) [.ref a0, .int a1] := by
  refine AMet.of (K := (KX1_no l D h0 hE v)) rfl ⟨_, rfl⟩ rfl rfl rfl (Nat.le_of_ble_eq_true rfl) (fun ls hl => ?_)
  have hl : lv_has ls 2 [(0, .ref a0), (1, .int a1)] := hl
  suffices hsp : SP (fX1_no a0 a1 h0) (fun z => z = (v, hE)) (AW (KX1_no l D h0 hE v) h0 0 ls []) from hsp _ hr rfl
  unfold fX1_no
  refine sp_m (aw_aload_n (pc := 0) dX1_no_0 rfl (lv_at hl 0 rfl)) ?_
  refine sp_m (aw_iload_n (pc := 1) dX1_no_1 rfl (lv_at hl 1 rfl)) ?_
  refine sp_g fun s1 => ?_
  refine sp_t fun h2 eh20 => ?_
  have eh2 : gS h2 = gS h0 := by rw [eh20]; rfl
  refine sp_m (aw_put (k := 4) okX1 opX1 s1 (by decide) q370 (Or.inl rfl) (Or.inl rfl) (hasV_I' eh20) rfl rfl (pc := 2) dX1_no_2) ?_
  refine sp_m (aw_iconst (v := (-1)) (pc := 5) dX1_no_5 rfl) ?_
  exact sp_r fun hz => aw_iret hz rfl rfl rfl (pc := 6) dX1_no_6
theorem mok_X14_hold : mOK yX14_hold 1 := ⟨⟨by decide +kernel, by decide +kernel⟩, by decide +kernel⟩
abbrev KX14_hold (l : Launch) (D : DD) (h0 : AH) (v : Int32) : KT := (l, yX14_hold, cX14_hold, 2, (some .int), RX14, 1, D, h0, h0, .inl (some (.int v)), false, [])
theorem metX14_hold (l : Launch) (D : DD) {a0 : Nat} {a1 : Int32} {h0 : AH} {v : Int32} (hr : fX14_hold a0 a1 h0 = some v) : AMet (KX14_hold l D h0 v) [.ref a0, .int a1] := by
  refine AMet.of (K := (KX14_hold l D h0 v)) rfl ⟨_, rfl⟩ rfl rfl rfl (Nat.le_of_ble_eq_true rfl) (fun ls hl => ?_)
  have hl : lv_has ls 2 [(0, .ref a0), (1, .int a1)] := hl
  suffices hsp : SP (fX14_hold a0 a1 h0) (fun z => z = v) (AW (KX14_hold l D h0 v) h0 0 ls []) from hsp _ hr rfl
  unfold fX14_hold
  refine sp_m (aw_aload_n (pc := 0) dX14_hold_0 rfl (lv_at hl 0 rfl)) ?_
  refine sp_g fun s1 => ?_
  refine sp_m (G' := AW (KX14_hold l D h0 v) h0 (4) ls (.int (gI h0 a0 1) :: [])) (fun kk => by rcases s1 with z | z | z | z; exact aw_get (k := 1) okX15 z (by decide) q819 (Or.inl rfl) rfl (pc := 1) dX14_hold_1 kk; exact aw_get (k := 1) okX16 z (by decide) q819 (Or.inl rfl) rfl (pc := 1) dX14_hold_1 kk; exact aw_get (k := 1) okX17 z (by decide) q819 (Or.inl rfl) rfl (pc := 1) dX14_hold_1 kk; exact aw_get (k := 1) okX18 z (by decide) q819 (Or.inl rfl) rfl (pc := 1) dX14_hold_1 kk) ?_
  exact sp_r fun hz => aw_iret (congrArg (fun z => (z, h0)) hz) rfl rfl rfl (pc := 4) dX14_hold_4
theorem mok_X16_hold : mOK yX16_hold 1 := ⟨⟨by decide +kernel, by decide +kernel⟩, by decide +kernel⟩
abbrev KX16_hold (l : Launch) (D : DD) (h0 : AH) (v : Int32) : KT := (l, yX16_hold, cX16_hold, 2, (some .int), RX16, 2, D, h0, h0, .inl (some (.int v)), false, [])
theorem metX16_hold (l : Launch) (D : DD) {a0 : Nat} {a1 : Int32} {h0 : AH} {v : Int32} (hr : fX16_hold a0 a1 h0 = some v) : AMet (KX16_hold l D h0 v) [.ref a0, .int a1] := by
  refine AMet.of (K := (KX16_hold l D h0 v)) rfl ⟨_, rfl⟩ rfl rfl rfl (Nat.le_of_ble_eq_true rfl) (fun ls hl => ?_)
  have hl : lv_has ls 2 [(0, .ref a0), (1, .int a1)] := hl
  suffices hsp : SP (fX16_hold a0 a1 h0) (fun z => z = v) (AW (KX16_hold l D h0 v) h0 0 ls []) from hsp _ hr rfl
  unfold fX16_hold
  refine sp_m (aw_iconst (v := 0) (pc := 0) dX16_hold_0 rfl) ?_
  refine sp_m (aw_aload_n (pc := 1) dX16_hold_1 rfl (lv_at hl 0 rfl)) ?_
  refine sp_m (aw_iload_n (pc := 2) dX16_hold_2 rfl (lv_at hl 1 rfl)) ?_
  refine sp_g fun s2 => ?_
  refine sp_b fun p1 ep1 => ?_
  refine sp_m (G' := AW (KX16_hold l D h0 v) h0 (6) ls (.int p1 :: .int 0 :: [])) (fun kk => aw_callSU (As := [.int a1]) (metX14_hold _ _ ep1) okX16 s2 mok_X14_hold (by decide) q1027 q1023 q859 q1022 q137 q1028 (Nat.le_of_ble_eq_true rfl) (Nat.le_of_ble_eq_true rfl) rfl hl.1 rfl (Nat.le_of_ble_eq_true rfl) (pc := 3) dX16_hold_3 kk) ?_
  refine sp_m (aw_bipush (v := 20) (pc := 6) dX16_hold_6 rfl) ?_
  refine sp_m (aw_isub (pc := 8) dX16_hold_8) ?_
  refine sp_m (aw_mmax hl.1 q1029 q1015 q145 q1016 (Nat.le_of_ble_eq_true rfl) (Nat.le_of_ble_eq_true rfl) (pc := 9) dX16_hold_9) ?_
  exact sp_r fun hz => aw_iret (congrArg (fun z => (z, h0)) hz) rfl rfl rfl (pc := 12) dX16_hold_12
theorem mok_X17_hold : mOK yX17_hold 1 := ⟨⟨by decide +kernel, by decide +kernel⟩, by decide +kernel⟩
abbrev KX17_hold (l : Launch) (D : DD) (h0 : AH) (v : Int32) : KT := (l, yX17_hold, cX17_hold, 2, (some .int), RX17, 2, D, h0, h0, .inl (some (.int v)), false, [])
theorem metX17_hold (l : Launch) (D : DD) {a0 : Nat} {a1 : Int32} {h0 : AH} {v : Int32} (hr : fX17_hold a0 a1 h0 = some v) : AMet (KX17_hold l D h0 v) [.ref a0, .int a1] := by
  refine AMet.of (K := (KX17_hold l D h0 v)) rfl ⟨_, rfl⟩ rfl rfl rfl (Nat.le_of_ble_eq_true rfl) (fun ls hl => ?_)
  have hl : lv_has ls 2 [(0, .ref a0), (1, .int a1)] := hl
  suffices hsp : SP (fX17_hold a0 a1 h0) (fun z => z = v) (AW (KX17_hold l D h0 v) h0 0 ls []) from hsp _ hr rfl
  unfold fX17_hold
  refine sp_m (aw_bipush (v := 100) (pc := 0) dX17_hold_0 rfl) ?_
  refine sp_m (aw_aload_n (pc := 2) dX17_hold_2 rfl (lv_at hl 0 rfl)) ?_
  refine sp_m (aw_iload_n (pc := 3) dX17_hold_3 rfl (lv_at hl 1 rfl)) ?_
  refine sp_g fun s2 => ?_
  refine sp_b fun p1 ep1 => ?_
  refine sp_m (G' := AW (KX17_hold l D h0 v) h0 (7) ls (.int p1 :: .int 100 :: [])) (fun kk => aw_callSU (As := [.int a1]) (metX14_hold _ _ ep1) okX17 s2 mok_X14_hold (by decide) q1033 q1023 q873 q1022 q137 q1028 (Nat.le_of_ble_eq_true rfl) (Nat.le_of_ble_eq_true rfl) rfl hl.1 rfl (Nat.le_of_ble_eq_true rfl) (pc := 4) dX17_hold_4 kk) ?_
  refine sp_m (aw_bipush (v := 20) (pc := 7) dX17_hold_7 rfl) ?_
  refine sp_m (aw_iadd (pc := 9) dX17_hold_9) ?_
  refine sp_m (aw_mmin hl.1 q1034 q1035 q145 q1036 (Nat.le_of_ble_eq_true rfl) (Nat.le_of_ble_eq_true rfl) (pc := 10) dX17_hold_10) ?_
  exact sp_r fun hz => aw_iret (congrArg (fun z => (z, h0)) hz) rfl rfl rfl (pc := 13) dX17_hold_13
theorem mok_X18_hold : mOK yX18_hold 1 := ⟨⟨by decide +kernel, by decide +kernel⟩, by decide +kernel⟩
abbrev KX18_hold (l : Launch) (D : DD) (h0 : AH) (v : Int32) : KT := (l, yX18_hold, cX18_hold, 2, (some .int), RX18, 2, D, h0, h0, .inl (some (.int v)), false, [])
theorem metX18_hold (l : Launch) (D : DD) {a0 : Nat} {a1 : Int32} {h0 : AH} {v : Int32} (hr : fX18_hold a0 a1 h0 = some v) : AMet (KX18_hold l D h0 v) [.ref a0, .int a1] := by
  refine AMet.of (K := (KX18_hold l D h0 v)) rfl ⟨_, rfl⟩ rfl rfl rfl (Nat.le_of_ble_eq_true rfl) (fun ls hl => ?_)
  have hl : lv_has ls 2 [(0, .ref a0), (1, .int a1)] := hl
  suffices hsp : SP (fX18_hold a0 a1 h0) (fun z => z = v) (AW (KX18_hold l D h0 v) h0 0 ls []) from hsp _ hr rfl
  unfold fX18_hold
  refine sp_m (aw_iload_n (pc := 0) dX18_hold_0 rfl (lv_at hl 1 rfl)) ?_
  refine sp_if (fun c1 => ?_) (fun c1 => ?_)
  · refine sp_m (aw_if_eq_t (tgt := 14) (pc := 1) dX18_hold_1 (by decide) c1) ?_
    refine sp_m (aw_aload_n (pc := 14) dX18_hold_14 rfl (lv_at hl 0 rfl)) ?_
    refine sp_m (aw_iload_n (pc := 15) dX18_hold_15 rfl (lv_at hl 1 rfl)) ?_
    refine sp_g fun s3 => ?_
    refine sp_b fun p2 ep2 => ?_
    refine sp_m (G' := AW (KX18_hold l D h0 v) h0 (19) ls (.int p2 :: [])) (fun kk => aw_callSU (As := [.int a1]) (metX14_hold _ _ ep2) okX18 s3 mok_X14_hold (by decide) q1040 q1023 q887 q1022 q137 q1028 (Nat.le_of_ble_eq_true rfl) (Nat.le_of_ble_eq_true rfl) rfl hl.1 rfl (Nat.le_of_ble_eq_true rfl) (pc := 16) dX18_hold_16 kk) ?_
    exact sp_r fun hz => aw_iret (congrArg (fun z => (z, h0)) hz) rfl rfl rfl (pc := 19) dX18_hold_19
  · refine sp_m (aw_if_eq_f (tgt := 14) (pc := 1) dX18_hold_1 (by decide) c1) ?_
    refine sp_m (aw_aload_n (pc := 4) dX18_hold_4 rfl (lv_at hl 0 rfl)) ?_
    refine sp_m (aw_iload_n (pc := 5) dX18_hold_5 rfl (lv_at hl 1 rfl)) ?_
    refine sp_g fun s5 => ?_
    refine sp_b fun p4 ep4 => ?_
    refine sp_m (G' := AW (KX18_hold l D h0 v) h0 (9) ls (.int p4 :: [])) (fun kk => aw_callSU (As := [.int a1]) (metX14_hold _ _ ep4) okX18 s5 mok_X14_hold (by decide) q1040 q1023 q887 q1022 q137 q1028 (Nat.le_of_ble_eq_true rfl) (Nat.le_of_ble_eq_true rfl) rfl hl.1 rfl (Nat.le_of_ble_eq_true rfl) (pc := 6) dX18_hold_6 kk) ?_
    refine sp_m (aw_iconst (v := 2) (pc := 9) dX18_hold_9 rfl) ?_
    refine sp_m (aw_idiv (pc := 10) dX18_hold_10 (by decide)) ?_
    refine sp_m (aw_goto (tgt := 19) (pc := 11) dX18_hold_11 (by decide)) ?_
    exact sp_r fun hz => aw_iret (congrArg (fun z => (z, h0)) hz) rfl rfl rfl (pc := 19) dX18_hold_19
theorem fV_X14_hold_c {a0 : Nat} {a1 : Int32} {h0 : AH} {v : Int32} (e : fV_X14_hold a0 a1 h0 = some v) : (gS h0 a0 = 14 ∧ fX14_hold a0 a1 h0 = some v) ∨ (gS h0 a0 = 15 ∧ fX16_hold a0 a1 h0 = some v) ∨ (gS h0 a0 = 16 ∧ fX17_hold a0 a1 h0 = some v) ∨ (gS h0 a0 = 17 ∧ fX18_hold a0 a1 h0 = some v) := by
  unfold fV_X14_hold at e
  by_cases z0 : gS h0 a0 = 14
  · rw [if_pos z0] at e; exact Or.inl ⟨z0, e⟩
  rw [if_neg z0] at e
  by_cases z1 : gS h0 a0 = 15
  · rw [if_pos z1] at e; exact Or.inr (Or.inl ⟨z1, e⟩)
  rw [if_neg z1] at e
  by_cases z2 : gS h0 a0 = 16
  · rw [if_pos z2] at e; exact Or.inr (Or.inr (Or.inl ⟨z2, e⟩))
  rw [if_neg z2] at e
  by_cases z3 : gS h0 a0 = 17
  · rw [if_pos z3] at e; exact Or.inr (Or.inr (Or.inr (⟨z3, e⟩)))
  rw [if_neg z3] at e
  cases e
theorem mokV_X14_hold : mOK ⟨"ElephantLine$Beast", "hold", "(Z)I"⟩ 1 := ⟨⟨by decide +kernel, by decide +kernel⟩, by decide +kernel⟩
theorem mok_X4_hold : mOK yX4_hold 1 := ⟨⟨by decide +kernel, by decide +kernel⟩, by decide +kernel⟩
abbrev KX4_hold (l : Launch) (D : DD) (h0 : AH) (v : Int32) : KT := (l, yX4_hold, cX4_hold, 2, (some .int), RX4, 3, D, h0, h0, .inl (some (.int v)), false, [])
theorem metX4_hold (l : Launch) (D : DD) {a0 : Nat} {a1 : Int32} {h0 : AH} {v : Int32} (hr : fX4_hold a0 a1 h0 = some v) : AMet (KX4_hold l D h0 v) [.ref a0, .int a1] := by
  refine AMet.of (K := (KX4_hold l D h0 v)) rfl ⟨_, rfl⟩ rfl rfl rfl (Nat.le_of_ble_eq_true rfl) (fun ls hl => ?_)
  have hl : lv_has ls 2 [(0, .ref a0), (1, .int a1)] := hl
  suffices hsp : SP (fX4_hold a0 a1 h0) (fun z => z = v) (AW (KX4_hold l D h0 v) h0 0 ls []) from hsp _ hr rfl
  unfold fX4_hold
  refine sp_m (aw_aload_n (pc := 0) dX4_hold_0 rfl (lv_at hl 0 rfl)) ?_
  refine sp_g fun s1 => ?_
  refine sp_b fun x2 ex2 => ?_
  refine sp_m (aw_get (k := 3) okX4 s1 (by decide) q279 (Or.inl rfl) (congrArg va_rf ex2) (pc := 1) dX4_hold_1) ?_
  refine sp_g fun s3 => ?_
  refine sp_b fun x4 ex4 => ?_
  refine sp_m (aw_get (k := 3) okX8 s3 (by decide) q489 (Or.inl rfl) (congrArg va_rf ex4) (pc := 4) dX4_hold_4) ?_
  refine sp_m (aw_iload_n (pc := 7) dX4_hold_7 rfl (lv_at hl 1 rfl)) ?_
  refine sp_g fun s5 => ?_
  refine sp_g fun i6 => ?_
  refine sp_b fun x7 ex7 => ?_
  refine sp_m (aw_aald (t := 5) s5 (by decide) rfl rfl i6 (congrArg va_rf ex7) (pc := 8) dX4_hold_8) ?_
  refine sp_m (aw_aload_n (pc := 9) dX4_hold_9 rfl (lv_at hl 0 rfl)) ?_
  refine sp_m (aw_get (k := 6) okX4 s1 (by decide) q284 (Or.inl rfl) rfl (pc := 10) dX4_hold_10) ?_
  refine sp_b fun p8 ep8 => ?_
  refine sp_m (G' := AW (KX4_hold l D h0 v) h0 (16) ls (.int p8 :: [])) (fun kk => by rcases fV_X14_hold_c ep8 with z | z | z | z; exact aw_callU (x := ⟨"ElephantLine$Beast", "hold", "(Z)I"⟩) (As := [.int (gI h0 a0 6)]) (metX14_hold _ _ z.2) (rcv_o okX15 z.1) mokV_X14_hold q1021 q1023 q1041 q1022 q137 q1028 (Or.inl ⟨q1022, _, _, _, q1028⟩) (Nat.le_of_ble_eq_true rfl) (Nat.le_of_ble_eq_true rfl) rfl hl.1 rfl (Nat.le_of_ble_eq_true rfl) (pc := 13) dX4_hold_13 kk; exact aw_callU (x := ⟨"ElephantLine$Beast", "hold", "(Z)I"⟩) (As := [.int (gI h0 a0 6)]) (metX16_hold _ _ z.2) (rcv_o okX16 z.1) mokV_X14_hold q1021 q1023 q1024 q1025 q139 q1026 (Or.inl ⟨q1022, _, _, _, q1028⟩) (Nat.le_of_ble_eq_true rfl) (Nat.le_of_ble_eq_true rfl) rfl hl.1 rfl (Nat.le_of_ble_eq_true rfl) (pc := 13) dX4_hold_13 kk; exact aw_callU (x := ⟨"ElephantLine$Beast", "hold", "(Z)I"⟩) (As := [.int (gI h0 a0 6)]) (metX17_hold _ _ z.2) (rcv_o okX17 z.1) mokV_X14_hold q1021 q1023 q1030 q1031 q140 q1032 (Or.inl ⟨q1022, _, _, _, q1028⟩) (Nat.le_of_ble_eq_true rfl) (Nat.le_of_ble_eq_true rfl) rfl hl.1 rfl (Nat.le_of_ble_eq_true rfl) (pc := 13) dX4_hold_13 kk; exact aw_callU (x := ⟨"ElephantLine$Beast", "hold", "(Z)I"⟩) (As := [.int (gI h0 a0 6)]) (metX18_hold _ _ z.2) (rcv_o okX18 z.1) mokV_X14_hold q1021 q1023 q1037 q1038 q141 q1039 (Or.inl ⟨q1022, _, _, _, q1028⟩) (Nat.le_of_ble_eq_true rfl) (Nat.le_of_ble_eq_true rfl) rfl hl.1 rfl (Nat.le_of_ble_eq_true rfl) (pc := 13) dX4_hold_13 kk) ?_
  exact sp_r fun hz => aw_iret (congrArg (fun z => (z, h0)) hz) rfl rfl rfl (pc := 16) dX4_hold_16
theorem mok_X1_has : mOK yX1_has 2 := ⟨⟨by decide +kernel, by decide +kernel⟩, by decide +kernel⟩
abbrev KX1_has (l : Launch) (D : DD) (h0 : AH) (v : Int32) : KT := (l, yX1_has, cX1_has, 2, (some .boolean), RX1, 1, D, h0, h0, .inl (some (.int v)), false, [])
theorem metX1_has (l : Launch) (D : DD) {a0 : Int32} {a1 : Int32} {h0 : AH} {v : Int32} (hr : fX1_has a0 a1 h0 = some v) : AMet (KX1_has l D h0 v) [.int a0, .int a1] := by
  refine AMet.of (K := (KX1_has l D h0 v)) rfl ⟨_, rfl⟩ rfl rfl rfl (Nat.le_of_ble_eq_true rfl) (fun ls hl => ?_)
  have hl : lv_has ls 2 [(0, .int a0), (1, .int a1)] := hl
  suffices hsp : SP (fX1_has a0 a1 h0) (fun z => z = v) (AW (KX1_has l D h0 v) h0 0 ls []) from hsp _ hr rfl
  unfold fX1_has
  refine sp_m (aw_iload_n (pc := 0) dX1_has_0 rfl (lv_at hl 0 rfl)) ?_
  refine sp_m (aw_iload_n (pc := 1) dX1_has_1 rfl (lv_at hl 1 rfl)) ?_
  refine sp_m (aw_ishr (pc := 2) dX1_has_2) ?_
  refine sp_m (aw_iconst (v := 1) (pc := 3) dX1_has_3 rfl) ?_
  refine sp_m (aw_iand (pc := 4) dX1_has_4) ?_
  refine sp_m (aw_iconst (v := 1) (pc := 5) dX1_has_5 rfl) ?_
  refine sp_if (fun c1 => ?_) (fun c1 => ?_)
  · refine sp_m (aw_icmp_ne_t (tgt := 13) (pc := 6) dX1_has_6 (by decide) c1) ?_
    refine sp_m (aw_iconst (v := 0) (pc := 13) dX1_has_13 rfl) ?_
    exact sp_r fun hz => aw_zret (nar_b (Or.inl rfl)) (congrArg (fun z => (z, h0)) hz) rfl rfl rfl (pc := 14) dX1_has_14
  · refine sp_m (aw_icmp_ne_f (tgt := 13) (pc := 6) dX1_has_6 (by decide) (Decidable.not_not.mp c1)) ?_
    refine sp_m (aw_iconst (v := 1) (pc := 9) dX1_has_9 rfl) ?_
    refine sp_m (aw_goto (tgt := 14) (pc := 10) dX1_has_10 (by decide)) ?_
    exact sp_r fun hz => aw_zret (nar_b (Or.inr rfl)) (congrArg (fun z => (z, h0)) hz) rfl rfl rfl (pc := 14) dX1_has_14
theorem mok_X4_isDead : mOK yX4_isDead 1 := ⟨⟨by decide +kernel, by decide +kernel⟩, by decide +kernel⟩
abbrev KX4_isDead (l : Launch) (D : DD) (h0 : AH) (v : Int32) : KT := (l, yX4_isDead, cX4_isDead, 2, (some .boolean), RX4, 2, D, h0, h0, .inl (some (.int v)), false, [])
theorem metX4_isDead (l : Launch) (D : DD) {a0 : Nat} {a1 : Int32} {h0 : AH} {v : Int32} (hr : fX4_isDead a0 a1 h0 = some v) : AMet (KX4_isDead l D h0 v) [.ref a0, .int a1] := by
  refine AMet.of (K := (KX4_isDead l D h0 v)) rfl ⟨_, rfl⟩ rfl rfl rfl (Nat.le_of_ble_eq_true rfl) (fun ls hl => ?_)
  have hl : lv_has ls 2 [(0, .ref a0), (1, .int a1)] := hl
  suffices hsp : SP (fX4_isDead a0 a1 h0) (fun z => z = v) (AW (KX4_isDead l D h0 v) h0 0 ls []) from hsp _ hr rfl
  unfold fX4_isDead
  refine sp_m (aw_aload_n (pc := 0) dX4_isDead_0 rfl (lv_at hl 0 rfl)) ?_
  refine sp_g fun s1 => ?_
  refine sp_m (aw_get (k := 4) okX4 s1 (by decide) q280 (Or.inl rfl) rfl (pc := 1) dX4_isDead_1) ?_
  refine sp_m (aw_iload_n (pc := 4) dX4_isDead_4 rfl (lv_at hl 1 rfl)) ?_
  refine sp_b fun p2 ep2 => ?_
  refine sp_m (G' := AW (KX4_isDead l D h0 v) h0 (8) ls (.int p2 :: [])) (fun kk => aw_callSN (As := [.int (gI h0 a0 4), .int a1]) (host := "ElephantLine") (metX1_has _ _ ep2) mok_X1_has nq967 q968 q116 q969 (Nat.le_of_ble_eq_true rfl) (Nat.le_of_ble_eq_true rfl) rfl hl.1 rfl (Nat.le_of_ble_eq_true rfl) (pc := 5) dX4_isDead_5 kk) ?_
  refine sp_g fun g3 => ?_
  exact sp_r fun hz => aw_zret (nar_b g3) (congrArg (fun z => (z, h0)) hz) rfl rfl rfl (pc := 8) dX4_isDead_8
theorem mok_X4_steps : mOK yX4_steps 1 := ⟨⟨by decide +kernel, by decide +kernel⟩, by decide +kernel⟩
abbrev KX4_steps (l : Launch) (D : DD) (h0 : AH) (v : Int64) : KT := (l, yX4_steps, cX4_steps, 6, (some .long), RX4, 1, D, h0, h0, .inl (some (.long v)), false, [])
theorem metX4_steps (l : Launch) (D : DD) {a0 : Nat} {a1 : Int64} {h0 : AH} {v : Int64} (hr : fX4_steps a0 a1 h0 = some v) : AMet (KX4_steps l D h0 v) [.ref a0, .long a1] := by
  refine AMet.of (K := (KX4_steps l D h0 v)) rfl ⟨_, rfl⟩ rfl rfl rfl (Nat.le_of_ble_eq_true rfl) (fun ls hl => ?_)
  have hl : lv_has ls 6 [(0, .ref a0), (1, .long a1)] := hl
  suffices hsp : SP (fX4_steps a0 a1 h0) (fun z => z = v) (AW (KX4_steps l D h0 v) h0 0 ls []) from hsp _ hr rfl
  unfold fX4_steps
  refine sp_m (aw_lconst (v := 1) (pc := 0) dX4_steps_0 rfl) ?_
  refine sp_m (aw_lstore_n (lv' := [(3, .long 1), (0, .ref a0), (1, .long a1)]) (pc := 1) dX4_steps_1 rfl hl (by decide) rfl) (sp_all fun ls hl => ?_)
  refine sp_m (aw_iconst (v := 0) (pc := 2) dX4_steps_2 rfl) ?_
  refine sp_m (aw_istore (lv' := [(5, .int 0), (3, .long 1), (0, .ref a0), (1, .long a1)]) (pc := 3) dX4_steps_3 hl (by decide) rfl) (sp_all fun ls hl => ?_)
  let P1 : Int64 × Int32 → Prop := aLP (KX4_steps l D h0 v) 6 5 (fun s1v : Int64 × Int32 => [(0, .ref a0), (1, .long a1), (3, .long s1v.1), (5, .int s1v.2)]) (fun s1v => h0)
  let E1 : Int64 → Prop := aLP (KX4_steps l D h0 v) 6 27 (fun r1v : Int64 => [(3, .long r1v)]) (fun r1v => h0)
  refine sp_bl (P := P1) (E := E1) (fun s1v => sp_all fun ls hl => ?_) (fun k => k ls (lv_sub hl [2, 3, 1, 0] rfl)) (fun r1v => sp_all fun ls hl => ?_)
  · have hl : lv_has ls 6 [(0, .ref a0), (1, .long a1), (3, .long s1v.1), (5, .int s1v.2)] := hl
    show SP _ _ (AW (KX4_steps l D h0 v) h0 5 ls [])
    unfold X4_steps_L5
    refine sp_m (aw_iload (pc := 5) dX4_steps_5 (lv_at hl 3 rfl)) ?_
    refine sp_m (aw_aload_n (pc := 7) dX4_steps_7 rfl (lv_at hl 0 rfl)) ?_
    refine sp_g fun s2 => ?_
    refine sp_b fun x3 ex3 => ?_
    refine sp_m (aw_get (k := 3) okX4 s2 (by decide) q279 (Or.inl rfl) (congrArg va_rf ex3) (pc := 8) dX4_steps_8) ?_
    refine sp_g fun s4 => ?_
    refine sp_m (aw_get (k := 6) okX8 s4 (by decide) q497 (Or.inl rfl) rfl (pc := 11) dX4_steps_11) ?_
    refine sp_if (fun c5 => ?_) (fun c5 => ?_)
    · refine sp_m (aw_icmp_ge_t (tgt := 27) (pc := 14) dX4_steps_14 (by decide) c5) ?_
      exact sp_r fun hz => hz ls (lv_sub hl [2] rfl)
    · refine sp_m (aw_icmp_ge_f (tgt := 27) (pc := 14) dX4_steps_14 (by decide) c5) ?_
      refine sp_m (aw_lload_n (pc := 17) dX4_steps_17 rfl (lv_at hl 2 rfl)) ?_
      refine sp_m (aw_lload_n (pc := 18) dX4_steps_18 rfl (lv_at hl 1 rfl)) ?_
      refine sp_m (aw_lmul (pc := 19) dX4_steps_19) ?_
      refine sp_m (aw_lstore_n (lv' := [(3, .long (s1v.1 * a1)), (0, .ref a0), (1, .long a1), (5, .int s1v.2)]) (pc := 20) dX4_steps_20 rfl hl (by decide) rfl) (sp_all fun ls hl => ?_)
      refine sp_m (aw_iinc (v := s1v.2 + 1) (lv' := [(5, .int (s1v.2 + 1)), (3, .long (s1v.1 * a1)), (0, .ref a0), (1, .long a1)]) (pc := 21) dX4_steps_21 hl (k := 3) rfl rfl (by decide) rfl) (sp_all fun ls hl => ?_)
      refine sp_m (aw_goto (tgt := 5) (pc := 24) dX4_steps_24 (by decide)) ?_
      exact sp_r fun hz => hz ls (lv_sub hl [2, 3, 1, 0] rfl)
  · have hl : lv_has ls 6 [(3, .long r1v)] := hl
    show SP _ _ (AW (KX4_steps l D h0 v) h0 27 ls [])
    refine sp_m (aw_lload_n (pc := 27) dX4_steps_27 rfl (lv_at hl 0 rfl)) ?_
    exact sp_r fun hz => aw_lret (congrArg (fun z => (z, h0)) hz) rfl rfl rfl (pc := 28) dX4_steps_28
theorem mok_X4_across : mOK yX4_across 1 := ⟨⟨by decide +kernel, by decide +kernel⟩, by decide +kernel⟩
abbrev KX4_across (l : Launch) (D : DD) (h0 : AH) (v : Int64) : KT := (l, yX4_across, cX4_across, 2, (some .long), RX4, 4, D, h0, h0, .inl (some (.long v)), false, [])
theorem metX4_across (l : Launch) (D : DD) {a0 : Nat} {a1 : Int32} {h0 : AH} {v : Int64} (hr : fX4_across a0 a1 h0 = some v) : AMet (KX4_across l D h0 v) [.ref a0, .int a1] := by
  refine AMet.of (K := (KX4_across l D h0 v)) rfl ⟨_, rfl⟩ rfl rfl rfl (Nat.le_of_ble_eq_true rfl) (fun ls hl => ?_)
  have hl : lv_has ls 2 [(0, .ref a0), (1, .int a1)] := hl
  suffices hsp : SP (fX4_across a0 a1 h0) (fun z => z = v) (AW (KX4_across l D h0 v) h0 0 ls []) from hsp _ hr rfl
  unfold fX4_across
  refine sp_m (aw_aload_n (pc := 0) dX4_across_0 rfl (lv_at hl 0 rfl)) ?_
  refine sp_m (aw_iload_n (pc := 1) dX4_across_1 rfl (lv_at hl 1 rfl)) ?_
  refine sp_g fun s2 => ?_
  refine sp_b fun p1 ep1 => ?_
  refine sp_m (G' := AW (KX4_across l D h0 v) h0 (5) ls (.int p1 :: [])) (fun kk => aw_callV (As := [.int a1]) (metX4_isDead _ _ ep1) (rcv_o okX4 s2) rfl mok_X4_isDead q997 q964 q965 q122 q966 (Nat.le_of_ble_eq_true rfl) (Nat.le_of_ble_eq_true rfl) rfl hl.1 rfl (Nat.le_of_ble_eq_true rfl) (pc := 2) dX4_across_2 kk) ?_
  refine sp_if (fun c3 => ?_) (fun c3 => ?_)
  · refine sp_m (aw_if_eq_t (tgt := 12) (pc := 5) dX4_across_5 (by decide) c3) ?_
    refine sp_m (aw_aload_n (pc := 12) dX4_across_12 rfl (lv_at hl 0 rfl)) ?_
    refine sp_m (aw_aload_n (pc := 13) dX4_across_13 rfl (lv_at hl 0 rfl)) ?_
    refine sp_m (aw_iload_n (pc := 14) dX4_across_14 rfl (lv_at hl 1 rfl)) ?_
    refine sp_b fun p4 ep4 => ?_
    refine sp_m (G' := AW (KX4_across l D h0 v) h0 (18) ls (.int p4 :: .ref a0 :: [])) (fun kk => aw_callV (As := [.int a1]) (metX4_hold _ _ ep4) (rcv_o okX4 s2) rfl mok_X4_hold q1050 q1018 q1019 q122 q1020 (Nat.le_of_ble_eq_true rfl) (Nat.le_of_ble_eq_true rfl) rfl hl.1 rfl (Nat.le_of_ble_eq_true rfl) (pc := 15) dX4_across_15 kk) ?_
    refine sp_m (aw_i2l (pc := 18) dX4_across_18) ?_
    refine sp_b fun p5 ep5 => ?_
    refine sp_m (G' := AW (KX4_across l D h0 v) h0 (22) ls (.long p5 :: [])) (fun kk => aw_callV (As := [.long p4.toInt64]) (metX4_steps _ _ ep5) (rcv_o okX4 s2) rfl mok_X4_steps q1051 q1053 qs28 q122 q1054 (Nat.le_of_ble_eq_true rfl) (Nat.le_of_ble_eq_true rfl) rfl hl.1 rfl (Nat.le_of_ble_eq_true rfl) (pc := 19) dX4_across_19 kk) ?_
    exact sp_r fun hz => aw_lret (congrArg (fun z => (z, h0)) hz) rfl rfl rfl (pc := 22) dX4_across_22
  · refine sp_m (aw_if_eq_f (tgt := 12) (pc := 5) dX4_across_5 (by decide) c3) ?_
    refine sp_m (aw_lconst (v := 0) (pc := 8) dX4_across_8 rfl) ?_
    refine sp_m (aw_goto (tgt := 22) (pc := 9) dX4_across_9 (by decide)) ?_
    exact sp_r fun hz => aw_lret (congrArg (fun z => (z, h0)) hz) rfl rfl rfl (pc := 22) dX4_across_22
theorem mok_X4_of : mOK yX4_of 0 := ⟨⟨by decide +kernel, by decide +kernel⟩, by decide +kernel⟩
abbrev KX4_of (l : Launch) (D : DD) (h0 : AH) (v : Int64) : KT := (l, yX4_of, cX4_of, 1, (some .long), RX4, 2, D, h0, h0, .inl (some (.long v)), false, [])
theorem metX4_of (l : Launch) (D : DD) {a0 : Nat} {h0 : AH} {v : Int64} (hr : fX4_of a0 h0 = some v) : AMet (KX4_of l D h0 v) [.ref a0] := by
  refine AMet.of (K := (KX4_of l D h0 v)) rfl ⟨_, rfl⟩ rfl rfl rfl (Nat.le_of_ble_eq_true rfl) (fun ls hl => ?_)
  have hl : lv_has ls 1 [(0, .ref a0)] := hl
  suffices hsp : SP (fX4_of a0 h0) (fun z => z = v) (AW (KX4_of l D h0 v) h0 0 ls []) from hsp _ hr rfl
  unfold fX4_of
  refine sp_m (aw_aload_n (pc := 0) dX4_of_0 rfl (lv_at hl 0 rfl)) ?_
  refine sp_m (aw_ldc2 q1059 (pc := 1) dX4_of_1) ?_
  refine sp_g fun s2 => ?_
  refine sp_b fun p1 ep1 => ?_
  refine sp_m (G' := AW (KX4_of l D h0 v) h0 (7) ls (.long p1 :: [])) (fun kk => aw_callV (As := [.long 100]) (metX4_steps _ _ ep1) (rcv_o okX4 s2) rfl mok_X4_steps q1051 q1053 qs28 q122 q1054 (Nat.le_of_ble_eq_true rfl) (Nat.le_of_ble_eq_true rfl) rfl hl.1 rfl (Nat.le_of_ble_eq_true rfl) (pc := 4) dX4_of_4 kk) ?_
  exact sp_r fun hz => aw_lret (congrArg (fun z => (z, h0)) hz) rfl rfl rfl (pc := 7) dX4_of_7
theorem mok_X1_across : mOK yX1_across 2 := ⟨⟨by decide +kernel, by decide +kernel⟩, by decide +kernel⟩
abbrev KX1_across (l : Launch) (D : DD) (h0 hE : AH) (v : Int64) : KT := (l, yX1_across, cX1_across, 3, (some .long), RX1, 131, D, h0, hE, .inl (some (.long v)), false, [])
theorem metX1_across (l : Launch) (D : DD) {a0 : Nat} {a1 : Int32} {a2 : Int32} {h0 : AH} {hE : AH} {v : Int64} (hr : fX1_across a0 a1 a2 h0 = some (v, hE)) : AMet (KX1_across l D h0 hE v) [.ref a0, .int a1, .int a2] := by
  refine AMet.of (K := (KX1_across l D h0 hE v)) rfl ⟨_, rfl⟩ rfl rfl rfl (Nat.le_of_ble_eq_true rfl) (fun ls hl => ?_)
  have hl : lv_has ls 3 [(0, .ref a0), (1, .int a1), (2, .int a2)] := hl
  suffices hsp : SP (fX1_across a0 a1 a2 h0) (fun z => z = (v, hE)) (AW (KX1_across l D h0 hE v) h0 0 ls []) from hsp _ hr rfl
  unfold fX1_across
  refine sp_m (aw_aload_n (pc := 0) dX1_across_0 rfl (lv_at hl 0 rfl)) ?_
  refine sp_g fun s2 => ?_
  refine sp_b fun p1 ep1 => ?_
  refine sp_m (G' := AW (KX1_across l D h0 hE v) p1 (4) ls ([])) (fun kk => aw_callV (As := []) (metX1_anew _ _ ep1) (rcv_o okX1 s2) rfl mok_X1_anew q452 q454 qs2 q116 q455 (Nat.le_of_ble_eq_true rfl) (Nat.le_of_ble_eq_true rfl) rfl hl.1 rfl (Nat.le_of_ble_eq_true rfl) (pc := 1) dX1_across_1 kk) ?_
  refine sp_m (aw_aload_n (pc := 4) dX1_across_4 rfl (lv_at hl 0 rfl)) ?_
  refine sp_m (aw_iload_n (pc := 5) dX1_across_5 rfl (lv_at hl 1 rfl)) ?_
  refine sp_g fun s4 => ?_
  refine sp_b fun p3 ep3 => ?_
  refine sp_m (G' := AW (KX1_across l D h0 hE v) p1 (9) ls (.int p3 :: [])) (fun kk => aw_callV (As := [.int a1]) (metX1_isBeast _ _ ep3) (rcv_o okX1 s4) rfl mok_X1_isBeast q974 q976 qs27 q116 q977 (Nat.le_of_ble_eq_true rfl) (Nat.le_of_ble_eq_true rfl) rfl hl.1 rfl (Nat.le_of_ble_eq_true rfl) (pc := 6) dX1_across_6 kk) ?_
  refine sp_if (fun c5 => ?_) (fun c5 => ?_)
  · refine sp_m (aw_if_eq_t (tgt := 34) (pc := 9) dX1_across_9 (by decide) c5) ?_
    refine sp_m (aw_aload_n (pc := 34) dX1_across_34 rfl (lv_at hl 0 rfl)) ?_
    refine sp_m (aw_iconst (v := 1) (pc := 35) dX1_across_35 rfl) ?_
    refine sp_b fun p6 ep6 => ?_
    refine sp_m (G' := AW (KX1_across l D h0 hE v) p6.2 (39) ls (.int p6.1 :: [])) (fun kk => aw_callV (As := [.int 1]) (metX1_no _ _ ep6) (rcv_o okX1 s4) rfl mok_X1_no q459 q461 qs3 q116 q462 (Nat.le_of_ble_eq_true rfl) (Nat.le_of_ble_eq_true rfl) rfl hl.1 rfl (Nat.le_of_ble_eq_true rfl) (pc := 36) dX1_across_36 kk) ?_
    refine sp_m (aw_i2l (pc := 39) dX1_across_39) ?_
    exact sp_r fun hz => aw_lret hz rfl rfl rfl (pc := 40) dX1_across_40
  · refine sp_m (aw_if_eq_f (tgt := 34) (pc := 9) dX1_across_9 (by decide) c5) ?_
    refine sp_m (aw_aload_n (pc := 12) dX1_across_12 rfl (lv_at hl 0 rfl)) ?_
    refine sp_b fun x7 ex7 => ?_
    refine sp_m (aw_get (k := 9) okX1 s4 (by decide) q375 (Or.inl rfl) (congrArg va_rf ex7) (pc := 13) dX1_across_13) ?_
    refine sp_m (aw_iload_n (pc := 16) dX1_across_16 rfl (lv_at hl 1 rfl)) ?_
    refine sp_g fun s9 => ?_
    refine sp_b fun p8 ep8 => ?_
    refine sp_m (G' := AW (KX1_across l D h0 hE v) p1 (20) ls (.long p8 :: [])) (fun kk => aw_callV (As := [.int a1]) (metX4_across _ _ ep8) (rcv_o okX4 s9) rfl mok_X4_across q1046 q1047 q1048 q122 q1049 (Nat.le_of_ble_eq_true rfl) (Nat.le_of_ble_eq_true rfl) rfl hl.1 rfl (Nat.le_of_ble_eq_true rfl) (pc := 17) dX1_across_17 kk) ?_
    refine sp_m (aw_aload_n (pc := 20) dX1_across_20 rfl (lv_at hl 0 rfl)) ?_
    refine sp_b fun x10 ex10 => ?_
    refine sp_m (aw_get (k := 9) okX1 s4 (by decide) q375 (Or.inl rfl) (congrArg va_rf ex10) (pc := 21) dX1_across_21) ?_
    refine sp_g fun s12 => ?_
    refine sp_b fun p11 ep11 => ?_
    refine sp_m (G' := AW (KX1_across l D h0 hE v) p1 (27) ls (.long p11 :: .long p8 :: [])) (fun kk => aw_callV (As := []) (metX4_of _ _ ep11) (rcv_o okX4 s12) rfl mok_X4_of q1055 q1056 q1057 q122 q1058 (Nat.le_of_ble_eq_true rfl) (Nat.le_of_ble_eq_true rfl) rfl hl.1 rfl (Nat.le_of_ble_eq_true rfl) (pc := 24) dX1_across_24 kk) ?_
    refine sp_m (aw_iload_n (pc := 27) dX1_across_27 rfl (lv_at hl 2 rfl)) ?_
    refine sp_b fun p13 ep13 => ?_
    refine sp_m (G' := AW (KX1_across l D h0 hE v) p1 (31) ls (.long p13 :: [])) (fun kk => aw_callS (As := [.long p8, .long p11, .int a2]) (metX1_lowest _ _ ep13) mok_X1_lowest q1060 q1061 q116 q1062 (Nat.le_of_ble_eq_true rfl) (Nat.le_of_ble_eq_true rfl) rfl hl.1 rfl (Nat.le_of_ble_eq_true rfl) (pc := 28) dX1_across_28 kk) ?_
    refine sp_m (aw_goto (tgt := 40) (pc := 31) dX1_across_31 (by decide)) ?_
    exact sp_r fun hz => aw_lret hz rfl rfl rfl (pc := 40) dX1_across_40
theorem mok_X4_become : mOK yX4_become 1 := ⟨⟨by decide +kernel, by decide +kernel⟩, by decide +kernel⟩
abbrev KX4_become (l : Launch) (D : DD) (h0 hE : AH) : KT := (l, yX4_become, cX4_become, 2, none, RX4, 1, D, h0, hE, .inl (none), false, [])
theorem metX4_become (l : Launch) (D : DD) {a0 : Nat} {a1 : Nat} {h0 : AH} {hE : AH} (hr : fX4_become a0 a1 h0 = some hE) : AMet (KX4_become l D h0 hE) [.ref a0, .ref a1] := by
  refine AMet.of (K := (KX4_become l D h0 hE)) rfl ⟨_, rfl⟩ rfl rfl rfl (Nat.le_of_ble_eq_true rfl) (fun ls hl => ?_)
  have hl : lv_has ls 2 [(0, .ref a0), (1, .ref a1)] := hl
  suffices hsp : SP (fX4_become a0 a1 h0) (fun z => z = hE) (AW (KX4_become l D h0 hE) h0 0 ls []) from hsp _ hr rfl
  unfold fX4_become
  refine sp_m (aw_aload_n (pc := 0) dX4_become_0 rfl (lv_at hl 0 rfl)) ?_
  refine sp_m (aw_aload_n (pc := 1) dX4_become_1 rfl (lv_at hl 1 rfl)) ?_
  refine sp_g fun s1 => ?_
  refine sp_b fun x2 ex2 => ?_
  refine sp_m (aw_get (k := 3) okX4 s1 (by decide) q279 (Or.inl rfl) (congrArg va_rf ex2) (pc := 2) dX4_become_2) ?_
  refine sp_g fun s3 => ?_
  refine sp_t fun h4 eh40 => ?_
  have eh4 : gS h4 = gS h0 := by rw [eh40]; rfl
  refine sp_m (aw_put (k := 3) okX4 opX4 s3 (by decide) q279 (Or.inl rfl) (Or.inl rfl) (hasV_R' eh40) rfl rfl (pc := 5) dX4_become_5) ?_
  refine sp_m (aw_aload_n (pc := 8) dX4_become_8 rfl (lv_at hl 0 rfl)) ?_
  refine sp_m (aw_aload_n (pc := 9) dX4_become_9 rfl (lv_at hl 1 rfl)) ?_
  refine sp_m (aw_get (k := 4) okX4 (uS eh4 s1) (by decide) q280 (Or.inl rfl) rfl (pc := 10) dX4_become_10) ?_
  refine sp_t fun h5 eh50 => ?_
  have eh5 : gS h5 = gS h4 := by rw [eh50]; rfl
  refine sp_m (aw_put (k := 4) okX4 opX4 (uS eh4 s3) (by decide) q280 (Or.inl rfl) (Or.inl rfl) (hasV_I' eh50) rfl rfl (pc := 13) dX4_become_13) ?_
  refine sp_m (aw_aload_n (pc := 16) dX4_become_16 rfl (lv_at hl 0 rfl)) ?_
  refine sp_m (aw_aload_n (pc := 17) dX4_become_17 rfl (lv_at hl 1 rfl)) ?_
  refine sp_m (aw_get (k := 5) okX4 (uS eh5 (uS eh4 s1)) (by decide) q282 (Or.inl rfl) rfl (pc := 18) dX4_become_18) ?_
  refine sp_t fun h6 eh60 => ?_
  have eh6 : gS h6 = gS h5 := by rw [eh60]; rfl
  refine sp_m (aw_put (k := 5) okX4 opX4 (uS eh5 (uS eh4 s3)) (by decide) q282 (Or.inl rfl) (Or.inl rfl) (hasV_I' eh60) rfl rfl (pc := 21) dX4_become_21) ?_
  refine sp_m (aw_aload_n (pc := 24) dX4_become_24 rfl (lv_at hl 0 rfl)) ?_
  refine sp_m (aw_aload_n (pc := 25) dX4_become_25 rfl (lv_at hl 1 rfl)) ?_
  refine sp_m (aw_get (k := 6) okX4 (uS eh6 (uS eh5 (uS eh4 s1))) (by decide) q284 (Or.inl rfl) rfl (pc := 26) dX4_become_26) ?_
  refine sp_g fun g7 => ?_
  refine sp_t fun h8 eh80 => ?_
  have eh8 : gS h8 = gS h6 := by rw [eh80]; rfl
  refine sp_m (aw_put (k := 6) okX4 opX4 (uS eh6 (uS eh5 (uS eh4 s3))) (by decide) q284 (Or.inl rfl) (Or.inl rfl) (hasV_I' eh80) (nar_b g7) (fit_b g7) (pc := 29) dX4_become_29) ?_
  refine sp_m (aw_aload_n (pc := 32) dX4_become_32 rfl (lv_at hl 1 rfl)) ?_
  refine sp_b fun x9 ex9 => ?_
  refine sp_m (aw_get (k := 0) okX4 (uS eh8 (uS eh6 (uS eh5 (uS eh4 s1)))) (by decide) q273 (Or.inl rfl) (congrArg va_rf ex9) (pc := 33) dX4_become_33) ?_
  refine sp_m (aw_iconst (v := 0) (pc := 36) dX4_become_36 rfl) ?_
  refine sp_m (aw_aload_n (pc := 37) dX4_become_37 rfl (lv_at hl 0 rfl)) ?_
  refine sp_b fun x10 ex10 => ?_
  refine sp_m (aw_get (k := 0) okX4 (uS eh8 (uS eh6 (uS eh5 (uS eh4 s3)))) (by decide) q273 (Or.inl rfl) (congrArg va_rf ex10) (pc := 38) dX4_become_38) ?_
  refine sp_m (aw_iconst (v := 0) (pc := 41) dX4_become_41 rfl) ?_
  refine sp_m (aw_iconst (v := 5) (pc := 42) dX4_become_42 rfl) ?_
  refine sp_g fun s11 => ?_
  refine sp_g fun s12 => ?_
  refine sp_g fun g13a => ?_
  refine sp_g fun g13b => ?_
  refine sp_t fun h14 eh140 => ?_
  have eh14 : gS h14 = gS h8 := by rw [eh140]; rfl
  refine sp_m (fun kk => aw_copy hl.1 s11 s12 (by decide) (by decide) (by decide) g13a g13b q926 q928 q927 q143 (Nat.le_of_ble_eq_true rfl) rfl (pc := 43) dX4_become_43 (AWe eh140 kk)) ?_
  refine sp_m (aw_aload_n (pc := 46) dX4_become_46 rfl (lv_at hl 1 rfl)) ?_
  refine sp_b fun x15 ex15 => ?_
  refine sp_m (aw_get (k := 1) okX4 (uS eh14 (uS eh8 (uS eh6 (uS eh5 (uS eh4 s1))))) (by decide) q275 (Or.inl rfl) (congrArg va_rf ex15) (pc := 47) dX4_become_47) ?_
  refine sp_m (aw_iconst (v := 0) (pc := 50) dX4_become_50 rfl) ?_
  refine sp_m (aw_aload_n (pc := 51) dX4_become_51 rfl (lv_at hl 0 rfl)) ?_
  refine sp_b fun x16 ex16 => ?_
  refine sp_m (aw_get (k := 1) okX4 (uS eh14 (uS eh8 (uS eh6 (uS eh5 (uS eh4 s3))))) (by decide) q275 (Or.inl rfl) (congrArg va_rf ex16) (pc := 52) dX4_become_52) ?_
  refine sp_m (aw_iconst (v := 0) (pc := 55) dX4_become_55 rfl) ?_
  refine sp_m (aw_iconst (v := 5) (pc := 56) dX4_become_56 rfl) ?_
  refine sp_g fun s17 => ?_
  refine sp_g fun s18 => ?_
  refine sp_g fun g19a => ?_
  refine sp_g fun g19b => ?_
  refine sp_t fun h20 eh200 => ?_
  have eh20 : gS h20 = gS h14 := by rw [eh200]; rfl
  refine sp_m (fun kk => aw_copy hl.1 s17 s18 (by decide) (by decide) (by decide) g19a g19b q926 q928 q927 q143 (Nat.le_of_ble_eq_true rfl) rfl (pc := 57) dX4_become_57 (AWe eh200 kk)) ?_
  refine sp_m (aw_aload_n (pc := 60) dX4_become_60 rfl (lv_at hl 1 rfl)) ?_
  refine sp_b fun x21 ex21 => ?_
  refine sp_m (aw_get (k := 2) okX4 (uS eh20 (uS eh14 (uS eh8 (uS eh6 (uS eh5 (uS eh4 s1)))))) (by decide) q277 (Or.inl rfl) (congrArg va_rf ex21) (pc := 61) dX4_become_61) ?_
  refine sp_m (aw_iconst (v := 0) (pc := 64) dX4_become_64 rfl) ?_
  refine sp_m (aw_aload_n (pc := 65) dX4_become_65 rfl (lv_at hl 0 rfl)) ?_
  refine sp_b fun x22 ex22 => ?_
  refine sp_m (aw_get (k := 2) okX4 (uS eh20 (uS eh14 (uS eh8 (uS eh6 (uS eh5 (uS eh4 s3)))))) (by decide) q277 (Or.inl rfl) (congrArg va_rf ex22) (pc := 66) dX4_become_66) ?_
  refine sp_m (aw_iconst (v := 0) (pc := 69) dX4_become_69 rfl) ?_
  refine sp_m (aw_bipush (v := 6) (pc := 70) dX4_become_70 rfl) ?_
  refine sp_g fun s23 => ?_
  refine sp_g fun s24 => ?_
  refine sp_g fun g25a => ?_
  refine sp_g fun g25b => ?_
  refine sp_t fun h26 eh260 => ?_
  have eh26 : gS h26 = gS h20 := by rw [eh260]; rfl
  refine sp_m (fun kk => aw_copy hl.1 s23 s24 (by decide) (by decide) (by decide) g25a g25b q926 q928 q927 q143 (Nat.le_of_ble_eq_true rfl) rfl (pc := 72) dX4_become_72 (AWe eh260 kk)) ?_
  exact sp_r fun hz => aw_vret hz rfl rfl rfl (pc := 75) dX4_become_75
theorem mok_X9_left : mOK yX9_left 2 := ⟨⟨by decide +kernel, by decide +kernel⟩, by decide +kernel⟩
abbrev KX9_left (l : Launch) (D : DD) (h0 : AH) (v : Int32) : KT := (l, yX9_left, cX9_left, 3, (some .int), RX9, 1, D, h0, h0, .inl (some (.int v)), false, [])
theorem metX9_left (l : Launch) (D : DD) {a0 : Nat} {a1 : Int32} {a2 : Int32} {h0 : AH} {v : Int32} (hr : fX9_left a0 a1 a2 h0 = some v) : AMet (KX9_left l D h0 v) [.ref a0, .int a1, .int a2] := by
  refine AMet.of (K := (KX9_left l D h0 v)) rfl ⟨_, rfl⟩ rfl rfl rfl (Nat.le_of_ble_eq_true rfl) (fun ls hl => ?_)
  have hl : lv_has ls 3 [(0, .ref a0), (1, .int a1), (2, .int a2)] := hl
  suffices hsp : SP (fX9_left a0 a1 a2 h0) (fun z => z = v) (AW (KX9_left l D h0 v) h0 0 ls []) from hsp _ hr rfl
  unfold fX9_left
  refine sp_m (aw_iload_n (pc := 0) dX9_left_0 rfl (lv_at hl 1 rfl)) ?_
  exact sp_r fun hz => aw_iret (congrArg (fun z => (z, h0)) hz) rfl rfl rfl (pc := 1) dX9_left_1
theorem mok_X11_left : mOK yX11_left 2 := ⟨⟨by decide +kernel, by decide +kernel⟩, by decide +kernel⟩
abbrev KX11_left (l : Launch) (D : DD) (h0 : AH) (v : Int32) : KT := (l, yX11_left, cX11_left, 3, (some .int), RX11, 2, D, h0, h0, .inl (some (.int v)), false, [])
theorem metX11_left (l : Launch) (D : DD) {a0 : Nat} {a1 : Int32} {a2 : Int32} {h0 : AH} {v : Int32} (hr : fX11_left a0 a1 a2 h0 = some v) : AMet (KX11_left l D h0 v) [.ref a0, .int a1, .int a2] := by
  refine AMet.of (K := (KX11_left l D h0 v)) rfl ⟨_, rfl⟩ rfl rfl rfl (Nat.le_of_ble_eq_true rfl) (fun ls hl => ?_)
  have hl : lv_has ls 3 [(0, .ref a0), (1, .int a1), (2, .int a2)] := hl
  suffices hsp : SP (fX11_left a0 a1 a2 h0) (fun z => z = v) (AW (KX11_left l D h0 v) h0 0 ls []) from hsp _ hr rfl
  unfold fX11_left
  refine sp_m (aw_aload_n (pc := 0) dX11_left_0 rfl (lv_at hl 0 rfl)) ?_
  refine sp_m (aw_iload_n (pc := 1) dX11_left_1 rfl (lv_at hl 1 rfl)) ?_
  refine sp_m (aw_iload_n (pc := 2) dX11_left_2 rfl (lv_at hl 2 rfl)) ?_
  refine sp_g fun s2 => ?_
  refine sp_b fun p1 ep1 => ?_
  refine sp_m (G' := AW (KX11_left l D h0 v) h0 (6) ls (.int p1 :: [])) (fun kk => aw_callSU (As := [.int a1, .int a2]) (metX9_left _ _ ep1) okX11 s2 mok_X9_left (by decide) q1394 q1390 q774 q1388 q132 q1395 (Nat.le_of_ble_eq_true rfl) (Nat.le_of_ble_eq_true rfl) rfl hl.1 rfl (Nat.le_of_ble_eq_true rfl) (pc := 3) dX11_left_3 kk) ?_
  refine sp_m (aw_iload_n (pc := 6) dX11_left_6 rfl (lv_at hl 2 rfl)) ?_
  refine sp_m (aw_isub (pc := 7) dX11_left_7) ?_
  exact sp_r fun hz => aw_iret (congrArg (fun z => (z, h0)) hz) rfl rfl rfl (pc := 8) dX11_left_8
theorem mok_X11_foes : mOK yX11_foes 3 := ⟨⟨by decide +kernel, by decide +kernel⟩, by decide +kernel⟩
abbrev KX11_foes (l : Launch) (D : DD) (h0 : AH) (v : Int32) : KT := (l, yX11_foes, cX11_foes, 4, (some .int), RX11, 1, D, h0, h0, .inl (some (.int v)), false, [])
theorem metX11_foes (l : Launch) (D : DD) {a0 : Nat} {a1 : Nat} {a2 : Int32} {a3 : Int32} {h0 : AH} {v : Int32} (hr : fX11_foes a0 a1 a2 a3 h0 = some v) : AMet (KX11_foes l D h0 v) [.ref a0, .ref a1, .int a2, .int a3] := by
  refine AMet.of (K := (KX11_foes l D h0 v)) rfl ⟨_, rfl⟩ rfl rfl rfl (Nat.le_of_ble_eq_true rfl) (fun ls hl => ?_)
  have hl : lv_has ls 4 [(0, .ref a0), (1, .ref a1), (2, .int a2), (3, .int a3)] := hl
  suffices hsp : SP (fX11_foes a0 a1 a2 a3 h0) (fun z => z = v) (AW (KX11_foes l D h0 v) h0 0 ls []) from hsp _ hr rfl
  unfold fX11_foes
  refine sp_m (aw_iload_n (pc := 0) dX11_foes_0 rfl (lv_at hl 2 rfl)) ?_
  refine sp_m (aw_iload_n (pc := 1) dX11_foes_1 rfl (lv_at hl 3 rfl)) ?_
  refine sp_if (fun c1 => ?_) (fun c1 => ?_)
  · refine sp_m (aw_icmp_le_t (tgt := 9) (pc := 2) dX11_foes_2 (by decide) c1) ?_
    refine sp_m (aw_iload_n (pc := 9) dX11_foes_9 rfl (lv_at hl 2 rfl)) ?_
    refine sp_m (aw_iconst (v := 2) (pc := 10) dX11_foes_10 rfl) ?_
    refine sp_m (aw_idiv (pc := 11) dX11_foes_11 (by decide)) ?_
    exact sp_r fun hz => aw_iret (congrArg (fun z => (z, h0)) hz) rfl rfl rfl (pc := 12) dX11_foes_12
  · refine sp_m (aw_icmp_le_f (tgt := 9) (pc := 2) dX11_foes_2 (by decide) c1) ?_
    refine sp_m (aw_iload_n (pc := 5) dX11_foes_5 rfl (lv_at hl 3 rfl)) ?_
    refine sp_m (aw_goto (tgt := 12) (pc := 6) dX11_foes_6 (by decide)) ?_
    exact sp_r fun hz => aw_iret (congrArg (fun z => (z, h0)) hz) rfl rfl rfl (pc := 12) dX11_foes_12
theorem mok_X14_force : mOK yX14_force 0 := ⟨⟨by decide +kernel, by decide +kernel⟩, by decide +kernel⟩
abbrev KX14_force (l : Launch) (D : DD) (h0 : AH) (v : Int32) : KT := (l, yX14_force, cX14_force, 1, (some .int), RX14, 1, D, h0, h0, .inl (some (.int v)), false, [])
theorem metX14_force (l : Launch) (D : DD) {a0 : Nat} {h0 : AH} {v : Int32} (hr : fX14_force a0 h0 = some v) : AMet (KX14_force l D h0 v) [.ref a0] := by
  refine AMet.of (K := (KX14_force l D h0 v)) rfl ⟨_, rfl⟩ rfl rfl rfl (Nat.le_of_ble_eq_true rfl) (fun ls hl => ?_)
  have hl : lv_has ls 1 [(0, .ref a0)] := hl
  suffices hsp : SP (fX14_force a0 h0) (fun z => z = v) (AW (KX14_force l D h0 v) h0 0 ls []) from hsp _ hr rfl
  unfold fX14_force
  refine sp_m (aw_bipush (v := 20) (pc := 0) dX14_force_0 rfl) ?_
  exact sp_r fun hz => aw_iret (congrArg (fun z => (z, h0)) hz) rfl rfl rfl (pc := 2) dX14_force_2
theorem mok_X16_force : mOK yX16_force 0 := ⟨⟨by decide +kernel, by decide +kernel⟩, by decide +kernel⟩
abbrev KX16_force (l : Launch) (D : DD) (h0 : AH) (v : Int32) : KT := (l, yX16_force, cX16_force, 1, (some .int), RX16, 1, D, h0, h0, .inl (some (.int v)), false, [])
theorem metX16_force (l : Launch) (D : DD) {a0 : Nat} {h0 : AH} {v : Int32} (hr : fX16_force a0 h0 = some v) : AMet (KX16_force l D h0 v) [.ref a0] := by
  refine AMet.of (K := (KX16_force l D h0 v)) rfl ⟨_, rfl⟩ rfl rfl rfl (Nat.le_of_ble_eq_true rfl) (fun ls hl => ?_)
  have hl : lv_has ls 1 [(0, .ref a0)] := hl
  suffices hsp : SP (fX16_force a0 h0) (fun z => z = v) (AW (KX16_force l D h0 v) h0 0 ls []) from hsp _ hr rfl
  unfold fX16_force
  refine sp_m (aw_iconst (v := 5) (pc := 0) dX16_force_0 rfl) ?_
  exact sp_r fun hz => aw_iret (congrArg (fun z => (z, h0)) hz) rfl rfl rfl (pc := 1) dX16_force_1
theorem mok_X17_force : mOK yX17_force 0 := ⟨⟨by decide +kernel, by decide +kernel⟩, by decide +kernel⟩
abbrev KX17_force (l : Launch) (D : DD) (h0 : AH) (v : Int32) : KT := (l, yX17_force, cX17_force, 1, (some .int), RX17, 2, D, h0, h0, .inl (some (.int v)), false, [])
theorem metX17_force (l : Launch) (D : DD) {a0 : Nat} {h0 : AH} {v : Int32} (hr : fX17_force a0 h0 = some v) : AMet (KX17_force l D h0 v) [.ref a0] := by
  refine AMet.of (K := (KX17_force l D h0 v)) rfl ⟨_, rfl⟩ rfl rfl rfl (Nat.le_of_ble_eq_true rfl) (fun ls hl => ?_)
  have hl : lv_has ls 1 [(0, .ref a0)] := hl
  suffices hsp : SP (fX17_force a0 h0) (fun z => z = v) (AW (KX17_force l D h0 v) h0 0 ls []) from hsp _ hr rfl
  unfold fX17_force
  refine sp_m (aw_aload_n (pc := 0) dX17_force_0 rfl (lv_at hl 0 rfl)) ?_
  refine sp_g fun s2 => ?_
  refine sp_b fun p1 ep1 => ?_
  refine sp_m (G' := AW (KX17_force l D h0 v) h0 (4) ls (.int p1 :: [])) (fun kk => aw_callSU (As := []) (metX14_force _ _ ep1) okX17 s2 mok_X14_force (by decide) q1007 q1000 q873 q999 q137 q1008 (Nat.le_of_ble_eq_true rfl) (Nat.le_of_ble_eq_true rfl) rfl hl.1 rfl (Nat.le_of_ble_eq_true rfl) (pc := 1) dX17_force_1 kk) ?_
  refine sp_m (aw_bipush (v := 10) (pc := 4) dX17_force_4 rfl) ?_
  refine sp_m (aw_iadd (pc := 6) dX17_force_6) ?_
  exact sp_r fun hz => aw_iret (congrArg (fun z => (z, h0)) hz) rfl rfl rfl (pc := 7) dX17_force_7
theorem mok_X18_force : mOK yX18_force 0 := ⟨⟨by decide +kernel, by decide +kernel⟩, by decide +kernel⟩
abbrev KX18_force (l : Launch) (D : DD) (h0 : AH) (v : Int32) : KT := (l, yX18_force, cX18_force, 1, (some .int), RX18, 2, D, h0, h0, .inl (some (.int v)), false, [])
theorem metX18_force (l : Launch) (D : DD) {a0 : Nat} {h0 : AH} {v : Int32} (hr : fX18_force a0 h0 = some v) : AMet (KX18_force l D h0 v) [.ref a0] := by
  refine AMet.of (K := (KX18_force l D h0 v)) rfl ⟨_, rfl⟩ rfl rfl rfl (Nat.le_of_ble_eq_true rfl) (fun ls hl => ?_)
  have hl : lv_has ls 1 [(0, .ref a0)] := hl
  suffices hsp : SP (fX18_force a0 h0) (fun z => z = v) (AW (KX18_force l D h0 v) h0 0 ls []) from hsp _ hr rfl
  unfold fX18_force
  refine sp_m (aw_aload_n (pc := 0) dX18_force_0 rfl (lv_at hl 0 rfl)) ?_
  refine sp_g fun s2 => ?_
  refine sp_b fun p1 ep1 => ?_
  refine sp_m (G' := AW (KX18_force l D h0 v) h0 (4) ls (.int p1 :: [])) (fun kk => aw_callSU (As := []) (metX14_force _ _ ep1) okX18 s2 mok_X14_force (by decide) q1012 q1000 q887 q999 q137 q1008 (Nat.le_of_ble_eq_true rfl) (Nat.le_of_ble_eq_true rfl) rfl hl.1 rfl (Nat.le_of_ble_eq_true rfl) (pc := 1) dX18_force_1 kk) ?_
  refine sp_m (aw_iconst (v := 5) (pc := 4) dX18_force_4 rfl) ?_
  refine sp_m (aw_iadd (pc := 5) dX18_force_5) ?_
  exact sp_r fun hz => aw_iret (congrArg (fun z => (z, h0)) hz) rfl rfl rfl (pc := 6) dX18_force_6
theorem fV_X14_force_c {a0 : Nat} {h0 : AH} {v : Int32} (e : fV_X14_force a0 h0 = some v) : (gS h0 a0 = 14 ∧ fX14_force a0 h0 = some v) ∨ (gS h0 a0 = 15 ∧ fX16_force a0 h0 = some v) ∨ (gS h0 a0 = 16 ∧ fX17_force a0 h0 = some v) ∨ (gS h0 a0 = 17 ∧ fX18_force a0 h0 = some v) := by
  unfold fV_X14_force at e
  by_cases z0 : gS h0 a0 = 14
  · rw [if_pos z0] at e; exact Or.inl ⟨z0, e⟩
  rw [if_neg z0] at e
  by_cases z1 : gS h0 a0 = 15
  · rw [if_pos z1] at e; exact Or.inr (Or.inl ⟨z1, e⟩)
  rw [if_neg z1] at e
  by_cases z2 : gS h0 a0 = 16
  · rw [if_pos z2] at e; exact Or.inr (Or.inr (Or.inl ⟨z2, e⟩))
  rw [if_neg z2] at e
  by_cases z3 : gS h0 a0 = 17
  · rw [if_pos z3] at e; exact Or.inr (Or.inr (Or.inr (⟨z3, e⟩)))
  rw [if_neg z3] at e
  cases e
theorem mokV_X14_force : mOK ⟨"ElephantLine$Beast", "force", "()I"⟩ 0 := ⟨⟨by decide +kernel, by decide +kernel⟩, by decide +kernel⟩
theorem mok_X4_force : mOK yX4_force 1 := ⟨⟨by decide +kernel, by decide +kernel⟩, by decide +kernel⟩
abbrev KX4_force (l : Launch) (D : DD) (h0 : AH) (v : Int32) : KT := (l, yX4_force, cX4_force, 2, (some .int), RX4, 3, D, h0, h0, .inl (some (.int v)), false, [])
theorem metX4_force (l : Launch) (D : DD) {a0 : Nat} {a1 : Int32} {h0 : AH} {v : Int32} (hr : fX4_force a0 a1 h0 = some v) : AMet (KX4_force l D h0 v) [.ref a0, .int a1] := by
  refine AMet.of (K := (KX4_force l D h0 v)) rfl ⟨_, rfl⟩ rfl rfl rfl (Nat.le_of_ble_eq_true rfl) (fun ls hl => ?_)
  have hl : lv_has ls 2 [(0, .ref a0), (1, .int a1)] := hl
  suffices hsp : SP (fX4_force a0 a1 h0) (fun z => z = v) (AW (KX4_force l D h0 v) h0 0 ls []) from hsp _ hr rfl
  unfold fX4_force
  refine sp_m (aw_aload_n (pc := 0) dX4_force_0 rfl (lv_at hl 0 rfl)) ?_
  refine sp_m (aw_iload_n (pc := 1) dX4_force_1 rfl (lv_at hl 1 rfl)) ?_
  refine sp_g fun s2 => ?_
  refine sp_b fun p1 ep1 => ?_
  refine sp_m (G' := AW (KX4_force l D h0 v) h0 (5) ls (.int p1 :: [])) (fun kk => aw_callV (As := [.int a1]) (metX4_isDead _ _ ep1) (rcv_o okX4 s2) rfl mok_X4_isDead q997 q964 q965 q122 q966 (Nat.le_of_ble_eq_true rfl) (Nat.le_of_ble_eq_true rfl) rfl hl.1 rfl (Nat.le_of_ble_eq_true rfl) (pc := 2) dX4_force_2 kk) ?_
  refine sp_if (fun c3 => ?_) (fun c3 => ?_)
  · refine sp_m (aw_if_eq_t (tgt := 12) (pc := 5) dX4_force_5 (by decide) c3) ?_
    refine sp_m (aw_iconst (v := 0) (pc := 12) dX4_force_12 rfl) ?_
    refine sp_m (aw_aload_n (pc := 13) dX4_force_13 rfl (lv_at hl 0 rfl)) ?_
    refine sp_b fun x4 ex4 => ?_
    refine sp_m (aw_get (k := 3) okX4 s2 (by decide) q279 (Or.inl rfl) (congrArg va_rf ex4) (pc := 14) dX4_force_14) ?_
    refine sp_g fun s5 => ?_
    refine sp_b fun x6 ex6 => ?_
    refine sp_m (aw_get (k := 3) okX8 s5 (by decide) q489 (Or.inl rfl) (congrArg va_rf ex6) (pc := 17) dX4_force_17) ?_
    refine sp_m (aw_iload_n (pc := 20) dX4_force_20 rfl (lv_at hl 1 rfl)) ?_
    refine sp_g fun s7 => ?_
    refine sp_g fun i8 => ?_
    refine sp_b fun x9 ex9 => ?_
    refine sp_m (aw_aald (t := 5) s7 (by decide) rfl rfl i8 (congrArg va_rf ex9) (pc := 21) dX4_force_21) ?_
    refine sp_b fun p10 ep10 => ?_
    refine sp_m (G' := AW (KX4_force l D h0 v) h0 (25) ls (.int p10 :: .int 0 :: [])) (fun kk => by rcases fV_X14_force_c ep10 with z | z | z | z; exact aw_callU (x := ⟨"ElephantLine$Beast", "force", "()I"⟩) (As := []) (metX14_force _ _ z.2) (rcv_o okX15 z.1) mokV_X14_force q998 q1000 q1013 q999 q137 q1008 (Or.inl ⟨q999, _, _, _, q1008⟩) (Nat.le_of_ble_eq_true rfl) (Nat.le_of_ble_eq_true rfl) rfl hl.1 rfl (Nat.le_of_ble_eq_true rfl) (pc := 22) dX4_force_22 kk; exact aw_callU (x := ⟨"ElephantLine$Beast", "force", "()I"⟩) (As := []) (metX16_force _ _ z.2) (rcv_o okX16 z.1) mokV_X14_force q998 q1000 q1001 q1002 q139 q1003 (Or.inl ⟨q999, _, _, _, q1008⟩) (Nat.le_of_ble_eq_true rfl) (Nat.le_of_ble_eq_true rfl) rfl hl.1 rfl (Nat.le_of_ble_eq_true rfl) (pc := 22) dX4_force_22 kk; exact aw_callU (x := ⟨"ElephantLine$Beast", "force", "()I"⟩) (As := []) (metX17_force _ _ z.2) (rcv_o okX17 z.1) mokV_X14_force q998 q1000 q1004 q1005 q140 q1006 (Or.inl ⟨q999, _, _, _, q1008⟩) (Nat.le_of_ble_eq_true rfl) (Nat.le_of_ble_eq_true rfl) rfl hl.1 rfl (Nat.le_of_ble_eq_true rfl) (pc := 22) dX4_force_22 kk; exact aw_callU (x := ⟨"ElephantLine$Beast", "force", "()I"⟩) (As := []) (metX18_force _ _ z.2) (rcv_o okX18 z.1) mokV_X14_force q998 q1000 q1009 q1010 q141 q1011 (Or.inl ⟨q999, _, _, _, q1008⟩) (Nat.le_of_ble_eq_true rfl) (Nat.le_of_ble_eq_true rfl) rfl hl.1 rfl (Nat.le_of_ble_eq_true rfl) (pc := 22) dX4_force_22 kk) ?_
    refine sp_m (aw_aload_n (pc := 25) dX4_force_25 rfl (lv_at hl 0 rfl)) ?_
    refine sp_b fun x11 ex11 => ?_
    refine sp_m (aw_get (k := 1) okX4 s2 (by decide) q275 (Or.inl rfl) (congrArg va_rf ex11) (pc := 26) dX4_force_26) ?_
    refine sp_m (aw_iload_n (pc := 29) dX4_force_29 rfl (lv_at hl 1 rfl)) ?_
    refine sp_g fun s12 => ?_
    refine sp_g fun i13 => ?_
    refine sp_m (aw_iald s12 i13 (pc := 30) dX4_force_30) ?_
    refine sp_m (aw_isub (pc := 31) dX4_force_31) ?_
    refine sp_m (aw_mmax hl.1 q1014 q1015 q145 q1016 (Nat.le_of_ble_eq_true rfl) (Nat.le_of_ble_eq_true rfl) (pc := 32) dX4_force_32) ?_
    exact sp_r fun hz => aw_iret (congrArg (fun z => (z, h0)) hz) rfl rfl rfl (pc := 35) dX4_force_35
  · refine sp_m (aw_if_eq_f (tgt := 12) (pc := 5) dX4_force_5 (by decide) c3) ?_
    refine sp_m (aw_iconst (v := 0) (pc := 8) dX4_force_8 rfl) ?_
    refine sp_m (aw_goto (tgt := 35) (pc := 9) dX4_force_9 (by decide)) ?_
    exact sp_r fun hz => aw_iret (congrArg (fun z => (z, h0)) hz) rfl rfl rfl (pc := 35) dX4_force_35
theorem mok_X12_foes : mOK yX12_foes 3 := ⟨⟨by decide +kernel, by decide +kernel⟩, by decide +kernel⟩
abbrev KX12_foes (l : Launch) (D : DD) (h0 : AH) (v : Int32) : KT := (l, yX12_foes, cX12_foes, 4, (some .int), RX12, 1, D, h0, h0, .inl (some (.int v)), false, [])
theorem metX12_foes (l : Launch) (D : DD) {a0 : Nat} {a1 : Nat} {a2 : Int32} {a3 : Int32} {h0 : AH} {v : Int32} (hr : fX12_foes a0 a1 a2 a3 h0 = some v) : AMet (KX12_foes l D h0 v) [.ref a0, .ref a1, .int a2, .int a3] := by
  refine AMet.of (K := (KX12_foes l D h0 v)) rfl ⟨_, rfl⟩ rfl rfl rfl (Nat.le_of_ble_eq_true rfl) (fun ls hl => ?_)
  have hl : lv_has ls 4 [(0, .ref a0), (1, .ref a1), (2, .int a2), (3, .int a3)] := hl
  suffices hsp : SP (fX12_foes a0 a1 a2 a3 h0) (fun z => z = v) (AW (KX12_foes l D h0 v) h0 0 ls []) from hsp _ hr rfl
  unfold fX12_foes
  refine sp_m (aw_iload_n (pc := 0) dX12_foes_0 rfl (lv_at hl 3 rfl)) ?_
  refine sp_m (aw_bipush (v := 8) (pc := 1) dX12_foes_1 rfl) ?_
  refine sp_if (fun c1 => ?_) (fun c1 => ?_)
  · refine sp_m (aw_icmp_ge_t (tgt := 11) (pc := 3) dX12_foes_3 (by decide) c1) ?_
    refine sp_m (aw_iconst (v := 0) (pc := 11) dX12_foes_11 rfl) ?_
    refine sp_m (aw_iload_n (pc := 12) dX12_foes_12 rfl (lv_at hl 2 rfl)) ?_
    refine sp_m (aw_iload_n (pc := 13) dX12_foes_13 rfl (lv_at hl 3 rfl)) ?_
    refine sp_m (aw_isub (pc := 14) dX12_foes_14) ?_
    refine sp_m (aw_mmax hl.1 q1114 q1015 q145 q1016 (Nat.le_of_ble_eq_true rfl) (Nat.le_of_ble_eq_true rfl) (pc := 15) dX12_foes_15) ?_
    exact sp_r fun hz => aw_iret (congrArg (fun z => (z, h0)) hz) rfl rfl rfl (pc := 18) dX12_foes_18
  · refine sp_m (aw_icmp_ge_f (tgt := 11) (pc := 3) dX12_foes_3 (by decide) c1) ?_
    refine sp_m (aw_bipush (v := 15) (pc := 6) dX12_foes_6 rfl) ?_
    refine sp_m (aw_goto (tgt := 18) (pc := 8) dX12_foes_8 (by decide)) ?_
    exact sp_r fun hz => aw_iret (congrArg (fun z => (z, h0)) hz) rfl rfl rfl (pc := 18) dX12_foes_18
theorem mok_X14_isFearless : mOK yX14_isFearless 0 := ⟨⟨by decide +kernel, by decide +kernel⟩, by decide +kernel⟩
abbrev KX14_isFearless (l : Launch) (D : DD) (h0 : AH) (v : Int32) : KT := (l, yX14_isFearless, cX14_isFearless, 1, (some .boolean), RX14, 1, D, h0, h0, .inl (some (.int v)), false, [])
theorem metX14_isFearless (l : Launch) (D : DD) {a0 : Nat} {h0 : AH} {v : Int32} (hr : fX14_isFearless a0 h0 = some v) : AMet (KX14_isFearless l D h0 v) [.ref a0] := by
  refine AMet.of (K := (KX14_isFearless l D h0 v)) rfl ⟨_, rfl⟩ rfl rfl rfl (Nat.le_of_ble_eq_true rfl) (fun ls hl => ?_)
  have hl : lv_has ls 1 [(0, .ref a0)] := hl
  suffices hsp : SP (fX14_isFearless a0 h0) (fun z => z = v) (AW (KX14_isFearless l D h0 v) h0 0 ls []) from hsp _ hr rfl
  unfold fX14_isFearless
  refine sp_m (aw_iconst (v := 0) (pc := 0) dX14_isFearless_0 rfl) ?_
  exact sp_r fun hz => aw_zret (nar_b (Or.inl rfl)) (congrArg (fun z => (z, h0)) hz) rfl rfl rfl (pc := 1) dX14_isFearless_1
theorem mok_X17_isFearless : mOK yX17_isFearless 0 := ⟨⟨by decide +kernel, by decide +kernel⟩, by decide +kernel⟩
abbrev KX17_isFearless (l : Launch) (D : DD) (h0 : AH) (v : Int32) : KT := (l, yX17_isFearless, cX17_isFearless, 1, (some .boolean), RX17, 1, D, h0, h0, .inl (some (.int v)), false, [])
theorem metX17_isFearless (l : Launch) (D : DD) {a0 : Nat} {h0 : AH} {v : Int32} (hr : fX17_isFearless a0 h0 = some v) : AMet (KX17_isFearless l D h0 v) [.ref a0] := by
  refine AMet.of (K := (KX17_isFearless l D h0 v)) rfl ⟨_, rfl⟩ rfl rfl rfl (Nat.le_of_ble_eq_true rfl) (fun ls hl => ?_)
  have hl : lv_has ls 1 [(0, .ref a0)] := hl
  suffices hsp : SP (fX17_isFearless a0 h0) (fun z => z = v) (AW (KX17_isFearless l D h0 v) h0 0 ls []) from hsp _ hr rfl
  unfold fX17_isFearless
  refine sp_m (aw_iconst (v := 1) (pc := 0) dX17_isFearless_0 rfl) ?_
  exact sp_r fun hz => aw_zret (nar_b (Or.inr rfl)) (congrArg (fun z => (z, h0)) hz) rfl rfl rfl (pc := 1) dX17_isFearless_1
theorem fV_X14_isFearless_c {a0 : Nat} {h0 : AH} {v : Int32} (e : fV_X14_isFearless a0 h0 = some v) : (gS h0 a0 = 14 ∧ fX14_isFearless a0 h0 = some v) ∨ (gS h0 a0 = 15 ∧ fX14_isFearless a0 h0 = some v) ∨ (gS h0 a0 = 16 ∧ fX17_isFearless a0 h0 = some v) ∨ (gS h0 a0 = 17 ∧ fX14_isFearless a0 h0 = some v) := by
  unfold fV_X14_isFearless at e
  by_cases z0 : gS h0 a0 = 14
  · rw [if_pos z0] at e; exact Or.inl ⟨z0, e⟩
  rw [if_neg z0] at e
  by_cases z1 : gS h0 a0 = 15
  · rw [if_pos z1] at e; exact Or.inr (Or.inl ⟨z1, e⟩)
  rw [if_neg z1] at e
  by_cases z2 : gS h0 a0 = 16
  · rw [if_pos z2] at e; exact Or.inr (Or.inr (Or.inl ⟨z2, e⟩))
  rw [if_neg z2] at e
  by_cases z3 : gS h0 a0 = 17
  · rw [if_pos z3] at e; exact Or.inr (Or.inr (Or.inr (⟨z3, e⟩)))
  rw [if_neg z3] at e
  cases e
theorem mokV_X14_isFearless : mOK ⟨"ElephantLine$Beast", "isFearless", "()Z"⟩ 0 := ⟨⟨by decide +kernel, by decide +kernel⟩, by decide +kernel⟩
theorem mok_X10_foes : mOK yX10_foes 3 := ⟨⟨by decide +kernel, by decide +kernel⟩, by decide +kernel⟩
abbrev KX10_foes (l : Launch) (D : DD) (h0 : AH) (v : Int32) : KT := (l, yX10_foes, cX10_foes, 4, (some .int), RX10, 2, D, h0, h0, .inl (some (.int v)), false, [])
theorem metX10_foes (l : Launch) (D : DD) {a0 : Nat} {a1 : Nat} {a2 : Int32} {a3 : Int32} {h0 : AH} {v : Int32} (hr : fX10_foes a0 a1 a2 a3 h0 = some v) : AMet (KX10_foes l D h0 v) [.ref a0, .ref a1, .int a2, .int a3] := by
  refine AMet.of (K := (KX10_foes l D h0 v)) rfl ⟨_, rfl⟩ rfl rfl rfl (Nat.le_of_ble_eq_true rfl) (fun ls hl => ?_)
  have hl : lv_has ls 4 [(0, .ref a0), (1, .ref a1), (2, .int a2), (3, .int a3)] := hl
  suffices hsp : SP (fX10_foes a0 a1 a2 a3 h0) (fun z => z = v) (AW (KX10_foes l D h0 v) h0 0 ls []) from hsp _ hr rfl
  unfold fX10_foes
  refine sp_m (aw_aload_n (pc := 0) dX10_foes_0 rfl (lv_at hl 1 rfl)) ?_
  refine sp_b fun p1 ep1 => ?_
  refine sp_m (G' := AW (KX10_foes l D h0 v) h0 (4) ls (.int p1 :: [])) (fun kk => by rcases fV_X14_isFearless_c ep1 with z | z | z | z; exact aw_callU (x := ⟨"ElephantLine$Beast", "isFearless", "()Z"⟩) (As := []) (metX14_isFearless _ _ z.2) (rcv_o okX15 z.1) mokV_X14_isFearless q1089 q1091 q1097 q1090 q137 q1098 (Or.inl ⟨q1090, _, _, _, q1098⟩) (Nat.le_of_ble_eq_true rfl) (Nat.le_of_ble_eq_true rfl) rfl hl.1 rfl (Nat.le_of_ble_eq_true rfl) (pc := 1) dX10_foes_1 kk; exact aw_callU (x := ⟨"ElephantLine$Beast", "isFearless", "()Z"⟩) (As := []) (metX14_isFearless _ _ z.2) (rcv_o okX16 z.1) mokV_X14_isFearless q1089 q1091 q1092 q1090 q137 q1098 (Or.inl ⟨q1090, _, _, _, q1098⟩) (Nat.le_of_ble_eq_true rfl) (Nat.le_of_ble_eq_true rfl) rfl hl.1 rfl (Nat.le_of_ble_eq_true rfl) (pc := 1) dX10_foes_1 kk; exact aw_callU (x := ⟨"ElephantLine$Beast", "isFearless", "()Z"⟩) (As := []) (metX17_isFearless _ _ z.2) (rcv_o okX17 z.1) mokV_X14_isFearless q1089 q1091 q1093 q1094 q140 q1095 (Or.inl ⟨q1090, _, _, _, q1098⟩) (Nat.le_of_ble_eq_true rfl) (Nat.le_of_ble_eq_true rfl) rfl hl.1 rfl (Nat.le_of_ble_eq_true rfl) (pc := 1) dX10_foes_1 kk; exact aw_callU (x := ⟨"ElephantLine$Beast", "isFearless", "()Z"⟩) (As := []) (metX14_isFearless _ _ z.2) (rcv_o okX18 z.1) mokV_X14_isFearless q1089 q1091 q1096 q1090 q137 q1098 (Or.inl ⟨q1090, _, _, _, q1098⟩) (Nat.le_of_ble_eq_true rfl) (Nat.le_of_ble_eq_true rfl) rfl hl.1 rfl (Nat.le_of_ble_eq_true rfl) (pc := 1) dX10_foes_1 kk) ?_
  refine sp_if (fun c2 => ?_) (fun c2 => ?_)
  · refine sp_m (aw_if_eq_t (tgt := 12) (pc := 4) dX10_foes_4 (by decide) c2) ?_
    refine sp_m (aw_iconst (v := 0) (pc := 12) dX10_foes_12 rfl) ?_
    exact sp_r fun hz => aw_iret (congrArg (fun z => (z, h0)) hz) rfl rfl rfl (pc := 13) dX10_foes_13
  · refine sp_m (aw_if_eq_f (tgt := 12) (pc := 4) dX10_foes_4 (by decide) c2) ?_
    refine sp_m (aw_bipush (v := 10) (pc := 7) dX10_foes_7 rfl) ?_
    refine sp_m (aw_goto (tgt := 13) (pc := 9) dX10_foes_9 (by decide)) ?_
    exact sp_r fun hz => aw_iret (congrArg (fun z => (z, h0)) hz) rfl rfl rfl (pc := 13) dX10_foes_13
theorem mok_X9_foes : mOK yX9_foes 3 := ⟨⟨by decide +kernel, by decide +kernel⟩, by decide +kernel⟩
abbrev KX9_foes (l : Launch) (D : DD) (h0 : AH) (v : Int32) : KT := (l, yX9_foes, cX9_foes, 4, (some .int), RX9, 1, D, h0, h0, .inl (some (.int v)), false, [])
theorem metX9_foes (l : Launch) (D : DD) {a0 : Nat} {a1 : Nat} {a2 : Int32} {a3 : Int32} {h0 : AH} {v : Int32} (hr : fX9_foes a0 a1 a2 a3 h0 = some v) : AMet (KX9_foes l D h0 v) [.ref a0, .ref a1, .int a2, .int a3] := by
  refine AMet.of (K := (KX9_foes l D h0 v)) rfl ⟨_, rfl⟩ rfl rfl rfl (Nat.le_of_ble_eq_true rfl) (fun ls hl => ?_)
  have hl : lv_has ls 4 [(0, .ref a0), (1, .ref a1), (2, .int a2), (3, .int a3)] := hl
  suffices hsp : SP (fX9_foes a0 a1 a2 a3 h0) (fun z => z = v) (AW (KX9_foes l D h0 v) h0 0 ls []) from hsp _ hr rfl
  unfold fX9_foes
  refine sp_m (aw_iconst (v := 0) (pc := 0) dX9_foes_0 rfl) ?_
  exact sp_r fun hz => aw_iret (congrArg (fun z => (z, h0)) hz) rfl rfl rfl (pc := 1) dX9_foes_1
theorem fV_X9_foes_c {a0 : Nat} {a1 : Nat} {a2 : Int32} {a3 : Int32} {h0 : AH} {v : Int32} (e : fV_X9_foes a0 a1 a2 a3 h0 = some v) : (gS h0 a0 = 10 ∧ fX9_foes a0 a1 a2 a3 h0 = some v) ∨ (gS h0 a0 = 11 ∧ fX10_foes a0 a1 a2 a3 h0 = some v) ∨ (gS h0 a0 = 12 ∧ fX11_foes a0 a1 a2 a3 h0 = some v) ∨ (gS h0 a0 = 13 ∧ fX12_foes a0 a1 a2 a3 h0 = some v) := by
  unfold fV_X9_foes at e
  by_cases z0 : gS h0 a0 = 10
  · rw [if_pos z0] at e; exact Or.inl ⟨z0, e⟩
  rw [if_neg z0] at e
  by_cases z1 : gS h0 a0 = 11
  · rw [if_pos z1] at e; exact Or.inr (Or.inl ⟨z1, e⟩)
  rw [if_neg z1] at e
  by_cases z2 : gS h0 a0 = 12
  · rw [if_pos z2] at e; exact Or.inr (Or.inr (Or.inl ⟨z2, e⟩))
  rw [if_neg z2] at e
  by_cases z3 : gS h0 a0 = 13
  · rw [if_pos z3] at e; exact Or.inr (Or.inr (Or.inr (⟨z3, e⟩)))
  rw [if_neg z3] at e
  cases e
theorem mokV_X9_foes : mOK ⟨"ElephantLine$Stand", "foes", "(LElephantLine$Beast;II)I"⟩ 3 := ⟨⟨by decide +kernel, by decide +kernel⟩, by decide +kernel⟩
theorem mok_X4_foes : mOK yX4_foes 2 := ⟨⟨by decide +kernel, by decide +kernel⟩, by decide +kernel⟩
abbrev KX4_foes (l : Launch) (D : DD) (h0 : AH) (v : Int32) : KT := (l, yX4_foes, cX4_foes, 3, (some .int), RX4, 4, D, h0, h0, .inl (some (.int v)), false, [])
theorem metX4_foes (l : Launch) (D : DD) {a0 : Nat} {a1 : Int32} {a2 : Int32} {h0 : AH} {v : Int32} (hr : fX4_foes a0 a1 a2 h0 = some v) : AMet (KX4_foes l D h0 v) [.ref a0, .int a1, .int a2] := by
  refine AMet.of (K := (KX4_foes l D h0 v)) rfl ⟨_, rfl⟩ rfl rfl rfl (Nat.le_of_ble_eq_true rfl) (fun ls hl => ?_)
  have hl : lv_has ls 3 [(0, .ref a0), (1, .int a1), (2, .int a2)] := hl
  suffices hsp : SP (fX4_foes a0 a1 a2 h0) (fun z => z = v) (AW (KX4_foes l D h0 v) h0 0 ls []) from hsp _ hr rfl
  unfold fX4_foes
  refine sp_m (aw_aload_n (pc := 0) dX4_foes_0 rfl (lv_at hl 0 rfl)) ?_
  refine sp_m (aw_iload_n (pc := 1) dX4_foes_1 rfl (lv_at hl 1 rfl)) ?_
  refine sp_g fun s2 => ?_
  refine sp_b fun p1 ep1 => ?_
  refine sp_m (G' := AW (KX4_foes l D h0 v) h0 (5) ls (.int p1 :: [])) (fun kk => aw_callV (As := [.int a1]) (metX4_isDead _ _ ep1) (rcv_o okX4 s2) rfl mok_X4_isDead q997 q964 q965 q122 q966 (Nat.le_of_ble_eq_true rfl) (Nat.le_of_ble_eq_true rfl) rfl hl.1 rfl (Nat.le_of_ble_eq_true rfl) (pc := 2) dX4_foes_2 kk) ?_
  refine sp_if (fun c3 => ?_) (fun c3 => ?_)
  · refine sp_m (aw_if_eq_t (tgt := 12) (pc := 5) dX4_foes_5 (by decide) c3) ?_
    refine sp_m (aw_aload_n (pc := 12) dX4_foes_12 rfl (lv_at hl 0 rfl)) ?_
    refine sp_b fun x4 ex4 => ?_
    refine sp_m (aw_get (k := 3) okX4 s2 (by decide) q279 (Or.inl rfl) (congrArg va_rf ex4) (pc := 13) dX4_foes_13) ?_
    refine sp_g fun s5 => ?_
    refine sp_b fun x6 ex6 => ?_
    refine sp_m (aw_get (k := 0) okX8 s5 (by decide) q480 (Or.inl rfl) (congrArg va_rf ex6) (pc := 16) dX4_foes_16) ?_
    refine sp_m (aw_iload_n (pc := 19) dX4_foes_19 rfl (lv_at hl 2 rfl)) ?_
    refine sp_g fun s7 => ?_
    refine sp_g fun i8 => ?_
    refine sp_b fun x9 ex9 => ?_
    refine sp_m (aw_aald (t := 6) s7 (by decide) rfl rfl i8 (congrArg va_rf ex9) (pc := 20) dX4_foes_20) ?_
    refine sp_m (aw_aload_n (pc := 21) dX4_foes_21 rfl (lv_at hl 0 rfl)) ?_
    refine sp_b fun x10 ex10 => ?_
    refine sp_m (aw_get (k := 3) okX4 s2 (by decide) q279 (Or.inl rfl) (congrArg va_rf ex10) (pc := 22) dX4_foes_22) ?_
    refine sp_g fun s11 => ?_
    refine sp_b fun x12 ex12 => ?_
    refine sp_m (aw_get (k := 3) okX8 s11 (by decide) q489 (Or.inl rfl) (congrArg va_rf ex12) (pc := 25) dX4_foes_25) ?_
    refine sp_m (aw_iload_n (pc := 28) dX4_foes_28 rfl (lv_at hl 1 rfl)) ?_
    refine sp_g fun s13 => ?_
    refine sp_g fun i14 => ?_
    refine sp_b fun x15 ex15 => ?_
    refine sp_m (aw_aald (t := 5) s13 (by decide) rfl rfl i14 (congrArg va_rf ex15) (pc := 29) dX4_foes_29) ?_
    refine sp_m (aw_aload_n (pc := 30) dX4_foes_30 rfl (lv_at hl 0 rfl)) ?_
    refine sp_m (aw_iload_n (pc := 31) dX4_foes_31 rfl (lv_at hl 1 rfl)) ?_
    refine sp_b fun p16 ep16 => ?_
    refine sp_m (G' := AW (KX4_foes l D h0 v) h0 (35) ls (.int p16 :: .ref x15 :: .ref x9 :: [])) (fun kk => aw_callV (As := [.int a1]) (metX4_force _ _ ep16) (rcv_o okX4 s2) rfl mok_X4_force q1077 q994 q995 q122 q996 (Nat.le_of_ble_eq_true rfl) (Nat.le_of_ble_eq_true rfl) rfl hl.1 rfl (Nat.le_of_ble_eq_true rfl) (pc := 32) dX4_foes_32 kk) ?_
    refine sp_m (aw_aload_n (pc := 35) dX4_foes_35 rfl (lv_at hl 0 rfl)) ?_
    refine sp_b fun x17 ex17 => ?_
    refine sp_m (aw_get (k := 2) okX4 s2 (by decide) q277 (Or.inl rfl) (congrArg va_rf ex17) (pc := 36) dX4_foes_36) ?_
    refine sp_m (aw_iload_n (pc := 39) dX4_foes_39 rfl (lv_at hl 2 rfl)) ?_
    refine sp_g fun s18 => ?_
    refine sp_g fun i19 => ?_
    refine sp_m (aw_iald s18 i19 (pc := 40) dX4_foes_40) ?_
    refine sp_b fun p20 ep20 => ?_
    refine sp_m (G' := AW (KX4_foes l D h0 v) h0 (44) ls (.int p20 :: [])) (fun kk => by rcases fV_X9_foes_c ep20 with z | z | z | z; exact aw_callU (x := ⟨"ElephantLine$Stand", "foes", "(LElephantLine$Beast;II)I"⟩) (As := [.ref x15, .int p16, .int (gI h0 x17 (ix a2))]) (metX9_foes _ _ z.2) (rcv_o okX9 z.1) mokV_X9_foes q1104 q1107 q1106 q1105 q132 q1118 (Or.inl ⟨q1105, _, _, _, q1118⟩) (Nat.le_of_ble_eq_true rfl) (Nat.le_of_ble_eq_true rfl) rfl hl.1 rfl (Nat.le_of_ble_eq_true rfl) (pc := 41) dX4_foes_41 kk; exact aw_callU (x := ⟨"ElephantLine$Stand", "foes", "(LElephantLine$Beast;II)I"⟩) (As := [.ref x15, .int p16, .int (gI h0 x17 (ix a2))]) (metX10_foes _ _ z.2) (rcv_o okX10 z.1) mokV_X9_foes q1104 q1107 q1115 q1116 q133 q1117 (Or.inl ⟨q1105, _, _, _, q1118⟩) (Nat.le_of_ble_eq_true rfl) (Nat.le_of_ble_eq_true rfl) rfl hl.1 rfl (Nat.le_of_ble_eq_true rfl) (pc := 41) dX4_foes_41 kk; exact aw_callU (x := ⟨"ElephantLine$Stand", "foes", "(LElephantLine$Beast;II)I"⟩) (As := [.ref x15, .int p16, .int (gI h0 x17 (ix a2))]) (metX11_foes _ _ z.2) (rcv_o okX11 z.1) mokV_X9_foes q1104 q1107 q1108 q1109 q134 q1110 (Or.inl ⟨q1105, _, _, _, q1118⟩) (Nat.le_of_ble_eq_true rfl) (Nat.le_of_ble_eq_true rfl) rfl hl.1 rfl (Nat.le_of_ble_eq_true rfl) (pc := 41) dX4_foes_41 kk; exact aw_callU (x := ⟨"ElephantLine$Stand", "foes", "(LElephantLine$Beast;II)I"⟩) (As := [.ref x15, .int p16, .int (gI h0 x17 (ix a2))]) (metX12_foes _ _ z.2) (rcv_o okX12 z.1) mokV_X9_foes q1104 q1107 q1111 q1112 q135 q1113 (Or.inl ⟨q1105, _, _, _, q1118⟩) (Nat.le_of_ble_eq_true rfl) (Nat.le_of_ble_eq_true rfl) rfl hl.1 rfl (Nat.le_of_ble_eq_true rfl) (pc := 41) dX4_foes_41 kk) ?_
    exact sp_r fun hz => aw_iret (congrArg (fun z => (z, h0)) hz) rfl rfl rfl (pc := 44) dX4_foes_44
  · refine sp_m (aw_if_eq_f (tgt := 12) (pc := 5) dX4_foes_5 (by decide) c3) ?_
    refine sp_m (aw_iconst (v := 0) (pc := 8) dX4_foes_8 rfl) ?_
    refine sp_m (aw_goto (tgt := 44) (pc := 9) dX4_foes_9 (by decide)) ?_
    exact sp_r fun hz => aw_iret (congrArg (fun z => (z, h0)) hz) rfl rfl rfl (pc := 44) dX4_foes_44
theorem mok_X4_holds : mOK yX4_holds 1 := ⟨⟨by decide +kernel, by decide +kernel⟩, by decide +kernel⟩
abbrev KX4_holds (l : Launch) (D : DD) (h0 hE : AH) (v : Int32) : KT := (l, yX4_holds, cX4_holds, 4, (some .boolean), RX4, 4, D, h0, hE, .inl (some (.int v)), false, [])
theorem metX4_holds (l : Launch) (D : DD) {a0 : Nat} {a1 : Int32} {h0 : AH} {hE : AH} {v : Int32} (hr : fX4_holds a0 a1 h0 = some (v, hE)) : AMet (KX4_holds l D h0 hE v) [.ref a0, .int a1] := by
  refine AMet.of (K := (KX4_holds l D h0 hE v)) rfl ⟨_, rfl⟩ rfl rfl rfl (Nat.le_of_ble_eq_true rfl) (fun ls hl => ?_)
  have hl : lv_has ls 4 [(0, .ref a0), (1, .int a1)] := hl
  suffices hsp : SP (fX4_holds a0 a1 h0) (fun z => z = (v, hE)) (AW (KX4_holds l D h0 hE v) h0 0 ls []) from hsp _ hr rfl
  unfold fX4_holds
  refine sp_m (aw_aload_n (pc := 0) dX4_holds_0 rfl (lv_at hl 0 rfl)) ?_
  refine sp_m (aw_iload_n (pc := 1) dX4_holds_1 rfl (lv_at hl 1 rfl)) ?_
  refine sp_g fun s2 => ?_
  refine sp_b fun p1 ep1 => ?_
  refine sp_m (G' := AW (KX4_holds l D h0 hE v) h0 (5) ls (.int p1 :: [])) (fun kk => aw_callV (As := [.int a1]) (metX4_hold _ _ ep1) (rcv_o okX4 s2) rfl mok_X4_hold q1050 q1018 q1019 q122 q1020 (Nat.le_of_ble_eq_true rfl) (Nat.le_of_ble_eq_true rfl) rfl hl.1 rfl (Nat.le_of_ble_eq_true rfl) (pc := 2) dX4_holds_2 kk) ?_
  refine sp_m (aw_istore_n (lv' := [(2, .int p1), (0, .ref a0), (1, .int a1)]) (pc := 5) dX4_holds_5 rfl hl (by decide) rfl) (sp_all fun ls hl => ?_)
  refine sp_m (aw_iconst (v := 0) (pc := 6) dX4_holds_6 rfl) ?_
  refine sp_m (aw_istore_n (lv' := [(3, .int 0), (2, .int p1), (0, .ref a0), (1, .int a1)]) (pc := 7) dX4_holds_7 rfl hl (by decide) rfl) (sp_all fun ls hl => ?_)
  let P3 : Int32 × AH → Prop := aLP (KX4_holds l D h0 hE v) 4 8 (fun s3v : Int32 × AH => [(0, .ref a0), (2, .int p1), (3, .int s3v.1)]) (fun s3v => s3v.2)
  refine sp_loop (P := P3) (fun s3v => sp_all fun ls hl => ?_) (fun k => k ls (lv_sub hl [2, 1, 0] rfl))
  have hl : lv_has ls 4 [(0, .ref a0), (2, .int p1), (3, .int s3v.1)] := hl
  show SP _ _ (AW (KX4_holds l D h0 hE v) s3v.2 8 ls [])
  unfold X4_holds_L8
  refine sp_m (aw_iload_n (pc := 8) dX4_holds_8 rfl (lv_at hl 2 rfl)) ?_
  refine sp_m (aw_aload_n (pc := 9) dX4_holds_9 rfl (lv_at hl 0 rfl)) ?_
  refine sp_g fun s4 => ?_
  refine sp_b fun x5 ex5 => ?_
  refine sp_m (aw_get (k := 3) okX4 s4 (by decide) q279 (Or.inl rfl) (congrArg va_rf ex5) (pc := 10) dX4_holds_10) ?_
  refine sp_g fun s6 => ?_
  refine sp_m (aw_get (k := 6) okX8 s6 (by decide) q497 (Or.inl rfl) rfl (pc := 13) dX4_holds_13) ?_
  refine sp_if (fun c7 => ?_) (fun c7 => ?_)
  · refine sp_m (aw_icmp_ge_t (tgt := 55) (pc := 16) dX4_holds_16 (by decide) c7) ?_
    refine sp_m (aw_iconst (v := 1) (pc := 55) dX4_holds_55 rfl) ?_
    exact sp_r fun hz => aw_zret (nar_b (Or.inr rfl)) hz rfl rfl rfl (pc := 56) dX4_holds_56
  · refine sp_m (aw_icmp_ge_f (tgt := 55) (pc := 16) dX4_holds_16 (by decide) c7) ?_
    refine sp_m (aw_aload_n (pc := 19) dX4_holds_19 rfl (lv_at hl 0 rfl)) ?_
    refine sp_m (aw_bipush (v := 75) (pc := 20) dX4_holds_20 rfl) ?_
    refine sp_m (aw_aload_n (pc := 22) dX4_holds_22 rfl (lv_at hl 0 rfl)) ?_
    refine sp_m (aw_get (k := 5) okX4 s4 (by decide) q282 (Or.inl rfl) rfl (pc := 23) dX4_holds_23) ?_
    refine sp_m (aw_imul (pc := 26) dX4_holds_26) ?_
    refine sp_m (aw_bipush (v := 74) (pc := 27) dX4_holds_27 rfl) ?_
    refine sp_m (aw_iadd (pc := 29) dX4_holds_29) ?_
    refine sp_m (aw_ldc q1386 (pc := 30) dX4_holds_30) ?_
    refine sp_m (aw_irem (pc := 32) dX4_holds_32 (by decide)) ?_
    refine sp_t fun h8 eh80 => ?_
    have eh8 : gS h8 = gS s3v.2 := by rw [eh80]; rfl
    refine sp_m (aw_put (k := 5) okX4 opX4 s4 (by decide) q282 (Or.inl rfl) (Or.inl rfl) (hasV_I' eh80) rfl rfl (pc := 33) dX4_holds_33) ?_
    refine sp_m (aw_aload_n (pc := 36) dX4_holds_36 rfl (lv_at hl 0 rfl)) ?_
    refine sp_m (aw_get (k := 5) okX4 (uS eh8 s4) (by decide) q282 (Or.inl rfl) rfl (pc := 37) dX4_holds_37) ?_
    refine sp_m (aw_bipush (v := 100) (pc := 40) dX4_holds_40 rfl) ?_
    refine sp_m (aw_irem (pc := 42) dX4_holds_42 (by decide)) ?_
    refine sp_m (aw_iload_n (pc := 43) dX4_holds_43 rfl (lv_at hl 1 rfl)) ?_
    refine sp_if (fun c9 => ?_) (fun c9 => ?_)
    · refine sp_m (aw_icmp_lt_t (tgt := 49) (pc := 44) dX4_holds_44 (by decide) c9) ?_
      refine sp_m (aw_iinc (v := s3v.1 + 1) (lv' := [(3, .int (s3v.1 + 1)), (0, .ref a0), (2, .int p1)]) (pc := 49) dX4_holds_49 hl (k := 2) rfl rfl (by decide) rfl) (sp_all fun ls hl => ?_)
      refine sp_m (aw_goto (tgt := 8) (pc := 52) dX4_holds_52 (by decide)) ?_
      exact sp_r fun hz => hz ls (lv_sub hl [1, 2, 0] rfl)
    · refine sp_m (aw_icmp_lt_f (tgt := 49) (pc := 44) dX4_holds_44 (by decide) c9) ?_
      refine sp_m (aw_iconst (v := 0) (pc := 47) dX4_holds_47 rfl) ?_
      exact sp_r fun hz => aw_zret (nar_b (Or.inl rfl)) hz rfl rfl rfl (pc := 48) dX4_holds_48
theorem mok_X11_own : mOK yX11_own 3 := ⟨⟨by decide +kernel, by decide +kernel⟩, by decide +kernel⟩
abbrev KX11_own (l : Launch) (D : DD) (h0 : AH) (v : Int32) : KT := (l, yX11_own, cX11_own, 4, (some .int), RX11, 1, D, h0, h0, .inl (some (.int v)), false, [])
theorem metX11_own (l : Launch) (D : DD) {a0 : Nat} {a1 : Nat} {a2 : Int32} {a3 : Int32} {h0 : AH} {v : Int32} (hr : fX11_own a0 a1 a2 a3 h0 = some v) : AMet (KX11_own l D h0 v) [.ref a0, .ref a1, .int a2, .int a3] := by
  refine AMet.of (K := (KX11_own l D h0 v)) rfl ⟨_, rfl⟩ rfl rfl rfl (Nat.le_of_ble_eq_true rfl) (fun ls hl => ?_)
  have hl : lv_has ls 4 [(0, .ref a0), (1, .ref a1), (2, .int a2), (3, .int a3)] := hl
  suffices hsp : SP (fX11_own a0 a1 a2 a3 h0) (fun z => z = v) (AW (KX11_own l D h0 v) h0 0 ls []) from hsp _ hr rfl
  unfold fX11_own
  refine sp_m (aw_iload_n (pc := 0) dX11_own_0 rfl (lv_at hl 2 rfl)) ?_
  refine sp_m (aw_iload_n (pc := 1) dX11_own_1 rfl (lv_at hl 3 rfl)) ?_
  refine sp_if (fun c1 => ?_) (fun c1 => ?_)
  · refine sp_m (aw_icmp_le_t (tgt := 9) (pc := 2) dX11_own_2 (by decide) c1) ?_
    refine sp_m (aw_iload_n (pc := 9) dX11_own_9 rfl (lv_at hl 2 rfl)) ?_
    exact sp_r fun hz => aw_iret (congrArg (fun z => (z, h0)) hz) rfl rfl rfl (pc := 10) dX11_own_10
  · refine sp_m (aw_icmp_le_f (tgt := 9) (pc := 2) dX11_own_2 (by decide) c1) ?_
    refine sp_m (aw_iconst (v := 0) (pc := 5) dX11_own_5 rfl) ?_
    refine sp_m (aw_goto (tgt := 10) (pc := 6) dX11_own_6 (by decide)) ?_
    exact sp_r fun hz => aw_iret (congrArg (fun z => (z, h0)) hz) rfl rfl rfl (pc := 10) dX11_own_10
theorem mok_X10_own : mOK yX10_own 3 := ⟨⟨by decide +kernel, by decide +kernel⟩, by decide +kernel⟩
abbrev KX10_own (l : Launch) (D : DD) (h0 : AH) (v : Int32) : KT := (l, yX10_own, cX10_own, 4, (some .int), RX10, 2, D, h0, h0, .inl (some (.int v)), false, [])
theorem metX10_own (l : Launch) (D : DD) {a0 : Nat} {a1 : Nat} {a2 : Int32} {a3 : Int32} {h0 : AH} {v : Int32} (hr : fX10_own a0 a1 a2 a3 h0 = some v) : AMet (KX10_own l D h0 v) [.ref a0, .ref a1, .int a2, .int a3] := by
  refine AMet.of (K := (KX10_own l D h0 v)) rfl ⟨_, rfl⟩ rfl rfl rfl (Nat.le_of_ble_eq_true rfl) (fun ls hl => ?_)
  have hl : lv_has ls 4 [(0, .ref a0), (1, .ref a1), (2, .int a2), (3, .int a3)] := hl
  suffices hsp : SP (fX10_own a0 a1 a2 a3 h0) (fun z => z = v) (AW (KX10_own l D h0 v) h0 0 ls []) from hsp _ hr rfl
  unfold fX10_own
  refine sp_m (aw_aload_n (pc := 0) dX10_own_0 rfl (lv_at hl 1 rfl)) ?_
  refine sp_b fun p1 ep1 => ?_
  refine sp_m (G' := AW (KX10_own l D h0 v) h0 (4) ls (.int p1 :: [])) (fun kk => by rcases fV_X14_isFearless_c ep1 with z | z | z | z; exact aw_callU (x := ⟨"ElephantLine$Beast", "isFearless", "()Z"⟩) (As := []) (metX14_isFearless _ _ z.2) (rcv_o okX15 z.1) mokV_X14_isFearless q1089 q1091 q1097 q1090 q137 q1098 (Or.inl ⟨q1090, _, _, _, q1098⟩) (Nat.le_of_ble_eq_true rfl) (Nat.le_of_ble_eq_true rfl) rfl hl.1 rfl (Nat.le_of_ble_eq_true rfl) (pc := 1) dX10_own_1 kk; exact aw_callU (x := ⟨"ElephantLine$Beast", "isFearless", "()Z"⟩) (As := []) (metX14_isFearless _ _ z.2) (rcv_o okX16 z.1) mokV_X14_isFearless q1089 q1091 q1092 q1090 q137 q1098 (Or.inl ⟨q1090, _, _, _, q1098⟩) (Nat.le_of_ble_eq_true rfl) (Nat.le_of_ble_eq_true rfl) rfl hl.1 rfl (Nat.le_of_ble_eq_true rfl) (pc := 1) dX10_own_1 kk; exact aw_callU (x := ⟨"ElephantLine$Beast", "isFearless", "()Z"⟩) (As := []) (metX17_isFearless _ _ z.2) (rcv_o okX17 z.1) mokV_X14_isFearless q1089 q1091 q1093 q1094 q140 q1095 (Or.inl ⟨q1090, _, _, _, q1098⟩) (Nat.le_of_ble_eq_true rfl) (Nat.le_of_ble_eq_true rfl) rfl hl.1 rfl (Nat.le_of_ble_eq_true rfl) (pc := 1) dX10_own_1 kk; exact aw_callU (x := ⟨"ElephantLine$Beast", "isFearless", "()Z"⟩) (As := []) (metX14_isFearless _ _ z.2) (rcv_o okX18 z.1) mokV_X14_isFearless q1089 q1091 q1096 q1090 q137 q1098 (Or.inl ⟨q1090, _, _, _, q1098⟩) (Nat.le_of_ble_eq_true rfl) (Nat.le_of_ble_eq_true rfl) rfl hl.1 rfl (Nat.le_of_ble_eq_true rfl) (pc := 1) dX10_own_1 kk) ?_
  refine sp_if (fun c2 => ?_) (fun c2 => ?_)
  · refine sp_m (aw_if_eq_t (tgt := 11) (pc := 4) dX10_own_4 (by decide) c2) ?_
    refine sp_m (aw_iload_n (pc := 11) dX10_own_11 rfl (lv_at hl 2 rfl)) ?_
    exact sp_r fun hz => aw_iret (congrArg (fun z => (z, h0)) hz) rfl rfl rfl (pc := 12) dX10_own_12
  · refine sp_m (aw_if_eq_f (tgt := 11) (pc := 4) dX10_own_4 (by decide) c2) ?_
    refine sp_m (aw_iconst (v := 0) (pc := 7) dX10_own_7 rfl) ?_
    refine sp_m (aw_goto (tgt := 12) (pc := 8) dX10_own_8 (by decide)) ?_
    exact sp_r fun hz => aw_iret (congrArg (fun z => (z, h0)) hz) rfl rfl rfl (pc := 12) dX10_own_12
theorem mok_X9_own : mOK yX9_own 3 := ⟨⟨by decide +kernel, by decide +kernel⟩, by decide +kernel⟩
abbrev KX9_own (l : Launch) (D : DD) (h0 : AH) (v : Int32) : KT := (l, yX9_own, cX9_own, 4, (some .int), RX9, 1, D, h0, h0, .inl (some (.int v)), false, [])
theorem metX9_own (l : Launch) (D : DD) {a0 : Nat} {a1 : Nat} {a2 : Int32} {a3 : Int32} {h0 : AH} {v : Int32} (hr : fX9_own a0 a1 a2 a3 h0 = some v) : AMet (KX9_own l D h0 v) [.ref a0, .ref a1, .int a2, .int a3] := by
  refine AMet.of (K := (KX9_own l D h0 v)) rfl ⟨_, rfl⟩ rfl rfl rfl (Nat.le_of_ble_eq_true rfl) (fun ls hl => ?_)
  have hl : lv_has ls 4 [(0, .ref a0), (1, .ref a1), (2, .int a2), (3, .int a3)] := hl
  suffices hsp : SP (fX9_own a0 a1 a2 a3 h0) (fun z => z = v) (AW (KX9_own l D h0 v) h0 0 ls []) from hsp _ hr rfl
  unfold fX9_own
  refine sp_m (aw_iconst (v := 0) (pc := 0) dX9_own_0 rfl) ?_
  exact sp_r fun hz => aw_iret (congrArg (fun z => (z, h0)) hz) rfl rfl rfl (pc := 1) dX9_own_1
theorem fV_X9_own_c {a0 : Nat} {a1 : Nat} {a2 : Int32} {a3 : Int32} {h0 : AH} {v : Int32} (e : fV_X9_own a0 a1 a2 a3 h0 = some v) : (gS h0 a0 = 10 ∧ fX9_own a0 a1 a2 a3 h0 = some v) ∨ (gS h0 a0 = 11 ∧ fX10_own a0 a1 a2 a3 h0 = some v) ∨ (gS h0 a0 = 12 ∧ fX11_own a0 a1 a2 a3 h0 = some v) ∨ (gS h0 a0 = 13 ∧ fX9_own a0 a1 a2 a3 h0 = some v) := by
  unfold fV_X9_own at e
  by_cases z0 : gS h0 a0 = 10
  · rw [if_pos z0] at e; exact Or.inl ⟨z0, e⟩
  rw [if_neg z0] at e
  by_cases z1 : gS h0 a0 = 11
  · rw [if_pos z1] at e; exact Or.inr (Or.inl ⟨z1, e⟩)
  rw [if_neg z1] at e
  by_cases z2 : gS h0 a0 = 12
  · rw [if_pos z2] at e; exact Or.inr (Or.inr (Or.inl ⟨z2, e⟩))
  rw [if_neg z2] at e
  by_cases z3 : gS h0 a0 = 13
  · rw [if_pos z3] at e; exact Or.inr (Or.inr (Or.inr (⟨z3, e⟩)))
  rw [if_neg z3] at e
  cases e
theorem mokV_X9_own : mOK ⟨"ElephantLine$Stand", "own", "(LElephantLine$Beast;II)I"⟩ 3 := ⟨⟨by decide +kernel, by decide +kernel⟩, by decide +kernel⟩
theorem mok_X4_own : mOK yX4_own 2 := ⟨⟨by decide +kernel, by decide +kernel⟩, by decide +kernel⟩
abbrev KX4_own (l : Launch) (D : DD) (h0 : AH) (v : Int32) : KT := (l, yX4_own, cX4_own, 3, (some .int), RX4, 4, D, h0, h0, .inl (some (.int v)), false, [])
theorem metX4_own (l : Launch) (D : DD) {a0 : Nat} {a1 : Int32} {a2 : Int32} {h0 : AH} {v : Int32} (hr : fX4_own a0 a1 a2 h0 = some v) : AMet (KX4_own l D h0 v) [.ref a0, .int a1, .int a2] := by
  refine AMet.of (K := (KX4_own l D h0 v)) rfl ⟨_, rfl⟩ rfl rfl rfl (Nat.le_of_ble_eq_true rfl) (fun ls hl => ?_)
  have hl : lv_has ls 3 [(0, .ref a0), (1, .int a1), (2, .int a2)] := hl
  suffices hsp : SP (fX4_own a0 a1 a2 h0) (fun z => z = v) (AW (KX4_own l D h0 v) h0 0 ls []) from hsp _ hr rfl
  unfold fX4_own
  refine sp_m (aw_aload_n (pc := 0) dX4_own_0 rfl (lv_at hl 0 rfl)) ?_
  refine sp_m (aw_iload_n (pc := 1) dX4_own_1 rfl (lv_at hl 1 rfl)) ?_
  refine sp_g fun s2 => ?_
  refine sp_b fun p1 ep1 => ?_
  refine sp_m (G' := AW (KX4_own l D h0 v) h0 (5) ls (.int p1 :: [])) (fun kk => aw_callV (As := [.int a1]) (metX4_isDead _ _ ep1) (rcv_o okX4 s2) rfl mok_X4_isDead q997 q964 q965 q122 q966 (Nat.le_of_ble_eq_true rfl) (Nat.le_of_ble_eq_true rfl) rfl hl.1 rfl (Nat.le_of_ble_eq_true rfl) (pc := 2) dX4_own_2 kk) ?_
  refine sp_if (fun c3 => ?_) (fun c3 => ?_)
  · refine sp_m (aw_if_eq_t (tgt := 12) (pc := 5) dX4_own_5 (by decide) c3) ?_
    refine sp_m (aw_aload_n (pc := 12) dX4_own_12 rfl (lv_at hl 0 rfl)) ?_
    refine sp_b fun x4 ex4 => ?_
    refine sp_m (aw_get (k := 3) okX4 s2 (by decide) q279 (Or.inl rfl) (congrArg va_rf ex4) (pc := 13) dX4_own_13) ?_
    refine sp_g fun s5 => ?_
    refine sp_b fun x6 ex6 => ?_
    refine sp_m (aw_get (k := 0) okX8 s5 (by decide) q480 (Or.inl rfl) (congrArg va_rf ex6) (pc := 16) dX4_own_16) ?_
    refine sp_m (aw_iload_n (pc := 19) dX4_own_19 rfl (lv_at hl 2 rfl)) ?_
    refine sp_g fun s7 => ?_
    refine sp_g fun i8 => ?_
    refine sp_b fun x9 ex9 => ?_
    refine sp_m (aw_aald (t := 6) s7 (by decide) rfl rfl i8 (congrArg va_rf ex9) (pc := 20) dX4_own_20) ?_
    refine sp_m (aw_aload_n (pc := 21) dX4_own_21 rfl (lv_at hl 0 rfl)) ?_
    refine sp_b fun x10 ex10 => ?_
    refine sp_m (aw_get (k := 3) okX4 s2 (by decide) q279 (Or.inl rfl) (congrArg va_rf ex10) (pc := 22) dX4_own_22) ?_
    refine sp_g fun s11 => ?_
    refine sp_b fun x12 ex12 => ?_
    refine sp_m (aw_get (k := 3) okX8 s11 (by decide) q489 (Or.inl rfl) (congrArg va_rf ex12) (pc := 25) dX4_own_25) ?_
    refine sp_m (aw_iload_n (pc := 28) dX4_own_28 rfl (lv_at hl 1 rfl)) ?_
    refine sp_g fun s13 => ?_
    refine sp_g fun i14 => ?_
    refine sp_b fun x15 ex15 => ?_
    refine sp_m (aw_aald (t := 5) s13 (by decide) rfl rfl i14 (congrArg va_rf ex15) (pc := 29) dX4_own_29) ?_
    refine sp_m (aw_aload_n (pc := 30) dX4_own_30 rfl (lv_at hl 0 rfl)) ?_
    refine sp_m (aw_iload_n (pc := 31) dX4_own_31 rfl (lv_at hl 1 rfl)) ?_
    refine sp_b fun p16 ep16 => ?_
    refine sp_m (G' := AW (KX4_own l D h0 v) h0 (35) ls (.int p16 :: .ref x15 :: .ref x9 :: [])) (fun kk => aw_callV (As := [.int a1]) (metX4_force _ _ ep16) (rcv_o okX4 s2) rfl mok_X4_force q1077 q994 q995 q122 q996 (Nat.le_of_ble_eq_true rfl) (Nat.le_of_ble_eq_true rfl) rfl hl.1 rfl (Nat.le_of_ble_eq_true rfl) (pc := 32) dX4_own_32 kk) ?_
    refine sp_m (aw_aload_n (pc := 35) dX4_own_35 rfl (lv_at hl 0 rfl)) ?_
    refine sp_b fun x17 ex17 => ?_
    refine sp_m (aw_get (k := 2) okX4 s2 (by decide) q277 (Or.inl rfl) (congrArg va_rf ex17) (pc := 36) dX4_own_36) ?_
    refine sp_m (aw_iload_n (pc := 39) dX4_own_39 rfl (lv_at hl 2 rfl)) ?_
    refine sp_g fun s18 => ?_
    refine sp_g fun i19 => ?_
    refine sp_m (aw_iald s18 i19 (pc := 40) dX4_own_40) ?_
    refine sp_b fun p20 ep20 => ?_
    refine sp_m (G' := AW (KX4_own l D h0 v) h0 (44) ls (.int p20 :: [])) (fun kk => by rcases fV_X9_own_c ep20 with z | z | z | z; exact aw_callU (x := ⟨"ElephantLine$Stand", "own", "(LElephantLine$Beast;II)I"⟩) (As := [.ref x15, .int p16, .int (gI h0 x17 (ix a2))]) (metX9_own _ _ z.2) (rcv_o okX9 z.1) mokV_X9_own q1078 q1081 q1080 q1079 q132 q1099 (Or.inl ⟨q1079, _, _, _, q1099⟩) (Nat.le_of_ble_eq_true rfl) (Nat.le_of_ble_eq_true rfl) rfl hl.1 rfl (Nat.le_of_ble_eq_true rfl) (pc := 41) dX4_own_41 kk; exact aw_callU (x := ⟨"ElephantLine$Stand", "own", "(LElephantLine$Beast;II)I"⟩) (As := [.ref x15, .int p16, .int (gI h0 x17 (ix a2))]) (metX10_own _ _ z.2) (rcv_o okX10 z.1) mokV_X9_own q1078 q1081 q1086 q1087 q133 q1088 (Or.inl ⟨q1079, _, _, _, q1099⟩) (Nat.le_of_ble_eq_true rfl) (Nat.le_of_ble_eq_true rfl) rfl hl.1 rfl (Nat.le_of_ble_eq_true rfl) (pc := 41) dX4_own_41 kk; exact aw_callU (x := ⟨"ElephantLine$Stand", "own", "(LElephantLine$Beast;II)I"⟩) (As := [.ref x15, .int p16, .int (gI h0 x17 (ix a2))]) (metX11_own _ _ z.2) (rcv_o okX11 z.1) mokV_X9_own q1078 q1081 q1082 q1083 q134 q1084 (Or.inl ⟨q1079, _, _, _, q1099⟩) (Nat.le_of_ble_eq_true rfl) (Nat.le_of_ble_eq_true rfl) rfl hl.1 rfl (Nat.le_of_ble_eq_true rfl) (pc := 41) dX4_own_41 kk; exact aw_callU (x := ⟨"ElephantLine$Stand", "own", "(LElephantLine$Beast;II)I"⟩) (As := [.ref x15, .int p16, .int (gI h0 x17 (ix a2))]) (metX9_own _ _ z.2) (rcv_o okX12 z.1) mokV_X9_own q1078 q1081 q1085 q1079 q132 q1099 (Or.inl ⟨q1079, _, _, _, q1099⟩) (Nat.le_of_ble_eq_true rfl) (Nat.le_of_ble_eq_true rfl) rfl hl.1 rfl (Nat.le_of_ble_eq_true rfl) (pc := 41) dX4_own_41 kk) ?_
    exact sp_r fun hz => aw_iret (congrArg (fun z => (z, h0)) hz) rfl rfl rfl (pc := 44) dX4_own_44
  · refine sp_m (aw_if_eq_f (tgt := 12) (pc := 5) dX4_own_5 (by decide) c3) ?_
    refine sp_m (aw_iconst (v := 0) (pc := 8) dX4_own_8 rfl) ?_
    refine sp_m (aw_goto (tgt := 44) (pc := 9) dX4_own_9 (by decide)) ?_
    exact sp_r fun hz => aw_iret (congrArg (fun z => (z, h0)) hz) rfl rfl rfl (pc := 44) dX4_own_44
theorem fV_X9_left_c {a0 : Nat} {a1 : Int32} {a2 : Int32} {h0 : AH} {v : Int32} (e : fV_X9_left a0 a1 a2 h0 = some v) : (gS h0 a0 = 10 ∧ fX9_left a0 a1 a2 h0 = some v) ∨ (gS h0 a0 = 11 ∧ fX9_left a0 a1 a2 h0 = some v) ∨ (gS h0 a0 = 12 ∧ fX11_left a0 a1 a2 h0 = some v) ∨ (gS h0 a0 = 13 ∧ fX9_left a0 a1 a2 h0 = some v) := by
  unfold fV_X9_left at e
  by_cases z0 : gS h0 a0 = 10
  · rw [if_pos z0] at e; exact Or.inl ⟨z0, e⟩
  rw [if_neg z0] at e
  by_cases z1 : gS h0 a0 = 11
  · rw [if_pos z1] at e; exact Or.inr (Or.inl ⟨z1, e⟩)
  rw [if_neg z1] at e
  by_cases z2 : gS h0 a0 = 12
  · rw [if_pos z2] at e; exact Or.inr (Or.inr (Or.inl ⟨z2, e⟩))
  rw [if_neg z2] at e
  by_cases z3 : gS h0 a0 = 13
  · rw [if_pos z3] at e; exact Or.inr (Or.inr (Or.inr (⟨z3, e⟩)))
  rw [if_neg z3] at e
  cases e
theorem mokV_X9_left : mOK ⟨"ElephantLine$Stand", "left", "(II)I"⟩ 2 := ⟨⟨by decide +kernel, by decide +kernel⟩, by decide +kernel⟩
theorem mok_X4_fights : mOK yX4_fights 0 := ⟨⟨by decide +kernel, by decide +kernel⟩, by decide +kernel⟩
abbrev KX4_fights (l : Launch) (D : DD) (h0 hE : AH) : KT := (l, yX4_fights, cX4_fights, 4, none, RX4, 5, D, h0, hE, .inl (none), false, [])
theorem metX4_fights (l : Launch) (D : DD) {a0 : Nat} {h0 : AH} {hE : AH} (hr : fX4_fights a0 h0 = some hE) : AMet (KX4_fights l D h0 hE) [.ref a0] := by
  refine AMet.of (K := (KX4_fights l D h0 hE)) rfl ⟨_, rfl⟩ rfl rfl rfl (Nat.le_of_ble_eq_true rfl) (fun ls hl => ?_)
  have hl : lv_has ls 4 [(0, .ref a0)] := hl
  suffices hsp : SP (fX4_fights a0 h0) (fun z => z = hE) (AW (KX4_fights l D h0 hE) h0 0 ls []) from hsp _ hr rfl
  unfold fX4_fights
  refine sp_m (aw_aload_n (pc := 0) dX4_fights_0 rfl (lv_at hl 0 rfl)) ?_
  refine sp_m (aw_iconst (v := 0) (pc := 1) dX4_fights_1 rfl) ?_
  refine sp_g fun s1 => ?_
  refine sp_t fun h2 eh20 => ?_
  have eh2 : gS h2 = gS h0 := by rw [eh20]; rfl
  refine sp_m (aw_put (k := 7) okX4 opX4 s1 (by decide) q286 (Or.inl rfl) (Or.inl rfl) (hasV_I' eh20) rfl rfl (pc := 2) dX4_fights_2) ?_
  refine sp_m (aw_aload_n (pc := 5) dX4_fights_5 rfl (lv_at hl 0 rfl)) ?_
  refine sp_m (aw_iconst (v := 0) (pc := 6) dX4_fights_6 rfl) ?_
  refine sp_t fun h3 eh30 => ?_
  have eh3 : gS h3 = gS h2 := by rw [eh30]; rfl
  refine sp_m (aw_put (k := 8) okX4 opX4 (uS eh2 s1) (by decide) q288 (Or.inl rfl) (Or.inl rfl) (hasV_I' eh30) rfl rfl (pc := 7) dX4_fights_7) ?_
  refine sp_m (aw_aload_n (pc := 10) dX4_fights_10 rfl (lv_at hl 0 rfl)) ?_
  refine sp_m (aw_iconst (v := 0) (pc := 11) dX4_fights_11 rfl) ?_
  refine sp_t fun h4 eh40 => ?_
  have eh4 : gS h4 = gS h3 := by rw [eh40]; rfl
  refine sp_m (aw_put (k := 9) okX4 opX4 (uS eh3 (uS eh2 s1)) (by decide) q290 (Or.inl rfl) (Or.inl rfl) (hasV_I' eh40) rfl rfl (pc := 12) dX4_fights_12) ?_
  refine sp_m (aw_iconst (v := 0) (pc := 15) dX4_fights_15 rfl) ?_
  refine sp_m (aw_istore_n (lv' := [(1, .int 0), (0, .ref a0)]) (pc := 16) dX4_fights_16 rfl hl (by decide) rfl) (sp_all fun ls hl => ?_)
  let P5 : Int32 × AH → Prop := aLP (KX4_fights l D h0 hE) 4 17 (fun s5v : Int32 × AH => [(0, .ref a0), (1, .int s5v.1)]) (fun s5v => s5v.2)
  let E5 : AH → Prop := aLP (KX4_fights l D h0 hE) 4 148 (fun r5v : AH => []) (fun r5v => r5v)
  refine sp_bl (P := P5) (E := E5) (fun s5v => sp_all fun ls hl => ?_) (fun k => k ls (lv_sub hl [1, 0] rfl)) (fun r5v => sp_all fun ls hl => ?_)
  · have hl : lv_has ls 4 [(0, .ref a0), (1, .int s5v.1)] := hl
    show SP _ _ (AW (KX4_fights l D h0 hE) s5v.2 17 ls [])
    unfold X4_fights_L17
    refine sp_m (aw_iload_n (pc := 17) dX4_fights_17 rfl (lv_at hl 1 rfl)) ?_
    refine sp_m (aw_aload_n (pc := 18) dX4_fights_18 rfl (lv_at hl 0 rfl)) ?_
    refine sp_g fun s6 => ?_
    refine sp_b fun x7 ex7 => ?_
    refine sp_m (aw_get (k := 3) okX4 s6 (by decide) q279 (Or.inl rfl) (congrArg va_rf ex7) (pc := 19) dX4_fights_19) ?_
    refine sp_g fun s8 => ?_
    refine sp_m (aw_get (k := 8) okX8 s8 (by decide) q503 (Or.inl rfl) rfl (pc := 22) dX4_fights_22) ?_
    refine sp_if (fun c9 => ?_) (fun c9 => ?_)
    · refine sp_m (aw_icmp_ge_t (tgt := 148) (pc := 25) dX4_fights_25 (by decide) c9) ?_
      exact sp_r fun hz => hz ls (lv_sub hl [] rfl)
    · refine sp_m (aw_icmp_ge_f (tgt := 148) (pc := 25) dX4_fights_25 (by decide) c9) ?_
      refine sp_m (aw_aload_n (pc := 28) dX4_fights_28 rfl (lv_at hl 0 rfl)) ?_
      refine sp_m (aw_iload_n (pc := 29) dX4_fights_29 rfl (lv_at hl 1 rfl)) ?_
      refine sp_b fun p10 ep10 => ?_
      refine sp_m (G' := AW (KX4_fights l D h0 hE) s5v.2 (33) ls (.int p10 :: [])) (fun kk => aw_callV (As := [.int s5v.1]) (metX4_isDead _ _ ep10) (rcv_o okX4 s6) rfl mok_X4_isDead q997 q964 q965 q122 q966 (Nat.le_of_ble_eq_true rfl) (Nat.le_of_ble_eq_true rfl) rfl hl.1 rfl (Nat.le_of_ble_eq_true rfl) (pc := 30) dX4_fights_30 kk) ?_
      have hj142_1 : ∀ h11 : AH, ∀ ls : Array Slot, lv_has ls 4 [(0, .ref a0), (1, .int s5v.1)] → SP (X4_fights_j142 s5v h11) (ZL P5 E5) (AW (KX4_fights l D h0 hE) h11 142 ls ([])) := by
        intro h11 ls hl
        unfold X4_fights_j142
        refine sp_m (aw_iinc (v := s5v.1 + 1) (lv' := [(1, .int (s5v.1 + 1)), (0, .ref a0)]) (pc := 142) dX4_fights_142 hl (k := 1) rfl rfl (by decide) rfl) (sp_all fun ls hl => ?_)
        refine sp_m (aw_goto (tgt := 17) (pc := 145) dX4_fights_145 (by decide)) ?_
        exact sp_r fun hz => hz ls (lv_sub hl [1, 0] rfl)
      refine sp_if (fun c12 => ?_) (fun c12 => ?_)
      · refine sp_m (aw_if_eq_t (tgt := 39) (pc := 33) dX4_fights_33 (by decide) c12) ?_
        refine sp_m (aw_aload_n (pc := 39) dX4_fights_39 rfl (lv_at hl 0 rfl)) ?_
        refine sp_m (aw_iload_n (pc := 40) dX4_fights_40 rfl (lv_at hl 1 rfl)) ?_
        refine sp_b fun p13 ep13 => ?_
        refine sp_m (G' := AW (KX4_fights l D h0 hE) p13.2 (44) ls (.int p13.1 :: [])) (fun kk => aw_callV (As := [.int s5v.1]) (metX4_holds _ _ ep13) (rcv_o okX4 s6) rfl mok_X4_holds q1382 q1384 qs46 q122 q1385 (Nat.le_of_ble_eq_true rfl) (Nat.le_of_ble_eq_true rfl) rfl hl.1 rfl (Nat.le_of_ble_eq_true rfl) (pc := 41) dX4_fights_41 kk) ?_
        refine sp_if (fun c14 => ?_) (fun c14 => ?_)
        · refine sp_m (aw_if_ne_t (tgt := 66) (pc := 44) dX4_fights_44 (by decide) c14) ?_
          refine sp_m (aw_aload_n (pc := 66) dX4_fights_66 rfl (lv_at hl 0 rfl)) ?_
          refine sp_m (aw_dup (pc := 67) dX4_fights_67 rfl) ?_
          refine sp_g fun s15 => ?_
          refine sp_m (aw_get (k := 9) okX4 s15 (by decide) q290 (Or.inl rfl) rfl (pc := 68) dX4_fights_68) ?_
          refine sp_m (aw_iconst (v := 1) (pc := 71) dX4_fights_71 rfl) ?_
          refine sp_m (aw_iload_n (pc := 72) dX4_fights_72 rfl (lv_at hl 1 rfl)) ?_
          refine sp_m (aw_ishl (pc := 73) dX4_fights_73) ?_
          refine sp_m (aw_ior (pc := 74) dX4_fights_74) ?_
          refine sp_t fun h16 eh160 => ?_
          have eh16 : gS h16 = gS p13.2 := by rw [eh160]; rfl
          refine sp_m (aw_put (k := 9) okX4 opX4 s15 (by decide) q290 (Or.inl rfl) (Or.inl rfl) (hasV_I' eh160) rfl rfl (pc := 75) dX4_fights_75) ?_
          refine sp_m (aw_aload_n (pc := 78) dX4_fights_78 rfl (lv_at hl 0 rfl)) ?_
          refine sp_b fun x17 ex17 => ?_
          refine sp_m (aw_get (k := 0) okX4 (uS eh16 s15) (by decide) q273 (Or.inl rfl) (congrArg va_rf ex17) (pc := 79) dX4_fights_79) ?_
          refine sp_m (aw_iload_n (pc := 82) dX4_fights_82 rfl (lv_at hl 1 rfl)) ?_
          refine sp_g fun s18 => ?_
          refine sp_g fun i19 => ?_
          refine sp_m (aw_iald s18 i19 (pc := 83) dX4_fights_83) ?_
          refine sp_m (aw_istore_n (lv' := [(2, .int (gI h16 x17 (ix s5v.1))), (0, .ref a0), (1, .int s5v.1)]) (pc := 84) dX4_fights_84 rfl hl (by decide) rfl) (sp_all fun ls hl => ?_)
          refine sp_m (aw_aload_n (pc := 85) dX4_fights_85 rfl (lv_at hl 1 rfl)) ?_
          refine sp_m (aw_iload_n (pc := 86) dX4_fights_86 rfl (lv_at hl 2 rfl)) ?_
          refine sp_m (aw_iload_n (pc := 87) dX4_fights_87 rfl (lv_at hl 0 rfl)) ?_
          refine sp_b fun p20 ep20 => ?_
          refine sp_m (G' := AW (KX4_fights l D h0 hE) h16 (91) ls (.int p20 :: [])) (fun kk => aw_callV (As := [.int s5v.1, .int (gI h16 x17 (ix s5v.1))]) (metX4_foes _ _ ep20) (rcv_o okX4 (uS eh16 s15)) rfl mok_X4_foes q1134 q1101 q1102 q122 q1103 (Nat.le_of_ble_eq_true rfl) (Nat.le_of_ble_eq_true rfl) rfl hl.1 rfl (Nat.le_of_ble_eq_true rfl) (pc := 88) dX4_fights_88 kk) ?_
          refine sp_m (aw_istore_n (lv' := [(3, .int p20), (2, .int (gI h16 x17 (ix s5v.1))), (0, .ref a0), (1, .int s5v.1)]) (pc := 91) dX4_fights_91 rfl hl (by decide) rfl) (sp_all fun ls hl => ?_)
          refine sp_m (aw_aload_n (pc := 92) dX4_fights_92 rfl (lv_at hl 2 rfl)) ?_
          refine sp_m (aw_dup (pc := 93) dX4_fights_93 rfl) ?_
          refine sp_m (aw_get (k := 7) okX4 (uS eh16 s15) (by decide) q286 (Or.inl rfl) rfl (pc := 94) dX4_fights_94) ?_
          refine sp_m (aw_iload_n (pc := 97) dX4_fights_97 rfl (lv_at hl 0 rfl)) ?_
          refine sp_m (aw_iadd (pc := 98) dX4_fights_98) ?_
          refine sp_t fun h21 eh210 => ?_
          have eh21 : gS h21 = gS h16 := by rw [eh210]; rfl
          refine sp_m (aw_put (k := 7) okX4 opX4 (uS eh16 s15) (by decide) q286 (Or.inl rfl) (Or.inl rfl) (hasV_I' eh210) rfl rfl (pc := 99) dX4_fights_99) ?_
          refine sp_m (aw_aload_n (pc := 102) dX4_fights_102 rfl (lv_at hl 2 rfl)) ?_
          refine sp_m (aw_dup (pc := 103) dX4_fights_103 rfl) ?_
          refine sp_m (aw_get (k := 8) okX4 (uS eh21 (uS eh16 s15)) (by decide) q288 (Or.inl rfl) rfl (pc := 104) dX4_fights_104) ?_
          refine sp_m (aw_aload_n (pc := 107) dX4_fights_107 rfl (lv_at hl 2 rfl)) ?_
          refine sp_m (aw_iload_n (pc := 108) dX4_fights_108 rfl (lv_at hl 3 rfl)) ?_
          refine sp_m (aw_iload_n (pc := 109) dX4_fights_109 rfl (lv_at hl 1 rfl)) ?_
          refine sp_b fun p22 ep22 => ?_
          refine sp_m (G' := AW (KX4_fights l D h0 hE) h21 (113) ls (.int p22 :: .int (gI h21 a0 8) :: .ref a0 :: [])) (fun kk => aw_callV (As := [.int s5v.1, .int (gI h16 x17 (ix s5v.1))]) (metX4_own _ _ ep22) (rcv_o okX4 (uS eh21 (uS eh16 s15))) rfl mok_X4_own q1128 q1074 q1075 q122 q1076 (Nat.le_of_ble_eq_true rfl) (Nat.le_of_ble_eq_true rfl) rfl hl.1 rfl (Nat.le_of_ble_eq_true rfl) (pc := 110) dX4_fights_110 kk) ?_
          refine sp_m (aw_iadd (pc := 113) dX4_fights_113) ?_
          refine sp_t fun h23 eh230 => ?_
          have eh23 : gS h23 = gS h21 := by rw [eh230]; rfl
          refine sp_m (aw_put (k := 8) okX4 opX4 (uS eh21 (uS eh16 s15)) (by decide) q288 (Or.inl rfl) (Or.inl rfl) (hasV_I' eh230) rfl rfl (pc := 114) dX4_fights_114) ?_
          refine sp_m (aw_aload_n (pc := 117) dX4_fights_117 rfl (lv_at hl 2 rfl)) ?_
          refine sp_b fun x24 ex24 => ?_
          refine sp_m (aw_get (k := 2) okX4 (uS eh23 (uS eh21 (uS eh16 s15))) (by decide) q277 (Or.inl rfl) (congrArg va_rf ex24) (pc := 118) dX4_fights_118) ?_
          refine sp_m (aw_iload_n (pc := 121) dX4_fights_121 rfl (lv_at hl 1 rfl)) ?_
          refine sp_m (aw_aload_n (pc := 122) dX4_fights_122 rfl (lv_at hl 2 rfl)) ?_
          refine sp_b fun x25 ex25 => ?_
          refine sp_m (aw_get (k := 3) okX4 (uS eh23 (uS eh21 (uS eh16 s15))) (by decide) q279 (Or.inl rfl) (congrArg va_rf ex25) (pc := 123) dX4_fights_123) ?_
          refine sp_g fun s26 => ?_
          refine sp_b fun x27 ex27 => ?_
          refine sp_m (aw_get (k := 0) okX8 s26 (by decide) q480 (Or.inl rfl) (congrArg va_rf ex27) (pc := 126) dX4_fights_126) ?_
          refine sp_m (aw_iload_n (pc := 129) dX4_fights_129 rfl (lv_at hl 1 rfl)) ?_
          refine sp_g fun s28 => ?_
          refine sp_g fun i29 => ?_
          refine sp_b fun x30 ex30 => ?_
          refine sp_m (aw_aald (t := 6) s28 (by decide) rfl rfl i29 (congrArg va_rf ex30) (pc := 130) dX4_fights_130) ?_
          refine sp_m (aw_aload_n (pc := 131) dX4_fights_131 rfl (lv_at hl 2 rfl)) ?_
          refine sp_b fun x31 ex31 => ?_
          refine sp_m (aw_get (k := 2) okX4 (uS eh23 (uS eh21 (uS eh16 s15))) (by decide) q277 (Or.inl rfl) (congrArg va_rf ex31) (pc := 132) dX4_fights_132) ?_
          refine sp_m (aw_iload_n (pc := 135) dX4_fights_135 rfl (lv_at hl 1 rfl)) ?_
          refine sp_g fun s32 => ?_
          refine sp_g fun i33 => ?_
          refine sp_m (aw_iald s32 i33 (pc := 136) dX4_fights_136) ?_
          refine sp_m (aw_iload_n (pc := 137) dX4_fights_137 rfl (lv_at hl 0 rfl)) ?_
          refine sp_b fun p34 ep34 => ?_
          refine sp_m (G' := AW (KX4_fights l D h0 hE) h23 (141) ls (.int p34 :: .int (gI h16 x17 (ix s5v.1)) :: .ref x24 :: [])) (fun kk => by rcases fV_X9_left_c ep34 with z | z | z | z; exact aw_callU (x := ⟨"ElephantLine$Stand", "left", "(II)I"⟩) (As := [.int (gI h23 x31 (ix (gI h16 x17 (ix s5v.1)))), .int p20]) (metX9_left _ _ z.2) (rcv_o okX9 z.1) mokV_X9_left q1387 q1390 q1389 q1388 q132 q1395 (Or.inl ⟨q1388, _, _, _, q1395⟩) (Nat.le_of_ble_eq_true rfl) (Nat.le_of_ble_eq_true rfl) rfl hl.1 rfl (Nat.le_of_ble_eq_true rfl) (pc := 138) dX4_fights_138 kk; exact aw_callU (x := ⟨"ElephantLine$Stand", "left", "(II)I"⟩) (As := [.int (gI h23 x31 (ix (gI h16 x17 (ix s5v.1)))), .int p20]) (metX9_left _ _ z.2) (rcv_o okX10 z.1) mokV_X9_left q1387 q1390 q1397 q1388 q132 q1395 (Or.inl ⟨q1388, _, _, _, q1395⟩) (Nat.le_of_ble_eq_true rfl) (Nat.le_of_ble_eq_true rfl) rfl hl.1 rfl (Nat.le_of_ble_eq_true rfl) (pc := 138) dX4_fights_138 kk; exact aw_callU (x := ⟨"ElephantLine$Stand", "left", "(II)I"⟩) (As := [.int (gI h23 x31 (ix (gI h16 x17 (ix s5v.1)))), .int p20]) (metX11_left _ _ z.2) (rcv_o okX11 z.1) mokV_X9_left q1387 q1390 q1391 q1392 q134 q1393 (Or.inl ⟨q1388, _, _, _, q1395⟩) (Nat.le_of_ble_eq_true rfl) (Nat.le_of_ble_eq_true rfl) rfl hl.1 rfl (Nat.le_of_ble_eq_true rfl) (pc := 138) dX4_fights_138 kk; exact aw_callU (x := ⟨"ElephantLine$Stand", "left", "(II)I"⟩) (As := [.int (gI h23 x31 (ix (gI h16 x17 (ix s5v.1)))), .int p20]) (metX9_left _ _ z.2) (rcv_o okX12 z.1) mokV_X9_left q1387 q1390 q1396 q1388 q132 q1395 (Or.inl ⟨q1388, _, _, _, q1395⟩) (Nat.le_of_ble_eq_true rfl) (Nat.le_of_ble_eq_true rfl) rfl hl.1 rfl (Nat.le_of_ble_eq_true rfl) (pc := 138) dX4_fights_138 kk) ?_
          refine sp_g fun s35 => ?_
          refine sp_g fun i36 => ?_
          refine sp_t fun h37 eh370 => ?_
          have eh37 : gS h37 = gS h23 := by rw [eh370]; rfl
          refine sp_m (fun kk => aw_iast s35 i36 (pc := 141) dX4_fights_141 (AWe eh370 kk)) ?_
          exact hj142_1 h37 ls (lv_sub hl [2, 3] rfl)
        · refine sp_m (aw_if_ne_f (tgt := 66) (pc := 44) dX4_fights_44 (by decide) (Decidable.not_not.mp c14)) ?_
          refine sp_m (aw_aload_n (pc := 47) dX4_fights_47 rfl (lv_at hl 0 rfl)) ?_
          refine sp_m (aw_dup (pc := 48) dX4_fights_48 rfl) ?_
          refine sp_g fun s38 => ?_
          refine sp_m (aw_get (k := 8) okX4 s38 (by decide) q288 (Or.inl rfl) rfl (pc := 49) dX4_fights_49) ?_
          refine sp_m (aw_aload_n (pc := 52) dX4_fights_52 rfl (lv_at hl 0 rfl)) ?_
          refine sp_m (aw_iload_n (pc := 53) dX4_fights_53 rfl (lv_at hl 1 rfl)) ?_
          refine sp_b fun p39 ep39 => ?_
          refine sp_m (G' := AW (KX4_fights l D h0 hE) p13.2 (57) ls (.int p39 :: .int (gI p13.2 a0 8) :: .ref a0 :: [])) (fun kk => aw_callV (As := [.int s5v.1]) (metX4_force _ _ ep39) (rcv_o okX4 s38) rfl mok_X4_force q1077 q994 q995 q122 q996 (Nat.le_of_ble_eq_true rfl) (Nat.le_of_ble_eq_true rfl) rfl hl.1 rfl (Nat.le_of_ble_eq_true rfl) (pc := 54) dX4_fights_54 kk) ?_
          refine sp_m (aw_iconst (v := 2) (pc := 57) dX4_fights_57 rfl) ?_
          refine sp_m (aw_idiv (pc := 58) dX4_fights_58 (by decide)) ?_
          refine sp_m (aw_iadd (pc := 59) dX4_fights_59) ?_
          refine sp_t fun h40 eh400 => ?_
          have eh40 : gS h40 = gS p13.2 := by rw [eh400]; rfl
          refine sp_m (aw_put (k := 8) okX4 opX4 s38 (by decide) q288 (Or.inl rfl) (Or.inl rfl) (hasV_I' eh400) rfl rfl (pc := 60) dX4_fights_60) ?_
          refine sp_m (aw_goto (tgt := 142) (pc := 63) dX4_fights_63 (by decide)) ?_
          exact hj142_1 h40 ls (lv_sub hl [0, 1] rfl)
      · refine sp_m (aw_if_eq_f (tgt := 39) (pc := 33) dX4_fights_33 (by decide) c12) ?_
        refine sp_m (aw_goto (tgt := 142) (pc := 36) dX4_fights_36 (by decide)) ?_
        exact hj142_1 s5v.2 ls (lv_sub hl [0, 1] rfl)
  · have hl : lv_has ls 4 [] := hl
    show SP _ _ (AW (KX4_fights l D h0 hE) r5v 148 ls [])
    exact sp_r fun hz => aw_vret hz rfl rfl rfl (pc := 148) dX4_fights_148
theorem mok_X1_battleWhy : mOK yX1_battleWhy 3 := ⟨⟨by decide +kernel, by decide +kernel⟩, by decide +kernel⟩
abbrev KX1_battleWhy (l : Launch) (D : DD) (h0 hE : AH) (v : Int32) : KT := (l, yX1_battleWhy, cX1_battleWhy, 7, (some .int), RX1, 6, D, h0, hE, .inl (some (.int v)), false, [])
theorem metX1_battleWhy (l : Launch) (D : DD) {a0 : Nat} {a1 : Int32} {a2 : Int32} {a3 : Int32} {h0 : AH} {hE : AH} {v : Int32} (hr : fX1_battleWhy a0 a1 a2 a3 h0 = some (v, hE)) : AMet (KX1_battleWhy l D h0 hE v) [.ref a0, .int a1, .int a2, .int a3] := by
  refine AMet.of (K := (KX1_battleWhy l D h0 hE v)) rfl ⟨_, rfl⟩ rfl rfl rfl (Nat.le_of_ble_eq_true rfl) (fun ls hl => ?_)
  have hl : lv_has ls 7 [(0, .ref a0), (1, .int a1), (2, .int a2), (3, .int a3)] := hl
  suffices hsp : SP (fX1_battleWhy a0 a1 a2 a3 h0) (fun z => z = (v, hE)) (AW (KX1_battleWhy l D h0 hE v) h0 0 ls []) from hsp _ hr rfl
  unfold fX1_battleWhy
  refine sp_m (aw_iload_n (pc := 0) dX1_battleWhy_0 rfl (lv_at hl 1 rfl)) ?_
  refine sp_if (fun c1 => ?_) (fun c1 => ?_)
  · refine sp_m (aw_if_ne_t (tgt := 6) (pc := 1) dX1_battleWhy_1 (by decide) c1) ?_
    refine sp_m (aw_iload_n (pc := 6) dX1_battleWhy_6 rfl (lv_at hl 2 rfl)) ?_
    refine sp_m (aw_iconst (v := 0) (pc := 7) dX1_battleWhy_7 rfl) ?_
    refine sp_m (aw_ldcw q1377 (pc := 8) dX1_battleWhy_8) ?_
    refine sp_b fun p2 ep2 => ?_
    refine sp_m (G' := AW (KX1_battleWhy l D h0 hE v) h0 (14) ls (.int p2 :: [])) (fun kk => aw_callS (As := [.int a2, .int 0, .int 65536]) (metX1_in _ _ ep2) mok_X1_in q456 q457 q116 q458 (Nat.le_of_ble_eq_true rfl) (Nat.le_of_ble_eq_true rfl) rfl hl.1 rfl (Nat.le_of_ble_eq_true rfl) (pc := 11) dX1_battleWhy_11 kk) ?_
    refine sp_if (fun c3 => ?_) (fun c3 => ?_)
    · refine sp_m (aw_if_eq_t (tgt := 27) (pc := 14) dX1_battleWhy_14 (by decide) c3) ?_
      refine sp_m (aw_iconst (v := 2) (pc := 27) dX1_battleWhy_27 rfl) ?_
      exact sp_r fun hz => aw_iret hz rfl rfl rfl (pc := 28) dX1_battleWhy_28
    · refine sp_m (aw_if_eq_f (tgt := 27) (pc := 14) dX1_battleWhy_14 (by decide) c3) ?_
      refine sp_m (aw_iload_n (pc := 17) dX1_battleWhy_17 rfl (lv_at hl 3 rfl)) ?_
      refine sp_m (aw_iconst (v := 1) (pc := 18) dX1_battleWhy_18 rfl) ?_
      refine sp_m (aw_bipush (v := 90) (pc := 19) dX1_battleWhy_19 rfl) ?_
      refine sp_b fun p4 ep4 => ?_
      refine sp_m (G' := AW (KX1_battleWhy l D h0 hE v) h0 (24) ls (.int p4 :: [])) (fun kk => aw_callS (As := [.int a3, .int 1, .int 90]) (metX1_in _ _ ep4) mok_X1_in q456 q457 q116 q458 (Nat.le_of_ble_eq_true rfl) (Nat.le_of_ble_eq_true rfl) rfl hl.1 rfl (Nat.le_of_ble_eq_true rfl) (pc := 21) dX1_battleWhy_21 kk) ?_
      refine sp_if (fun c5 => ?_) (fun c5 => ?_)
      · refine sp_m (aw_if_ne_t (tgt := 29) (pc := 24) dX1_battleWhy_24 (by decide) c5) ?_
        refine sp_m (aw_aload_n (pc := 29) dX1_battleWhy_29 rfl (lv_at hl 0 rfl)) ?_
        refine sp_m (aw_iconst (v := 0) (pc := 30) dX1_battleWhy_30 rfl) ?_
        refine sp_g fun s6 => ?_
        refine sp_t fun h7 eh70 => ?_
        have eh7 : gS h7 = gS h0 := by rw [eh70]; rfl
        refine sp_m (aw_put (k := 20) okX1 opX1 s6 (by decide) q386 (Or.inl rfl) (Or.inl rfl) (hasV_I' eh70) rfl rfl (pc := 31) dX1_battleWhy_31) ?_
        refine sp_m (aw_aload_n (pc := 34) dX1_battleWhy_34 rfl (lv_at hl 0 rfl)) ?_
        refine sp_m (aw_iconst (v := 0) (pc := 35) dX1_battleWhy_35 rfl) ?_
        refine sp_t fun h8 eh80 => ?_
        have eh8 : gS h8 = gS h7 := by rw [eh80]; rfl
        refine sp_m (aw_put (k := 21) okX1 opX1 (uS eh7 s6) (by decide) q387 (Or.inl rfl) (Or.inl rfl) (hasV_I' eh80) rfl rfl (pc := 36) dX1_battleWhy_36) ?_
        refine sp_m (aw_aload_n (pc := 39) dX1_battleWhy_39 rfl (lv_at hl 0 rfl)) ?_
        refine sp_m (aw_iconst (v := 0) (pc := 40) dX1_battleWhy_40 rfl) ?_
        refine sp_t fun h9 eh90 => ?_
        have eh9 : gS h9 = gS h8 := by rw [eh90]; rfl
        refine sp_m (aw_put (k := 22) okX1 opX1 (uS eh8 (uS eh7 s6)) (by decide) q388 (Or.inl rfl) (Or.inl rfl) (hasV_I' eh90) rfl rfl (pc := 41) dX1_battleWhy_41) ?_
        refine sp_m (aw_iconst (v := 0) (pc := 44) dX1_battleWhy_44 rfl) ?_
        refine sp_m (aw_istore (lv' := [(4, .int 0), (0, .ref a0), (1, .int a1), (2, .int a2), (3, .int a3)]) (pc := 45) dX1_battleWhy_45 hl (by decide) rfl) (sp_all fun ls hl => ?_)
        let P10 : Int32 × AH → Prop := aLP (KX1_battleWhy l D h0 hE v) 7 47 (fun s10v : Int32 × AH => [(0, .ref a0), (2, .int a2), (3, .int a3), (4, .int s10v.1)]) (fun s10v => s10v.2)
        let E10 : AH → Prop := aLP (KX1_battleWhy l D h0 hE v) 7 67 (fun r10v : AH => [(0, .ref a0), (2, .int a2), (3, .int a3)]) (fun r10v => r10v)
        refine sp_bl (P := P10) (E := E10) (fun s10v => sp_all fun ls hl => ?_) (fun k => k ls (lv_sub hl [1, 3, 4, 0] rfl)) (fun r10v => sp_all fun ls hl => ?_)
        · have hl : lv_has ls 7 [(0, .ref a0), (2, .int a2), (3, .int a3), (4, .int s10v.1)] := hl
          show SP _ _ (AW (KX1_battleWhy l D h0 hE v) s10v.2 47 ls [])
          unfold X1_battleWhy_L47
          refine sp_m (aw_iload (pc := 47) dX1_battleWhy_47 (lv_at hl 3 rfl)) ?_
          refine sp_m (aw_iconst (v := 5) (pc := 49) dX1_battleWhy_49 rfl) ?_
          refine sp_if (fun c11 => ?_) (fun c11 => ?_)
          · refine sp_m (aw_icmp_ge_t (tgt := 67) (pc := 50) dX1_battleWhy_50 (by decide) c11) ?_
            exact sp_r fun hz => hz ls (lv_sub hl [0, 1, 2] rfl)
          · refine sp_m (aw_icmp_ge_f (tgt := 67) (pc := 50) dX1_battleWhy_50 (by decide) c11) ?_
            refine sp_m (aw_aload_n (pc := 53) dX1_battleWhy_53 rfl (lv_at hl 0 rfl)) ?_
            refine sp_g fun s12 => ?_
            refine sp_b fun x13 ex13 => ?_
            refine sp_m (aw_get (k := 23) okX1 s12 (by decide) q389 (Or.inl rfl) (congrArg va_rf ex13) (pc := 54) dX1_battleWhy_54) ?_
            refine sp_m (aw_iload (pc := 57) dX1_battleWhy_57 (lv_at hl 3 rfl)) ?_
            refine sp_m (aw_iconst (v := 0) (pc := 59) dX1_battleWhy_59 rfl) ?_
            refine sp_g fun s14 => ?_
            refine sp_g fun i15 => ?_
            refine sp_t fun h16 eh160 => ?_
            have eh16 : gS h16 = gS s10v.2 := by rw [eh160]; rfl
            refine sp_m (fun kk => aw_iast s14 i15 (pc := 60) dX1_battleWhy_60 (AWe eh160 kk)) ?_
            refine sp_m (aw_iinc (v := s10v.1 + 1) (lv' := [(4, .int (s10v.1 + 1)), (0, .ref a0), (2, .int a2), (3, .int a3)]) (pc := 61) dX1_battleWhy_61 hl (k := 3) rfl rfl (by decide) rfl) (sp_all fun ls hl => ?_)
            refine sp_m (aw_goto (tgt := 47) (pc := 64) dX1_battleWhy_64 (by decide)) ?_
            exact sp_r fun hz => hz ls (lv_sub hl [1, 2, 3, 0] rfl)
        · have hl : lv_has ls 7 [(0, .ref a0), (2, .int a2), (3, .int a3)] := hl
          show SP _ _ (AW (KX1_battleWhy l D h0 hE v) r10v 67 ls [])
          refine sp_m (aw_iload_n (pc := 67) dX1_battleWhy_67 rfl (lv_at hl 1 rfl)) ?_
          refine sp_m (aw_istore (lv' := [(4, .int a2), (0, .ref a0), (2, .int a2), (3, .int a3)]) (pc := 68) dX1_battleWhy_68 hl (by decide) rfl) (sp_all fun ls hl => ?_)
          refine sp_m (aw_iconst (v := 0) (pc := 70) dX1_battleWhy_70 rfl) ?_
          refine sp_m (aw_istore (lv' := [(5, .int 0), (4, .int a2), (0, .ref a0), (2, .int a2), (3, .int a3)]) (pc := 71) dX1_battleWhy_71 hl (by decide) rfl) (sp_all fun ls hl => ?_)
          let P17 : Int32 × Int32 × AH → Prop := aLP (KX1_battleWhy l D h0 hE v) 7 73 (fun s17v : Int32 × Int32 × AH => [(0, .ref a0), (3, .int a3), (4, .int s17v.1), (5, .int s17v.2.1)]) (fun s17v => s17v.2.2)
          let E17 : AH → Prop := aLP (KX1_battleWhy l D h0 hE v) 7 229 (fun r17v : AH => []) (fun r17v => r17v)
          refine sp_bl (P := P17) (E := E17) (fun s17v => sp_all fun ls hl => ?_) (fun k => k ls (lv_sub hl [2, 4, 1, 0] rfl)) (fun r17v => sp_all fun ls hl => ?_)
          · have hl : lv_has ls 7 [(0, .ref a0), (3, .int a3), (4, .int s17v.1), (5, .int s17v.2.1)] := hl
            show SP _ _ (AW (KX1_battleWhy l D h0 hE v) s17v.2.2 73 ls [])
            unfold X1_battleWhy_L73
            refine sp_m (aw_iload (pc := 73) dX1_battleWhy_73 (lv_at hl 3 rfl)) ?_
            refine sp_m (aw_iload_n (pc := 75) dX1_battleWhy_75 rfl (lv_at hl 1 rfl)) ?_
            refine sp_if (fun c18 => ?_) (fun c18 => ?_)
            · refine sp_m (aw_icmp_ge_t (tgt := 229) (pc := 76) dX1_battleWhy_76 (by decide) c18) ?_
              exact sp_r fun hz => hz ls (lv_sub hl [] rfl)
            · refine sp_m (aw_icmp_ge_f (tgt := 229) (pc := 76) dX1_battleWhy_76 (by decide) c18) ?_
              refine sp_m (aw_aload_n (pc := 79) dX1_battleWhy_79 rfl (lv_at hl 0 rfl)) ?_
              refine sp_g fun s19 => ?_
              refine sp_b fun x20 ex20 => ?_
              refine sp_m (aw_get (k := 11) okX1 s19 (by decide) q377 (Or.inl rfl) (congrArg va_rf ex20) (pc := 80) dX1_battleWhy_80) ?_
              refine sp_m (aw_aload_n (pc := 83) dX1_battleWhy_83 rfl (lv_at hl 0 rfl)) ?_
              refine sp_b fun x21 ex21 => ?_
              refine sp_m (aw_get (k := 9) okX1 s19 (by decide) q375 (Or.inl rfl) (congrArg va_rf ex21) (pc := 84) dX1_battleWhy_84) ?_
              refine sp_g fun s23 => ?_
              refine sp_b fun p22 ep22 => ?_
              refine sp_m (G' := AW (KX1_battleWhy l D h0 hE v) p22 (90) ls ([])) (fun kk => aw_callV (As := [.ref x21]) (metX4_become _ _ ep22) (rcv_o okX4 s23) rfl mok_X4_become q1166 q1167 q1168 q122 q1169 (Nat.le_of_ble_eq_true rfl) (Nat.le_of_ble_eq_true rfl) rfl hl.1 rfl (Nat.le_of_ble_eq_true rfl) (pc := 87) dX1_battleWhy_87 kk) ?_
              refine sp_m (aw_aload_n (pc := 90) dX1_battleWhy_90 rfl (lv_at hl 0 rfl)) ?_
              refine sp_g fun s24 => ?_
              refine sp_b fun x25 ex25 => ?_
              refine sp_m (aw_get (k := 11) okX1 s24 (by decide) q377 (Or.inl rfl) (congrArg va_rf ex25) (pc := 91) dX1_battleWhy_91) ?_
              refine sp_m (aw_iload (pc := 94) dX1_battleWhy_94 (lv_at hl 2 rfl)) ?_
              refine sp_g fun s26 => ?_
              refine sp_t fun h27 eh270 => ?_
              have eh27 : gS h27 = gS p22 := by rw [eh270]; rfl
              refine sp_m (aw_put (k := 5) okX4 opX4 s26 (by decide) q283 (Or.inl rfl) (Or.inl rfl) (hasV_I' eh270) rfl rfl (pc := 96) dX1_battleWhy_96) ?_
              refine sp_m (aw_aload_n (pc := 99) dX1_battleWhy_99 rfl (lv_at hl 0 rfl)) ?_
              refine sp_b fun x28 ex28 => ?_
              refine sp_m (aw_get (k := 11) okX1 (uS eh27 s24) (by decide) q377 (Or.inl rfl) (congrArg va_rf ex28) (pc := 100) dX1_battleWhy_100) ?_
              refine sp_g fun s30 => ?_
              refine sp_b fun p29 ep29 => ?_
              refine sp_m (G' := AW (KX1_battleWhy l D h0 hE v) p29 (106) ls ([])) (fun kk => aw_callV (As := []) (metX4_fights _ _ ep29) (rcv_o okX4 s30) rfl mok_X4_fights q1378 q1379 q1380 q122 q1381 (Nat.le_of_ble_eq_true rfl) (Nat.le_of_ble_eq_true rfl) rfl hl.1 rfl (Nat.le_of_ble_eq_true rfl) (pc := 103) dX1_battleWhy_103 kk) ?_
              refine sp_m (aw_aload_n (pc := 106) dX1_battleWhy_106 rfl (lv_at hl 0 rfl)) ?_
              refine sp_g fun s31 => ?_
              refine sp_b fun x32 ex32 => ?_
              refine sp_m (aw_get (k := 11) okX1 s31 (by decide) q377 (Or.inl rfl) (congrArg va_rf ex32) (pc := 107) dX1_battleWhy_107) ?_
              refine sp_g fun s33 => ?_
              refine sp_m (aw_get (k := 5) okX4 s33 (by decide) q283 (Or.inl rfl) rfl (pc := 110) dX1_battleWhy_110) ?_
              refine sp_m (aw_istore (lv' := [(4, .int (gI p29 x32 5)), (0, .ref a0), (3, .int a3), (5, .int s17v.2.1)]) (pc := 113) dX1_battleWhy_113 hl (by decide) rfl) (sp_all fun ls hl => ?_)
              refine sp_m (aw_aload_n (pc := 115) dX1_battleWhy_115 rfl (lv_at hl 1 rfl)) ?_
              refine sp_m (aw_dup (pc := 116) dX1_battleWhy_116 rfl) ?_
              refine sp_m (aw_get (k := 20) okX1 s31 (by decide) q386 (Or.inl rfl) rfl (pc := 117) dX1_battleWhy_117) ?_
              refine sp_m (aw_aload_n (pc := 120) dX1_battleWhy_120 rfl (lv_at hl 1 rfl)) ?_
              refine sp_b fun x34 ex34 => ?_
              refine sp_m (aw_get (k := 11) okX1 s31 (by decide) q377 (Or.inl rfl) (congrArg va_rf ex34) (pc := 121) dX1_battleWhy_121) ?_
              refine sp_g fun s35 => ?_
              refine sp_m (aw_getN (k := 7) okX4 s35 (by decide) nq287 rfl rfl (pc := 124) dX1_battleWhy_124) ?_
              refine sp_m (aw_iadd (pc := 127) dX1_battleWhy_127) ?_
              refine sp_t fun h36 eh360 => ?_
              have eh36 : gS h36 = gS p29 := by rw [eh360]; rfl
              refine sp_m (aw_put (k := 20) okX1 opX1 s31 (by decide) q386 (Or.inl rfl) (Or.inl rfl) (hasV_I' eh360) rfl rfl (pc := 128) dX1_battleWhy_128) ?_
              refine sp_m (aw_aload_n (pc := 131) dX1_battleWhy_131 rfl (lv_at hl 1 rfl)) ?_
              refine sp_m (aw_dup (pc := 132) dX1_battleWhy_132 rfl) ?_
              refine sp_m (aw_get (k := 21) okX1 (uS eh36 s31) (by decide) q387 (Or.inl rfl) rfl (pc := 133) dX1_battleWhy_133) ?_
              refine sp_m (aw_aload_n (pc := 136) dX1_battleWhy_136 rfl (lv_at hl 1 rfl)) ?_
              refine sp_b fun x37 ex37 => ?_
              refine sp_m (aw_get (k := 11) okX1 (uS eh36 s31) (by decide) q377 (Or.inl rfl) (congrArg va_rf ex37) (pc := 137) dX1_battleWhy_137) ?_
              refine sp_g fun s38 => ?_
              refine sp_m (aw_getN (k := 8) okX4 s38 (by decide) nq289 rfl rfl (pc := 140) dX1_battleWhy_140) ?_
              refine sp_m (aw_iadd (pc := 143) dX1_battleWhy_143) ?_
              refine sp_t fun h39 eh390 => ?_
              have eh39 : gS h39 = gS h36 := by rw [eh390]; rfl
              refine sp_m (aw_put (k := 21) okX1 opX1 (uS eh36 s31) (by decide) q387 (Or.inl rfl) (Or.inl rfl) (hasV_I' eh390) rfl rfl (pc := 144) dX1_battleWhy_144) ?_
              refine sp_m (aw_aload_n (pc := 147) dX1_battleWhy_147 rfl (lv_at hl 1 rfl)) ?_
              refine sp_m (aw_dup (pc := 148) dX1_battleWhy_148 rfl) ?_
              refine sp_m (aw_get (k := 22) okX1 (uS eh39 (uS eh36 s31)) (by decide) q388 (Or.inl rfl) rfl (pc := 149) dX1_battleWhy_149) ?_
              refine sp_m (aw_aload_n (pc := 152) dX1_battleWhy_152 rfl (lv_at hl 1 rfl)) ?_
              refine sp_b fun x40 ex40 => ?_
              refine sp_m (aw_get (k := 11) okX1 (uS eh39 (uS eh36 s31)) (by decide) q377 (Or.inl rfl) (congrArg va_rf ex40) (pc := 153) dX1_battleWhy_153) ?_
              refine sp_g fun s41 => ?_
              refine sp_m (aw_getN (k := 7) okX4 s41 (by decide) nq287 rfl rfl (pc := 156) dX1_battleWhy_156) ?_
              refine sp_m (aw_aload_n (pc := 159) dX1_battleWhy_159 rfl (lv_at hl 1 rfl)) ?_
              refine sp_b fun x42 ex42 => ?_
              refine sp_m (aw_get (k := 11) okX1 (uS eh39 (uS eh36 s31)) (by decide) q377 (Or.inl rfl) (congrArg va_rf ex42) (pc := 160) dX1_battleWhy_160) ?_
              refine sp_g fun s43 => ?_
              refine sp_m (aw_getN (k := 8) okX4 s43 (by decide) nq289 rfl rfl (pc := 163) dX1_battleWhy_163) ?_
              have hj174_2 : ∀ j44 : Int32, ∀ ls : Array Slot, lv_has ls 7 [(0, .ref a0), (3, .int a3), (4, .int (gI p29 x32 5)), (5, .int s17v.2.1)] → SP (X1_battleWhy_j174 a0 s17v p29 x32 h39 j44) (ZL P17 E17) (AW (KX1_battleWhy l D h0 hE v) h39 174 ls (.int j44 :: .int (gI h39 a0 22) :: .ref a0 :: [])) := by
                intro j44 ls hl
                unfold X1_battleWhy_j174
                refine sp_m (aw_iadd (pc := 174) dX1_battleWhy_174) ?_
                refine sp_t fun h45 eh450 => ?_
                have eh45 : gS h45 = gS h39 := by rw [eh450]; rfl
                refine sp_m (aw_put (k := 22) okX1 opX1 (uS eh39 (uS eh36 s31)) (by decide) q388 (Or.inl rfl) (Or.inl rfl) (hasV_I' eh450) rfl rfl (pc := 175) dX1_battleWhy_175) ?_
                refine sp_m (aw_iconst (v := 0) (pc := 178) dX1_battleWhy_178 rfl) ?_
                refine sp_m (aw_istore (lv' := [(6, .int 0), (0, .ref a0), (3, .int a3), (4, .int (gI p29 x32 5)), (5, .int s17v.2.1)]) (pc := 179) dX1_battleWhy_179 hl (by decide) rfl) (sp_all fun ls hl => ?_)
                let P46 : Int32 × AH → Prop := aLP (KX1_battleWhy l D h0 hE v) 7 181 (fun s46v : Int32 × AH => [(0, .ref a0), (3, .int a3), (4, .int (gI p29 x32 5)), (5, .int s17v.2.1), (6, .int s46v.1)]) (fun s46v => s46v.2)
                let E46 : AH → Prop := aLP (KX1_battleWhy l D h0 hE v) 7 223 (fun r46v : AH => [(0, .ref a0), (3, .int a3), (4, .int (gI p29 x32 5)), (5, .int s17v.2.1)]) (fun r46v => r46v)
                refine sp_bl (P := P46) (E := E46) (fun s46v => sp_all fun ls hl => ?_) (fun k => k ls (lv_sub hl [1, 2, 3, 4, 0] rfl)) (fun r46v => sp_all fun ls hl => ?_)
                · have hl : lv_has ls 7 [(0, .ref a0), (3, .int a3), (4, .int (gI p29 x32 5)), (5, .int s17v.2.1), (6, .int s46v.1)] := hl
                  show SP _ _ (AW (KX1_battleWhy l D h0 hE v) s46v.2 181 ls [])
                  unfold X1_battleWhy_L181
                  refine sp_m (aw_iload (pc := 181) dX1_battleWhy_181 (lv_at hl 4 rfl)) ?_
                  refine sp_m (aw_iconst (v := 5) (pc := 183) dX1_battleWhy_183 rfl) ?_
                  refine sp_if (fun c47 => ?_) (fun c47 => ?_)
                  · refine sp_m (aw_icmp_ge_t (tgt := 223) (pc := 184) dX1_battleWhy_184 (by decide) c47) ?_
                    exact sp_r fun hz => hz ls (lv_sub hl [0, 1, 2, 3] rfl)
                  · refine sp_m (aw_icmp_ge_f (tgt := 223) (pc := 184) dX1_battleWhy_184 (by decide) c47) ?_
                    refine sp_m (aw_aload_n (pc := 187) dX1_battleWhy_187 rfl (lv_at hl 0 rfl)) ?_
                    refine sp_g fun s48 => ?_
                    refine sp_b fun x49 ex49 => ?_
                    refine sp_m (aw_get (k := 23) okX1 s48 (by decide) q389 (Or.inl rfl) (congrArg va_rf ex49) (pc := 188) dX1_battleWhy_188) ?_
                    refine sp_m (aw_iload (pc := 191) dX1_battleWhy_191 (lv_at hl 4 rfl)) ?_
                    refine sp_m (aw_dup2 (pc := 193) dX1_battleWhy_193 rfl rfl) ?_
                    refine sp_g fun s50 => ?_
                    refine sp_g fun i51 => ?_
                    refine sp_m (aw_iald s50 i51 (pc := 194) dX1_battleWhy_194) ?_
                    refine sp_m (aw_aload_n (pc := 195) dX1_battleWhy_195 rfl (lv_at hl 0 rfl)) ?_
                    refine sp_b fun x52 ex52 => ?_
                    refine sp_m (aw_get (k := 11) okX1 s48 (by decide) q377 (Or.inl rfl) (congrArg va_rf ex52) (pc := 196) dX1_battleWhy_196) ?_
                    refine sp_g fun s53 => ?_
                    refine sp_m (aw_getN (k := 9) okX4 s53 (by decide) nq291 rfl rfl (pc := 199) dX1_battleWhy_199) ?_
                    refine sp_m (aw_iload (pc := 202) dX1_battleWhy_202 (lv_at hl 4 rfl)) ?_
                    refine sp_b fun p54 ep54 => ?_
                    refine sp_m (G' := AW (KX1_battleWhy l D h0 hE v) s46v.2 (207) ls (.int p54 :: .int (gI s46v.2 x49 (ix s46v.1)) :: .int s46v.1 :: .ref x49 :: [])) (fun kk => aw_callS (As := [.int (gI s46v.2 x52 9), .int s46v.1]) (metX1_has _ _ ep54) mok_X1_has q1268 q968 q116 q969 (Nat.le_of_ble_eq_true rfl) (Nat.le_of_ble_eq_true rfl) rfl hl.1 rfl (Nat.le_of_ble_eq_true rfl) (pc := 204) dX1_battleWhy_204 kk) ?_
                    have hj215_3 : ∀ j55 : Int32, ∀ ls : Array Slot, lv_has ls 7 [(0, .ref a0), (3, .int a3), (4, .int (gI p29 x32 5)), (5, .int s17v.2.1), (6, .int s46v.1)] → SP (X1_battleWhy_j215 s46v x49 j55) (ZL P46 E46) (AW (KX1_battleWhy l D h0 hE v) s46v.2 215 ls (.int j55 :: .int (gI s46v.2 x49 (ix s46v.1)) :: .int s46v.1 :: .ref x49 :: [])) := by
                      intro j55 ls hl
                      unfold X1_battleWhy_j215
                      refine sp_m (aw_iadd (pc := 215) dX1_battleWhy_215) ?_
                      refine sp_g fun i56 => ?_
                      refine sp_t fun h57 eh570 => ?_
                      have eh57 : gS h57 = gS s46v.2 := by rw [eh570]; rfl
                      refine sp_m (fun kk => aw_iast s50 i56 (pc := 216) dX1_battleWhy_216 (AWe eh570 kk)) ?_
                      refine sp_m (aw_iinc (v := s46v.1 + 1) (lv' := [(6, .int (s46v.1 + 1)), (0, .ref a0), (3, .int a3), (4, .int (gI p29 x32 5)), (5, .int s17v.2.1)]) (pc := 217) dX1_battleWhy_217 hl (k := 4) rfl rfl (by decide) rfl) (sp_all fun ls hl => ?_)
                      refine sp_m (aw_goto (tgt := 181) (pc := 220) dX1_battleWhy_220 (by decide)) ?_
                      exact sp_r fun hz => hz ls (lv_sub hl [1, 2, 3, 4, 0] rfl)
                    refine sp_if (fun c58 => ?_) (fun c58 => ?_)
                    · refine sp_m (aw_if_eq_t (tgt := 214) (pc := 207) dX1_battleWhy_207 (by decide) c58) ?_
                      refine sp_m (aw_iconst (v := 0) (pc := 214) dX1_battleWhy_214 rfl) ?_
                      exact hj215_3 0 ls (lv_sub hl [0, 1, 2, 3, 4] rfl)
                    · refine sp_m (aw_if_eq_f (tgt := 214) (pc := 207) dX1_battleWhy_207 (by decide) c58) ?_
                      refine sp_m (aw_iconst (v := 1) (pc := 210) dX1_battleWhy_210 rfl) ?_
                      refine sp_m (aw_goto (tgt := 215) (pc := 211) dX1_battleWhy_211 (by decide)) ?_
                      exact hj215_3 1 ls (lv_sub hl [0, 1, 2, 3, 4] rfl)
                · have hl : lv_has ls 7 [(0, .ref a0), (3, .int a3), (4, .int (gI p29 x32 5)), (5, .int s17v.2.1)] := hl
                  show SP _ _ (AW (KX1_battleWhy l D h0 hE v) r46v 223 ls [])
                  refine sp_m (aw_iinc (v := s17v.2.1 + 1) (lv' := [(5, .int (s17v.2.1 + 1)), (0, .ref a0), (3, .int a3), (4, .int (gI p29 x32 5))]) (pc := 223) dX1_battleWhy_223 hl (k := 3) rfl rfl (by decide) rfl) (sp_all fun ls hl => ?_)
                  refine sp_m (aw_goto (tgt := 73) (pc := 226) dX1_battleWhy_226 (by decide)) ?_
                  exact sp_r fun hz => hz ls (lv_sub hl [1, 2, 3, 0] rfl)
              refine sp_if (fun c59 => ?_) (fun c59 => ?_)
              · refine sp_m (aw_icmp_le_t (tgt := 173) (pc := 166) dX1_battleWhy_166 (by decide) c59) ?_
                refine sp_m (aw_iconst (v := 0) (pc := 173) dX1_battleWhy_173 rfl) ?_
                exact hj174_2 0 ls (lv_sub hl [1, 2, 0, 3] rfl)
              · refine sp_m (aw_icmp_le_f (tgt := 173) (pc := 166) dX1_battleWhy_166 (by decide) c59) ?_
                refine sp_m (aw_iconst (v := 1) (pc := 169) dX1_battleWhy_169 rfl) ?_
                refine sp_m (aw_goto (tgt := 174) (pc := 170) dX1_battleWhy_170 (by decide)) ?_
                exact hj174_2 1 ls (lv_sub hl [1, 2, 0, 3] rfl)
          · have hl : lv_has ls 7 [] := hl
            show SP _ _ (AW (KX1_battleWhy l D h0 hE v) r17v 229 ls [])
            refine sp_m (aw_iconst (v := 0) (pc := 229) dX1_battleWhy_229 rfl) ?_
            exact sp_r fun hz => aw_iret hz rfl rfl rfl (pc := 230) dX1_battleWhy_230
      · refine sp_m (aw_if_ne_f (tgt := 29) (pc := 24) dX1_battleWhy_24 (by decide) (Decidable.not_not.mp c5)) ?_
        refine sp_m (aw_iconst (v := 2) (pc := 27) dX1_battleWhy_27 rfl) ?_
        exact sp_r fun hz => aw_iret hz rfl rfl rfl (pc := 28) dX1_battleWhy_28
  · refine sp_m (aw_if_ne_f (tgt := 6) (pc := 1) dX1_battleWhy_1 (by decide) (Decidable.not_not.mp c1)) ?_
    refine sp_m (aw_iconst (v := 1) (pc := 4) dX1_battleWhy_4 rfl) ?_
    exact sp_r fun hz => aw_iret hz rfl rfl rfl (pc := 5) dX1_battleWhy_5
theorem mok_X1_acrossIn : mOK yX1_acrossIn 3 := ⟨⟨by decide +kernel, by decide +kernel⟩, by decide +kernel⟩
abbrev KX1_acrossIn (l : Launch) (D : DD) (h0 hE : AH) (v : Int32) : KT := (l, yX1_acrossIn, cX1_acrossIn, 5, (some .int), RX1, 7, D, h0, hE, .inl (some (.int v)), false, [])
theorem metX1_acrossIn (l : Launch) (D : DD) {a0 : Nat} {a1 : Int32} {a2 : Int32} {a3 : Int32} {h0 : AH} {hE : AH} {v : Int32} (hr : fX1_acrossIn a0 a1 a2 a3 h0 = some (v, hE)) : AMet (KX1_acrossIn l D h0 hE v) [.ref a0, .int a1, .int a2, .int a3] := by
  refine AMet.of (K := (KX1_acrossIn l D h0 hE v)) rfl ⟨_, rfl⟩ rfl rfl rfl (Nat.le_of_ble_eq_true rfl) (fun ls hl => ?_)
  have hl : lv_has ls 5 [(0, .ref a0), (1, .int a1), (2, .int a2), (3, .int a3)] := hl
  suffices hsp : SP (fX1_acrossIn a0 a1 a2 a3 h0) (fun z => z = (v, hE)) (AW (KX1_acrossIn l D h0 hE v) h0 0 ls []) from hsp _ hr rfl
  unfold fX1_acrossIn
  refine sp_m (aw_aload_n (pc := 0) dX1_acrossIn_0 rfl (lv_at hl 0 rfl)) ?_
  refine sp_g fun s2 => ?_
  refine sp_b fun p1 ep1 => ?_
  refine sp_m (G' := AW (KX1_acrossIn l D h0 hE v) p1 (4) ls ([])) (fun kk => aw_callV (As := []) (metX1_anew _ _ ep1) (rcv_o okX1 s2) rfl mok_X1_anew q452 q454 qs2 q116 q455 (Nat.le_of_ble_eq_true rfl) (Nat.le_of_ble_eq_true rfl) rfl hl.1 rfl (Nat.le_of_ble_eq_true rfl) (pc := 1) dX1_acrossIn_1 kk) ?_
  refine sp_m (aw_aload_n (pc := 4) dX1_acrossIn_4 rfl (lv_at hl 0 rfl)) ?_
  refine sp_m (aw_aload_n (pc := 5) dX1_acrossIn_5 rfl (lv_at hl 0 rfl)) ?_
  refine sp_m (aw_iload_n (pc := 6) dX1_acrossIn_6 rfl (lv_at hl 1 rfl)) ?_
  refine sp_g fun s4 => ?_
  refine sp_b fun p3 ep3 => ?_
  refine sp_m (G' := AW (KX1_acrossIn l D h0 hE v) p1 (10) ls (.int p3 :: .ref a0 :: [])) (fun kk => aw_callV (As := [.int a1]) (metX1_isBeast _ _ ep3) (rcv_o okX1 s4) rfl mok_X1_isBeast q974 q976 qs27 q116 q977 (Nat.le_of_ble_eq_true rfl) (Nat.le_of_ble_eq_true rfl) rfl hl.1 rfl (Nat.le_of_ble_eq_true rfl) (pc := 7) dX1_acrossIn_7 kk) ?_
  refine sp_m (aw_iload_n (pc := 10) dX1_acrossIn_10 rfl (lv_at hl 2 rfl)) ?_
  refine sp_m (aw_iload_n (pc := 11) dX1_acrossIn_11 rfl (lv_at hl 3 rfl)) ?_
  refine sp_b fun p5 ep5 => ?_
  refine sp_m (G' := AW (KX1_acrossIn l D h0 hE v) p5.2 (15) ls (.int p5.1 :: [])) (fun kk => aw_callV (As := [.int p3, .int a2, .int a3]) (metX1_battleWhy _ _ ep5) (rcv_o okX1 s4) rfl mok_X1_battleWhy q1373 q1375 qs45 q116 q1376 (Nat.le_of_ble_eq_true rfl) (Nat.le_of_ble_eq_true rfl) rfl hl.1 rfl (Nat.le_of_ble_eq_true rfl) (pc := 12) dX1_acrossIn_12 kk) ?_
  refine sp_m (aw_istore (lv' := [(4, .int p5.1), (0, .ref a0), (1, .int a1), (2, .int a2), (3, .int a3)]) (pc := 15) dX1_acrossIn_15 hl (by decide) rfl) (sp_all fun ls hl => ?_)
  refine sp_m (aw_iload (pc := 17) dX1_acrossIn_17 (lv_at hl 0 rfl)) ?_
  refine sp_if (fun c6 => ?_) (fun c6 => ?_)
  · refine sp_m (aw_if_eq_t (tgt := 31) (pc := 19) dX1_acrossIn_19 (by decide) c6) ?_
    refine sp_m (aw_aload_n (pc := 31) dX1_acrossIn_31 rfl (lv_at hl 1 rfl)) ?_
    refine sp_g fun s7 => ?_
    refine sp_b fun x8 ex8 => ?_
    refine sp_m (aw_get (k := 23) okX1 s7 (by decide) q389 (Or.inl rfl) (congrArg va_rf ex8) (pc := 32) dX1_acrossIn_32) ?_
    refine sp_m (aw_iload_n (pc := 35) dX1_acrossIn_35 rfl (lv_at hl 2 rfl)) ?_
    refine sp_g fun s9 => ?_
    refine sp_g fun i10 => ?_
    refine sp_m (aw_iald s9 i10 (pc := 36) dX1_acrossIn_36) ?_
    exact sp_r fun hz => aw_iret hz rfl rfl rfl (pc := 37) dX1_acrossIn_37
  · refine sp_m (aw_if_eq_f (tgt := 31) (pc := 19) dX1_acrossIn_19 (by decide) c6) ?_
    refine sp_m (aw_aload_n (pc := 22) dX1_acrossIn_22 rfl (lv_at hl 1 rfl)) ?_
    refine sp_m (aw_iload (pc := 23) dX1_acrossIn_23 (lv_at hl 0 rfl)) ?_
    refine sp_g fun s12 => ?_
    refine sp_b fun p11 ep11 => ?_
    refine sp_m (G' := AW (KX1_acrossIn l D h0 hE v) p11.2 (28) ls (.int p11.1 :: [])) (fun kk => aw_callV (As := [.int p5.1]) (metX1_no _ _ ep11) (rcv_o okX1 s12) rfl mok_X1_no q459 q461 qs3 q116 q462 (Nat.le_of_ble_eq_true rfl) (Nat.le_of_ble_eq_true rfl) rfl hl.1 rfl (Nat.le_of_ble_eq_true rfl) (pc := 25) dX1_acrossIn_25 kk) ?_
    refine sp_m (aw_goto (tgt := 37) (pc := 28) dX1_acrossIn_28 (by decide)) ?_
    exact sp_r fun hz => aw_iret hz rfl rfl rfl (pc := 37) dX1_acrossIn_37
theorem mok_X4_meanFoes : mOK yX4_meanFoes 2 := ⟨⟨by decide +kernel, by decide +kernel⟩, by decide +kernel⟩
abbrev KX4_meanFoes (l : Launch) (D : DD) (h0 : AH) (v : Int64) : KT := (l, yX4_meanFoes, cX4_meanFoes, 3, (some .long), RX4, 5, D, h0, h0, .inl (some (.long v)), false, [])
theorem metX4_meanFoes (l : Launch) (D : DD) {a0 : Nat} {a1 : Int32} {a2 : Int32} {h0 : AH} {v : Int64} (hr : fX4_meanFoes a0 a1 a2 h0 = some v) : AMet (KX4_meanFoes l D h0 v) [.ref a0, .int a1, .int a2] := by
  refine AMet.of (K := (KX4_meanFoes l D h0 v)) rfl ⟨_, rfl⟩ rfl rfl rfl (Nat.le_of_ble_eq_true rfl) (fun ls hl => ?_)
  have hl : lv_has ls 3 [(0, .ref a0), (1, .int a1), (2, .int a2)] := hl
  suffices hsp : SP (fX4_meanFoes a0 a1 a2 h0) (fun z => z = v) (AW (KX4_meanFoes l D h0 v) h0 0 ls []) from hsp _ hr rfl
  unfold fX4_meanFoes
  refine sp_m (aw_aload_n (pc := 0) dX4_meanFoes_0 rfl (lv_at hl 0 rfl)) ?_
  refine sp_m (aw_iload_n (pc := 1) dX4_meanFoes_1 rfl (lv_at hl 1 rfl)) ?_
  refine sp_g fun s2 => ?_
  refine sp_b fun p1 ep1 => ?_
  refine sp_m (G' := AW (KX4_meanFoes l D h0 v) h0 (5) ls (.long p1 :: [])) (fun kk => aw_callV (As := [.int a1]) (metX4_across _ _ ep1) (rcv_o okX4 s2) rfl mok_X4_across q1127 q1047 q1048 q122 q1049 (Nat.le_of_ble_eq_true rfl) (Nat.le_of_ble_eq_true rfl) rfl hl.1 rfl (Nat.le_of_ble_eq_true rfl) (pc := 2) dX4_meanFoes_2 kk) ?_
  refine sp_m (aw_aload_n (pc := 5) dX4_meanFoes_5 rfl (lv_at hl 0 rfl)) ?_
  refine sp_m (aw_iload_n (pc := 6) dX4_meanFoes_6 rfl (lv_at hl 1 rfl)) ?_
  refine sp_m (aw_iload_n (pc := 7) dX4_meanFoes_7 rfl (lv_at hl 2 rfl)) ?_
  refine sp_b fun p3 ep3 => ?_
  refine sp_m (G' := AW (KX4_meanFoes l D h0 v) h0 (11) ls (.int p3 :: .long p1 :: [])) (fun kk => aw_callV (As := [.int a1, .int a2]) (metX4_foes _ _ ep3) (rcv_o okX4 s2) rfl mok_X4_foes q1134 q1101 q1102 q122 q1103 (Nat.le_of_ble_eq_true rfl) (Nat.le_of_ble_eq_true rfl) rfl hl.1 rfl (Nat.le_of_ble_eq_true rfl) (pc := 8) dX4_meanFoes_8 kk) ?_
  refine sp_m (aw_i2l (pc := 11) dX4_meanFoes_11) ?_
  refine sp_m (aw_lmul (pc := 12) dX4_meanFoes_12) ?_
  exact sp_r fun hz => aw_lret (congrArg (fun z => (z, h0)) hz) rfl rfl rfl (pc := 13) dX4_meanFoes_13
theorem mok_X4_meanOwn : mOK yX4_meanOwn 2 := ⟨⟨by decide +kernel, by decide +kernel⟩, by decide +kernel⟩
abbrev KX4_meanOwn (l : Launch) (D : DD) (h0 : AH) (v : Int64) : KT := (l, yX4_meanOwn, cX4_meanOwn, 3, (some .long), RX4, 5, D, h0, h0, .inl (some (.long v)), false, [])
theorem metX4_meanOwn (l : Launch) (D : DD) {a0 : Nat} {a1 : Int32} {a2 : Int32} {h0 : AH} {v : Int64} (hr : fX4_meanOwn a0 a1 a2 h0 = some v) : AMet (KX4_meanOwn l D h0 v) [.ref a0, .int a1, .int a2] := by
  refine AMet.of (K := (KX4_meanOwn l D h0 v)) rfl ⟨_, rfl⟩ rfl rfl rfl (Nat.le_of_ble_eq_true rfl) (fun ls hl => ?_)
  have hl : lv_has ls 3 [(0, .ref a0), (1, .int a1), (2, .int a2)] := hl
  suffices hsp : SP (fX4_meanOwn a0 a1 a2 h0) (fun z => z = v) (AW (KX4_meanOwn l D h0 v) h0 0 ls []) from hsp _ hr rfl
  unfold fX4_meanOwn
  refine sp_m (aw_aload_n (pc := 0) dX4_meanOwn_0 rfl (lv_at hl 0 rfl)) ?_
  refine sp_m (aw_iload_n (pc := 1) dX4_meanOwn_1 rfl (lv_at hl 1 rfl)) ?_
  refine sp_g fun s2 => ?_
  refine sp_b fun p1 ep1 => ?_
  refine sp_m (G' := AW (KX4_meanOwn l D h0 v) h0 (5) ls (.long p1 :: [])) (fun kk => aw_callV (As := [.int a1]) (metX4_across _ _ ep1) (rcv_o okX4 s2) rfl mok_X4_across q1127 q1047 q1048 q122 q1049 (Nat.le_of_ble_eq_true rfl) (Nat.le_of_ble_eq_true rfl) rfl hl.1 rfl (Nat.le_of_ble_eq_true rfl) (pc := 2) dX4_meanOwn_2 kk) ?_
  refine sp_m (aw_aload_n (pc := 5) dX4_meanOwn_5 rfl (lv_at hl 0 rfl)) ?_
  refine sp_m (aw_iload_n (pc := 6) dX4_meanOwn_6 rfl (lv_at hl 1 rfl)) ?_
  refine sp_m (aw_iload_n (pc := 7) dX4_meanOwn_7 rfl (lv_at hl 2 rfl)) ?_
  refine sp_b fun p3 ep3 => ?_
  refine sp_m (G' := AW (KX4_meanOwn l D h0 v) h0 (11) ls (.int p3 :: .long p1 :: [])) (fun kk => aw_callV (As := [.int a1, .int a2]) (metX4_own _ _ ep3) (rcv_o okX4 s2) rfl mok_X4_own q1128 q1074 q1075 q122 q1076 (Nat.le_of_ble_eq_true rfl) (Nat.le_of_ble_eq_true rfl) rfl hl.1 rfl (Nat.le_of_ble_eq_true rfl) (pc := 8) dX4_meanOwn_8 kk) ?_
  refine sp_m (aw_i2l (pc := 11) dX4_meanOwn_11) ?_
  refine sp_m (aw_lmul (pc := 12) dX4_meanOwn_12) ?_
  refine sp_m (aw_aload_n (pc := 13) dX4_meanOwn_13 rfl (lv_at hl 0 rfl)) ?_
  refine sp_b fun p4 ep4 => ?_
  refine sp_m (G' := AW (KX4_meanOwn l D h0 v) h0 (17) ls (.long p4 :: .long (p1 * p3.toInt64) :: [])) (fun kk => aw_callV (As := []) (metX4_of _ _ ep4) (rcv_o okX4 s2) rfl mok_X4_of q1129 q1056 q1057 q122 q1058 (Nat.le_of_ble_eq_true rfl) (Nat.le_of_ble_eq_true rfl) rfl hl.1 rfl (Nat.le_of_ble_eq_true rfl) (pc := 14) dX4_meanOwn_14 kk) ?_
  refine sp_m (aw_aload_n (pc := 17) dX4_meanOwn_17 rfl (lv_at hl 0 rfl)) ?_
  refine sp_m (aw_iload_n (pc := 18) dX4_meanOwn_18 rfl (lv_at hl 1 rfl)) ?_
  refine sp_b fun p5 ep5 => ?_
  refine sp_m (G' := AW (KX4_meanOwn l D h0 v) h0 (22) ls (.long p5 :: .long p4 :: .long (p1 * p3.toInt64) :: [])) (fun kk => aw_callV (As := [.int a1]) (metX4_across _ _ ep5) (rcv_o okX4 s2) rfl mok_X4_across q1127 q1047 q1048 q122 q1049 (Nat.le_of_ble_eq_true rfl) (Nat.le_of_ble_eq_true rfl) rfl hl.1 rfl (Nat.le_of_ble_eq_true rfl) (pc := 19) dX4_meanOwn_19 kk) ?_
  refine sp_m (aw_lsub (pc := 22) dX4_meanOwn_22) ?_
  refine sp_m (aw_aload_n (pc := 23) dX4_meanOwn_23 rfl (lv_at hl 0 rfl)) ?_
  refine sp_m (aw_iload_n (pc := 24) dX4_meanOwn_24 rfl (lv_at hl 1 rfl)) ?_
  refine sp_b fun p6 ep6 => ?_
  refine sp_m (G' := AW (KX4_meanOwn l D h0 v) h0 (28) ls (.int p6 :: .long (p4 - p5) :: .long (p1 * p3.toInt64) :: [])) (fun kk => aw_callV (As := [.int a1]) (metX4_force _ _ ep6) (rcv_o okX4 s2) rfl mok_X4_force q1077 q994 q995 q122 q996 (Nat.le_of_ble_eq_true rfl) (Nat.le_of_ble_eq_true rfl) rfl hl.1 rfl (Nat.le_of_ble_eq_true rfl) (pc := 25) dX4_meanOwn_25 kk) ?_
  refine sp_m (aw_iconst (v := 2) (pc := 28) dX4_meanOwn_28 rfl) ?_
  refine sp_m (aw_idiv (pc := 29) dX4_meanOwn_29 (by decide)) ?_
  refine sp_m (aw_i2l (pc := 30) dX4_meanOwn_30) ?_
  refine sp_m (aw_lmul (pc := 31) dX4_meanOwn_31) ?_
  refine sp_m (aw_ladd (pc := 32) dX4_meanOwn_32) ?_
  exact sp_r fun hz => aw_lret (congrArg (fun z => (z, h0)) hz) rfl rfl rfl (pc := 33) dX4_meanOwn_33
theorem mok_X1_all : mOK yX1_all 2 := ⟨⟨by decide +kernel, by decide +kernel⟩, by decide +kernel⟩
abbrev KX1_all (l : Launch) (D : DD) (h0 hE : AH) (v : Int64) : KT := (l, yX1_all, cX1_all, 6, (some .long), RX1, 131, D, h0, hE, .inl (some (.long v)), false, [])
theorem metX1_all (l : Launch) (D : DD) {a0 : Nat} {a1 : Int32} {a2 : Int32} {h0 : AH} {hE : AH} {v : Int64} (hr : fX1_all a0 a1 a2 h0 = some (v, hE)) : AMet (KX1_all l D h0 hE v) [.ref a0, .int a1, .int a2] := by
  refine AMet.of (K := (KX1_all l D h0 hE v)) rfl ⟨_, rfl⟩ rfl rfl rfl (Nat.le_of_ble_eq_true rfl) (fun ls hl => ?_)
  have hl : lv_has ls 6 [(0, .ref a0), (1, .int a1), (2, .int a2)] := hl
  suffices hsp : SP (fX1_all a0 a1 a2 h0) (fun z => z = (v, hE)) (AW (KX1_all l D h0 hE v) h0 0 ls []) from hsp _ hr rfl
  unfold fX1_all
  refine sp_m (aw_aload_n (pc := 0) dX1_all_0 rfl (lv_at hl 0 rfl)) ?_
  refine sp_g fun s2 => ?_
  refine sp_b fun p1 ep1 => ?_
  refine sp_m (G' := AW (KX1_all l D h0 hE v) p1 (4) ls ([])) (fun kk => aw_callV (As := []) (metX1_anew _ _ ep1) (rcv_o okX1 s2) rfl mok_X1_anew q452 q454 qs2 q116 q455 (Nat.le_of_ble_eq_true rfl) (Nat.le_of_ble_eq_true rfl) rfl hl.1 rfl (Nat.le_of_ble_eq_true rfl) (pc := 1) dX1_all_1 kk) ?_
  refine sp_m (aw_aload_n (pc := 4) dX1_all_4 rfl (lv_at hl 0 rfl)) ?_
  refine sp_g fun s3 => ?_
  refine sp_o (fun ex4 => ?_) (fun x4 ex4 => ?_)
  · refine sp_m (aw_get (k := 3) okX1 s3 (by decide) q369 (Or.inl rfl) (congrArg va_rf ex4) (pc := 5) dX1_all_5) ?_
    refine sp_m (aw_ifnonnullN (pc := 8) dX1_all_8) ?_
    refine sp_m (aw_aload_n (pc := 11) dX1_all_11 rfl (lv_at hl 0 rfl)) ?_
    refine sp_m (aw_iconst (v := 1) (pc := 12) dX1_all_12 rfl) ?_
    refine sp_b fun p31 ep31 => ?_
    refine sp_m (G' := AW (KX1_all l D h0 hE v) p31.2 (16) ls (.int p31.1 :: [])) (fun kk => aw_callV (As := [.int 1]) (metX1_no _ _ ep31) (rcv_o okX1 s3) rfl mok_X1_no q459 q461 qs3 q116 q462 (Nat.le_of_ble_eq_true rfl) (Nat.le_of_ble_eq_true rfl) rfl hl.1 rfl (Nat.le_of_ble_eq_true rfl) (pc := 13) dX1_all_13 kk) ?_
    refine sp_m (aw_i2l (pc := 16) dX1_all_16) ?_
    exact sp_r fun hz => aw_lret hz rfl rfl rfl (pc := 17) dX1_all_17
  · refine sp_m (aw_get (k := 3) okX1 s3 (by decide) q369 (Or.inl rfl) (congrArg va_rf ex4) (pc := 5) dX1_all_5) ?_
    refine sp_m (aw_ifnonnull (tgt := 18) (pc := 8) dX1_all_8 (by decide)) ?_
    refine sp_m (aw_lconst (v := 0) (pc := 18) dX1_all_18 rfl) ?_
    refine sp_m (aw_lstore_n (lv' := [(3, .long 0), (0, .ref a0), (1, .int a1), (2, .int a2)]) (pc := 19) dX1_all_19 rfl hl (by decide) rfl) (sp_all fun ls hl => ?_)
    refine sp_m (aw_iconst (v := 0) (pc := 20) dX1_all_20 rfl) ?_
    refine sp_m (aw_istore (lv' := [(5, .int 0), (3, .long 0), (0, .ref a0), (1, .int a1), (2, .int a2)]) (pc := 21) dX1_all_21 hl (by decide) rfl) (sp_all fun ls hl => ?_)
    let P5 : Int64 × Int32 → Prop := aLP (KX1_all l D h0 hE v) 6 23 (fun s5v : Int64 × Int32 => [(0, .ref a0), (1, .int a1), (2, .int a2), (3, .long s5v.1), (5, .int s5v.2)]) (fun s5v => p1)
    let E5 : Int64 → Prop := aLP (KX1_all l D h0 hE v) 6 89 (fun r5v : Int64 => [(0, .ref a0), (2, .int a2), (3, .long r5v)]) (fun r5v => p1)
    refine sp_bl (P := P5) (E := E5) (fun s5v => sp_all fun ls hl => ?_) (fun k => k ls (lv_sub hl [2, 3, 4, 1, 0] rfl)) (fun r5v => sp_all fun ls hl => ?_)
    · have hl : lv_has ls 6 [(0, .ref a0), (1, .int a1), (2, .int a2), (3, .long s5v.1), (5, .int s5v.2)] := hl
      show SP _ _ (AW (KX1_all l D h0 hE v) p1 23 ls [])
      unfold X1_all_L23
      refine sp_m (aw_iload (pc := 23) dX1_all_23 (lv_at hl 4 rfl)) ?_
      refine sp_m (aw_aload_n (pc := 25) dX1_all_25 rfl (lv_at hl 0 rfl)) ?_
      refine sp_b fun x6 ex6 => ?_
      refine sp_m (aw_get (k := 3) okX1 s3 (by decide) q369 (Or.inl rfl) (congrArg va_rf ex6) (pc := 26) dX1_all_26) ?_
      refine sp_g fun s7 => ?_
      refine sp_m (aw_get (k := 8) okX8 s7 (by decide) q505 (Or.inl rfl) rfl (pc := 29) dX1_all_29) ?_
      refine sp_if (fun c8 => ?_) (fun c8 => ?_)
      · refine sp_m (aw_icmp_ge_t (tgt := 89) (pc := 32) dX1_all_32 (by decide) c8) ?_
        exact sp_r fun hz => hz ls (lv_sub hl [0, 2, 3] rfl)
      · refine sp_m (aw_icmp_ge_f (tgt := 89) (pc := 32) dX1_all_32 (by decide) c8) ?_
        refine sp_m (aw_lload_n (pc := 35) dX1_all_35 rfl (lv_at hl 3 rfl)) ?_
        refine sp_m (aw_iload_n (pc := 36) dX1_all_36 rfl (lv_at hl 1 rfl)) ?_
        have hj81_1 : ∀ j9 : Int64, ∀ ls : Array Slot, lv_has ls 6 [(0, .ref a0), (1, .int a1), (2, .int a2), (5, .int s5v.2)] → SP (X1_all_j81 s5v j9) (ZL P5 E5) (AW (KX1_all l D h0 hE v) p1 81 ls (.long j9 :: .long s5v.1 :: [])) := by
          intro j9 ls hl
          unfold X1_all_j81
          refine sp_m (aw_ladd (pc := 81) dX1_all_81) ?_
          refine sp_m (aw_lstore_n (lv' := [(3, .long (s5v.1 + j9)), (0, .ref a0), (1, .int a1), (2, .int a2), (5, .int s5v.2)]) (pc := 82) dX1_all_82 rfl hl (by decide) rfl) (sp_all fun ls hl => ?_)
          refine sp_m (aw_iinc (v := s5v.2 + 1) (lv' := [(5, .int (s5v.2 + 1)), (3, .long (s5v.1 + j9)), (0, .ref a0), (1, .int a1), (2, .int a2)]) (pc := 83) dX1_all_83 hl (k := 4) rfl rfl (by decide) rfl) (sp_all fun ls hl => ?_)
          refine sp_m (aw_goto (tgt := 23) (pc := 86) dX1_all_86 (by decide)) ?_
          exact sp_r fun hz => hz ls (lv_sub hl [2, 3, 4, 1, 0] rfl)
        refine sp_if (fun c10 => ?_) (fun c10 => ?_)
        · refine sp_m (aw_if_eq_t (tgt := 62) (pc := 37) dX1_all_37 (by decide) c10) ?_
          refine sp_m (aw_aload_n (pc := 62) dX1_all_62 rfl (lv_at hl 0 rfl)) ?_
          refine sp_b fun x11 ex11 => ?_
          refine sp_m (aw_get (k := 9) okX1 s3 (by decide) q375 (Or.inl rfl) (congrArg va_rf ex11) (pc := 63) dX1_all_63) ?_
          refine sp_m (aw_iload (pc := 66) dX1_all_66 (lv_at hl 4 rfl)) ?_
          refine sp_m (aw_aload_n (pc := 68) dX1_all_68 rfl (lv_at hl 0 rfl)) ?_
          refine sp_b fun x12 ex12 => ?_
          refine sp_m (aw_get (k := 9) okX1 s3 (by decide) q375 (Or.inl rfl) (congrArg va_rf ex12) (pc := 69) dX1_all_69) ?_
          refine sp_g fun s13 => ?_
          refine sp_b fun x14 ex14 => ?_
          refine sp_m (aw_get (k := 0) okX4 s13 (by decide) q274 (Or.inl rfl) (congrArg va_rf ex14) (pc := 72) dX1_all_72) ?_
          refine sp_m (aw_iload (pc := 75) dX1_all_75 (lv_at hl 4 rfl)) ?_
          refine sp_g fun s15 => ?_
          refine sp_g fun i16 => ?_
          refine sp_m (aw_iald s15 i16 (pc := 77) dX1_all_77) ?_
          refine sp_g fun s18 => ?_
          refine sp_b fun p17 ep17 => ?_
          refine sp_m (G' := AW (KX1_all l D h0 hE v) p1 (81) ls (.long p17 :: .long s5v.1 :: [])) (fun kk => aw_callV (As := [.int s5v.2, .int (gI p1 x14 (ix s5v.2))]) (metX4_meanFoes _ _ ep17) (rcv_o okX4 s18) rfl mok_X4_meanFoes q1130 q1131 q1132 q122 q1133 (Nat.le_of_ble_eq_true rfl) (Nat.le_of_ble_eq_true rfl) rfl hl.1 rfl (Nat.le_of_ble_eq_true rfl) (pc := 78) dX1_all_78 kk) ?_
          exact hj81_1 p17 ls (lv_sub hl [0, 1, 2, 4] rfl)
        · refine sp_m (aw_if_eq_f (tgt := 62) (pc := 37) dX1_all_37 (by decide) c10) ?_
          refine sp_m (aw_aload_n (pc := 40) dX1_all_40 rfl (lv_at hl 0 rfl)) ?_
          refine sp_b fun x19 ex19 => ?_
          refine sp_m (aw_get (k := 9) okX1 s3 (by decide) q375 (Or.inl rfl) (congrArg va_rf ex19) (pc := 41) dX1_all_41) ?_
          refine sp_m (aw_iload (pc := 44) dX1_all_44 (lv_at hl 4 rfl)) ?_
          refine sp_m (aw_aload_n (pc := 46) dX1_all_46 rfl (lv_at hl 0 rfl)) ?_
          refine sp_b fun x20 ex20 => ?_
          refine sp_m (aw_get (k := 9) okX1 s3 (by decide) q375 (Or.inl rfl) (congrArg va_rf ex20) (pc := 47) dX1_all_47) ?_
          refine sp_g fun s21 => ?_
          refine sp_b fun x22 ex22 => ?_
          refine sp_m (aw_get (k := 0) okX4 s21 (by decide) q274 (Or.inl rfl) (congrArg va_rf ex22) (pc := 50) dX1_all_50) ?_
          refine sp_m (aw_iload (pc := 53) dX1_all_53 (lv_at hl 4 rfl)) ?_
          refine sp_g fun s23 => ?_
          refine sp_g fun i24 => ?_
          refine sp_m (aw_iald s23 i24 (pc := 55) dX1_all_55) ?_
          refine sp_g fun s26 => ?_
          refine sp_b fun p25 ep25 => ?_
          refine sp_m (G' := AW (KX1_all l D h0 hE v) p1 (59) ls (.long p25 :: .long s5v.1 :: [])) (fun kk => aw_callV (As := [.int s5v.2, .int (gI p1 x22 (ix s5v.2))]) (metX4_meanOwn _ _ ep25) (rcv_o okX4 s26) rfl mok_X4_meanOwn q1123 q1124 q1125 q122 q1126 (Nat.le_of_ble_eq_true rfl) (Nat.le_of_ble_eq_true rfl) rfl hl.1 rfl (Nat.le_of_ble_eq_true rfl) (pc := 56) dX1_all_56 kk) ?_
          refine sp_m (aw_goto (tgt := 81) (pc := 59) dX1_all_59 (by decide)) ?_
          exact hj81_1 p25 ls (lv_sub hl [0, 1, 2, 4] rfl)
    · have hl : lv_has ls 6 [(0, .ref a0), (2, .int a2), (3, .long r5v)] := hl
      show SP _ _ (AW (KX1_all l D h0 hE v) p1 89 ls [])
      refine sp_m (aw_lload_n (pc := 89) dX1_all_89 rfl (lv_at hl 2 rfl)) ?_
      refine sp_m (aw_aload_n (pc := 90) dX1_all_90 rfl (lv_at hl 0 rfl)) ?_
      refine sp_b fun x27 ex27 => ?_
      refine sp_m (aw_get (k := 9) okX1 s3 (by decide) q375 (Or.inl rfl) (congrArg va_rf ex27) (pc := 91) dX1_all_91) ?_
      refine sp_g fun s29 => ?_
      refine sp_b fun p28 ep28 => ?_
      refine sp_m (G' := AW (KX1_all l D h0 hE v) p1 (97) ls (.long p28 :: .long r5v :: [])) (fun kk => aw_callV (As := []) (metX4_of _ _ ep28) (rcv_o okX4 s29) rfl mok_X4_of q1055 q1056 q1057 q122 q1058 (Nat.le_of_ble_eq_true rfl) (Nat.le_of_ble_eq_true rfl) rfl hl.1 rfl (Nat.le_of_ble_eq_true rfl) (pc := 94) dX1_all_94 kk) ?_
      refine sp_m (aw_iload_n (pc := 97) dX1_all_97 rfl (lv_at hl 1 rfl)) ?_
      refine sp_b fun p30 ep30 => ?_
      refine sp_m (G' := AW (KX1_all l D h0 hE v) p1 (101) ls (.long p30 :: [])) (fun kk => aw_callS (As := [.long r5v, .long p28, .int a2]) (metX1_lowest _ _ ep30) mok_X1_lowest q1060 q1061 q116 q1062 (Nat.le_of_ble_eq_true rfl) (Nat.le_of_ble_eq_true rfl) rfl hl.1 rfl (Nat.le_of_ble_eq_true rfl) (pc := 98) dX1_all_98 kk) ?_
      exact sp_r fun hz => aw_lret hz rfl rfl rfl (pc := 101) dX1_all_101
theorem mok_X4_turnedBy : mOK yX4_turnedBy 1 := ⟨⟨by decide +kernel, by decide +kernel⟩, by decide +kernel⟩
abbrev KX4_turnedBy (l : Launch) (D : DD) (h0 : AH) (v : Int32) : KT := (l, yX4_turnedBy, cX4_turnedBy, 5, (some .int), RX4, 4, D, h0, h0, .inl (some (.int v)), false, [])
theorem metX4_turnedBy (l : Launch) (D : DD) {a0 : Nat} {a1 : Int32} {h0 : AH} {v : Int32} (hr : fX4_turnedBy a0 a1 h0 = some v) : AMet (KX4_turnedBy l D h0 v) [.ref a0, .int a1] := by
  refine AMet.of (K := (KX4_turnedBy l D h0 v)) rfl ⟨_, rfl⟩ rfl rfl rfl (Nat.le_of_ble_eq_true rfl) (fun ls hl => ?_)
  have hl : lv_has ls 5 [(0, .ref a0), (1, .int a1)] := hl
  suffices hsp : SP (fX4_turnedBy a0 a1 h0) (fun z => z = v) (AW (KX4_turnedBy l D h0 v) h0 0 ls []) from hsp _ hr rfl
  unfold fX4_turnedBy
  refine sp_m (aw_iconst (v := 0) (pc := 0) dX4_turnedBy_0 rfl) ?_
  refine sp_m (aw_istore_n (lv' := [(2, .int 0), (0, .ref a0), (1, .int a1)]) (pc := 1) dX4_turnedBy_1 rfl hl (by decide) rfl) (sp_all fun ls hl => ?_)
  refine sp_m (aw_iconst (v := 0) (pc := 2) dX4_turnedBy_2 rfl) ?_
  refine sp_m (aw_istore_n (lv' := [(3, .int 0), (2, .int 0), (0, .ref a0), (1, .int a1)]) (pc := 3) dX4_turnedBy_3 rfl hl (by decide) rfl) (sp_all fun ls hl => ?_)
  let P1 : Int32 × Int32 → Prop := aLP (KX4_turnedBy l D h0 v) 5 4 (fun s1v : Int32 × Int32 => [(0, .ref a0), (1, .int a1), (2, .int s1v.1), (3, .int s1v.2)]) (fun s1v => h0)
  let E1 : Int32 → Prop := aLP (KX4_turnedBy l D h0 v) 5 105 (fun r1v : Int32 => [(2, .int r1v)]) (fun r1v => h0)
  refine sp_bl (P := P1) (E := E1) (fun s1v => sp_all fun ls hl => ?_) (fun k => k ls (lv_sub hl [2, 3, 1, 0] rfl)) (fun r1v => sp_all fun ls hl => ?_)
  · have hl : lv_has ls 5 [(0, .ref a0), (1, .int a1), (2, .int s1v.1), (3, .int s1v.2)] := hl
    show SP _ _ (AW (KX4_turnedBy l D h0 v) h0 4 ls [])
    unfold X4_turnedBy_L4
    refine sp_m (aw_iload_n (pc := 4) dX4_turnedBy_4 rfl (lv_at hl 3 rfl)) ?_
    refine sp_m (aw_aload_n (pc := 5) dX4_turnedBy_5 rfl (lv_at hl 0 rfl)) ?_
    refine sp_g fun s2 => ?_
    refine sp_b fun x3 ex3 => ?_
    refine sp_m (aw_get (k := 3) okX4 s2 (by decide) q279 (Or.inl rfl) (congrArg va_rf ex3) (pc := 6) dX4_turnedBy_6) ?_
    refine sp_g fun s4 => ?_
    refine sp_m (aw_get (k := 8) okX8 s4 (by decide) q503 (Or.inl rfl) rfl (pc := 9) dX4_turnedBy_9) ?_
    refine sp_if (fun c5 => ?_) (fun c5 => ?_)
    · refine sp_m (aw_icmp_ge_t (tgt := 105) (pc := 12) dX4_turnedBy_12 (by decide) c5) ?_
      exact sp_r fun hz => hz ls (lv_sub hl [2] rfl)
    · refine sp_m (aw_icmp_ge_f (tgt := 105) (pc := 12) dX4_turnedBy_12 (by decide) c5) ?_
      refine sp_m (aw_iconst (v := 0) (pc := 15) dX4_turnedBy_15 rfl) ?_
      refine sp_m (aw_istore (lv' := [(4, .int 0), (0, .ref a0), (1, .int a1), (2, .int s1v.1), (3, .int s1v.2)]) (pc := 16) dX4_turnedBy_16 hl (by decide) rfl) (sp_all fun ls hl => ?_)
      let P6 : Int32 × Int32 → Prop := aLP (KX4_turnedBy l D h0 v) 5 18 (fun s6v : Int32 × Int32 => [(0, .ref a0), (1, .int a1), (2, .int s6v.1), (3, .int s1v.2), (4, .int s6v.2)]) (fun s6v => h0)
      let E6 : Int32 → Prop := aLP (KX4_turnedBy l D h0 v) 5 99 (fun r6v : Int32 => [(0, .ref a0), (1, .int a1), (2, .int r6v), (3, .int s1v.2)]) (fun r6v => h0)
      refine sp_bl (P := P6) (E := E6) (fun s6v => sp_all fun ls hl => ?_) (fun k => k ls (lv_sub hl [1, 2, 3, 4, 0] rfl)) (fun r6v => sp_all fun ls hl => ?_)
      · have hl : lv_has ls 5 [(0, .ref a0), (1, .int a1), (2, .int s6v.1), (3, .int s1v.2), (4, .int s6v.2)] := hl
        show SP _ _ (AW (KX4_turnedBy l D h0 v) h0 18 ls [])
        unfold X4_turnedBy_L18
        refine sp_m (aw_iload (pc := 18) dX4_turnedBy_18 (lv_at hl 4 rfl)) ?_
        refine sp_m (aw_aload_n (pc := 20) dX4_turnedBy_20 rfl (lv_at hl 0 rfl)) ?_
        refine sp_b fun x7 ex7 => ?_
        refine sp_m (aw_get (k := 3) okX4 s2 (by decide) q279 (Or.inl rfl) (congrArg va_rf ex7) (pc := 21) dX4_turnedBy_21) ?_
        refine sp_g fun s8 => ?_
        refine sp_m (aw_get (k := 8) okX8 s8 (by decide) q503 (Or.inl rfl) rfl (pc := 24) dX4_turnedBy_24) ?_
        refine sp_if (fun c9 => ?_) (fun c9 => ?_)
        · refine sp_m (aw_icmp_ge_t (tgt := 99) (pc := 27) dX4_turnedBy_27 (by decide) c9) ?_
          exact sp_r fun hz => hz ls (lv_sub hl [0, 1, 2, 3] rfl)
        · refine sp_m (aw_icmp_ge_f (tgt := 99) (pc := 27) dX4_turnedBy_27 (by decide) c9) ?_
          refine sp_m (aw_iload_n (pc := 30) dX4_turnedBy_30 rfl (lv_at hl 1 rfl)) ?_
          refine sp_m (aw_iload (pc := 31) dX4_turnedBy_31 (lv_at hl 4 rfl)) ?_
          refine sp_b fun p10 ep10 => ?_
          refine sp_m (G' := AW (KX4_turnedBy l D h0 v) h0 (36) ls (.int p10 :: [])) (fun kk => aw_callSN (As := [.int a1, .int s6v.2]) (host := "ElephantLine") (metX1_has _ _ ep10) mok_X1_has nq967 q968 q116 q969 (Nat.le_of_ble_eq_true rfl) (Nat.le_of_ble_eq_true rfl) rfl hl.1 rfl (Nat.le_of_ble_eq_true rfl) (pc := 33) dX4_turnedBy_33 kk) ?_
          have hj93_1 : ∀ j11 : Int32, ∀ ls : Array Slot, lv_has ls 5 [(0, .ref a0), (1, .int a1), (2, .int j11), (3, .int s1v.2), (4, .int s6v.2)] → SP (X4_turnedBy_j93 s6v j11) (ZL P6 E6) (AW (KX4_turnedBy l D h0 v) h0 93 ls ([])) := by
            intro j11 ls hl
            unfold X4_turnedBy_j93
            refine sp_m (aw_iinc (v := s6v.2 + 1) (lv' := [(4, .int (s6v.2 + 1)), (0, .ref a0), (1, .int a1), (2, .int j11), (3, .int s1v.2)]) (pc := 93) dX4_turnedBy_93 hl (k := 4) rfl rfl (by decide) rfl) (sp_all fun ls hl => ?_)
            refine sp_m (aw_goto (tgt := 18) (pc := 96) dX4_turnedBy_96 (by decide)) ?_
            exact sp_r fun hz => hz ls (lv_sub hl [1, 2, 3, 4, 0] rfl)
          refine sp_if (fun c12 => ?_) (fun c12 => ?_)
          · refine sp_m (aw_if_eq_t (tgt := 93) (pc := 36) dX4_turnedBy_36 (by decide) c12) ?_
            exact hj93_1 s6v.1 ls (lv_sub hl [0, 1, 2, 3, 4] rfl)
          · refine sp_m (aw_if_eq_f (tgt := 93) (pc := 36) dX4_turnedBy_36 (by decide) c12) ?_
            refine sp_m (aw_aload_n (pc := 39) dX4_turnedBy_39 rfl (lv_at hl 0 rfl)) ?_
            refine sp_m (aw_iload (pc := 40) dX4_turnedBy_40 (lv_at hl 4 rfl)) ?_
            refine sp_b fun p13 ep13 => ?_
            refine sp_m (G' := AW (KX4_turnedBy l D h0 v) h0 (45) ls (.int p13 :: [])) (fun kk => aw_callV (As := [.int s6v.2]) (metX4_isDead _ _ ep13) (rcv_o okX4 s2) rfl mok_X4_isDead q997 q964 q965 q122 q966 (Nat.le_of_ble_eq_true rfl) (Nat.le_of_ble_eq_true rfl) rfl hl.1 rfl (Nat.le_of_ble_eq_true rfl) (pc := 42) dX4_turnedBy_42 kk) ?_
            refine sp_if (fun c14 => ?_) (fun c14 => ?_)
            · refine sp_m (aw_if_ne_t (tgt := 93) (pc := 45) dX4_turnedBy_45 (by decide) c14) ?_
              exact hj93_1 s6v.1 ls (lv_sub hl [0, 1, 2, 3, 4] rfl)
            · refine sp_m (aw_if_ne_f (tgt := 93) (pc := 45) dX4_turnedBy_45 (by decide) (Decidable.not_not.mp c14)) ?_
              refine sp_m (aw_aload_n (pc := 48) dX4_turnedBy_48 rfl (lv_at hl 0 rfl)) ?_
              refine sp_m (aw_iload_n (pc := 49) dX4_turnedBy_49 rfl (lv_at hl 3 rfl)) ?_
              refine sp_b fun p15 ep15 => ?_
              refine sp_m (G' := AW (KX4_turnedBy l D h0 v) h0 (53) ls (.int p15 :: [])) (fun kk => aw_callV (As := [.int s1v.2]) (metX4_isDead _ _ ep15) (rcv_o okX4 s2) rfl mok_X4_isDead q997 q964 q965 q122 q966 (Nat.le_of_ble_eq_true rfl) (Nat.le_of_ble_eq_true rfl) rfl hl.1 rfl (Nat.le_of_ble_eq_true rfl) (pc := 50) dX4_turnedBy_50 kk) ?_
              refine sp_if (fun c16 => ?_) (fun c16 => ?_)
              · refine sp_m (aw_if_ne_t (tgt := 93) (pc := 53) dX4_turnedBy_53 (by decide) c16) ?_
                exact hj93_1 s6v.1 ls (lv_sub hl [0, 1, 2, 3, 4] rfl)
              · refine sp_m (aw_if_ne_f (tgt := 93) (pc := 53) dX4_turnedBy_53 (by decide) (Decidable.not_not.mp c16)) ?_
                refine sp_m (aw_aload_n (pc := 56) dX4_turnedBy_56 rfl (lv_at hl 0 rfl)) ?_
                refine sp_m (aw_iload_n (pc := 57) dX4_turnedBy_57 rfl (lv_at hl 3 rfl)) ?_
                refine sp_b fun p17 ep17 => ?_
                refine sp_m (G' := AW (KX4_turnedBy l D h0 v) h0 (61) ls (.int p17 :: [])) (fun kk => aw_callV (As := [.int s1v.2]) (metX4_hold _ _ ep17) (rcv_o okX4 s2) rfl mok_X4_hold q1050 q1018 q1019 q122 q1020 (Nat.le_of_ble_eq_true rfl) (Nat.le_of_ble_eq_true rfl) rfl hl.1 rfl (Nat.le_of_ble_eq_true rfl) (pc := 58) dX4_turnedBy_58 kk) ?_
                refine sp_m (aw_bipush (v := 50) (pc := 61) dX4_turnedBy_61 rfl) ?_
                refine sp_if (fun c18 => ?_) (fun c18 => ?_)
                · refine sp_m (aw_icmp_ge_t (tgt := 93) (pc := 63) dX4_turnedBy_63 (by decide) c18) ?_
                  exact hj93_1 s6v.1 ls (lv_sub hl [0, 1, 2, 3, 4] rfl)
                · refine sp_m (aw_icmp_ge_f (tgt := 93) (pc := 63) dX4_turnedBy_63 (by decide) c18) ?_
                  refine sp_m (aw_aload_n (pc := 66) dX4_turnedBy_66 rfl (lv_at hl 0 rfl)) ?_
                  refine sp_b fun x19 ex19 => ?_
                  refine sp_m (aw_get (k := 0) okX4 s2 (by decide) q273 (Or.inl rfl) (congrArg va_rf ex19) (pc := 67) dX4_turnedBy_67) ?_
                  refine sp_m (aw_iload_n (pc := 70) dX4_turnedBy_70 rfl (lv_at hl 3 rfl)) ?_
                  refine sp_g fun s20 => ?_
                  refine sp_g fun i21 => ?_
                  refine sp_m (aw_iald s20 i21 (pc := 71) dX4_turnedBy_71) ?_
                  refine sp_m (aw_aload_n (pc := 72) dX4_turnedBy_72 rfl (lv_at hl 0 rfl)) ?_
                  refine sp_b fun x22 ex22 => ?_
                  refine sp_m (aw_get (k := 0) okX4 s2 (by decide) q273 (Or.inl rfl) (congrArg va_rf ex22) (pc := 73) dX4_turnedBy_73) ?_
                  refine sp_m (aw_iload (pc := 76) dX4_turnedBy_76 (lv_at hl 4 rfl)) ?_
                  refine sp_g fun s23 => ?_
                  refine sp_g fun i24 => ?_
                  refine sp_m (aw_iald s23 i24 (pc := 78) dX4_turnedBy_78) ?_
                  refine sp_m (aw_isub (pc := 79) dX4_turnedBy_79) ?_
                  refine sp_m (aw_mabs hl.1 q1341 q1342 q145 q1343 (Nat.le_of_ble_eq_true rfl) (Nat.le_of_ble_eq_true rfl) (pc := 80) dX4_turnedBy_80) ?_
                  refine sp_m (aw_iconst (v := 1) (pc := 83) dX4_turnedBy_83 rfl) ?_
                  refine sp_if (fun c25 => ?_) (fun c25 => ?_)
                  · refine sp_m (aw_icmp_gt_t (tgt := 93) (pc := 84) dX4_turnedBy_84 (by decide) c25) ?_
                    exact hj93_1 s6v.1 ls (lv_sub hl [0, 1, 2, 3, 4] rfl)
                  · refine sp_m (aw_icmp_gt_f (tgt := 93) (pc := 84) dX4_turnedBy_84 (by decide) c25) ?_
                    refine sp_m (aw_iload_n (pc := 87) dX4_turnedBy_87 rfl (lv_at hl 2 rfl)) ?_
                    refine sp_m (aw_iconst (v := 1) (pc := 88) dX4_turnedBy_88 rfl) ?_
                    refine sp_m (aw_iload_n (pc := 89) dX4_turnedBy_89 rfl (lv_at hl 3 rfl)) ?_
                    refine sp_m (aw_ishl (pc := 90) dX4_turnedBy_90) ?_
                    refine sp_m (aw_ior (pc := 91) dX4_turnedBy_91) ?_
                    refine sp_m (aw_istore_n (lv' := [(2, .int (s6v.1 ||| (1 <<< (s1v.2 &&& 31)))), (0, .ref a0), (1, .int a1), (3, .int s1v.2), (4, .int s6v.2)]) (pc := 92) dX4_turnedBy_92 rfl hl (by decide) rfl) (sp_all fun ls hl => ?_)
                    exact hj93_1 (s6v.1 ||| (1 <<< (s1v.2 &&& 31))) ls (lv_sub hl [1, 2, 0, 3, 4] rfl)
      · have hl : lv_has ls 5 [(0, .ref a0), (1, .int a1), (2, .int r6v), (3, .int s1v.2)] := hl
        show SP _ _ (AW (KX4_turnedBy l D h0 v) h0 99 ls [])
        refine sp_m (aw_iinc (v := s1v.2 + 1) (lv' := [(3, .int (s1v.2 + 1)), (0, .ref a0), (1, .int a1), (2, .int r6v)]) (pc := 99) dX4_turnedBy_99 hl (k := 3) rfl rfl (by decide) rfl) (sp_all fun ls hl => ?_)
        refine sp_m (aw_goto (tgt := 4) (pc := 102) dX4_turnedBy_102 (by decide)) ?_
        exact sp_r fun hz => hz ls (lv_sub hl [1, 2, 3, 0] rfl)
  · have hl : lv_has ls 5 [(2, .int r1v)] := hl
    show SP _ _ (AW (KX4_turnedBy l D h0 v) h0 105 ls [])
    refine sp_m (aw_iload_n (pc := 105) dX4_turnedBy_105 rfl (lv_at hl 0 rfl)) ?_
    exact sp_r fun hz => aw_iret (congrArg (fun z => (z, h0)) hz) rfl rfl rfl (pc := 106) dX4_turnedBy_106
theorem mok_X8_turned : mOK yX8_turned 0 := ⟨⟨by decide +kernel, by decide +kernel⟩, by decide +kernel⟩
abbrev KX8_turned (l : Launch) (D : DD) (h0 : AH) (v : Int32) : KT := (l, yX8_turned, cX8_turned, 3, (some .int), RX8, 1, D, h0, h0, .inl (some (.int v)), false, [])
theorem metX8_turned (l : Launch) (D : DD) {a0 : Nat} {h0 : AH} {v : Int32} (hr : fX8_turned a0 h0 = some v) : AMet (KX8_turned l D h0 v) [.ref a0] := by
  refine AMet.of (K := (KX8_turned l D h0 v)) rfl ⟨_, rfl⟩ rfl rfl rfl (Nat.le_of_ble_eq_true rfl) (fun ls hl => ?_)
  have hl : lv_has ls 3 [(0, .ref a0)] := hl
  suffices hsp : SP (fX8_turned a0 h0) (fun z => z = v) (AW (KX8_turned l D h0 v) h0 0 ls []) from hsp _ hr rfl
  unfold fX8_turned
  refine sp_m (aw_iconst (v := 0) (pc := 0) dX8_turned_0 rfl) ?_
  refine sp_m (aw_istore_n (lv' := [(1, .int 0), (0, .ref a0)]) (pc := 1) dX8_turned_1 rfl hl (by decide) rfl) (sp_all fun ls hl => ?_)
  refine sp_m (aw_iconst (v := 0) (pc := 2) dX8_turned_2 rfl) ?_
  refine sp_m (aw_istore_n (lv' := [(2, .int 0), (1, .int 0), (0, .ref a0)]) (pc := 3) dX8_turned_3 rfl hl (by decide) rfl) (sp_all fun ls hl => ?_)
  let P1 : Int32 × Int32 → Prop := aLP (KX8_turned l D h0 v) 3 4 (fun s1v : Int32 × Int32 => [(0, .ref a0), (1, .int s1v.1), (2, .int s1v.2)]) (fun s1v => h0)
  let E1 : Int32 → Prop := aLP (KX8_turned l D h0 v) 3 40 (fun r1v : Int32 => [(1, .int r1v)]) (fun r1v => h0)
  refine sp_bl (P := P1) (E := E1) (fun s1v => sp_all fun ls hl => ?_) (fun k => k ls (lv_sub hl [2, 1, 0] rfl)) (fun r1v => sp_all fun ls hl => ?_)
  · have hl : lv_has ls 3 [(0, .ref a0), (1, .int s1v.1), (2, .int s1v.2)] := hl
    show SP _ _ (AW (KX8_turned l D h0 v) h0 4 ls [])
    unfold X8_turned_L4
    refine sp_m (aw_iload_n (pc := 4) dX8_turned_4 rfl (lv_at hl 2 rfl)) ?_
    refine sp_m (aw_aload_n (pc := 5) dX8_turned_5 rfl (lv_at hl 0 rfl)) ?_
    refine sp_g fun s2 => ?_
    refine sp_m (aw_get (k := 8) okX8 s2 (by decide) q502 (Or.inl rfl) rfl (pc := 6) dX8_turned_6) ?_
    refine sp_if (fun c3 => ?_) (fun c3 => ?_)
    · refine sp_m (aw_icmp_ge_t (tgt := 40) (pc := 9) dX8_turned_9 (by decide) c3) ?_
      exact sp_r fun hz => hz ls (lv_sub hl [1] rfl)
    · refine sp_m (aw_icmp_ge_f (tgt := 40) (pc := 9) dX8_turned_9 (by decide) c3) ?_
      refine sp_m (aw_iload_n (pc := 12) dX8_turned_12 rfl (lv_at hl 1 rfl)) ?_
      refine sp_m (aw_aload_n (pc := 13) dX8_turned_13 rfl (lv_at hl 0 rfl)) ?_
      refine sp_b fun x4 ex4 => ?_
      refine sp_m (aw_get (k := 3) okX8 s2 (by decide) q488 (Or.inl rfl) (congrArg va_rf ex4) (pc := 14) dX8_turned_14) ?_
      refine sp_m (aw_iload_n (pc := 17) dX8_turned_17 rfl (lv_at hl 2 rfl)) ?_
      refine sp_g fun s5 => ?_
      refine sp_g fun i6 => ?_
      refine sp_b fun x7 ex7 => ?_
      refine sp_m (aw_aald (t := 5) s5 (by decide) rfl rfl i6 (congrArg va_rf ex7) (pc := 18) dX8_turned_18) ?_
      refine sp_g fun s8 => ?_
      refine sp_m (G' := AW (KX8_turned l D h0 v) h0 (22) ls (.int (gI h0 x7 3) :: .int s1v.1 :: [])) (fun kk => by rcases s8 with z | z | z | z; exact aw_get (k := 3) okX15 z (by decide) q824 (Or.inl rfl) rfl (pc := 19) dX8_turned_19 kk; exact aw_get (k := 3) okX16 z (by decide) q824 (Or.inl rfl) rfl (pc := 19) dX8_turned_19 kk; exact aw_get (k := 3) okX17 z (by decide) q824 (Or.inl rfl) rfl (pc := 19) dX8_turned_19 kk; exact aw_get (k := 3) okX18 z (by decide) q824 (Or.inl rfl) rfl (pc := 19) dX8_turned_19 kk) ?_
      have hj32_1 : ∀ j9 : Int32, ∀ ls : Array Slot, lv_has ls 3 [(0, .ref a0), (2, .int s1v.2)] → SP (X8_turned_j32 s1v j9) (ZL P1 E1) (AW (KX8_turned l D h0 v) h0 32 ls (.int j9 :: .int s1v.1 :: [])) := by
        intro j9 ls hl
        unfold X8_turned_j32
        refine sp_m (aw_ior (pc := 32) dX8_turned_32) ?_
        refine sp_m (aw_istore_n (lv' := [(1, .int (s1v.1 ||| j9)), (0, .ref a0), (2, .int s1v.2)]) (pc := 33) dX8_turned_33 rfl hl (by decide) rfl) (sp_all fun ls hl => ?_)
        refine sp_m (aw_iinc (v := s1v.2 + 1) (lv' := [(2, .int (s1v.2 + 1)), (1, .int (s1v.1 ||| j9)), (0, .ref a0)]) (pc := 34) dX8_turned_34 hl (k := 2) rfl rfl (by decide) rfl) (sp_all fun ls hl => ?_)
        refine sp_m (aw_goto (tgt := 4) (pc := 37) dX8_turned_37 (by decide)) ?_
        exact sp_r fun hz => hz ls (lv_sub hl [2, 1, 0] rfl)
      refine sp_if (fun c10 => ?_) (fun c10 => ?_)
      · refine sp_m (aw_if_eq_t (tgt := 31) (pc := 22) dX8_turned_22 (by decide) c10) ?_
        refine sp_m (aw_iconst (v := 0) (pc := 31) dX8_turned_31 rfl) ?_
        exact hj32_1 0 ls (lv_sub hl [0, 2] rfl)
      · refine sp_m (aw_if_eq_f (tgt := 31) (pc := 22) dX8_turned_22 (by decide) c10) ?_
        refine sp_m (aw_iconst (v := 1) (pc := 25) dX8_turned_25 rfl) ?_
        refine sp_m (aw_iload_n (pc := 26) dX8_turned_26 rfl (lv_at hl 2 rfl)) ?_
        refine sp_m (aw_ishl (pc := 27) dX8_turned_27) ?_
        refine sp_m (aw_goto (tgt := 32) (pc := 28) dX8_turned_28 (by decide)) ?_
        exact hj32_1 (1 <<< (s1v.2 &&& 31)) ls (lv_sub hl [0, 2] rfl)
  · have hl : lv_has ls 3 [(1, .int r1v)] := hl
    show SP _ _ (AW (KX8_turned l D h0 v) h0 40 ls [])
    refine sp_m (aw_iload_n (pc := 40) dX8_turned_40 rfl (lv_at hl 0 rfl)) ?_
    exact sp_r fun hz => aw_iret (congrArg (fun z => (z, h0)) hz) rfl rfl rfl (pc := 41) dX8_turned_41
theorem mok_X1_seekFits : mOK yX1_seekFits 2 := ⟨⟨by decide +kernel, by decide +kernel⟩, by decide +kernel⟩
abbrev KX1_seekFits (l : Launch) (D : DD) (h0 hE : AH) : KT := (l, yX1_seekFits, cX1_seekFits, 4, none, RX1, 5, D, h0, hE, .inl (none), false, [])
theorem metX1_seekFits (l : Launch) (D : DD) {a0 : Nat} {a1 : Int32} {a2 : Int32} {h0 : AH} {hE : AH} (hr : fX1_seekFits a0 a1 a2 h0 = some hE) : AMet (KX1_seekFits l D h0 hE) [.ref a0, .int a1, .int a2] := by
  refine AMet.of (K := (KX1_seekFits l D h0 hE)) rfl ⟨_, rfl⟩ rfl rfl rfl (Nat.le_of_ble_eq_true rfl) (fun ls hl => ?_)
  have hl : lv_has ls 4 [(0, .ref a0), (1, .int a1), (2, .int a2)] := hl
  suffices hsp : SP (fX1_seekFits a0 a1 a2 h0) (fun z => z = hE) (AW (KX1_seekFits l D h0 hE) h0 0 ls []) from hsp _ hr rfl
  unfold fX1_seekFits
  refine sp_m (aw_aload_n (pc := 0) dX1_seekFits_0 rfl (lv_at hl 0 rfl)) ?_
  refine sp_m (aw_iconst (v := 0) (pc := 1) dX1_seekFits_1 rfl) ?_
  refine sp_g fun s1 => ?_
  refine sp_t fun h2 eh20 => ?_
  have eh2 : gS h2 = gS h0 := by rw [eh20]; rfl
  refine sp_m (aw_put (k := 17) okX1 opX1 s1 (by decide) q383 (Or.inl rfl) (Or.inl rfl) (hasV_I' eh20) rfl rfl (pc := 2) dX1_seekFits_2) ?_
  refine sp_m (aw_aload_n (pc := 5) dX1_seekFits_5 rfl (lv_at hl 0 rfl)) ?_
  refine sp_m (aw_iconst (v := 0) (pc := 6) dX1_seekFits_6 rfl) ?_
  refine sp_t fun h3 eh30 => ?_
  have eh3 : gS h3 = gS h2 := by rw [eh30]; rfl
  refine sp_m (aw_put (k := 18) okX1 opX1 (uS eh2 s1) (by decide) q384 (Or.inl rfl) (Or.inl rfl) (hasV_I' eh30) rfl rfl (pc := 7) dX1_seekFits_7) ?_
  refine sp_m (aw_aload_n (pc := 10) dX1_seekFits_10 rfl (lv_at hl 0 rfl)) ?_
  refine sp_m (aw_iconst (v := 1) (pc := 11) dX1_seekFits_11 rfl) ?_
  refine sp_m (aw_aload_n (pc := 12) dX1_seekFits_12 rfl (lv_at hl 0 rfl)) ?_
  refine sp_b fun x4 ex4 => ?_
  refine sp_m (aw_get (k := 3) okX1 (uS eh3 (uS eh2 s1)) (by decide) q369 (Or.inl rfl) (congrArg va_rf ex4) (pc := 13) dX1_seekFits_13) ?_
  refine sp_g fun s5 => ?_
  refine sp_m (aw_get (k := 8) okX8 s5 (by decide) q505 (Or.inl rfl) rfl (pc := 16) dX1_seekFits_16) ?_
  refine sp_m (aw_ishl (pc := 19) dX1_seekFits_19) ?_
  refine sp_m (aw_iconst (v := 1) (pc := 20) dX1_seekFits_20 rfl) ?_
  refine sp_m (aw_isub (pc := 21) dX1_seekFits_21) ?_
  refine sp_t fun h6 eh60 => ?_
  have eh6 : gS h6 = gS h3 := by rw [eh60]; rfl
  refine sp_m (aw_put (k := 19) okX1 opX1 (uS eh3 (uS eh2 s1)) (by decide) q385 (Or.inl rfl) (Or.inl rfl) (hasV_I' eh60) rfl rfl (pc := 22) dX1_seekFits_22) ?_
  refine sp_m (aw_iconst (v := 1) (pc := 25) dX1_seekFits_25 rfl) ?_
  refine sp_m (aw_istore_n (lv' := [(3, .int 1), (0, .ref a0), (1, .int a1), (2, .int a2)]) (pc := 26) dX1_seekFits_26 rfl hl (by decide) rfl) (sp_all fun ls hl => ?_)
  let P7 : Int32 × AH → Prop := aLP (KX1_seekFits l D h0 hE) 4 27 (fun s7v : Int32 × AH => [(0, .ref a0), (1, .int a1), (2, .int a2), (3, .int s7v.1)]) (fun s7v => s7v.2)
  let E7 : AH → Prop := aLP (KX1_seekFits l D h0 hE) 4 122 (fun r7v : AH => [(0, .ref a0)]) (fun r7v => r7v)
  refine sp_bl (P := P7) (E := E7) (fun s7v => sp_all fun ls hl => ?_) (fun k => k ls (lv_sub hl [1, 2, 3, 0] rfl)) (fun r7v => sp_all fun ls hl => ?_)
  · have hl : lv_has ls 4 [(0, .ref a0), (1, .int a1), (2, .int a2), (3, .int s7v.1)] := hl
    show SP _ _ (AW (KX1_seekFits l D h0 hE) s7v.2 27 ls [])
    unfold X1_seekFits_L27
    refine sp_m (aw_iload_n (pc := 27) dX1_seekFits_27 rfl (lv_at hl 3 rfl)) ?_
    refine sp_m (aw_iconst (v := 1) (pc := 28) dX1_seekFits_28 rfl) ?_
    refine sp_m (aw_aload_n (pc := 29) dX1_seekFits_29 rfl (lv_at hl 0 rfl)) ?_
    refine sp_g fun s8 => ?_
    refine sp_b fun x9 ex9 => ?_
    refine sp_m (aw_get (k := 3) okX1 s8 (by decide) q369 (Or.inl rfl) (congrArg va_rf ex9) (pc := 30) dX1_seekFits_30) ?_
    refine sp_g fun s10 => ?_
    refine sp_m (aw_get (k := 8) okX8 s10 (by decide) q505 (Or.inl rfl) rfl (pc := 33) dX1_seekFits_33) ?_
    refine sp_m (aw_ishl (pc := 36) dX1_seekFits_36) ?_
    refine sp_if (fun c11 => ?_) (fun c11 => ?_)
    · refine sp_m (aw_icmp_ge_t (tgt := 122) (pc := 37) dX1_seekFits_37 (by decide) c11) ?_
      exact sp_r fun hz => hz ls (lv_sub hl [0] rfl)
    · refine sp_m (aw_icmp_ge_f (tgt := 122) (pc := 37) dX1_seekFits_37 (by decide) c11) ?_
      refine sp_m (aw_iload_n (pc := 40) dX1_seekFits_40 rfl (lv_at hl 3 rfl)) ?_
      refine sp_m (aw_aload_n (pc := 41) dX1_seekFits_41 rfl (lv_at hl 0 rfl)) ?_
      refine sp_b fun x12 ex12 => ?_
      refine sp_m (aw_get (k := 9) okX1 s8 (by decide) q375 (Or.inl rfl) (congrArg va_rf ex12) (pc := 42) dX1_seekFits_42) ?_
      refine sp_g fun s13 => ?_
      refine sp_m (aw_get (k := 4) okX4 s13 (by decide) q281 (Or.inl rfl) rfl (pc := 45) dX1_seekFits_45) ?_
      refine sp_m (aw_iand (pc := 48) dX1_seekFits_48) ?_
      have hj116_1 : ∀ h14 : AH, ∀ ls : Array Slot, lv_has ls 4 [(0, .ref a0), (1, .int a1), (2, .int a2), (3, .int s7v.1)] → SP (X1_seekFits_j116 s7v h14) (ZL P7 E7) (AW (KX1_seekFits l D h0 hE) h14 116 ls ([])) := by
        intro h14 ls hl
        unfold X1_seekFits_j116
        refine sp_m (aw_iinc (v := s7v.1 + 1) (lv' := [(3, .int (s7v.1 + 1)), (0, .ref a0), (1, .int a1), (2, .int a2)]) (pc := 116) dX1_seekFits_116 hl (k := 3) rfl rfl (by decide) rfl) (sp_all fun ls hl => ?_)
        refine sp_m (aw_goto (tgt := 27) (pc := 119) dX1_seekFits_119 (by decide)) ?_
        exact sp_r fun hz => hz ls (lv_sub hl [1, 2, 3, 0] rfl)
      refine sp_if (fun c15 => ?_) (fun c15 => ?_)
      · refine sp_m (aw_if_ne_t (tgt := 116) (pc := 49) dX1_seekFits_49 (by decide) c15) ?_
        exact hj116_1 s7v.2 ls (lv_sub hl [0, 1, 2, 3] rfl)
      · refine sp_m (aw_if_ne_f (tgt := 116) (pc := 49) dX1_seekFits_49 (by decide) (Decidable.not_not.mp c15)) ?_
        refine sp_m (aw_aload_n (pc := 52) dX1_seekFits_52 rfl (lv_at hl 0 rfl)) ?_
        refine sp_b fun x16 ex16 => ?_
        refine sp_m (aw_get (k := 9) okX1 s8 (by decide) q375 (Or.inl rfl) (congrArg va_rf ex16) (pc := 53) dX1_seekFits_53) ?_
        refine sp_m (aw_iload_n (pc := 56) dX1_seekFits_56 rfl (lv_at hl 3 rfl)) ?_
        refine sp_g fun s18 => ?_
        refine sp_b fun p17 ep17 => ?_
        refine sp_m (G' := AW (KX1_seekFits l D h0 hE) s7v.2 (60) ls (.int p17 :: [])) (fun kk => aw_callV (As := [.int s7v.1]) (metX4_turnedBy _ _ ep17) (rcv_o okX4 s18) rfl mok_X4_turnedBy q1337 q1338 q1339 q122 q1340 (Nat.le_of_ble_eq_true rfl) (Nat.le_of_ble_eq_true rfl) rfl hl.1 rfl (Nat.le_of_ble_eq_true rfl) (pc := 57) dX1_seekFits_57 kk) ?_
        refine sp_m (aw_aload_n (pc := 60) dX1_seekFits_60 rfl (lv_at hl 0 rfl)) ?_
        refine sp_b fun x19 ex19 => ?_
        refine sp_m (aw_get (k := 3) okX1 s8 (by decide) q369 (Or.inl rfl) (congrArg va_rf ex19) (pc := 61) dX1_seekFits_61) ?_
        refine sp_g fun s21 => ?_
        refine sp_b fun p20 ep20 => ?_
        refine sp_m (G' := AW (KX1_seekFits l D h0 hE) s7v.2 (67) ls (.int p20 :: .int p17 :: [])) (fun kk => aw_callV (As := []) (metX8_turned _ _ ep20) (rcv_o okX8 s21) rfl mok_X8_turned q1344 q1345 q1346 q126 q1347 (Nat.le_of_ble_eq_true rfl) (Nat.le_of_ble_eq_true rfl) rfl hl.1 rfl (Nat.le_of_ble_eq_true rfl) (pc := 64) dX1_seekFits_64 kk) ?_
        refine sp_if (fun c22 => ?_) (fun c22 => ?_)
        · refine sp_m (aw_icmp_ne_t (tgt := 116) (pc := 67) dX1_seekFits_67 (by decide) c22) ?_
          exact hj116_1 s7v.2 ls (lv_sub hl [0, 1, 2, 3] rfl)
        · refine sp_m (aw_icmp_ne_f (tgt := 116) (pc := 67) dX1_seekFits_67 (by decide) (Decidable.not_not.mp c22)) ?_
          refine sp_m (aw_iload_n (pc := 70) dX1_seekFits_70 rfl (lv_at hl 1 rfl)) ?_
          have hj86_2 : ∀ ls : Array Slot, lv_has ls 4 [(0, .ref a0), (1, .int a1), (2, .int a2), (3, .int s7v.1)] → SP (X1_seekFits_j86 a0 s7v) (ZL P7 E7) (AW (KX1_seekFits l D h0 hE) s7v.2 86 ls ([])) := by
            intro ls hl
            unfold X1_seekFits_j86
            refine sp_m (aw_aload_n (pc := 86) dX1_seekFits_86 rfl (lv_at hl 0 rfl)) ?_
            refine sp_m (aw_dup (pc := 87) dX1_seekFits_87 rfl) ?_
            refine sp_m (aw_get (k := 17) okX1 s8 (by decide) q383 (Or.inl rfl) rfl (pc := 88) dX1_seekFits_88) ?_
            refine sp_m (aw_iconst (v := 1) (pc := 91) dX1_seekFits_91 rfl) ?_
            refine sp_m (aw_iadd (pc := 92) dX1_seekFits_92) ?_
            refine sp_t fun h23 eh230 => ?_
            have eh23 : gS h23 = gS s7v.2 := by rw [eh230]; rfl
            refine sp_m (aw_put (k := 17) okX1 opX1 s8 (by decide) q383 (Or.inl rfl) (Or.inl rfl) (hasV_I' eh230) rfl rfl (pc := 93) dX1_seekFits_93) ?_
            refine sp_m (aw_aload_n (pc := 96) dX1_seekFits_96 rfl (lv_at hl 0 rfl)) ?_
            refine sp_m (aw_dup (pc := 97) dX1_seekFits_97 rfl) ?_
            refine sp_m (aw_get (k := 18) okX1 (uS eh23 s8) (by decide) q384 (Or.inl rfl) rfl (pc := 98) dX1_seekFits_98) ?_
            refine sp_m (aw_iload_n (pc := 101) dX1_seekFits_101 rfl (lv_at hl 3 rfl)) ?_
            refine sp_m (aw_ior (pc := 102) dX1_seekFits_102) ?_
            refine sp_t fun h24 eh240 => ?_
            have eh24 : gS h24 = gS h23 := by rw [eh240]; rfl
            refine sp_m (aw_put (k := 18) okX1 opX1 (uS eh23 s8) (by decide) q384 (Or.inl rfl) (Or.inl rfl) (hasV_I' eh240) rfl rfl (pc := 103) dX1_seekFits_103) ?_
            refine sp_m (aw_aload_n (pc := 106) dX1_seekFits_106 rfl (lv_at hl 0 rfl)) ?_
            refine sp_m (aw_dup (pc := 107) dX1_seekFits_107 rfl) ?_
            refine sp_m (aw_get (k := 19) okX1 (uS eh24 (uS eh23 s8)) (by decide) q385 (Or.inl rfl) rfl (pc := 108) dX1_seekFits_108) ?_
            refine sp_m (aw_iload_n (pc := 111) dX1_seekFits_111 rfl (lv_at hl 3 rfl)) ?_
            refine sp_m (aw_iand (pc := 112) dX1_seekFits_112) ?_
            refine sp_t fun h25 eh250 => ?_
            have eh25 : gS h25 = gS h24 := by rw [eh250]; rfl
            refine sp_m (aw_put (k := 19) okX1 opX1 (uS eh24 (uS eh23 s8)) (by decide) q385 (Or.inl rfl) (Or.inl rfl) (hasV_I' eh250) rfl rfl (pc := 113) dX1_seekFits_113) ?_
            exact hj116_1 h25 ls (lv_sub hl [0, 1, 2, 3] rfl)
          refine sp_if (fun c26 => ?_) (fun c26 => ?_)
          · refine sp_m (aw_if_lt_t (tgt := 86) (pc := 71) dX1_seekFits_71 (by decide) c26) ?_
            exact hj86_2 ls (lv_sub hl [0, 1, 2, 3] rfl)
          · refine sp_m (aw_if_lt_f (tgt := 86) (pc := 71) dX1_seekFits_71 (by decide) c26) ?_
            refine sp_m (aw_iload_n (pc := 74) dX1_seekFits_74 rfl (lv_at hl 3 rfl)) ?_
            refine sp_m (aw_iload_n (pc := 75) dX1_seekFits_75 rfl (lv_at hl 1 rfl)) ?_
            refine sp_b fun p27 ep27 => ?_
            refine sp_m (G' := AW (KX1_seekFits l D h0 hE) s7v.2 (79) ls (.int p27 :: [])) (fun kk => aw_callS (As := [.int s7v.1, .int a1]) (metX1_has _ _ ep27) mok_X1_has q1268 q968 q116 q969 (Nat.le_of_ble_eq_true rfl) (Nat.le_of_ble_eq_true rfl) rfl hl.1 rfl (Nat.le_of_ble_eq_true rfl) (pc := 76) dX1_seekFits_76 kk) ?_
            refine sp_m (aw_iload_n (pc := 79) dX1_seekFits_79 rfl (lv_at hl 2 rfl)) ?_
            refine sp_if (fun c28 => ?_) (fun c28 => ?_)
            · refine sp_m (aw_icmp_eq_t (tgt := 86) (pc := 80) dX1_seekFits_80 (by decide) c28) ?_
              exact hj86_2 ls (lv_sub hl [0, 1, 2, 3] rfl)
            · refine sp_m (aw_icmp_eq_f (tgt := 86) (pc := 80) dX1_seekFits_80 (by decide) c28) ?_
              refine sp_m (aw_goto (tgt := 116) (pc := 83) dX1_seekFits_83 (by decide)) ?_
              exact hj116_1 s7v.2 ls (lv_sub hl [0, 1, 2, 3] rfl)
  · have hl : lv_has ls 4 [(0, .ref a0)] := hl
    show SP _ _ (AW (KX1_seekFits l D h0 hE) r7v 122 ls [])
    refine sp_m (aw_aload_n (pc := 122) dX1_seekFits_122 rfl (lv_at hl 0 rfl)) ?_
    refine sp_g fun s29 => ?_
    refine sp_m (aw_get (k := 17) okX1 s29 (by decide) q383 (Or.inl rfl) rfl (pc := 123) dX1_seekFits_123) ?_
    refine sp_if (fun c30 => ?_) (fun c30 => ?_)
    · refine sp_m (aw_if_ne_t (tgt := 134) (pc := 126) dX1_seekFits_126 (by decide) c30) ?_
      exact sp_r fun hz => aw_vret hz rfl rfl rfl (pc := 134) dX1_seekFits_134
    · refine sp_m (aw_if_ne_f (tgt := 134) (pc := 126) dX1_seekFits_126 (by decide) (Decidable.not_not.mp c30)) ?_
      refine sp_m (aw_aload_n (pc := 129) dX1_seekFits_129 rfl (lv_at hl 0 rfl)) ?_
      refine sp_m (aw_iconst (v := 0) (pc := 130) dX1_seekFits_130 rfl) ?_
      refine sp_t fun h31 eh310 => ?_
      have eh31 : gS h31 = gS r7v := by rw [eh310]; rfl
      refine sp_m (aw_put (k := 19) okX1 opX1 s29 (by decide) q385 (Or.inl rfl) (Or.inl rfl) (hasV_I' eh310) rfl rfl (pc := 131) dX1_seekFits_131) ?_
      exact sp_r fun hz => aw_vret hz rfl rfl rfl (pc := 134) dX1_seekFits_134
theorem mok_X1_leavesBy : mOK yX1_leavesBy 1 := ⟨⟨by decide +kernel, by decide +kernel⟩, by decide +kernel⟩
abbrev KX1_leavesBy (l : Launch) (D : DD) (h0 hE : AH) (v : Int32) : KT := (l, yX1_leavesBy, cX1_leavesBy, 3, (some .int), RX1, 6, D, h0, hE, .inl (some (.int v)), false, [])
theorem metX1_leavesBy (l : Launch) (D : DD) {a0 : Nat} {a1 : Int32} {h0 : AH} {hE : AH} {v : Int32} (hr : fX1_leavesBy a0 a1 h0 = some (v, hE)) : AMet (KX1_leavesBy l D h0 hE v) [.ref a0, .int a1] := by
  refine AMet.of (K := (KX1_leavesBy l D h0 hE v)) rfl ⟨_, rfl⟩ rfl rfl rfl (Nat.le_of_ble_eq_true rfl) (fun ls hl => ?_)
  have hl : lv_has ls 3 [(0, .ref a0), (1, .int a1)] := hl
  suffices hsp : SP (fX1_leavesBy a0 a1 h0) (fun z => z = (v, hE)) (AW (KX1_leavesBy l D h0 hE v) h0 0 ls []) from hsp _ hr rfl
  unfold fX1_leavesBy
  refine sp_m (aw_aload_n (pc := 0) dX1_leavesBy_0 rfl (lv_at hl 0 rfl)) ?_
  refine sp_m (aw_iload_n (pc := 1) dX1_leavesBy_1 rfl (lv_at hl 1 rfl)) ?_
  refine sp_m (aw_iconst (v := 1) (pc := 2) dX1_leavesBy_2 rfl) ?_
  refine sp_g fun s2 => ?_
  refine sp_b fun p1 ep1 => ?_
  refine sp_m (G' := AW (KX1_leavesBy l D h0 hE v) p1 (6) ls ([])) (fun kk => aw_callV (As := [.int a1, .int 1]) (metX1_seekFits _ _ ep1) (rcv_o okX1 s2) rfl mok_X1_seekFits q1333 q1335 qs43 q116 q1336 (Nat.le_of_ble_eq_true rfl) (Nat.le_of_ble_eq_true rfl) rfl hl.1 rfl (Nat.le_of_ble_eq_true rfl) (pc := 3) dX1_leavesBy_3 kk) ?_
  refine sp_m (aw_aload_n (pc := 6) dX1_leavesBy_6 rfl (lv_at hl 0 rfl)) ?_
  refine sp_g fun s3 => ?_
  refine sp_m (aw_get (k := 17) okX1 s3 (by decide) q383 (Or.inl rfl) rfl (pc := 7) dX1_leavesBy_7) ?_
  refine sp_m (aw_istore_n (lv' := [(2, .int (gI p1 a0 17)), (0, .ref a0), (1, .int a1)]) (pc := 10) dX1_leavesBy_10 rfl hl (by decide) rfl) (sp_all fun ls hl => ?_)
  refine sp_m (aw_aload_n (pc := 11) dX1_leavesBy_11 rfl (lv_at hl 1 rfl)) ?_
  refine sp_m (aw_iload_n (pc := 12) dX1_leavesBy_12 rfl (lv_at hl 2 rfl)) ?_
  refine sp_m (aw_iconst (v := 0) (pc := 13) dX1_leavesBy_13 rfl) ?_
  refine sp_b fun p4 ep4 => ?_
  refine sp_m (G' := AW (KX1_leavesBy l D h0 hE v) p4 (17) ls ([])) (fun kk => aw_callV (As := [.int a1, .int 0]) (metX1_seekFits _ _ ep4) (rcv_o okX1 s3) rfl mok_X1_seekFits q1333 q1335 qs43 q116 q1336 (Nat.le_of_ble_eq_true rfl) (Nat.le_of_ble_eq_true rfl) rfl hl.1 rfl (Nat.le_of_ble_eq_true rfl) (pc := 14) dX1_leavesBy_14 kk) ?_
  refine sp_m (aw_iload_n (pc := 17) dX1_leavesBy_17 rfl (lv_at hl 0 rfl)) ?_
  refine sp_m (aw_aload_n (pc := 18) dX1_leavesBy_18 rfl (lv_at hl 1 rfl)) ?_
  refine sp_g fun s5 => ?_
  refine sp_m (aw_get (k := 17) okX1 s5 (by decide) q383 (Or.inl rfl) rfl (pc := 19) dX1_leavesBy_19) ?_
  refine sp_m (aw_mmax hl.1 q1364 q1015 q145 q1016 (Nat.le_of_ble_eq_true rfl) (Nat.le_of_ble_eq_true rfl) (pc := 22) dX1_leavesBy_22) ?_
  exact sp_r fun hz => aw_iret hz rfl rfl rfl (pc := 25) dX1_leavesBy_25
theorem mok_X1_ask : mOK yX1_ask 0 := ⟨⟨by decide +kernel, by decide +kernel⟩, by decide +kernel⟩
abbrev KX1_ask (l : Launch) (D : DD) (h0 hE : AH) (v : Int32) : KT := (l, yX1_ask, cX1_ask, 3, (some .int), RX1, 7, D, h0, hE, .inl (some (.int v)), false, [])
theorem metX1_ask (l : Launch) (D : DD) {a0 : Nat} {h0 : AH} {hE : AH} {v : Int32} (hr : fX1_ask a0 h0 = some (v, hE)) : AMet (KX1_ask l D h0 hE v) [.ref a0] := by
  refine AMet.of (K := (KX1_ask l D h0 hE v)) rfl ⟨_, rfl⟩ rfl rfl rfl (Nat.le_of_ble_eq_true rfl) (fun ls hl => ?_)
  have hl : lv_has ls 3 [(0, .ref a0)] := hl
  suffices hsp : SP (fX1_ask a0 h0) (fun z => z = (v, hE)) (AW (KX1_ask l D h0 hE v) h0 0 ls []) from hsp _ hr rfl
  unfold fX1_ask
  refine sp_m (aw_aload_n (pc := 0) dX1_ask_0 rfl (lv_at hl 0 rfl)) ?_
  refine sp_g fun s2 => ?_
  refine sp_b fun p1 ep1 => ?_
  refine sp_m (G' := AW (KX1_ask l D h0 hE v) p1 (4) ls ([])) (fun kk => aw_callV (As := []) (metX1_anew _ _ ep1) (rcv_o okX1 s2) rfl mok_X1_anew q452 q454 qs2 q116 q455 (Nat.le_of_ble_eq_true rfl) (Nat.le_of_ble_eq_true rfl) rfl hl.1 rfl (Nat.le_of_ble_eq_true rfl) (pc := 1) dX1_ask_1 kk) ?_
  refine sp_m (aw_aload_n (pc := 4) dX1_ask_4 rfl (lv_at hl 0 rfl)) ?_
  refine sp_g fun s3 => ?_
  refine sp_o (fun ex4 => ?_) (fun x4 ex4 => ?_)
  · refine sp_m (aw_get (k := 3) okX1 s3 (by decide) q369 (Or.inl rfl) (congrArg va_rf ex4) (pc := 5) dX1_ask_5) ?_
    refine sp_m (aw_ifnonnullN (pc := 8) dX1_ask_8) ?_
    refine sp_m (aw_aload_n (pc := 11) dX1_ask_11 rfl (lv_at hl 0 rfl)) ?_
    refine sp_m (aw_iconst (v := 1) (pc := 12) dX1_ask_12 rfl) ?_
    refine sp_b fun p18 ep18 => ?_
    refine sp_m (G' := AW (KX1_ask l D h0 hE v) p18.2 (16) ls (.int p18.1 :: [])) (fun kk => aw_callV (As := [.int 1]) (metX1_no _ _ ep18) (rcv_o okX1 s3) rfl mok_X1_no q459 q461 qs3 q116 q462 (Nat.le_of_ble_eq_true rfl) (Nat.le_of_ble_eq_true rfl) rfl hl.1 rfl (Nat.le_of_ble_eq_true rfl) (pc := 13) dX1_ask_13 kk) ?_
    exact sp_r fun hz => aw_iret hz rfl rfl rfl (pc := 16) dX1_ask_16
  · refine sp_m (aw_get (k := 3) okX1 s3 (by decide) q369 (Or.inl rfl) (congrArg va_rf ex4) (pc := 5) dX1_ask_5) ?_
    refine sp_m (aw_ifnonnull (tgt := 17) (pc := 8) dX1_ask_8 (by decide)) ?_
    refine sp_m (aw_iconst (v := 0) (pc := 17) dX1_ask_17 rfl) ?_
    refine sp_m (aw_istore_n (lv' := [(1, .int 0), (0, .ref a0)]) (pc := 18) dX1_ask_18 rfl hl (by decide) rfl) (sp_all fun ls hl => ?_)
    refine sp_m (aw_iconst (v := 1) (pc := 19) dX1_ask_19 rfl) ?_
    refine sp_m (aw_istore_n (lv' := [(2, .int 1), (1, .int 0), (0, .ref a0)]) (pc := 20) dX1_ask_20 rfl hl (by decide) rfl) (sp_all fun ls hl => ?_)
    let P5 : Int32 × Int32 × AH → Prop := aLP (KX1_ask l D h0 hE v) 3 21 (fun s5v : Int32 × Int32 × AH => [(0, .ref a0), (1, .int s5v.1), (2, .int s5v.2.1)]) (fun s5v => s5v.2.2)
    let E5 : Int32 × AH → Prop := aLP (KX1_ask l D h0 hE v) 3 53 (fun r5v : Int32 × AH => [(0, .ref a0), (1, .int r5v.1)]) (fun r5v => r5v.2)
    refine sp_bl (P := P5) (E := E5) (fun s5v => sp_all fun ls hl => ?_) (fun k => k ls (lv_sub hl [2, 1, 0] rfl)) (fun r5v => sp_all fun ls hl => ?_)
    · have hl : lv_has ls 3 [(0, .ref a0), (1, .int s5v.1), (2, .int s5v.2.1)] := hl
      show SP _ _ (AW (KX1_ask l D h0 hE v) s5v.2.2 21 ls [])
      unfold X1_ask_L21
      refine sp_m (aw_iload_n (pc := 21) dX1_ask_21 rfl (lv_at hl 2 rfl)) ?_
      refine sp_m (aw_aload_n (pc := 22) dX1_ask_22 rfl (lv_at hl 0 rfl)) ?_
      refine sp_g fun s6 => ?_
      refine sp_b fun x7 ex7 => ?_
      refine sp_m (aw_get (k := 3) okX1 s6 (by decide) q369 (Or.inl rfl) (congrArg va_rf ex7) (pc := 23) dX1_ask_23) ?_
      refine sp_g fun s8 => ?_
      refine sp_m (aw_get (k := 8) okX8 s8 (by decide) q505 (Or.inl rfl) rfl (pc := 26) dX1_ask_26) ?_
      refine sp_if (fun c9 => ?_) (fun c9 => ?_)
      · refine sp_m (aw_icmp_ge_t (tgt := 53) (pc := 29) dX1_ask_29 (by decide) c9) ?_
        exact sp_r fun hz => hz ls (lv_sub hl [0, 1] rfl)
      · refine sp_m (aw_icmp_ge_f (tgt := 53) (pc := 29) dX1_ask_29 (by decide) c9) ?_
        refine sp_m (aw_aload_n (pc := 32) dX1_ask_32 rfl (lv_at hl 0 rfl)) ?_
        refine sp_m (aw_iload_n (pc := 33) dX1_ask_33 rfl (lv_at hl 2 rfl)) ?_
        refine sp_b fun p10 ep10 => ?_
        refine sp_m (G' := AW (KX1_ask l D h0 hE v) p10.2 (37) ls (.int p10.1 :: [])) (fun kk => aw_callV (As := [.int s5v.2.1]) (metX1_leavesBy _ _ ep10) (rcv_o okX1 s6) rfl mok_X1_leavesBy q1360 q1362 qs44 q116 q1363 (Nat.le_of_ble_eq_true rfl) (Nat.le_of_ble_eq_true rfl) rfl hl.1 rfl (Nat.le_of_ble_eq_true rfl) (pc := 34) dX1_ask_34 kk) ?_
        refine sp_m (aw_aload_n (pc := 37) dX1_ask_37 rfl (lv_at hl 0 rfl)) ?_
        refine sp_m (aw_iload_n (pc := 38) dX1_ask_38 rfl (lv_at hl 1 rfl)) ?_
        refine sp_g fun s12 => ?_
        refine sp_b fun p11 ep11 => ?_
        refine sp_m (G' := AW (KX1_ask l D h0 hE v) p11.2 (42) ls (.int p11.1 :: .int p10.1 :: [])) (fun kk => aw_callV (As := [.int s5v.1]) (metX1_leavesBy _ _ ep11) (rcv_o okX1 s12) rfl mok_X1_leavesBy q1360 q1362 qs44 q116 q1363 (Nat.le_of_ble_eq_true rfl) (Nat.le_of_ble_eq_true rfl) rfl hl.1 rfl (Nat.le_of_ble_eq_true rfl) (pc := 39) dX1_ask_39 kk) ?_
        have hj47_1 : ∀ j13 : Int32, ∀ ls : Array Slot, lv_has ls 3 [(0, .ref a0), (1, .int j13), (2, .int s5v.2.1)] → SP (X1_ask_j47 s5v p11 j13) (ZL P5 E5) (AW (KX1_ask l D h0 hE v) p11.2 47 ls ([])) := by
          intro j13 ls hl
          unfold X1_ask_j47
          refine sp_m (aw_iinc (v := s5v.2.1 + 1) (lv' := [(2, .int (s5v.2.1 + 1)), (0, .ref a0), (1, .int j13)]) (pc := 47) dX1_ask_47 hl (k := 2) rfl rfl (by decide) rfl) (sp_all fun ls hl => ?_)
          refine sp_m (aw_goto (tgt := 21) (pc := 50) dX1_ask_50 (by decide)) ?_
          exact sp_r fun hz => hz ls (lv_sub hl [1, 2, 0] rfl)
        refine sp_if (fun c14 => ?_) (fun c14 => ?_)
        · refine sp_m (aw_icmp_ge_t (tgt := 47) (pc := 42) dX1_ask_42 (by decide) c14) ?_
          exact hj47_1 s5v.1 ls (lv_sub hl [0, 1, 2] rfl)
        · refine sp_m (aw_icmp_ge_f (tgt := 47) (pc := 42) dX1_ask_42 (by decide) c14) ?_
          refine sp_m (aw_iload_n (pc := 45) dX1_ask_45 rfl (lv_at hl 2 rfl)) ?_
          refine sp_m (aw_istore_n (lv' := [(1, .int s5v.2.1), (0, .ref a0), (2, .int s5v.2.1)]) (pc := 46) dX1_ask_46 rfl hl (by decide) rfl) (sp_all fun ls hl => ?_)
          exact hj47_1 s5v.2.1 ls (lv_sub hl [1, 0, 2] rfl)
    · have hl : lv_has ls 3 [(0, .ref a0), (1, .int r5v.1)] := hl
      show SP _ _ (AW (KX1_ask l D h0 hE v) r5v.2 53 ls [])
      refine sp_m (aw_aload_n (pc := 53) dX1_ask_53 rfl (lv_at hl 0 rfl)) ?_
      refine sp_m (aw_iload_n (pc := 54) dX1_ask_54 rfl (lv_at hl 1 rfl)) ?_
      refine sp_g fun s16 => ?_
      refine sp_b fun p15 ep15 => ?_
      refine sp_m (G' := AW (KX1_ask l D h0 hE v) p15.2 (58) ls (.int p15.1 :: [])) (fun kk => aw_callV (As := [.int r5v.1]) (metX1_leavesBy _ _ ep15) (rcv_o okX1 s16) rfl mok_X1_leavesBy q1360 q1362 qs44 q116 q1363 (Nat.le_of_ble_eq_true rfl) (Nat.le_of_ble_eq_true rfl) rfl hl.1 rfl (Nat.le_of_ble_eq_true rfl) (pc := 55) dX1_ask_55 kk) ?_
      refine sp_if (fun c17 => ?_) (fun c17 => ?_)
      · refine sp_m (aw_if_ne_t (tgt := 66) (pc := 58) dX1_ask_58 (by decide) c17) ?_
        refine sp_m (aw_iload_n (pc := 66) dX1_ask_66 rfl (lv_at hl 1 rfl)) ?_
        exact sp_r fun hz => aw_iret hz rfl rfl rfl (pc := 67) dX1_ask_67
      · refine sp_m (aw_if_ne_f (tgt := 66) (pc := 58) dX1_ask_58 (by decide) (Decidable.not_not.mp c17)) ?_
        refine sp_m (aw_bipush (v := (-2)) (pc := 61) dX1_ask_61 rfl) ?_
        refine sp_m (aw_goto (tgt := 67) (pc := 63) dX1_ask_63 (by decide)) ?_
        exact sp_r fun hz => aw_iret hz rfl rfl rfl (pc := 67) dX1_ask_67
theorem mok_X1_yes : mOK yX1_yes 1 := ⟨⟨by decide +kernel, by decide +kernel⟩, by decide +kernel⟩
abbrev KX1_yes (l : Launch) (D : DD) (h0 hE : AH) (v : Int32) : KT := (l, yX1_yes, cX1_yes, 2, (some .boolean), RX1, 2, D, h0, hE, .inl (some (.int v)), false, [])
theorem metX1_yes (l : Launch) (D : DD) {a0 : Nat} {a1 : Int32} {h0 : AH} {hE : AH} {v : Int32} (hr : fX1_yes a0 a1 h0 = some (v, hE)) : AMet (KX1_yes l D h0 hE v) [.ref a0, .int a1] := by
  refine AMet.of (K := (KX1_yes l D h0 hE v)) rfl ⟨_, rfl⟩ rfl rfl rfl (Nat.le_of_ble_eq_true rfl) (fun ls hl => ?_)
  have hl : lv_has ls 2 [(0, .ref a0), (1, .int a1)] := hl
  suffices hsp : SP (fX1_yes a0 a1 h0) (fun z => z = (v, hE)) (AW (KX1_yes l D h0 hE v) h0 0 ls []) from hsp _ hr rfl
  unfold fX1_yes
  refine sp_m (aw_aload_n (pc := 0) dX1_yes_0 rfl (lv_at hl 0 rfl)) ?_
  refine sp_g fun s2 => ?_
  refine sp_b fun p1 ep1 => ?_
  refine sp_m (G' := AW (KX1_yes l D h0 hE v) p1 (4) ls ([])) (fun kk => aw_callV (As := []) (metX1_anew _ _ ep1) (rcv_o okX1 s2) rfl mok_X1_anew q452 q454 qs2 q116 q455 (Nat.le_of_ble_eq_true rfl) (Nat.le_of_ble_eq_true rfl) rfl hl.1 rfl (Nat.le_of_ble_eq_true rfl) (pc := 1) dX1_yes_1 kk) ?_
  refine sp_m (aw_aload_n (pc := 4) dX1_yes_4 rfl (lv_at hl 0 rfl)) ?_
  refine sp_m (aw_iload_n (pc := 5) dX1_yes_5 rfl (lv_at hl 1 rfl)) ?_
  refine sp_g fun s3 => ?_
  refine sp_t fun h4 eh40 => ?_
  have eh4 : gS h4 = gS p1 := by rw [eh40]; rfl
  refine sp_m (aw_put (k := 4) okX1 opX1 s3 (by decide) q370 (Or.inl rfl) (Or.inl rfl) (hasV_I' eh40) rfl rfl (pc := 6) dX1_yes_6) ?_
  refine sp_m (aw_iload_n (pc := 9) dX1_yes_9 rfl (lv_at hl 1 rfl)) ?_
  refine sp_if (fun c5 => ?_) (fun c5 => ?_)
  · refine sp_m (aw_if_ne_t (tgt := 17) (pc := 10) dX1_yes_10 (by decide) c5) ?_
    refine sp_m (aw_iconst (v := 0) (pc := 17) dX1_yes_17 rfl) ?_
    exact sp_r fun hz => aw_zret (nar_b (Or.inl rfl)) hz rfl rfl rfl (pc := 18) dX1_yes_18
  · refine sp_m (aw_if_ne_f (tgt := 17) (pc := 10) dX1_yes_10 (by decide) (Decidable.not_not.mp c5)) ?_
    refine sp_m (aw_iconst (v := 1) (pc := 13) dX1_yes_13 rfl) ?_
    refine sp_m (aw_goto (tgt := 18) (pc := 14) dX1_yes_14 (by decide)) ?_
    exact sp_r fun hz => aw_zret (nar_b (Or.inr rfl)) hz rfl rfl rfl (pc := 18) dX1_yes_18
theorem mok_X1_back : mOK yX1_back 1 := ⟨⟨by decide +kernel, by decide +kernel⟩, by decide +kernel⟩
abbrev KX1_back (l : Launch) (D : DD) (h0 hE : AH) (v : Int32) : KT := (l, yX1_back, cX1_back, 2, (some .boolean), RX1, 3, D, h0, hE, .inl (some (.int v)), false, [])
theorem metX1_back (l : Launch) (D : DD) {a0 : Nat} {a1 : Int32} {h0 : AH} {hE : AH} {v : Int32} (hr : fX1_back a0 a1 h0 = some (v, hE)) : AMet (KX1_back l D h0 hE v) [.ref a0, .int a1] := by
  refine AMet.of (K := (KX1_back l D h0 hE v)) rfl ⟨_, rfl⟩ rfl rfl rfl (Nat.le_of_ble_eq_true rfl) (fun ls hl => ?_)
  have hl : lv_has ls 2 [(0, .ref a0), (1, .int a1)] := hl
  suffices hsp : SP (fX1_back a0 a1 h0) (fun z => z = (v, hE)) (AW (KX1_back l D h0 hE v) h0 0 ls []) from hsp _ hr rfl
  unfold fX1_back
  refine sp_m (aw_aload_n (pc := 0) dX1_back_0 rfl (lv_at hl 0 rfl)) ?_
  refine sp_m (aw_iload_n (pc := 1) dX1_back_1 rfl (lv_at hl 1 rfl)) ?_
  refine sp_m (aw_iconst (v := 0) (pc := 2) dX1_back_2 rfl) ?_
  refine sp_m (aw_aload_n (pc := 3) dX1_back_3 rfl (lv_at hl 0 rfl)) ?_
  refine sp_g fun s1 => ?_
  refine sp_m (aw_get (k := 7) okX1 s1 (by decide) q373 (Or.inl rfl) rfl (pc := 4) dX1_back_4) ?_
  refine sp_m (aw_iconst (v := 1) (pc := 7) dX1_back_7 rfl) ?_
  refine sp_m (aw_isub (pc := 8) dX1_back_8) ?_
  refine sp_b fun p2 ep2 => ?_
  refine sp_m (G' := AW (KX1_back l D h0 hE v) h0 (12) ls (.int p2 :: .ref a0 :: [])) (fun kk => aw_callS (As := [.int a1, .int 0, .int ((gI h0 a0 7) - 1)]) (metX1_in _ _ ep2) mok_X1_in q456 q457 q116 q458 (Nat.le_of_ble_eq_true rfl) (Nat.le_of_ble_eq_true rfl) rfl hl.1 rfl (Nat.le_of_ble_eq_true rfl) (pc := 9) dX1_back_9 kk) ?_
  have hj20_1 : ∀ j3 : Int32, ∀ ls : Array Slot, lv_has ls 2 [(0, .ref a0), (1, .int a1)] → SP (X1_back_j20 a0 a1 h0 j3) (fun z => z = (v, hE)) (AW (KX1_back l D h0 hE v) h0 20 ls (.int j3 :: .ref a0 :: [])) := by
    intro j3 ls hl
    unfold X1_back_j20
    refine sp_b fun p4 ep4 => ?_
    refine sp_m (G' := AW (KX1_back l D h0 hE v) p4.2 (23) ls (.int p4.1 :: [])) (fun kk => aw_callV (As := [.int j3]) (metX1_yes _ _ ep4) (rcv_o okX1 s1) rfl mok_X1_yes q1410 q1412 qs47 q116 q1413 (Nat.le_of_ble_eq_true rfl) (Nat.le_of_ble_eq_true rfl) rfl hl.1 rfl (Nat.le_of_ble_eq_true rfl) (pc := 20) dX1_back_20 kk) ?_
    refine sp_if (fun c5 => ?_) (fun c5 => ?_)
    · refine sp_m (aw_if_ne_t (tgt := 28) (pc := 23) dX1_back_23 (by decide) c5) ?_
      refine sp_m (aw_aload_n (pc := 28) dX1_back_28 rfl (lv_at hl 0 rfl)) ?_
      refine sp_g fun s6 => ?_
      refine sp_b fun x7 ex7 => ?_
      refine sp_m (aw_get (k := 9) okX1 s6 (by decide) q375 (Or.inl rfl) (congrArg va_rf ex7) (pc := 29) dX1_back_29) ?_
      refine sp_m (aw_aload_n (pc := 32) dX1_back_32 rfl (lv_at hl 0 rfl)) ?_
      refine sp_b fun x8 ex8 => ?_
      refine sp_m (aw_get (k := 15) okX1 s6 (by decide) q381 (Or.inl rfl) (congrArg va_rf ex8) (pc := 33) dX1_back_33) ?_
      refine sp_m (aw_iload_n (pc := 36) dX1_back_36 rfl (lv_at hl 1 rfl)) ?_
      refine sp_g fun s9 => ?_
      refine sp_g fun i10 => ?_
      refine sp_b fun x11 ex11 => ?_
      refine sp_m (aw_aald (t := 4) s9 (by decide) rfl rfl i10 (congrArg va_rf ex11) (pc := 37) dX1_back_37) ?_
      refine sp_g fun s13 => ?_
      refine sp_b fun p12 ep12 => ?_
      refine sp_m (G' := AW (KX1_back l D h0 hE v) p12 (41) ls ([])) (fun kk => aw_callV (As := [.ref x11]) (metX4_become _ _ ep12) (rcv_o okX4 s13) rfl mok_X4_become q1166 q1167 q1168 q122 q1169 (Nat.le_of_ble_eq_true rfl) (Nat.le_of_ble_eq_true rfl) rfl hl.1 rfl (Nat.le_of_ble_eq_true rfl) (pc := 38) dX1_back_38 kk) ?_
      refine sp_m (aw_aload_n (pc := 41) dX1_back_41 rfl (lv_at hl 0 rfl)) ?_
      refine sp_m (aw_iconst (v := 0) (pc := 42) dX1_back_42 rfl) ?_
      refine sp_g fun s14 => ?_
      refine sp_t fun h15 eh150 => ?_
      have eh15 : gS h15 = gS p12 := by rw [eh150]; rfl
      refine sp_m (aw_put (k := 8) okX1 opX1 s14 (by decide) q374 (Or.inl rfl) (Or.inl rfl) (hasV_I' eh150) rfl rfl (pc := 43) dX1_back_43) ?_
      refine sp_m (aw_iconst (v := 1) (pc := 46) dX1_back_46 rfl) ?_
      exact sp_r fun hz => aw_zret (nar_b (Or.inr rfl)) hz rfl rfl rfl (pc := 47) dX1_back_47
    · refine sp_m (aw_if_ne_f (tgt := 28) (pc := 23) dX1_back_23 (by decide) (Decidable.not_not.mp c5)) ?_
      refine sp_m (aw_iconst (v := 0) (pc := 26) dX1_back_26 rfl) ?_
      exact sp_r fun hz => aw_zret (nar_b (Or.inl rfl)) hz rfl rfl rfl (pc := 27) dX1_back_27
  refine sp_if (fun c16 => ?_) (fun c16 => ?_)
  · refine sp_m (aw_if_eq_t (tgt := 19) (pc := 12) dX1_back_12 (by decide) c16) ?_
    refine sp_m (aw_iconst (v := 1) (pc := 19) dX1_back_19 rfl) ?_
    exact hj20_1 1 ls (lv_sub hl [0, 1] rfl)
  · refine sp_m (aw_if_eq_f (tgt := 19) (pc := 12) dX1_back_12 (by decide) c16) ?_
    refine sp_m (aw_iconst (v := 0) (pc := 15) dX1_back_15 rfl) ?_
    refine sp_m (aw_goto (tgt := 20) (pc := 16) dX1_back_16 (by decide)) ?_
    exact hj20_1 0 ls (lv_sub hl [0, 1] rfl)
theorem mok_X1_done : mOK yX1_done 0 := ⟨⟨by decide +kernel, by decide +kernel⟩, by decide +kernel⟩
abbrev KX1_done (l : Launch) (D : DD) (h0 hE : AH) (v : Int32) : KT := (l, yX1_done, cX1_done, 3, (some .boolean), RX1, 2, D, h0, hE, .inl (some (.int v)), false, [])
theorem metX1_done (l : Launch) (D : DD) {a0 : Nat} {h0 : AH} {hE : AH} {v : Int32} (hr : fX1_done a0 h0 = some (v, hE)) : AMet (KX1_done l D h0 hE v) [.ref a0] := by
  refine AMet.of (K := (KX1_done l D h0 hE v)) rfl ⟨_, rfl⟩ rfl rfl rfl (Nat.le_of_ble_eq_true rfl) (fun ls hl => ?_)
  have hl : lv_has ls 3 [(0, .ref a0)] := hl
  suffices hsp : SP (fX1_done a0 h0) (fun z => z = (v, hE)) (AW (KX1_done l D h0 hE v) h0 0 ls []) from hsp _ hr rfl
  unfold fX1_done
  refine sp_m (aw_aload_n (pc := 0) dX1_done_0 rfl (lv_at hl 0 rfl)) ?_
  refine sp_g fun s1 => ?_
  refine sp_m (aw_get (k := 8) okX1 s1 (by decide) q374 (Or.inl rfl) rfl (pc := 1) dX1_done_1) ?_
  refine sp_m (aw_bipush (v := 16) (pc := 4) dX1_done_4 rfl) ?_
  have hj62_1 : ∀ h2 : AH, ∀ ls : Array Slot, lv_has ls 3 [(0, .ref a0)] → SP (X1_done_j62 a0 h2) (fun z => z = (v, hE)) (AW (KX1_done l D h0 hE v) h2 62 ls ([])) := by
    intro h2 ls hl
    unfold X1_done_j62
    refine sp_m (aw_aload_n (pc := 62) dX1_done_62 rfl (lv_at hl 0 rfl)) ?_
    refine sp_g fun s3 => ?_
    refine sp_b fun x4 ex4 => ?_
    refine sp_m (aw_get (k := 14) okX1 s3 (by decide) q380 (Or.inl rfl) (congrArg va_rf ex4) (pc := 63) dX1_done_63) ?_
    refine sp_m (aw_aload_n (pc := 66) dX1_done_66 rfl (lv_at hl 0 rfl)) ?_
    refine sp_m (aw_get (k := 8) okX1 s3 (by decide) q374 (Or.inl rfl) rfl (pc := 67) dX1_done_67) ?_
    refine sp_g fun s5 => ?_
    refine sp_g fun i6 => ?_
    refine sp_b fun x7 ex7 => ?_
    refine sp_m (aw_aald (t := 4) s5 (by decide) rfl rfl i6 (congrArg va_rf ex7) (pc := 70) dX1_done_70) ?_
    refine sp_m (aw_aload_n (pc := 71) dX1_done_71 rfl (lv_at hl 0 rfl)) ?_
    refine sp_b fun x8 ex8 => ?_
    refine sp_m (aw_get (k := 10) okX1 s3 (by decide) q376 (Or.inl rfl) (congrArg va_rf ex8) (pc := 72) dX1_done_72) ?_
    refine sp_g fun s10 => ?_
    refine sp_b fun p9 ep9 => ?_
    refine sp_m (G' := AW (KX1_done l D h0 hE v) p9 (78) ls ([])) (fun kk => aw_callV (As := [.ref x8]) (metX4_become _ _ ep9) (rcv_o okX4 s10) rfl mok_X4_become q1166 q1167 q1168 q122 q1169 (Nat.le_of_ble_eq_true rfl) (Nat.le_of_ble_eq_true rfl) rfl hl.1 rfl (Nat.le_of_ble_eq_true rfl) (pc := 75) dX1_done_75 kk) ?_
    refine sp_m (aw_aload_n (pc := 78) dX1_done_78 rfl (lv_at hl 0 rfl)) ?_
    refine sp_m (aw_dup (pc := 79) dX1_done_79 rfl) ?_
    refine sp_g fun s11 => ?_
    refine sp_m (aw_get (k := 8) okX1 s11 (by decide) q374 (Or.inl rfl) rfl (pc := 80) dX1_done_80) ?_
    refine sp_m (aw_iconst (v := 1) (pc := 83) dX1_done_83 rfl) ?_
    refine sp_m (aw_iadd (pc := 84) dX1_done_84) ?_
    refine sp_t fun h12 eh120 => ?_
    have eh12 : gS h12 = gS p9 := by rw [eh120]; rfl
    refine sp_m (aw_put (k := 8) okX1 opX1 s11 (by decide) q374 (Or.inl rfl) (Or.inl rfl) (hasV_I' eh120) rfl rfl (pc := 85) dX1_done_85) ?_
    refine sp_m (aw_iconst (v := 1) (pc := 88) dX1_done_88 rfl) ?_
    exact sp_r fun hz => aw_zret (nar_b (Or.inr rfl)) hz rfl rfl rfl (pc := 89) dX1_done_89
  refine sp_if (fun c13 => ?_) (fun c13 => ?_)
  · refine sp_m (aw_icmp_ne_t (tgt := 62) (pc := 6) dX1_done_6 (by decide) c13) ?_
    exact hj62_1 h0 ls (lv_sub hl [0] rfl)
  · refine sp_m (aw_icmp_ne_f (tgt := 62) (pc := 6) dX1_done_6 (by decide) (Decidable.not_not.mp c13)) ?_
    refine sp_m (aw_aload_n (pc := 9) dX1_done_9 rfl (lv_at hl 0 rfl)) ?_
    refine sp_b fun x14 ex14 => ?_
    refine sp_m (aw_get (k := 14) okX1 s1 (by decide) q380 (Or.inl rfl) (congrArg va_rf ex14) (pc := 10) dX1_done_10) ?_
    refine sp_m (aw_iconst (v := 0) (pc := 13) dX1_done_13 rfl) ?_
    refine sp_g fun s15 => ?_
    refine sp_g fun i16 => ?_
    refine sp_b fun x17 ex17 => ?_
    refine sp_m (aw_aald (t := 4) s15 (by decide) rfl rfl i16 (congrArg va_rf ex17) (pc := 14) dX1_done_14) ?_
    refine sp_m (aw_astore_n (lv' := [(1, .ref x17), (0, .ref a0)]) (pc := 15) dX1_done_15 rfl hl (by decide) rfl) (sp_all fun ls hl => ?_)
    refine sp_m (aw_iconst (v := 1) (pc := 16) dX1_done_16 rfl) ?_
    refine sp_m (aw_istore_n (lv' := [(2, .int 1), (1, .ref x17), (0, .ref a0)]) (pc := 17) dX1_done_17 rfl hl (by decide) rfl) (sp_all fun ls hl => ?_)
    let P18 : Int32 × AH → Prop := aLP (KX1_done l D h0 hE v) 3 18 (fun s18v : Int32 × AH => [(0, .ref a0), (1, .ref x17), (2, .int s18v.1)]) (fun s18v => s18v.2)
    let E18 : AH → Prop := aLP (KX1_done l D h0 hE v) 3 44 (fun r18v : AH => [(0, .ref a0), (1, .ref x17)]) (fun r18v => r18v)
    refine sp_bl (P := P18) (E := E18) (fun s18v => sp_all fun ls hl => ?_) (fun k => k ls (lv_sub hl [2, 1, 0] rfl)) (fun r18v => sp_all fun ls hl => ?_)
    · have hl : lv_has ls 3 [(0, .ref a0), (1, .ref x17), (2, .int s18v.1)] := hl
      show SP _ _ (AW (KX1_done l D h0 hE v) s18v.2 18 ls [])
      unfold X1_done_L18
      refine sp_m (aw_iload_n (pc := 18) dX1_done_18 rfl (lv_at hl 2 rfl)) ?_
      refine sp_m (aw_bipush (v := 16) (pc := 19) dX1_done_19 rfl) ?_
      refine sp_if (fun c19 => ?_) (fun c19 => ?_)
      · refine sp_m (aw_icmp_ge_t (tgt := 44) (pc := 21) dX1_done_21 (by decide) c19) ?_
        exact sp_r fun hz => hz ls (lv_sub hl [0, 1] rfl)
      · refine sp_m (aw_icmp_ge_f (tgt := 44) (pc := 21) dX1_done_21 (by decide) c19) ?_
        refine sp_m (aw_aload_n (pc := 24) dX1_done_24 rfl (lv_at hl 0 rfl)) ?_
        refine sp_g fun s20 => ?_
        refine sp_b fun x21 ex21 => ?_
        refine sp_m (aw_get (k := 14) okX1 s20 (by decide) q380 (Or.inl rfl) (congrArg va_rf ex21) (pc := 25) dX1_done_25) ?_
        refine sp_m (aw_iload_n (pc := 28) dX1_done_28 rfl (lv_at hl 2 rfl)) ?_
        refine sp_m (aw_iconst (v := 1) (pc := 29) dX1_done_29 rfl) ?_
        refine sp_m (aw_isub (pc := 30) dX1_done_30) ?_
        refine sp_m (aw_aload_n (pc := 31) dX1_done_31 rfl (lv_at hl 0 rfl)) ?_
        refine sp_b fun x22 ex22 => ?_
        refine sp_m (aw_get (k := 14) okX1 s20 (by decide) q380 (Or.inl rfl) (congrArg va_rf ex22) (pc := 32) dX1_done_32) ?_
        refine sp_m (aw_iload_n (pc := 35) dX1_done_35 rfl (lv_at hl 2 rfl)) ?_
        refine sp_g fun s23 => ?_
        refine sp_g fun i24 => ?_
        refine sp_b fun x25 ex25 => ?_
        refine sp_m (aw_aald (t := 4) s23 (by decide) rfl rfl i24 (congrArg va_rf ex25) (pc := 36) dX1_done_36) ?_
        refine sp_g fun s26 => ?_
        refine sp_g fun s27 => ?_
        refine sp_g fun i28 => ?_
        refine sp_t fun h29 eh290 => ?_
        have eh29 : gS h29 = gS s18v.2 := by rw [eh290]; rfl
        refine sp_m (G' := AW (KX1_done l D h0 hE v) h29 (38) ls ([])) (fun kk => aw_aast (t := 4) (Cc := "ElephantLine$Front") s27 (by decide) rfl rfl okX4 s26 (Or.inl rfl) i28 (pc := 37) dX1_done_37 (AWe eh290 kk)) ?_
        refine sp_m (aw_iinc (v := s18v.1 + 1) (lv' := [(2, .int (s18v.1 + 1)), (0, .ref a0), (1, .ref x17)]) (pc := 38) dX1_done_38 hl (k := 2) rfl rfl (by decide) rfl) (sp_all fun ls hl => ?_)
        refine sp_m (aw_goto (tgt := 18) (pc := 41) dX1_done_41 (by decide)) ?_
        exact sp_r fun hz => hz ls (lv_sub hl [1, 2, 0] rfl)
    · have hl : lv_has ls 3 [(0, .ref a0), (1, .ref x17)] := hl
      show SP _ _ (AW (KX1_done l D h0 hE v) r18v 44 ls [])
      refine sp_m (aw_aload_n (pc := 44) dX1_done_44 rfl (lv_at hl 0 rfl)) ?_
      refine sp_g fun s30 => ?_
      refine sp_b fun x31 ex31 => ?_
      refine sp_m (aw_get (k := 14) okX1 s30 (by decide) q380 (Or.inl rfl) (congrArg va_rf ex31) (pc := 45) dX1_done_45) ?_
      refine sp_m (aw_bipush (v := 15) (pc := 48) dX1_done_48 rfl) ?_
      refine sp_m (aw_aload_n (pc := 50) dX1_done_50 rfl (lv_at hl 1 rfl)) ?_
      refine sp_g fun s32 => ?_
      refine sp_g fun s33 => ?_
      refine sp_g fun i34 => ?_
      refine sp_t fun h35 eh350 => ?_
      have eh35 : gS h35 = gS r18v := by rw [eh350]; rfl
      refine sp_m (G' := AW (KX1_done l D h0 hE v) h35 (52) ls ([])) (fun kk => aw_aast (t := 4) (Cc := "ElephantLine$Front") s33 (by decide) rfl rfl okX4 s32 (Or.inl rfl) i34 (pc := 51) dX1_done_51 (AWe eh350 kk)) ?_
      refine sp_m (aw_aload_n (pc := 52) dX1_done_52 rfl (lv_at hl 0 rfl)) ?_
      refine sp_m (aw_dup (pc := 53) dX1_done_53 rfl) ?_
      refine sp_m (aw_get (k := 8) okX1 (uS eh35 s30) (by decide) q374 (Or.inl rfl) rfl (pc := 54) dX1_done_54) ?_
      refine sp_m (aw_iconst (v := 1) (pc := 57) dX1_done_57 rfl) ?_
      refine sp_m (aw_isub (pc := 58) dX1_done_58) ?_
      refine sp_t fun h36 eh360 => ?_
      have eh36 : gS h36 = gS h35 := by rw [eh360]; rfl
      refine sp_m (aw_put (k := 8) okX1 opX1 (uS eh35 s30) (by decide) q374 (Or.inl rfl) (Or.inl rfl) (hasV_I' eh360) rfl rfl (pc := 59) dX1_done_59) ?_
      exact hj62_1 h36 ls (lv_sub hl [0] rfl)
theorem mok_X1_note : mOK yX1_note 0 := ⟨⟨by decide +kernel, by decide +kernel⟩, by decide +kernel⟩
abbrev KX1_note (l : Launch) (D : DD) (h0 hE : AH) : KT := (l, yX1_note, cX1_note, 1, none, RX1, 2, D, h0, hE, .inl (none), false, [])
theorem metX1_note (l : Launch) (D : DD) {a0 : Nat} {h0 : AH} {hE : AH} (hr : fX1_note a0 h0 = some hE) : AMet (KX1_note l D h0 hE) [.ref a0] := by
  refine AMet.of (K := (KX1_note l D h0 hE)) rfl ⟨_, rfl⟩ rfl rfl rfl (Nat.le_of_ble_eq_true rfl) (fun ls hl => ?_)
  have hl : lv_has ls 1 [(0, .ref a0)] := hl
  suffices hsp : SP (fX1_note a0 h0) (fun z => z = hE) (AW (KX1_note l D h0 hE) h0 0 ls []) from hsp _ hr rfl
  unfold fX1_note
  refine sp_m (aw_aload_n (pc := 0) dX1_note_0 rfl (lv_at hl 0 rfl)) ?_
  refine sp_g fun s1 => ?_
  refine sp_b fun x2 ex2 => ?_
  refine sp_m (aw_get (k := 10) okX1 s1 (by decide) q376 (Or.inl rfl) (congrArg va_rf ex2) (pc := 1) dX1_note_1) ?_
  refine sp_m (aw_aload_n (pc := 4) dX1_note_4 rfl (lv_at hl 0 rfl)) ?_
  refine sp_b fun x3 ex3 => ?_
  refine sp_m (aw_get (k := 9) okX1 s1 (by decide) q375 (Or.inl rfl) (congrArg va_rf ex3) (pc := 5) dX1_note_5) ?_
  refine sp_g fun s5 => ?_
  refine sp_b fun p4 ep4 => ?_
  refine sp_m (G' := AW (KX1_note l D h0 hE) p4 (11) ls ([])) (fun kk => aw_callV (As := [.ref x3]) (metX4_become _ _ ep4) (rcv_o okX4 s5) rfl mok_X4_become q1166 q1167 q1168 q122 q1169 (Nat.le_of_ble_eq_true rfl) (Nat.le_of_ble_eq_true rfl) rfl hl.1 rfl (Nat.le_of_ble_eq_true rfl) (pc := 8) dX1_note_8 kk) ?_
  exact sp_r fun hz => aw_vret hz rfl rfl rfl (pc := 11) dX1_note_11
theorem mok_X1_battle : mOK yX1_battle 0 := ⟨⟨by decide +kernel, by decide +kernel⟩, by decide +kernel⟩
abbrev KX1_battle (l : Launch) (D : DD) (h0 hE : AH) (v : Int32) : KT := (l, yX1_battle, cX1_battle, 1, (some .int), RX1, 6, D, h0, hE, .inl (some (.int v)), false, [])
theorem metX1_battle (l : Launch) (D : DD) {a0 : Nat} {h0 : AH} {hE : AH} {v : Int32} (hr : fX1_battle a0 h0 = some (v, hE)) : AMet (KX1_battle l D h0 hE v) [.ref a0] := by
  refine AMet.of (K := (KX1_battle l D h0 hE v)) rfl ⟨_, rfl⟩ rfl rfl rfl (Nat.le_of_ble_eq_true rfl) (fun ls hl => ?_)
  have hl : lv_has ls 1 [(0, .ref a0)] := hl
  suffices hsp : SP (fX1_battle a0 h0) (fun z => z = (v, hE)) (AW (KX1_battle l D h0 hE v) h0 0 ls []) from hsp _ hr rfl
  unfold fX1_battle
  refine sp_m (aw_aload_n (pc := 0) dX1_battle_0 rfl (lv_at hl 0 rfl)) ?_
  refine sp_g fun s2 => ?_
  refine sp_b fun p1 ep1 => ?_
  refine sp_m (G' := AW (KX1_battle l D h0 hE v) p1 (4) ls ([])) (fun kk => aw_callV (As := []) (metX1_anew _ _ ep1) (rcv_o okX1 s2) rfl mok_X1_anew q452 q454 qs2 q116 q455 (Nat.le_of_ble_eq_true rfl) (Nat.le_of_ble_eq_true rfl) rfl hl.1 rfl (Nat.le_of_ble_eq_true rfl) (pc := 1) dX1_battle_1 kk) ?_
  refine sp_m (aw_aload_n (pc := 4) dX1_battle_4 rfl (lv_at hl 0 rfl)) ?_
  refine sp_g fun s3 => ?_
  refine sp_o (fun ex4 => ?_) (fun x4 ex4 => ?_)
  · refine sp_m (aw_get (k := 3) okX1 s3 (by decide) q369 (Or.inl rfl) (congrArg va_rf ex4) (pc := 5) dX1_battle_5) ?_
    refine sp_m (aw_ifnonnullN (pc := 8) dX1_battle_8) ?_
    refine sp_m (aw_aload_n (pc := 11) dX1_battle_11 rfl (lv_at hl 0 rfl)) ?_
    refine sp_m (aw_iconst (v := 1) (pc := 12) dX1_battle_12 rfl) ?_
    refine sp_b fun p15 ep15 => ?_
    refine sp_m (G' := AW (KX1_battle l D h0 hE v) p15.2 (16) ls (.int p15.1 :: [])) (fun kk => aw_callV (As := [.int 1]) (metX1_no _ _ ep15) (rcv_o okX1 s3) rfl mok_X1_no q459 q461 qs3 q116 q462 (Nat.le_of_ble_eq_true rfl) (Nat.le_of_ble_eq_true rfl) rfl hl.1 rfl (Nat.le_of_ble_eq_true rfl) (pc := 13) dX1_battle_13 kk) ?_
    exact sp_r fun hz => aw_iret hz rfl rfl rfl (pc := 16) dX1_battle_16
  · refine sp_m (aw_get (k := 3) okX1 s3 (by decide) q369 (Or.inl rfl) (congrArg va_rf ex4) (pc := 5) dX1_battle_5) ?_
    refine sp_m (aw_ifnonnull (tgt := 17) (pc := 8) dX1_battle_8 (by decide)) ?_
    refine sp_m (aw_aload_n (pc := 17) dX1_battle_17 rfl (lv_at hl 0 rfl)) ?_
    refine sp_b fun p5 ep5 => ?_
    refine sp_m (G' := AW (KX1_battle l D h0 hE v) p5 (21) ls ([])) (fun kk => aw_callV (As := []) (metX1_note _ _ ep5) (rcv_o okX1 s3) rfl mok_X1_note q1414 q1416 qs48 q116 q1417 (Nat.le_of_ble_eq_true rfl) (Nat.le_of_ble_eq_true rfl) rfl hl.1 rfl (Nat.le_of_ble_eq_true rfl) (pc := 18) dX1_battle_18 kk) ?_
    refine sp_m (aw_aload_n (pc := 21) dX1_battle_21 rfl (lv_at hl 0 rfl)) ?_
    refine sp_g fun s6 => ?_
    refine sp_b fun x7 ex7 => ?_
    refine sp_m (aw_get (k := 9) okX1 s6 (by decide) q375 (Or.inl rfl) (congrArg va_rf ex7) (pc := 22) dX1_battle_22) ?_
    refine sp_g fun s9 => ?_
    refine sp_b fun p8 ep8 => ?_
    refine sp_m (G' := AW (KX1_battle l D h0 hE v) p8 (28) ls ([])) (fun kk => aw_callV (As := []) (metX4_fights _ _ ep8) (rcv_o okX4 s9) rfl mok_X4_fights q1378 q1379 q1380 q122 q1381 (Nat.le_of_ble_eq_true rfl) (Nat.le_of_ble_eq_true rfl) rfl hl.1 rfl (Nat.le_of_ble_eq_true rfl) (pc := 25) dX1_battle_25 kk) ?_
    refine sp_m (aw_aload_n (pc := 28) dX1_battle_28 rfl (lv_at hl 0 rfl)) ?_
    refine sp_g fun s11 => ?_
    refine sp_b fun p10 ep10 => ?_
    refine sp_m (G' := AW (KX1_battle l D h0 hE v) p10.2 (32) ls (.int p10.1 :: [])) (fun kk => aw_callV (As := []) (metX1_done _ _ ep10) (rcv_o okX1 s11) rfl mok_X1_done q1418 q1420 qs49 q116 q1421 (Nat.le_of_ble_eq_true rfl) (Nat.le_of_ble_eq_true rfl) rfl hl.1 rfl (Nat.le_of_ble_eq_true rfl) (pc := 29) dX1_battle_29 kk) ?_
    refine sp_m (aw_pop (pc := 32) dX1_battle_32 rfl) ?_
    refine sp_m (aw_aload_n (pc := 33) dX1_battle_33 rfl (lv_at hl 0 rfl)) ?_
    refine sp_g fun s12 => ?_
    refine sp_b fun x13 ex13 => ?_
    refine sp_m (aw_get (k := 9) okX1 s12 (by decide) q375 (Or.inl rfl) (congrArg va_rf ex13) (pc := 34) dX1_battle_34) ?_
    refine sp_g fun s14 => ?_
    refine sp_m (aw_getN (k := 7) okX4 s14 (by decide) nq287 rfl rfl (pc := 37) dX1_battle_37) ?_
    exact sp_r fun hz => aw_iret hz rfl rfl rfl (pc := 40) dX1_battle_40
theorem mok_X1_battles : mOK yX1_battles 3 := ⟨⟨by decide +kernel, by decide +kernel⟩, by decide +kernel⟩
abbrev KX1_battles (l : Launch) (D : DD) (h0 hE : AH) (v : Int32) : KT := (l, yX1_battles, cX1_battles, 5, (some .int), RX1, 7, D, h0, hE, .inl (some (.int v)), false, [])
theorem metX1_battles (l : Launch) (D : DD) {a0 : Nat} {a1 : Int32} {a2 : Int32} {a3 : Int32} {h0 : AH} {hE : AH} {v : Int32} (hr : fX1_battles a0 a1 a2 a3 h0 = some (v, hE)) : AMet (KX1_battles l D h0 hE v) [.ref a0, .int a1, .int a2, .int a3] := by
  refine AMet.of (K := (KX1_battles l D h0 hE v)) rfl ⟨_, rfl⟩ rfl rfl rfl (Nat.le_of_ble_eq_true rfl) (fun ls hl => ?_)
  have hl : lv_has ls 5 [(0, .ref a0), (1, .int a1), (2, .int a2), (3, .int a3)] := hl
  suffices hsp : SP (fX1_battles a0 a1 a2 a3 h0) (fun z => z = (v, hE)) (AW (KX1_battles l D h0 hE v) h0 0 ls []) from hsp _ hr rfl
  unfold fX1_battles
  refine sp_m (aw_aload_n (pc := 0) dX1_battles_0 rfl (lv_at hl 0 rfl)) ?_
  refine sp_g fun s2 => ?_
  refine sp_b fun p1 ep1 => ?_
  refine sp_m (G' := AW (KX1_battles l D h0 hE v) p1 (4) ls ([])) (fun kk => aw_callV (As := []) (metX1_anew _ _ ep1) (rcv_o okX1 s2) rfl mok_X1_anew q452 q454 qs2 q116 q455 (Nat.le_of_ble_eq_true rfl) (Nat.le_of_ble_eq_true rfl) rfl hl.1 rfl (Nat.le_of_ble_eq_true rfl) (pc := 1) dX1_battles_1 kk) ?_
  refine sp_m (aw_aload_n (pc := 4) dX1_battles_4 rfl (lv_at hl 0 rfl)) ?_
  refine sp_m (aw_aload_n (pc := 5) dX1_battles_5 rfl (lv_at hl 0 rfl)) ?_
  refine sp_g fun s3 => ?_
  refine sp_o (fun ex4 => ?_) (fun x4 ex4 => ?_)
  · refine sp_m (aw_get (k := 3) okX1 s3 (by decide) q369 (Or.inl rfl) (congrArg va_rf ex4) (pc := 6) dX1_battles_6) ?_
    refine sp_m (aw_ifnullN (tgt := 16) (pc := 9) dX1_battles_9 (by decide)) ?_
    refine sp_m (aw_iconst (v := 0) (pc := 16) dX1_battles_16 rfl) ?_
    refine sp_m (aw_iload_n (pc := 17) dX1_battles_17 rfl (lv_at hl 1 rfl)) ?_
    refine sp_m (aw_iload_n (pc := 18) dX1_battles_18 rfl (lv_at hl 2 rfl)) ?_
    refine sp_b fun p12 ep12 => ?_
    refine sp_m (G' := AW (KX1_battles l D h0 hE v) p12.2 (22) ls (.int p12.1 :: [])) (fun kk => aw_callV (As := [.int 0, .int a1, .int a2]) (metX1_battleWhy _ _ ep12) (rcv_o okX1 s3) rfl mok_X1_battleWhy q1373 q1375 qs45 q116 q1376 (Nat.le_of_ble_eq_true rfl) (Nat.le_of_ble_eq_true rfl) rfl hl.1 rfl (Nat.le_of_ble_eq_true rfl) (pc := 19) dX1_battles_19 kk) ?_
    refine sp_m (aw_istore (lv' := [(4, .int p12.1), (0, .ref a0), (1, .int a1), (2, .int a2), (3, .int a3)]) (pc := 22) dX1_battles_22 hl (by decide) rfl) (sp_all fun ls hl => ?_)
    refine sp_m (aw_iload (pc := 24) dX1_battles_24 (lv_at hl 0 rfl)) ?_
    refine sp_if (fun c13 => ?_) (fun c13 => ?_)
    · refine sp_m (aw_if_eq_t (tgt := 38) (pc := 26) dX1_battles_26 (by decide) c13) ?_
      refine sp_m (aw_iload_n (pc := 38) dX1_battles_38 rfl (lv_at hl 4 rfl)) ?_
      refine sp_if (fun c14 => ?_) (fun c14 => ?_)
      · refine sp_m (aw_if_eq_t (tgt := 49) (pc := 39) dX1_battles_39 (by decide) c14) ?_
        refine sp_m (aw_aload_n (pc := 49) dX1_battles_49 rfl (lv_at hl 1 rfl)) ?_
        refine sp_g fun s15 => ?_
        refine sp_m (aw_get (k := 20) okX1 s15 (by decide) q386 (Or.inl rfl) rfl (pc := 50) dX1_battles_50) ?_
        exact sp_r fun hz => aw_iret hz rfl rfl rfl (pc := 53) dX1_battles_53
      · refine sp_m (aw_if_eq_f (tgt := 49) (pc := 39) dX1_battles_39 (by decide) c14) ?_
        refine sp_m (aw_aload_n (pc := 42) dX1_battles_42 rfl (lv_at hl 1 rfl)) ?_
        refine sp_g fun s16 => ?_
        refine sp_m (aw_get (k := 21) okX1 s16 (by decide) q387 (Or.inl rfl) rfl (pc := 43) dX1_battles_43) ?_
        refine sp_m (aw_goto (tgt := 53) (pc := 46) dX1_battles_46 (by decide)) ?_
        exact sp_r fun hz => aw_iret hz rfl rfl rfl (pc := 53) dX1_battles_53
    · refine sp_m (aw_if_eq_f (tgt := 38) (pc := 26) dX1_battles_26 (by decide) c13) ?_
      refine sp_m (aw_aload_n (pc := 29) dX1_battles_29 rfl (lv_at hl 1 rfl)) ?_
      refine sp_m (aw_iload (pc := 30) dX1_battles_30 (lv_at hl 0 rfl)) ?_
      refine sp_g fun s18 => ?_
      refine sp_b fun p17 ep17 => ?_
      refine sp_m (G' := AW (KX1_battles l D h0 hE v) p17.2 (35) ls (.int p17.1 :: [])) (fun kk => aw_callV (As := [.int p12.1]) (metX1_no _ _ ep17) (rcv_o okX1 s18) rfl mok_X1_no q459 q461 qs3 q116 q462 (Nat.le_of_ble_eq_true rfl) (Nat.le_of_ble_eq_true rfl) rfl hl.1 rfl (Nat.le_of_ble_eq_true rfl) (pc := 32) dX1_battles_32 kk) ?_
      refine sp_m (aw_goto (tgt := 53) (pc := 35) dX1_battles_35 (by decide)) ?_
      exact sp_r fun hz => aw_iret hz rfl rfl rfl (pc := 53) dX1_battles_53
  · refine sp_m (aw_get (k := 3) okX1 s3 (by decide) q369 (Or.inl rfl) (congrArg va_rf ex4) (pc := 6) dX1_battles_6) ?_
    refine sp_m (aw_ifnull (pc := 9) dX1_battles_9) ?_
    refine sp_m (aw_iconst (v := 1) (pc := 12) dX1_battles_12 rfl) ?_
    refine sp_m (aw_goto (tgt := 17) (pc := 13) dX1_battles_13 (by decide)) ?_
    refine sp_m (aw_iload_n (pc := 17) dX1_battles_17 rfl (lv_at hl 1 rfl)) ?_
    refine sp_m (aw_iload_n (pc := 18) dX1_battles_18 rfl (lv_at hl 2 rfl)) ?_
    refine sp_b fun p5 ep5 => ?_
    refine sp_m (G' := AW (KX1_battles l D h0 hE v) p5.2 (22) ls (.int p5.1 :: [])) (fun kk => aw_callV (As := [.int 1, .int a1, .int a2]) (metX1_battleWhy _ _ ep5) (rcv_o okX1 s3) rfl mok_X1_battleWhy q1373 q1375 qs45 q116 q1376 (Nat.le_of_ble_eq_true rfl) (Nat.le_of_ble_eq_true rfl) rfl hl.1 rfl (Nat.le_of_ble_eq_true rfl) (pc := 19) dX1_battles_19 kk) ?_
    refine sp_m (aw_istore (lv' := [(4, .int p5.1), (0, .ref a0), (1, .int a1), (2, .int a2), (3, .int a3)]) (pc := 22) dX1_battles_22 hl (by decide) rfl) (sp_all fun ls hl => ?_)
    refine sp_m (aw_iload (pc := 24) dX1_battles_24 (lv_at hl 0 rfl)) ?_
    refine sp_if (fun c6 => ?_) (fun c6 => ?_)
    · refine sp_m (aw_if_eq_t (tgt := 38) (pc := 26) dX1_battles_26 (by decide) c6) ?_
      refine sp_m (aw_iload_n (pc := 38) dX1_battles_38 rfl (lv_at hl 4 rfl)) ?_
      refine sp_if (fun c7 => ?_) (fun c7 => ?_)
      · refine sp_m (aw_if_eq_t (tgt := 49) (pc := 39) dX1_battles_39 (by decide) c7) ?_
        refine sp_m (aw_aload_n (pc := 49) dX1_battles_49 rfl (lv_at hl 1 rfl)) ?_
        refine sp_g fun s8 => ?_
        refine sp_m (aw_get (k := 20) okX1 s8 (by decide) q386 (Or.inl rfl) rfl (pc := 50) dX1_battles_50) ?_
        exact sp_r fun hz => aw_iret hz rfl rfl rfl (pc := 53) dX1_battles_53
      · refine sp_m (aw_if_eq_f (tgt := 49) (pc := 39) dX1_battles_39 (by decide) c7) ?_
        refine sp_m (aw_aload_n (pc := 42) dX1_battles_42 rfl (lv_at hl 1 rfl)) ?_
        refine sp_g fun s9 => ?_
        refine sp_m (aw_get (k := 21) okX1 s9 (by decide) q387 (Or.inl rfl) rfl (pc := 43) dX1_battles_43) ?_
        refine sp_m (aw_goto (tgt := 53) (pc := 46) dX1_battles_46 (by decide)) ?_
        exact sp_r fun hz => aw_iret hz rfl rfl rfl (pc := 53) dX1_battles_53
    · refine sp_m (aw_if_eq_f (tgt := 38) (pc := 26) dX1_battles_26 (by decide) c6) ?_
      refine sp_m (aw_aload_n (pc := 29) dX1_battles_29 rfl (lv_at hl 1 rfl)) ?_
      refine sp_m (aw_iload (pc := 30) dX1_battles_30 (lv_at hl 0 rfl)) ?_
      refine sp_g fun s11 => ?_
      refine sp_b fun p10 ep10 => ?_
      refine sp_m (G' := AW (KX1_battles l D h0 hE v) p10.2 (35) ls (.int p10.1 :: [])) (fun kk => aw_callV (As := [.int p5.1]) (metX1_no _ _ ep10) (rcv_o okX1 s11) rfl mok_X1_no q459 q461 qs3 q116 q462 (Nat.le_of_ble_eq_true rfl) (Nat.le_of_ble_eq_true rfl) rfl hl.1 rfl (Nat.le_of_ble_eq_true rfl) (pc := 32) dX1_battles_32 kk) ?_
      refine sp_m (aw_goto (tgt := 53) (pc := 35) dX1_battles_35 (by decide)) ?_
      exact sp_r fun hz => aw_iret hz rfl rfl rfl (pc := 53) dX1_battles_53
theorem mok_X16_kind : mOK yX16_kind 0 := ⟨⟨by decide +kernel, by decide +kernel⟩, by decide +kernel⟩
abbrev KX16_kind (l : Launch) (D : DD) (h0 : AH) (v : Int32) : KT := (l, yX16_kind, cX16_kind, 1, (some .int), RX16, 1, D, h0, h0, .inl (some (.int v)), false, [])
theorem metX16_kind (l : Launch) (D : DD) {a0 : Nat} {h0 : AH} {v : Int32} (hr : fX16_kind a0 h0 = some v) : AMet (KX16_kind l D h0 v) [.ref a0] := by
  refine AMet.of (K := (KX16_kind l D h0 v)) rfl ⟨_, rfl⟩ rfl rfl rfl (Nat.le_of_ble_eq_true rfl) (fun ls hl => ?_)
  have hl : lv_has ls 1 [(0, .ref a0)] := hl
  suffices hsp : SP (fX16_kind a0 h0) (fun z => z = v) (AW (KX16_kind l D h0 v) h0 0 ls []) from hsp _ hr rfl
  unfold fX16_kind
  refine sp_m (aw_iconst (v := 1) (pc := 0) dX16_kind_0 rfl) ?_
  exact sp_r fun hz => aw_iret (congrArg (fun z => (z, h0)) hz) rfl rfl rfl (pc := 1) dX16_kind_1
theorem mok_X17_kind : mOK yX17_kind 0 := ⟨⟨by decide +kernel, by decide +kernel⟩, by decide +kernel⟩
abbrev KX17_kind (l : Launch) (D : DD) (h0 : AH) (v : Int32) : KT := (l, yX17_kind, cX17_kind, 1, (some .int), RX17, 1, D, h0, h0, .inl (some (.int v)), false, [])
theorem metX17_kind (l : Launch) (D : DD) {a0 : Nat} {h0 : AH} {v : Int32} (hr : fX17_kind a0 h0 = some v) : AMet (KX17_kind l D h0 v) [.ref a0] := by
  refine AMet.of (K := (KX17_kind l D h0 v)) rfl ⟨_, rfl⟩ rfl rfl rfl (Nat.le_of_ble_eq_true rfl) (fun ls hl => ?_)
  have hl : lv_has ls 1 [(0, .ref a0)] := hl
  suffices hsp : SP (fX17_kind a0 h0) (fun z => z = v) (AW (KX17_kind l D h0 v) h0 0 ls []) from hsp _ hr rfl
  unfold fX17_kind
  refine sp_m (aw_iconst (v := 2) (pc := 0) dX17_kind_0 rfl) ?_
  exact sp_r fun hz => aw_iret (congrArg (fun z => (z, h0)) hz) rfl rfl rfl (pc := 1) dX17_kind_1
