/-! WALKS (printed by wip gen/all.py) -/
set_option maxRecDepth 100000
set_option maxHeartbeats 4000000
abbrev KL_law (l : Launch) (D : DD) (h0 hE : AH) (v : Int32) : KT := (l, x, cL_law, 7, (some .boolean), "ElephantLineLaw", 132, D, h0, hE, .inl (some (.int v)), false, [])
theorem walkL_law (l : Launch) (D : DD) (hst : l.stackTraces = false) {xs : Nat → Int32} {xn : Nat} (hxs : xs = sx D) (hxn : xn = sn D) {h0 hE : AH} {v : Int32} (hr : fL_law xs xn h0 = some (v, hE)) {ls : Array Slot} (hl : lv_has ls 7 [(0, .ref (sb D))]) : AW (KL_law l D h0 hE v) h0 0 ls [] := by
  suffices hsp : SP (fL_law xs xn h0) (fun z => z = (v, hE)) (AW (KL_law l D h0 hE v) h0 0 ls []) from hsp _ hr rfl
  unfold fL_law
  refine sp_t fun h1 eh10 => ?_
  refine sp_m (fun kk => aw_new okX1 opX1 odX1 q147 q148 q116 (pc := 0) dL_law_0 (AWe eh10 kk)) ?_
  refine sp_m (aw_dup (pc := 3) dL_law_3 rfl) ?_
  refine sp_b fun p2 ep2 => ?_
  refine sp_m (G' := AW (KL_law l D h0 hE v) p2 (7) ls (.ref (gZ h0) :: [])) (fun kk => aw_callI (As := []) (metX1_init _ _ ep2) mok_X1_init rfl q149 q150 q116 q151 (Nat.le_of_ble_eq_true rfl) (Nat.le_of_ble_eq_true rfl) rfl hl.1 rfl (Nat.le_of_ble_eq_true rfl) (pc := 4) dL_law_4 kk) ?_
  refine sp_m (aw_astore_n (lv' := [(1, .ref (gZ h0)), (0, .ref (sb D))]) (pc := 7) dL_law_7 rfl hl (by decide) rfl) (sp_all fun ls hl => ?_)
  refine sp_t fun h3 eh30 => ?_
  refine sp_m (fun kk => aw_new okX7 opX7 odX7 q1496 q1497 q125 (pc := 8) dL_law_8 (AWe eh30 kk)) ?_
  refine sp_m (aw_dup (pc := 11) dL_law_11 rfl) ?_
  refine sp_b fun p4 ep4 => ?_
  refine sp_m (G' := AW (KL_law l D h0 hE v) p4 (15) ls (.ref (gZ p2) :: [])) (fun kk => aw_callI (As := []) (metX7_init _ _ ep4) mok_X7_init rfl q1498 q1499 q125 q1500 (Nat.le_of_ble_eq_true rfl) (Nat.le_of_ble_eq_true rfl) rfl hl.1 rfl (Nat.le_of_ble_eq_true rfl) (pc := 12) dL_law_12 kk) ?_
  refine sp_m (aw_astore_n (lv' := [(2, .ref (gZ p2)), (1, .ref (gZ h0)), (0, .ref (sb D))]) (pc := 15) dL_law_15 rfl hl (by decide) rfl) (sp_all fun ls hl => ?_)
  refine sp_m (aw_iconst (v := 1) (pc := 16) dL_law_16 rfl) ?_
  refine sp_t fun h5 eh50 => ?_
  refine sp_m (fun kk => aw_newJ q1708 (by decide) (by decide) (pc := 17) dL_law_17 (AWe eh50 kk)) ?_
  refine sp_m (aw_astore_n (lv' := [(3, .ref (gZ p4)), (2, .ref (gZ p2)), (1, .ref (gZ h0)), (0, .ref (sb D))]) (pc := 19) dL_law_19 rfl hl (by decide) rfl) (sp_all fun ls hl => ?_)
  refine sp_m (aw_iconst (v := 0) (pc := 20) dL_law_20 rfl) ?_
  refine sp_m (aw_istore (lv' := [(4, .int 0), (3, .ref (gZ p4)), (2, .ref (gZ p2)), (1, .ref (gZ h0)), (0, .ref (sb D))]) (pc := 21) dL_law_21 hl (by decide) rfl) (sp_all fun ls hl => ?_)
  let P6 : Int32 × AH → Prop := aLP (KL_law l D h0 hE v) 7 23 (fun s6v : Int32 × AH => [(0, .ref (sb D)), (1, .ref (gZ h0)), (2, .ref (gZ p2)), (3, .ref (gZ p4)), (4, .int s6v.1)]) (fun s6v => s6v.2)
  refine sp_loop (P := P6) (fun s6v => sp_all fun ls hl => ?_) (fun k => k ls (lv_sub hl [4, 3, 2, 1, 0] rfl))
  have hl : lv_has ls 7 [(0, .ref (sb D)), (1, .ref (gZ h0)), (2, .ref (gZ p2)), (3, .ref (gZ p4)), (4, .int s6v.1)] := hl
  show SP _ _ (AW (KL_law l D h0 hE v) s6v.2 23 ls [])
  unfold L_law_L23
  refine sp_m (aw_iload (pc := 23) dL_law_23 (lv_at hl 4 rfl)) ?_
  refine sp_m (aw_aload_n (pc := 25) dL_law_25 rfl (lv_at hl 0 rfl)) ?_
  refine sp_m (aw_slen hxn (pc := 26) dL_law_26) ?_
  refine sp_m (aw_bipush (v := 6) (pc := 27) dL_law_27 rfl) ?_
  refine sp_m (aw_isub (pc := 29) dL_law_29) ?_
  refine sp_if (fun c7 => ?_) (fun c7 => ?_)
  · refine sp_m (aw_icmp_gt_t (tgt := 2034) (pc := 30) dL_law_30 (by decide) c7) ?_
    refine sp_m (aw_iconst (v := 1) (pc := 2034) dL_law_2034 rfl) ?_
    exact sp_r fun hz => aw_zret (nar_b (Or.inr rfl)) hz rfl rfl rfl (pc := 2035) dL_law_2035
  · refine sp_m (aw_icmp_gt_f (tgt := 2034) (pc := 30) dL_law_30 (by decide) c7) ?_
    refine sp_m (aw_aload_n (pc := 33) dL_law_33 rfl (lv_at hl 0 rfl)) ?_
    refine sp_m (aw_iload (pc := 34) dL_law_34 (lv_at hl 4 rfl)) ?_
    refine sp_g fun i8 => ?_
    refine sp_m (aw_sld hxs hxn i8 (pc := 36) dL_law_36) ?_
    refine sp_m (aw_bipush (v := 63) (pc := 37) dL_law_37 rfl) ?_
    refine sp_m (aw_iand (pc := 39) dL_law_39) ?_
    have hj2028_1 : ∀ h9 : AH, ∀ ls : Array Slot, lv_has ls 7 [(0, .ref (sb D)), (1, .ref (gZ h0)), (2, .ref (gZ p2)), (3, .ref (gZ p4)), (4, .int s6v.1)] → SP (L_law_j2028 s6v h9) (ZL P6 (fun z => z = (v, hE))) (AW (KL_law l D h0 hE v) h9 2028 ls ([])) := by
      intro h9 ls hl
      unfold L_law_j2028
      refine sp_m (aw_iinc (v := s6v.1 + 6) (lv' := [(4, .int (s6v.1 + 6)), (0, .ref (sb D)), (1, .ref (gZ h0)), (2, .ref (gZ p2)), (3, .ref (gZ p4))]) (pc := 2028) dL_law_2028 hl (k := 4) rfl rfl (by decide) rfl) (sp_all fun ls hl => ?_)
      refine sp_m (aw_goto (tgt := 23) (pc := 2031) dL_law_2031 (by decide)) ?_
      exact sp_r fun hz => hz ls (lv_sub hl [1, 2, 3, 4, 0] rfl)
    refine sp_if (fun c10 => ?_) (fun c10 => ?_)
    · refine sp_m (aw_tableOut (tgt := 2028) (pc := 40) dL_law_40 (sw_out rfl rfl c10) (by decide)) ?_
      exact hj2028_1 s6v.2 ls (lv_sub hl [0, 1, 2, 3, 4] rfl)
    refine sp_if (fun c11 => ?_) (fun c11 => ?_)
    · refine sp_m (aw_tableIn (tgt := 260) (pc := 40) dL_law_40 (by rw [c11]; decide) (by rw [c11]; decide) (by rw [c11] <;> rfl) (by decide)) ?_
      refine sp_m (aw_aload_n (pc := 260) dL_law_260 rfl (lv_at hl 1 rfl)) ?_
      refine sp_m (aw_aload_n (pc := 261) dL_law_261 rfl (lv_at hl 0 rfl)) ?_
      refine sp_m (aw_iload (pc := 262) dL_law_262 (lv_at hl 4 rfl)) ?_
      refine sp_m (aw_iconst (v := 1) (pc := 264) dL_law_264 rfl) ?_
      refine sp_m (aw_iadd (pc := 265) dL_law_265) ?_
      refine sp_g fun i12 => ?_
      refine sp_m (aw_sld hxs hxn i12 (pc := 266) dL_law_266) ?_
      refine sp_m (aw_aload_n (pc := 267) dL_law_267 rfl (lv_at hl 0 rfl)) ?_
      refine sp_m (aw_iload (pc := 268) dL_law_268 (lv_at hl 4 rfl)) ?_
      refine sp_m (aw_iconst (v := 2) (pc := 270) dL_law_270 rfl) ?_
      refine sp_m (aw_iadd (pc := 271) dL_law_271) ?_
      refine sp_g fun i13 => ?_
      refine sp_m (aw_sld hxs hxn i13 (pc := 272) dL_law_272) ?_
      refine sp_m (aw_aload_n (pc := 273) dL_law_273 rfl (lv_at hl 0 rfl)) ?_
      refine sp_m (aw_iload (pc := 274) dL_law_274 (lv_at hl 4 rfl)) ?_
      refine sp_m (aw_iconst (v := 3) (pc := 276) dL_law_276 rfl) ?_
      refine sp_m (aw_iadd (pc := 277) dL_law_277) ?_
      refine sp_g fun i14 => ?_
      refine sp_m (aw_sld hxs hxn i14 (pc := 278) dL_law_278) ?_
      refine sp_m (aw_aload_n (pc := 279) dL_law_279 rfl (lv_at hl 0 rfl)) ?_
      refine sp_m (aw_iload (pc := 280) dL_law_280 (lv_at hl 4 rfl)) ?_
      refine sp_m (aw_iconst (v := 4) (pc := 282) dL_law_282 rfl) ?_
      refine sp_m (aw_iadd (pc := 283) dL_law_283) ?_
      refine sp_g fun i15 => ?_
      refine sp_m (aw_sld hxs hxn i15 (pc := 284) dL_law_284) ?_
      refine sp_m (aw_aload_n (pc := 285) dL_law_285 rfl (lv_at hl 0 rfl)) ?_
      refine sp_m (aw_iload (pc := 286) dL_law_286 (lv_at hl 4 rfl)) ?_
      refine sp_m (aw_iconst (v := 5) (pc := 288) dL_law_288 rfl) ?_
      refine sp_m (aw_iadd (pc := 289) dL_law_289) ?_
      refine sp_g fun i16 => ?_
      refine sp_m (aw_sld hxs hxn i16 (pc := 290) dL_law_290) ?_
      refine sp_g fun s18 => ?_
      refine sp_b fun p17 ep17 => ?_
      refine sp_m (G' := AW (KL_law l D h0 hE v) p17.2 (294) ls (.int p17.1 :: [])) (fun kk => aw_callV (As := [.int (xs (ix (s6v.1 + 1))), .int (xs (ix (s6v.1 + 2))), .int (xs (ix (s6v.1 + 3))), .int (xs (ix (s6v.1 + 4))), .int (xs (ix (s6v.1 + 5)))]) (metX1_feed _ _ ep17) (rcv_o okX1 s18) rfl mok_X1_feed q439 q440 q441 q116 q442 (Nat.le_of_ble_eq_true rfl) (Nat.le_of_ble_eq_true rfl) rfl hl.1 rfl (Nat.le_of_ble_eq_true rfl) (pc := 291) dL_law_291 kk) ?_
      refine sp_m (aw_aload_n (pc := 294) dL_law_294 rfl (lv_at hl 2 rfl)) ?_
      refine sp_m (aw_aload_n (pc := 295) dL_law_295 rfl (lv_at hl 0 rfl)) ?_
      refine sp_m (aw_iload (pc := 296) dL_law_296 (lv_at hl 4 rfl)) ?_
      refine sp_m (aw_iconst (v := 1) (pc := 298) dL_law_298 rfl) ?_
      refine sp_m (aw_iadd (pc := 299) dL_law_299) ?_
      refine sp_g fun i19 => ?_
      refine sp_m (aw_sld hxs hxn i19 (pc := 300) dL_law_300) ?_
      refine sp_m (aw_aload_n (pc := 301) dL_law_301 rfl (lv_at hl 0 rfl)) ?_
      refine sp_m (aw_iload (pc := 302) dL_law_302 (lv_at hl 4 rfl)) ?_
      refine sp_m (aw_iconst (v := 2) (pc := 304) dL_law_304 rfl) ?_
      refine sp_m (aw_iadd (pc := 305) dL_law_305) ?_
      refine sp_g fun i20 => ?_
      refine sp_m (aw_sld hxs hxn i20 (pc := 306) dL_law_306) ?_
      refine sp_m (aw_aload_n (pc := 307) dL_law_307 rfl (lv_at hl 0 rfl)) ?_
      refine sp_m (aw_iload (pc := 308) dL_law_308 (lv_at hl 4 rfl)) ?_
      refine sp_m (aw_iconst (v := 3) (pc := 310) dL_law_310 rfl) ?_
      refine sp_m (aw_iadd (pc := 311) dL_law_311) ?_
      refine sp_g fun i21 => ?_
      refine sp_m (aw_sld hxs hxn i21 (pc := 312) dL_law_312) ?_
      refine sp_m (aw_aload_n (pc := 313) dL_law_313 rfl (lv_at hl 0 rfl)) ?_
      refine sp_m (aw_iload (pc := 314) dL_law_314 (lv_at hl 4 rfl)) ?_
      refine sp_m (aw_iconst (v := 4) (pc := 316) dL_law_316 rfl) ?_
      refine sp_m (aw_iadd (pc := 317) dL_law_317) ?_
      refine sp_g fun i22 => ?_
      refine sp_m (aw_sld hxs hxn i22 (pc := 318) dL_law_318) ?_
      refine sp_m (aw_aload_n (pc := 319) dL_law_319 rfl (lv_at hl 0 rfl)) ?_
      refine sp_m (aw_iload (pc := 320) dL_law_320 (lv_at hl 4 rfl)) ?_
      refine sp_m (aw_iconst (v := 5) (pc := 322) dL_law_322 rfl) ?_
      refine sp_m (aw_iadd (pc := 323) dL_law_323) ?_
      refine sp_g fun i23 => ?_
      refine sp_m (aw_sld hxs hxn i23 (pc := 324) dL_law_324) ?_
      refine sp_g fun s25 => ?_
      refine sp_b fun p24 ep24 => ?_
      refine sp_m (G' := AW (KL_law l D h0 hE v) p24.2 (328) ls (.int p24.1 :: .int p17.1 :: [])) (fun kk => aw_callV (As := [.int (xs (ix (s6v.1 + 1))), .int (xs (ix (s6v.1 + 2))), .int (xs (ix (s6v.1 + 3))), .int (xs (ix (s6v.1 + 4))), .int (xs (ix (s6v.1 + 5)))]) (metX7_feed _ _ ep24) (rcv_o okX7 s25) rfl mok_X7_feed q1624 q1625 q1626 q125 q1627 (Nat.le_of_ble_eq_true rfl) (Nat.le_of_ble_eq_true rfl) rfl hl.1 rfl (Nat.le_of_ble_eq_true rfl) (pc := 325) dL_law_325 kk) ?_
      refine sp_if (fun c26 => ?_) (fun c26 => ?_)
      · refine sp_m (aw_icmp_eq_t (tgt := 2028) (pc := 328) dL_law_328 (by decide) c26) ?_
        exact hj2028_1 p24.2 ls (lv_sub hl [0, 1, 2, 3, 4] rfl)
      · refine sp_m (aw_icmp_eq_f (tgt := 2028) (pc := 328) dL_law_328 (by decide) c26) ?_
        refine sp_m (aw_iconst (v := 0) (pc := 331) dL_law_331 rfl) ?_
        exact sp_r fun hz => aw_zret (nar_b (Or.inl rfl)) hz rfl rfl rfl (pc := 332) dL_law_332
    refine sp_if (fun c27 => ?_) (fun c27 => ?_)
    · refine sp_m (aw_tableIn (tgt := 333) (pc := 40) dL_law_40 (by rw [c27]; decide) (by rw [c27]; decide) (by rw [c27] <;> rfl) (by decide)) ?_
      refine sp_m (aw_aload_n (pc := 333) dL_law_333 rfl (lv_at hl 1 rfl)) ?_
      refine sp_m (aw_aload_n (pc := 334) dL_law_334 rfl (lv_at hl 0 rfl)) ?_
      refine sp_m (aw_iload (pc := 335) dL_law_335 (lv_at hl 4 rfl)) ?_
      refine sp_m (aw_iconst (v := 1) (pc := 337) dL_law_337 rfl) ?_
      refine sp_m (aw_iadd (pc := 338) dL_law_338) ?_
      refine sp_g fun i28 => ?_
      refine sp_m (aw_sld hxs hxn i28 (pc := 339) dL_law_339) ?_
      refine sp_g fun s30 => ?_
      refine sp_b fun p29 ep29 => ?_
      refine sp_m (G' := AW (KL_law l D h0 hE v) p29.2 (343) ls (.int p29.1 :: [])) (fun kk => aw_callVH (As := [.int (xs (ix (s6v.1 + 1)))]) (metX1_war _ _ ep29) (rcv_o okX1 s30) rfl mok_X1_war q447 q448 q449 q116 q450 (Nat.le_of_ble_eq_true rfl) (Nat.le_of_ble_eq_true rfl) rfl hl.1 rfl (Nat.le_of_ble_eq_true rfl) (pc := 340) dL_law_340 kk) ?_
      refine sp_m (aw_aload_n (pc := 343) dL_law_343 rfl (lv_at hl 2 rfl)) ?_
      refine sp_m (aw_aload_n (pc := 344) dL_law_344 rfl (lv_at hl 0 rfl)) ?_
      refine sp_m (aw_iload (pc := 345) dL_law_345 (lv_at hl 4 rfl)) ?_
      refine sp_m (aw_iconst (v := 1) (pc := 347) dL_law_347 rfl) ?_
      refine sp_m (aw_iadd (pc := 348) dL_law_348) ?_
      refine sp_g fun i31 => ?_
      refine sp_m (aw_sld hxs hxn i31 (pc := 349) dL_law_349) ?_
      refine sp_g fun s33 => ?_
      refine sp_b fun p32 ep32 => ?_
      refine sp_m (G' := AW (KL_law l D h0 hE v) p32.2 (353) ls (.int p32.1 :: .int p29.1 :: [])) (fun kk => aw_callV (As := [.int (xs (ix (s6v.1 + 1)))]) (metX7_war _ _ ep32) (rcv_o okX7 s33) rfl mok_X7_war q1628 q1629 q1630 q125 q1631 (Nat.le_of_ble_eq_true rfl) (Nat.le_of_ble_eq_true rfl) rfl hl.1 rfl (Nat.le_of_ble_eq_true rfl) (pc := 350) dL_law_350 kk) ?_
      refine sp_if (fun c34 => ?_) (fun c34 => ?_)
      · refine sp_m (aw_icmp_eq_t (tgt := 2028) (pc := 353) dL_law_353 (by decide) c34) ?_
        exact hj2028_1 p32.2 ls (lv_sub hl [0, 1, 2, 3, 4] rfl)
      · refine sp_m (aw_icmp_eq_f (tgt := 2028) (pc := 353) dL_law_353 (by decide) c34) ?_
        refine sp_m (aw_iconst (v := 0) (pc := 356) dL_law_356 rfl) ?_
        exact sp_r fun hz => aw_zret (nar_b (Or.inl rfl)) hz rfl rfl rfl (pc := 357) dL_law_357
    refine sp_if (fun c35 => ?_) (fun c35 => ?_)
    · refine sp_m (aw_tableIn (tgt := 358) (pc := 40) dL_law_40 (by rw [c35]; decide) (by rw [c35]; decide) (by rw [c35] <;> rfl) (by decide)) ?_
      refine sp_m (aw_aload_n (pc := 358) dL_law_358 rfl (lv_at hl 1 rfl)) ?_
      refine sp_g fun s37 => ?_
      refine sp_b fun p36 ep36 => ?_
      refine sp_m (G' := AW (KL_law l D h0 hE v) s6v.2 (362) ls (.int p36 :: [])) (fun kk => aw_callV (As := []) (metX1_fault _ _ ep36) (rcv_o okX1 s37) rfl mok_X1_fault q929 q930 q931 q116 q932 (Nat.le_of_ble_eq_true rfl) (Nat.le_of_ble_eq_true rfl) rfl hl.1 rfl (Nat.le_of_ble_eq_true rfl) (pc := 359) dL_law_359 kk) ?_
      refine sp_m (aw_aload_n (pc := 362) dL_law_362 rfl (lv_at hl 2 rfl)) ?_
      refine sp_g fun s39 => ?_
      refine sp_b fun p38 ep38 => ?_
      refine sp_m (G' := AW (KL_law l D h0 hE v) p38.2 (366) ls (.int p38.1 :: .int p36 :: [])) (fun kk => aw_callV (As := []) (metX7_fault _ _ ep38) (rcv_o okX7 s39) rfl mok_X7_fault q1869 q1870 q1871 q125 q1872 (Nat.le_of_ble_eq_true rfl) (Nat.le_of_ble_eq_true rfl) rfl hl.1 rfl (Nat.le_of_ble_eq_true rfl) (pc := 363) dL_law_363 kk) ?_
      refine sp_if (fun c40 => ?_) (fun c40 => ?_)
      · refine sp_m (aw_icmp_eq_t (tgt := 2028) (pc := 366) dL_law_366 (by decide) c40) ?_
        exact hj2028_1 p38.2 ls (lv_sub hl [0, 1, 2, 3, 4] rfl)
      · refine sp_m (aw_icmp_eq_f (tgt := 2028) (pc := 366) dL_law_366 (by decide) c40) ?_
        refine sp_m (aw_iconst (v := 0) (pc := 369) dL_law_369 rfl) ?_
        exact sp_r fun hz => aw_zret (nar_b (Or.inl rfl)) hz rfl rfl rfl (pc := 370) dL_law_370
    refine sp_if (fun c41 => ?_) (fun c41 => ?_)
    · refine sp_m (aw_tableIn (tgt := 371) (pc := 40) dL_law_40 (by rw [c41]; decide) (by rw [c41]; decide) (by rw [c41] <;> rfl) (by decide)) ?_
      refine sp_m (aw_aload_n (pc := 371) dL_law_371 rfl (lv_at hl 1 rfl)) ?_
      refine sp_g fun s43 => ?_
      refine sp_b fun p42 ep42 => ?_
      refine sp_m (G' := AW (KL_law l D h0 hE v) s6v.2 (375) ls (.int p42 :: [])) (fun kk => aw_callV (As := []) (metX1_where _ _ ep42) (rcv_o okX1 s43) rfl mok_X1_where q933 q934 q935 q116 q936 (Nat.le_of_ble_eq_true rfl) (Nat.le_of_ble_eq_true rfl) rfl hl.1 rfl (Nat.le_of_ble_eq_true rfl) (pc := 372) dL_law_372 kk) ?_
      refine sp_m (aw_aload_n (pc := 375) dL_law_375 rfl (lv_at hl 2 rfl)) ?_
      refine sp_g fun s45 => ?_
      refine sp_b fun p44 ep44 => ?_
      refine sp_m (G' := AW (KL_law l D h0 hE v) p44.2 (379) ls (.int p44.1 :: .int p42 :: [])) (fun kk => aw_callV (As := []) (metX7_where _ _ ep44) (rcv_o okX7 s45) rfl mok_X7_where q1873 q1874 q1875 q125 q1876 (Nat.le_of_ble_eq_true rfl) (Nat.le_of_ble_eq_true rfl) rfl hl.1 rfl (Nat.le_of_ble_eq_true rfl) (pc := 376) dL_law_376 kk) ?_
      refine sp_if (fun c46 => ?_) (fun c46 => ?_)
      · refine sp_m (aw_icmp_eq_t (tgt := 2028) (pc := 379) dL_law_379 (by decide) c46) ?_
        exact hj2028_1 p44.2 ls (lv_sub hl [0, 1, 2, 3, 4] rfl)
      · refine sp_m (aw_icmp_eq_f (tgt := 2028) (pc := 379) dL_law_379 (by decide) c46) ?_
        refine sp_m (aw_iconst (v := 0) (pc := 382) dL_law_382 rfl) ?_
        exact sp_r fun hz => aw_zret (nar_b (Or.inl rfl)) hz rfl rfl rfl (pc := 383) dL_law_383
    refine sp_if (fun c47 => ?_) (fun c47 => ?_)
    · refine sp_m (aw_tableIn (tgt := 384) (pc := 40) dL_law_40 (by rw [c47]; decide) (by rw [c47]; decide) (by rw [c47] <;> rfl) (by decide)) ?_
      refine sp_m (aw_aload_n (pc := 384) dL_law_384 rfl (lv_at hl 1 rfl)) ?_
      refine sp_m (aw_aload_n (pc := 385) dL_law_385 rfl (lv_at hl 0 rfl)) ?_
      refine sp_m (aw_iload (pc := 386) dL_law_386 (lv_at hl 4 rfl)) ?_
      refine sp_m (aw_iconst (v := 1) (pc := 388) dL_law_388 rfl) ?_
      refine sp_m (aw_iadd (pc := 389) dL_law_389) ?_
      refine sp_g fun i48 => ?_
      refine sp_m (aw_sld hxs hxn i48 (pc := 390) dL_law_390) ?_
      refine sp_m (aw_aload_n (pc := 391) dL_law_391 rfl (lv_at hl 0 rfl)) ?_
      refine sp_m (aw_iload (pc := 392) dL_law_392 (lv_at hl 4 rfl)) ?_
      refine sp_m (aw_iconst (v := 2) (pc := 394) dL_law_394 rfl) ?_
      refine sp_m (aw_iadd (pc := 395) dL_law_395) ?_
      refine sp_g fun i49 => ?_
      refine sp_m (aw_sld hxs hxn i49 (pc := 396) dL_law_396) ?_
      refine sp_g fun s51 => ?_
      refine sp_b fun p50 ep50 => ?_
      refine sp_m (G' := AW (KL_law l D h0 hE v) p50.2 (400) ls (.int p50.1 :: [])) (fun kk => aw_callV (As := [.int (xs (ix (s6v.1 + 1))), .int (xs (ix (s6v.1 + 2)))]) (metX1_lane _ _ ep50) (rcv_o okX1 s51) rfl mok_X1_lane q937 q938 q939 q116 q940 (Nat.le_of_ble_eq_true rfl) (Nat.le_of_ble_eq_true rfl) rfl hl.1 rfl (Nat.le_of_ble_eq_true rfl) (pc := 397) dL_law_397 kk) ?_
      refine sp_m (aw_aload_n (pc := 400) dL_law_400 rfl (lv_at hl 2 rfl)) ?_
      refine sp_m (aw_aload_n (pc := 401) dL_law_401 rfl (lv_at hl 0 rfl)) ?_
      refine sp_m (aw_iload (pc := 402) dL_law_402 (lv_at hl 4 rfl)) ?_
      refine sp_m (aw_iconst (v := 1) (pc := 404) dL_law_404 rfl) ?_
      refine sp_m (aw_iadd (pc := 405) dL_law_405) ?_
      refine sp_g fun i52 => ?_
      refine sp_m (aw_sld hxs hxn i52 (pc := 406) dL_law_406) ?_
      refine sp_m (aw_aload_n (pc := 407) dL_law_407 rfl (lv_at hl 0 rfl)) ?_
      refine sp_m (aw_iload (pc := 408) dL_law_408 (lv_at hl 4 rfl)) ?_
      refine sp_m (aw_iconst (v := 2) (pc := 410) dL_law_410 rfl) ?_
      refine sp_m (aw_iadd (pc := 411) dL_law_411) ?_
      refine sp_g fun i53 => ?_
      refine sp_m (aw_sld hxs hxn i53 (pc := 412) dL_law_412) ?_
      refine sp_g fun s55 => ?_
      refine sp_b fun p54 ep54 => ?_
      refine sp_m (G' := AW (KL_law l D h0 hE v) p54.2 (416) ls (.int p54.1 :: .int p50.1 :: [])) (fun kk => aw_callV (As := [.int (xs (ix (s6v.1 + 1))), .int (xs (ix (s6v.1 + 2)))]) (metX7_lane _ _ ep54) (rcv_o okX7 s55) rfl mok_X7_lane q1877 q1878 q1879 q125 q1880 (Nat.le_of_ble_eq_true rfl) (Nat.le_of_ble_eq_true rfl) rfl hl.1 rfl (Nat.le_of_ble_eq_true rfl) (pc := 413) dL_law_413 kk) ?_
      refine sp_if (fun c56 => ?_) (fun c56 => ?_)
      · refine sp_m (aw_icmp_eq_t (tgt := 2028) (pc := 416) dL_law_416 (by decide) c56) ?_
        exact hj2028_1 p54.2 ls (lv_sub hl [0, 1, 2, 3, 4] rfl)
      · refine sp_m (aw_icmp_eq_f (tgt := 2028) (pc := 416) dL_law_416 (by decide) c56) ?_
        refine sp_m (aw_iconst (v := 0) (pc := 419) dL_law_419 rfl) ?_
        exact sp_r fun hz => aw_zret (nar_b (Or.inl rfl)) hz rfl rfl rfl (pc := 420) dL_law_420
    refine sp_if (fun c57 => ?_) (fun c57 => ?_)
    · refine sp_m (aw_tableIn (tgt := 421) (pc := 40) dL_law_40 (by rw [c57]; decide) (by rw [c57]; decide) (by rw [c57] <;> rfl) (by decide)) ?_
      refine sp_m (aw_aload_n (pc := 421) dL_law_421 rfl (lv_at hl 1 rfl)) ?_
      refine sp_m (aw_aload_n (pc := 422) dL_law_422 rfl (lv_at hl 0 rfl)) ?_
      refine sp_m (aw_iload (pc := 423) dL_law_423 (lv_at hl 4 rfl)) ?_
      refine sp_m (aw_iconst (v := 1) (pc := 425) dL_law_425 rfl) ?_
      refine sp_m (aw_iadd (pc := 426) dL_law_426) ?_
      refine sp_g fun i58 => ?_
      refine sp_m (aw_sld hxs hxn i58 (pc := 427) dL_law_427) ?_
      refine sp_m (aw_aload_n (pc := 428) dL_law_428 rfl (lv_at hl 0 rfl)) ?_
      refine sp_m (aw_iload (pc := 429) dL_law_429 (lv_at hl 4 rfl)) ?_
      refine sp_m (aw_iconst (v := 2) (pc := 431) dL_law_431 rfl) ?_
      refine sp_m (aw_iadd (pc := 432) dL_law_432) ?_
      refine sp_g fun i59 => ?_
      refine sp_m (aw_sld hxs hxn i59 (pc := 433) dL_law_433) ?_
      refine sp_g fun s61 => ?_
      refine sp_b fun p60 ep60 => ?_
      refine sp_m (G' := AW (KL_law l D h0 hE v) p60.2 (437) ls (.int p60.1 :: [])) (fun kk => aw_callV (As := [.int (xs (ix (s6v.1 + 1))), .int (xs (ix (s6v.1 + 2)))]) (metX1_beast _ _ ep60) (rcv_o okX1 s61) rfl mok_X1_beast q970 q971 q972 q116 q973 (Nat.le_of_ble_eq_true rfl) (Nat.le_of_ble_eq_true rfl) rfl hl.1 rfl (Nat.le_of_ble_eq_true rfl) (pc := 434) dL_law_434 kk) ?_
      refine sp_m (aw_aload_n (pc := 437) dL_law_437 rfl (lv_at hl 2 rfl)) ?_
      refine sp_m (aw_aload_n (pc := 438) dL_law_438 rfl (lv_at hl 0 rfl)) ?_
      refine sp_m (aw_iload (pc := 439) dL_law_439 (lv_at hl 4 rfl)) ?_
      refine sp_m (aw_iconst (v := 1) (pc := 441) dL_law_441 rfl) ?_
      refine sp_m (aw_iadd (pc := 442) dL_law_442) ?_
      refine sp_g fun i62 => ?_
      refine sp_m (aw_sld hxs hxn i62 (pc := 443) dL_law_443) ?_
      refine sp_m (aw_aload_n (pc := 444) dL_law_444 rfl (lv_at hl 0 rfl)) ?_
      refine sp_m (aw_iload (pc := 445) dL_law_445 (lv_at hl 4 rfl)) ?_
      refine sp_m (aw_iconst (v := 2) (pc := 447) dL_law_447 rfl) ?_
      refine sp_m (aw_iadd (pc := 448) dL_law_448) ?_
      refine sp_g fun i63 => ?_
      refine sp_m (aw_sld hxs hxn i63 (pc := 449) dL_law_449) ?_
      refine sp_g fun s65 => ?_
      refine sp_b fun p64 ep64 => ?_
      refine sp_m (G' := AW (KL_law l D h0 hE v) p64.2 (453) ls (.int p64.1 :: .int p60.1 :: [])) (fun kk => aw_callV (As := [.int (xs (ix (s6v.1 + 1))), .int (xs (ix (s6v.1 + 2)))]) (metX7_beast _ _ ep64) (rcv_o okX7 s65) rfl mok_X7_beast q1889 q1890 q1891 q125 q1892 (Nat.le_of_ble_eq_true rfl) (Nat.le_of_ble_eq_true rfl) rfl hl.1 rfl (Nat.le_of_ble_eq_true rfl) (pc := 450) dL_law_450 kk) ?_
      refine sp_if (fun c66 => ?_) (fun c66 => ?_)
      · refine sp_m (aw_icmp_eq_t (tgt := 2028) (pc := 453) dL_law_453 (by decide) c66) ?_
        exact hj2028_1 p64.2 ls (lv_sub hl [0, 1, 2, 3, 4] rfl)
      · refine sp_m (aw_icmp_eq_f (tgt := 2028) (pc := 453) dL_law_453 (by decide) c66) ?_
        refine sp_m (aw_iconst (v := 0) (pc := 456) dL_law_456 rfl) ?_
        exact sp_r fun hz => aw_zret (nar_b (Or.inl rfl)) hz rfl rfl rfl (pc := 457) dL_law_457
    refine sp_if (fun c67 => ?_) (fun c67 => ?_)
    · refine sp_m (aw_tableIn (tgt := 458) (pc := 40) dL_law_40 (by rw [c67]; decide) (by rw [c67]; decide) (by rw [c67] <;> rfl) (by decide)) ?_
      refine sp_m (aw_aload_n (pc := 458) dL_law_458 rfl (lv_at hl 1 rfl)) ?_
      refine sp_m (aw_aload_n (pc := 459) dL_law_459 rfl (lv_at hl 0 rfl)) ?_
      refine sp_m (aw_iload (pc := 460) dL_law_460 (lv_at hl 4 rfl)) ?_
      refine sp_m (aw_iconst (v := 1) (pc := 462) dL_law_462 rfl) ?_
      refine sp_m (aw_iadd (pc := 463) dL_law_463) ?_
      refine sp_g fun i68 => ?_
      refine sp_m (aw_sld hxs hxn i68 (pc := 464) dL_law_464) ?_
      refine sp_m (aw_aload_n (pc := 465) dL_law_465 rfl (lv_at hl 0 rfl)) ?_
      refine sp_m (aw_iload (pc := 466) dL_law_466 (lv_at hl 4 rfl)) ?_
      refine sp_m (aw_iconst (v := 2) (pc := 468) dL_law_468 rfl) ?_
      refine sp_m (aw_iadd (pc := 469) dL_law_469) ?_
      refine sp_g fun i69 => ?_
      refine sp_m (aw_sld hxs hxn i69 (pc := 470) dL_law_470) ?_
      have hj479_2 : ∀ j70 : Int32, ∀ ls : Array Slot, lv_has ls 7 [(0, .ref (sb D)), (1, .ref (gZ h0)), (2, .ref (gZ p2)), (3, .ref (gZ p4)), (4, .int s6v.1)] → SP (L_law_j479 h0 xs xn p2 s6v j70) (ZL P6 (fun z => z = (v, hE))) (AW (KL_law l D h0 hE v) s6v.2 479 ls (.int j70 :: .int (xs (ix (s6v.1 + 1))) :: .ref (gZ h0) :: [])) := by
        intro j70 ls hl
        unfold L_law_j479
        refine sp_g fun s72 => ?_
        refine sp_b fun p71 ep71 => ?_
        refine sp_m (G' := AW (KL_law l D h0 hE v) p71.2 (482) ls (.long p71.1 :: [])) (fun kk => aw_callV (As := [.int (xs (ix (s6v.1 + 1))), .int j70]) (metX1_across _ _ ep71) (rcv_o okX1 s72) rfl mok_X1_across q1042 q1043 q1044 q116 q1045 (Nat.le_of_ble_eq_true rfl) (Nat.le_of_ble_eq_true rfl) rfl hl.1 rfl (Nat.le_of_ble_eq_true rfl) (pc := 479) dL_law_479 kk) ?_
        refine sp_m (aw_aload_n (pc := 482) dL_law_482 rfl (lv_at hl 2 rfl)) ?_
        refine sp_m (aw_aload_n (pc := 483) dL_law_483 rfl (lv_at hl 0 rfl)) ?_
        refine sp_m (aw_iload (pc := 484) dL_law_484 (lv_at hl 4 rfl)) ?_
        refine sp_m (aw_iconst (v := 1) (pc := 486) dL_law_486 rfl) ?_
        refine sp_m (aw_iadd (pc := 487) dL_law_487) ?_
        refine sp_g fun i73 => ?_
        refine sp_m (aw_sld hxs hxn i73 (pc := 488) dL_law_488) ?_
        refine sp_m (aw_aload_n (pc := 489) dL_law_489 rfl (lv_at hl 0 rfl)) ?_
        refine sp_m (aw_iload (pc := 490) dL_law_490 (lv_at hl 4 rfl)) ?_
        refine sp_m (aw_iconst (v := 2) (pc := 492) dL_law_492 rfl) ?_
        refine sp_m (aw_iadd (pc := 493) dL_law_493) ?_
        refine sp_g fun i74 => ?_
        refine sp_m (aw_sld hxs hxn i74 (pc := 494) dL_law_494) ?_
        have hj503_3 : ∀ j75 : Int32, ∀ ls : Array Slot, lv_has ls 7 [(0, .ref (sb D)), (1, .ref (gZ h0)), (2, .ref (gZ p2)), (3, .ref (gZ p4)), (4, .int s6v.1)] → SP (L_law_j503 xs p2 s6v p71 j75) (ZL P6 (fun z => z = (v, hE))) (AW (KL_law l D h0 hE v) p71.2 503 ls (.int j75 :: .int (xs (ix (s6v.1 + 1))) :: .ref (gZ p2) :: .long p71.1 :: [])) := by
          intro j75 ls hl
          unfold L_law_j503
          refine sp_g fun s77 => ?_
          refine sp_b fun p76 ep76 => ?_
          refine sp_m (G' := AW (KL_law l D h0 hE v) p76.2 (506) ls (.long p76.1 :: .long p71.1 :: [])) (fun kk => aw_callV (As := [.int (xs (ix (s6v.1 + 1))), .int j75]) (metX7_across _ _ ep76) (rcv_o okX7 s77) rfl mok_X7_across q1909 q1910 q1911 q125 q1912 (Nat.le_of_ble_eq_true rfl) (Nat.le_of_ble_eq_true rfl) rfl hl.1 rfl (Nat.le_of_ble_eq_true rfl) (pc := 503) dL_law_503 kk) ?_
          refine sp_m (aw_lcmp (pc := 506) dL_law_506) ?_
          refine sp_if (fun c78 => ?_) (fun c78 => ?_)
          · refine sp_m (aw_if_eq_t (tgt := 2028) (pc := 507) dL_law_507 (by decide) ((lg_cmp_eq _ _).mpr c78)) ?_
            exact hj2028_1 p76.2 ls (lv_sub hl [0, 1, 2, 3, 4] rfl)
          · refine sp_m (aw_if_eq_f (tgt := 2028) (pc := 507) dL_law_507 (by decide) (fun z => c78 ((lg_cmp_eq _ _).mp z))) ?_
            refine sp_m (aw_iconst (v := 0) (pc := 510) dL_law_510 rfl) ?_
            exact sp_r fun hz => aw_zret (nar_b (Or.inl rfl)) hz rfl rfl rfl (pc := 511) dL_law_511
        refine sp_if (fun c79 => ?_) (fun c79 => ?_)
        · refine sp_m (aw_if_eq_t (tgt := 502) (pc := 495) dL_law_495 (by decide) c79) ?_
          refine sp_m (aw_iconst (v := 0) (pc := 502) dL_law_502 rfl) ?_
          exact hj503_3 0 ls (lv_sub hl [0, 1, 2, 3, 4] rfl)
        · refine sp_m (aw_if_eq_f (tgt := 502) (pc := 495) dL_law_495 (by decide) c79) ?_
          refine sp_m (aw_iconst (v := 1) (pc := 498) dL_law_498 rfl) ?_
          refine sp_m (aw_goto (tgt := 503) (pc := 499) dL_law_499 (by decide)) ?_
          exact hj503_3 1 ls (lv_sub hl [0, 1, 2, 3, 4] rfl)
      refine sp_if (fun c80 => ?_) (fun c80 => ?_)
      · refine sp_m (aw_if_eq_t (tgt := 478) (pc := 471) dL_law_471 (by decide) c80) ?_
        refine sp_m (aw_iconst (v := 0) (pc := 478) dL_law_478 rfl) ?_
        exact hj479_2 0 ls (lv_sub hl [0, 1, 2, 3, 4] rfl)
      · refine sp_m (aw_if_eq_f (tgt := 478) (pc := 471) dL_law_471 (by decide) c80) ?_
        refine sp_m (aw_iconst (v := 1) (pc := 474) dL_law_474 rfl) ?_
        refine sp_m (aw_goto (tgt := 479) (pc := 475) dL_law_475 (by decide)) ?_
        exact hj479_2 1 ls (lv_sub hl [0, 1, 2, 3, 4] rfl)
    refine sp_if (fun c81 => ?_) (fun c81 => ?_)
    · refine sp_m (aw_tableIn (tgt := 512) (pc := 40) dL_law_40 (by rw [c81]; decide) (by rw [c81]; decide) (by rw [c81] <;> rfl) (by decide)) ?_
      refine sp_m (aw_aload_n (pc := 512) dL_law_512 rfl (lv_at hl 1 rfl)) ?_
      refine sp_m (aw_aload_n (pc := 513) dL_law_513 rfl (lv_at hl 0 rfl)) ?_
      refine sp_m (aw_iload (pc := 514) dL_law_514 (lv_at hl 4 rfl)) ?_
      refine sp_m (aw_iconst (v := 1) (pc := 516) dL_law_516 rfl) ?_
      refine sp_m (aw_iadd (pc := 517) dL_law_517) ?_
      refine sp_g fun i82 => ?_
      refine sp_m (aw_sld hxs hxn i82 (pc := 518) dL_law_518) ?_
      refine sp_m (aw_aload_n (pc := 519) dL_law_519 rfl (lv_at hl 0 rfl)) ?_
      refine sp_m (aw_iload (pc := 520) dL_law_520 (lv_at hl 4 rfl)) ?_
      refine sp_m (aw_iconst (v := 2) (pc := 522) dL_law_522 rfl) ?_
      refine sp_m (aw_iadd (pc := 523) dL_law_523) ?_
      refine sp_g fun i83 => ?_
      refine sp_m (aw_sld hxs hxn i83 (pc := 524) dL_law_524) ?_
      refine sp_m (aw_aload_n (pc := 525) dL_law_525 rfl (lv_at hl 0 rfl)) ?_
      refine sp_m (aw_iload (pc := 526) dL_law_526 (lv_at hl 4 rfl)) ?_
      refine sp_m (aw_iconst (v := 3) (pc := 528) dL_law_528 rfl) ?_
      refine sp_m (aw_iadd (pc := 529) dL_law_529) ?_
      refine sp_g fun i84 => ?_
      refine sp_m (aw_sld hxs hxn i84 (pc := 530) dL_law_530) ?_
      have hj539_4 : ∀ j85 : Int32, ∀ ls : Array Slot, lv_has ls 7 [(0, .ref (sb D)), (1, .ref (gZ h0)), (2, .ref (gZ p2)), (3, .ref (gZ p4)), (4, .int s6v.1)] → SP (L_law_j539 h0 xs xn p2 s6v j85) (ZL P6 (fun z => z = (v, hE))) (AW (KL_law l D h0 hE v) s6v.2 539 ls (.int j85 :: .int (xs (ix (s6v.1 + 2))) :: .int (xs (ix (s6v.1 + 1))) :: .ref (gZ h0) :: [])) := by
        intro j85 ls hl
        unfold L_law_j539
        refine sp_g fun s87 => ?_
        refine sp_b fun p86 ep86 => ?_
        refine sp_m (G' := AW (KL_law l D h0 hE v) p86.2 (542) ls (.int p86.1 :: [])) (fun kk => aw_callV (As := [.int (xs (ix (s6v.1 + 1))), .int (xs (ix (s6v.1 + 2))), .int j85]) (metX1_meets _ _ ep86) (rcv_o okX1 s87) rfl mok_X1_meets q1069 q1070 q1071 q116 q1072 (Nat.le_of_ble_eq_true rfl) (Nat.le_of_ble_eq_true rfl) rfl hl.1 rfl (Nat.le_of_ble_eq_true rfl) (pc := 539) dL_law_539 kk) ?_
        refine sp_m (aw_aload_n (pc := 542) dL_law_542 rfl (lv_at hl 2 rfl)) ?_
        refine sp_m (aw_aload_n (pc := 543) dL_law_543 rfl (lv_at hl 0 rfl)) ?_
        refine sp_m (aw_iload (pc := 544) dL_law_544 (lv_at hl 4 rfl)) ?_
        refine sp_m (aw_iconst (v := 1) (pc := 546) dL_law_546 rfl) ?_
        refine sp_m (aw_iadd (pc := 547) dL_law_547) ?_
        refine sp_g fun i88 => ?_
        refine sp_m (aw_sld hxs hxn i88 (pc := 548) dL_law_548) ?_
        refine sp_m (aw_aload_n (pc := 549) dL_law_549 rfl (lv_at hl 0 rfl)) ?_
        refine sp_m (aw_iload (pc := 550) dL_law_550 (lv_at hl 4 rfl)) ?_
        refine sp_m (aw_iconst (v := 2) (pc := 552) dL_law_552 rfl) ?_
        refine sp_m (aw_iadd (pc := 553) dL_law_553) ?_
        refine sp_g fun i89 => ?_
        refine sp_m (aw_sld hxs hxn i89 (pc := 554) dL_law_554) ?_
        refine sp_m (aw_aload_n (pc := 555) dL_law_555 rfl (lv_at hl 0 rfl)) ?_
        refine sp_m (aw_iload (pc := 556) dL_law_556 (lv_at hl 4 rfl)) ?_
        refine sp_m (aw_iconst (v := 3) (pc := 558) dL_law_558 rfl) ?_
        refine sp_m (aw_iadd (pc := 559) dL_law_559) ?_
        refine sp_g fun i90 => ?_
        refine sp_m (aw_sld hxs hxn i90 (pc := 560) dL_law_560) ?_
        have hj569_5 : ∀ j91 : Int32, ∀ ls : Array Slot, lv_has ls 7 [(0, .ref (sb D)), (1, .ref (gZ h0)), (2, .ref (gZ p2)), (3, .ref (gZ p4)), (4, .int s6v.1)] → SP (L_law_j569 xs p2 s6v p86 j91) (ZL P6 (fun z => z = (v, hE))) (AW (KL_law l D h0 hE v) p86.2 569 ls (.int j91 :: .int (xs (ix (s6v.1 + 2))) :: .int (xs (ix (s6v.1 + 1))) :: .ref (gZ p2) :: .int p86.1 :: [])) := by
          intro j91 ls hl
          unfold L_law_j569
          refine sp_g fun s93 => ?_
          refine sp_b fun p92 ep92 => ?_
          refine sp_m (G' := AW (KL_law l D h0 hE v) p92.2 (572) ls (.int p92.1 :: .int p86.1 :: [])) (fun kk => aw_callV (As := [.int (xs (ix (s6v.1 + 1))), .int (xs (ix (s6v.1 + 2))), .int j91]) (metX7_meets _ _ ep92) (rcv_o okX7 s93) rfl mok_X7_meets q1932 q1933 q1934 q125 q1935 (Nat.le_of_ble_eq_true rfl) (Nat.le_of_ble_eq_true rfl) rfl hl.1 rfl (Nat.le_of_ble_eq_true rfl) (pc := 569) dL_law_569 kk) ?_
          refine sp_if (fun c94 => ?_) (fun c94 => ?_)
          · refine sp_m (aw_icmp_eq_t (tgt := 2028) (pc := 572) dL_law_572 (by decide) c94) ?_
            exact hj2028_1 p92.2 ls (lv_sub hl [0, 1, 2, 3, 4] rfl)
          · refine sp_m (aw_icmp_eq_f (tgt := 2028) (pc := 572) dL_law_572 (by decide) c94) ?_
            refine sp_m (aw_iconst (v := 0) (pc := 575) dL_law_575 rfl) ?_
            exact sp_r fun hz => aw_zret (nar_b (Or.inl rfl)) hz rfl rfl rfl (pc := 576) dL_law_576
        refine sp_if (fun c95 => ?_) (fun c95 => ?_)
        · refine sp_m (aw_if_eq_t (tgt := 568) (pc := 561) dL_law_561 (by decide) c95) ?_
          refine sp_m (aw_iconst (v := 0) (pc := 568) dL_law_568 rfl) ?_
          exact hj569_5 0 ls (lv_sub hl [0, 1, 2, 3, 4] rfl)
        · refine sp_m (aw_if_eq_f (tgt := 568) (pc := 561) dL_law_561 (by decide) c95) ?_
          refine sp_m (aw_iconst (v := 1) (pc := 564) dL_law_564 rfl) ?_
          refine sp_m (aw_goto (tgt := 569) (pc := 565) dL_law_565 (by decide)) ?_
          exact hj569_5 1 ls (lv_sub hl [0, 1, 2, 3, 4] rfl)
      refine sp_if (fun c96 => ?_) (fun c96 => ?_)
      · refine sp_m (aw_if_eq_t (tgt := 538) (pc := 531) dL_law_531 (by decide) c96) ?_
        refine sp_m (aw_iconst (v := 0) (pc := 538) dL_law_538 rfl) ?_
        exact hj539_4 0 ls (lv_sub hl [0, 1, 2, 3, 4] rfl)
      · refine sp_m (aw_if_eq_f (tgt := 538) (pc := 531) dL_law_531 (by decide) c96) ?_
        refine sp_m (aw_iconst (v := 1) (pc := 534) dL_law_534 rfl) ?_
        refine sp_m (aw_goto (tgt := 539) (pc := 535) dL_law_535 (by decide)) ?_
        exact hj539_4 1 ls (lv_sub hl [0, 1, 2, 3, 4] rfl)
    refine sp_if (fun c97 => ?_) (fun c97 => ?_)
    · refine sp_m (aw_tableIn (tgt := 577) (pc := 40) dL_law_40 (by rw [c97]; decide) (by rw [c97]; decide) (by rw [c97] <;> rfl) (by decide)) ?_
      refine sp_m (aw_aload_n (pc := 577) dL_law_577 rfl (lv_at hl 1 rfl)) ?_
      refine sp_m (aw_aload_n (pc := 578) dL_law_578 rfl (lv_at hl 0 rfl)) ?_
      refine sp_m (aw_iload (pc := 579) dL_law_579 (lv_at hl 4 rfl)) ?_
      refine sp_m (aw_iconst (v := 1) (pc := 581) dL_law_581 rfl) ?_
      refine sp_m (aw_iadd (pc := 582) dL_law_582) ?_
      refine sp_g fun i98 => ?_
      refine sp_m (aw_sld hxs hxn i98 (pc := 583) dL_law_583) ?_
      refine sp_m (aw_aload_n (pc := 584) dL_law_584 rfl (lv_at hl 0 rfl)) ?_
      refine sp_m (aw_iload (pc := 585) dL_law_585 (lv_at hl 4 rfl)) ?_
      refine sp_m (aw_iconst (v := 2) (pc := 587) dL_law_587 rfl) ?_
      refine sp_m (aw_iadd (pc := 588) dL_law_588) ?_
      refine sp_g fun i99 => ?_
      refine sp_m (aw_sld hxs hxn i99 (pc := 589) dL_law_589) ?_
      refine sp_m (aw_aload_n (pc := 590) dL_law_590 rfl (lv_at hl 0 rfl)) ?_
      refine sp_m (aw_iload (pc := 591) dL_law_591 (lv_at hl 4 rfl)) ?_
      refine sp_m (aw_iconst (v := 3) (pc := 593) dL_law_593 rfl) ?_
      refine sp_m (aw_iadd (pc := 594) dL_law_594) ?_
      refine sp_g fun i100 => ?_
      refine sp_m (aw_sld hxs hxn i100 (pc := 595) dL_law_595) ?_
      have hj604_6 : ∀ j101 : Int32, ∀ ls : Array Slot, lv_has ls 7 [(0, .ref (sb D)), (1, .ref (gZ h0)), (2, .ref (gZ p2)), (3, .ref (gZ p4)), (4, .int s6v.1)] → SP (L_law_j604 h0 xs xn p2 s6v j101) (ZL P6 (fun z => z = (v, hE))) (AW (KL_law l D h0 hE v) s6v.2 604 ls (.int j101 :: .int (xs (ix (s6v.1 + 2))) :: .int (xs (ix (s6v.1 + 1))) :: .ref (gZ h0) :: [])) := by
        intro j101 ls hl
        unfold L_law_j604
        refine sp_m (aw_aload_n (pc := 604) dL_law_604 rfl (lv_at hl 0 rfl)) ?_
        refine sp_m (aw_iload (pc := 605) dL_law_605 (lv_at hl 4 rfl)) ?_
        refine sp_m (aw_iconst (v := 4) (pc := 607) dL_law_607 rfl) ?_
        refine sp_m (aw_iadd (pc := 608) dL_law_608) ?_
        refine sp_g fun i102 => ?_
        refine sp_m (aw_sld hxs hxn i102 (pc := 609) dL_law_609) ?_
        have hj618_7 : ∀ j103 : Int32, ∀ ls : Array Slot, lv_has ls 7 [(0, .ref (sb D)), (1, .ref (gZ h0)), (2, .ref (gZ p2)), (3, .ref (gZ p4)), (4, .int s6v.1)] → SP (L_law_j618 h0 xs xn p2 s6v j101 j103) (ZL P6 (fun z => z = (v, hE))) (AW (KL_law l D h0 hE v) s6v.2 618 ls (.int j103 :: .int j101 :: .int (xs (ix (s6v.1 + 2))) :: .int (xs (ix (s6v.1 + 1))) :: .ref (gZ h0) :: [])) := by
          intro j103 ls hl
          unfold L_law_j618
          refine sp_g fun s105 => ?_
          refine sp_b fun p104 ep104 => ?_
          refine sp_m (G' := AW (KL_law l D h0 hE v) p104.2 (621) ls (.long p104.1 :: [])) (fun kk => aw_callV (As := [.int (xs (ix (s6v.1 + 1))), .int (xs (ix (s6v.1 + 2))), .int j101, .int j103]) (metX1_mean _ _ ep104) (rcv_o okX1 s105) rfl mok_X1_mean q1119 q1120 q1121 q116 q1122 (Nat.le_of_ble_eq_true rfl) (Nat.le_of_ble_eq_true rfl) rfl hl.1 rfl (Nat.le_of_ble_eq_true rfl) (pc := 618) dL_law_618 kk) ?_
          refine sp_m (aw_aload_n (pc := 621) dL_law_621 rfl (lv_at hl 2 rfl)) ?_
          refine sp_m (aw_aload_n (pc := 622) dL_law_622 rfl (lv_at hl 0 rfl)) ?_
          refine sp_m (aw_iload (pc := 623) dL_law_623 (lv_at hl 4 rfl)) ?_
          refine sp_m (aw_iconst (v := 1) (pc := 625) dL_law_625 rfl) ?_
          refine sp_m (aw_iadd (pc := 626) dL_law_626) ?_
          refine sp_g fun i106 => ?_
          refine sp_m (aw_sld hxs hxn i106 (pc := 627) dL_law_627) ?_
          refine sp_m (aw_aload_n (pc := 628) dL_law_628 rfl (lv_at hl 0 rfl)) ?_
          refine sp_m (aw_iload (pc := 629) dL_law_629 (lv_at hl 4 rfl)) ?_
          refine sp_m (aw_iconst (v := 2) (pc := 631) dL_law_631 rfl) ?_
          refine sp_m (aw_iadd (pc := 632) dL_law_632) ?_
          refine sp_g fun i107 => ?_
          refine sp_m (aw_sld hxs hxn i107 (pc := 633) dL_law_633) ?_
          refine sp_m (aw_aload_n (pc := 634) dL_law_634 rfl (lv_at hl 0 rfl)) ?_
          refine sp_m (aw_iload (pc := 635) dL_law_635 (lv_at hl 4 rfl)) ?_
          refine sp_m (aw_iconst (v := 3) (pc := 637) dL_law_637 rfl) ?_
          refine sp_m (aw_iadd (pc := 638) dL_law_638) ?_
          refine sp_g fun i108 => ?_
          refine sp_m (aw_sld hxs hxn i108 (pc := 639) dL_law_639) ?_
          have hj648_8 : ∀ j109 : Int32, ∀ ls : Array Slot, lv_has ls 7 [(0, .ref (sb D)), (1, .ref (gZ h0)), (2, .ref (gZ p2)), (3, .ref (gZ p4)), (4, .int s6v.1)] → SP (L_law_j648 xs xn p2 s6v p104 j109) (ZL P6 (fun z => z = (v, hE))) (AW (KL_law l D h0 hE v) p104.2 648 ls (.int j109 :: .int (xs (ix (s6v.1 + 2))) :: .int (xs (ix (s6v.1 + 1))) :: .ref (gZ p2) :: .long p104.1 :: [])) := by
            intro j109 ls hl
            unfold L_law_j648
            refine sp_m (aw_aload_n (pc := 648) dL_law_648 rfl (lv_at hl 0 rfl)) ?_
            refine sp_m (aw_iload (pc := 649) dL_law_649 (lv_at hl 4 rfl)) ?_
            refine sp_m (aw_iconst (v := 4) (pc := 651) dL_law_651 rfl) ?_
            refine sp_m (aw_iadd (pc := 652) dL_law_652) ?_
            refine sp_g fun i110 => ?_
            refine sp_m (aw_sld hxs hxn i110 (pc := 653) dL_law_653) ?_
            have hj662_9 : ∀ j111 : Int32, ∀ ls : Array Slot, lv_has ls 7 [(0, .ref (sb D)), (1, .ref (gZ h0)), (2, .ref (gZ p2)), (3, .ref (gZ p4)), (4, .int s6v.1)] → SP (L_law_j662 xs p2 s6v p104 j109 j111) (ZL P6 (fun z => z = (v, hE))) (AW (KL_law l D h0 hE v) p104.2 662 ls (.int j111 :: .int j109 :: .int (xs (ix (s6v.1 + 2))) :: .int (xs (ix (s6v.1 + 1))) :: .ref (gZ p2) :: .long p104.1 :: [])) := by
              intro j111 ls hl
              unfold L_law_j662
              refine sp_g fun s113 => ?_
              refine sp_b fun p112 ep112 => ?_
              refine sp_m (G' := AW (KL_law l D h0 hE v) p112.2 (665) ls (.long p112.1 :: .long p104.1 :: [])) (fun kk => aw_callV (As := [.int (xs (ix (s6v.1 + 1))), .int (xs (ix (s6v.1 + 2))), .int j109, .int j111]) (metX7_mean _ _ ep112) (rcv_o okX7 s113) rfl mok_X7_mean q1944 q1945 q1946 q125 q1947 (Nat.le_of_ble_eq_true rfl) (Nat.le_of_ble_eq_true rfl) rfl hl.1 rfl (Nat.le_of_ble_eq_true rfl) (pc := 662) dL_law_662 kk) ?_
              refine sp_m (aw_lcmp (pc := 665) dL_law_665) ?_
              refine sp_if (fun c114 => ?_) (fun c114 => ?_)
              · refine sp_m (aw_if_eq_t (tgt := 2028) (pc := 666) dL_law_666 (by decide) ((lg_cmp_eq _ _).mpr c114)) ?_
                exact hj2028_1 p112.2 ls (lv_sub hl [0, 1, 2, 3, 4] rfl)
              · refine sp_m (aw_if_eq_f (tgt := 2028) (pc := 666) dL_law_666 (by decide) (fun z => c114 ((lg_cmp_eq _ _).mp z))) ?_
                refine sp_m (aw_iconst (v := 0) (pc := 669) dL_law_669 rfl) ?_
                exact sp_r fun hz => aw_zret (nar_b (Or.inl rfl)) hz rfl rfl rfl (pc := 670) dL_law_670
            refine sp_if (fun c115 => ?_) (fun c115 => ?_)
            · refine sp_m (aw_if_eq_t (tgt := 661) (pc := 654) dL_law_654 (by decide) c115) ?_
              refine sp_m (aw_iconst (v := 0) (pc := 661) dL_law_661 rfl) ?_
              exact hj662_9 0 ls (lv_sub hl [0, 1, 2, 3, 4] rfl)
            · refine sp_m (aw_if_eq_f (tgt := 661) (pc := 654) dL_law_654 (by decide) c115) ?_
              refine sp_m (aw_iconst (v := 1) (pc := 657) dL_law_657 rfl) ?_
              refine sp_m (aw_goto (tgt := 662) (pc := 658) dL_law_658 (by decide)) ?_
              exact hj662_9 1 ls (lv_sub hl [0, 1, 2, 3, 4] rfl)
          refine sp_if (fun c116 => ?_) (fun c116 => ?_)
          · refine sp_m (aw_if_eq_t (tgt := 647) (pc := 640) dL_law_640 (by decide) c116) ?_
            refine sp_m (aw_iconst (v := 0) (pc := 647) dL_law_647 rfl) ?_
            exact hj648_8 0 ls (lv_sub hl [0, 1, 2, 3, 4] rfl)
          · refine sp_m (aw_if_eq_f (tgt := 647) (pc := 640) dL_law_640 (by decide) c116) ?_
            refine sp_m (aw_iconst (v := 1) (pc := 643) dL_law_643 rfl) ?_
            refine sp_m (aw_goto (tgt := 648) (pc := 644) dL_law_644 (by decide)) ?_
            exact hj648_8 1 ls (lv_sub hl [0, 1, 2, 3, 4] rfl)
        refine sp_if (fun c117 => ?_) (fun c117 => ?_)
        · refine sp_m (aw_if_eq_t (tgt := 617) (pc := 610) dL_law_610 (by decide) c117) ?_
          refine sp_m (aw_iconst (v := 0) (pc := 617) dL_law_617 rfl) ?_
          exact hj618_7 0 ls (lv_sub hl [0, 1, 2, 3, 4] rfl)
        · refine sp_m (aw_if_eq_f (tgt := 617) (pc := 610) dL_law_610 (by decide) c117) ?_
          refine sp_m (aw_iconst (v := 1) (pc := 613) dL_law_613 rfl) ?_
          refine sp_m (aw_goto (tgt := 618) (pc := 614) dL_law_614 (by decide)) ?_
          exact hj618_7 1 ls (lv_sub hl [0, 1, 2, 3, 4] rfl)
      refine sp_if (fun c118 => ?_) (fun c118 => ?_)
      · refine sp_m (aw_if_eq_t (tgt := 603) (pc := 596) dL_law_596 (by decide) c118) ?_
        refine sp_m (aw_iconst (v := 0) (pc := 603) dL_law_603 rfl) ?_
        exact hj604_6 0 ls (lv_sub hl [0, 1, 2, 3, 4] rfl)
      · refine sp_m (aw_if_eq_f (tgt := 603) (pc := 596) dL_law_596 (by decide) c118) ?_
        refine sp_m (aw_iconst (v := 1) (pc := 599) dL_law_599 rfl) ?_
        refine sp_m (aw_goto (tgt := 604) (pc := 600) dL_law_600 (by decide)) ?_
        exact hj604_6 1 ls (lv_sub hl [0, 1, 2, 3, 4] rfl)
    refine sp_if (fun c119 => ?_) (fun c119 => ?_)
    · refine sp_m (aw_tableIn (tgt := 671) (pc := 40) dL_law_40 (by rw [c119]; decide) (by rw [c119]; decide) (by rw [c119] <;> rfl) (by decide)) ?_
      refine sp_m (aw_aload_n (pc := 671) dL_law_671 rfl (lv_at hl 1 rfl)) ?_
      refine sp_m (aw_aload_n (pc := 672) dL_law_672 rfl (lv_at hl 0 rfl)) ?_
      refine sp_m (aw_iload (pc := 673) dL_law_673 (lv_at hl 4 rfl)) ?_
      refine sp_m (aw_iconst (v := 1) (pc := 675) dL_law_675 rfl) ?_
      refine sp_m (aw_iadd (pc := 676) dL_law_676) ?_
      refine sp_g fun i120 => ?_
      refine sp_m (aw_sld hxs hxn i120 (pc := 677) dL_law_677) ?_
      refine sp_m (aw_aload_n (pc := 678) dL_law_678 rfl (lv_at hl 0 rfl)) ?_
      refine sp_m (aw_iload (pc := 679) dL_law_679 (lv_at hl 4 rfl)) ?_
      refine sp_m (aw_iconst (v := 2) (pc := 681) dL_law_681 rfl) ?_
      refine sp_m (aw_iadd (pc := 682) dL_law_682) ?_
      refine sp_g fun i121 => ?_
      refine sp_m (aw_sld hxs hxn i121 (pc := 683) dL_law_683) ?_
      refine sp_m (aw_aload_n (pc := 684) dL_law_684 rfl (lv_at hl 0 rfl)) ?_
      refine sp_m (aw_iload (pc := 685) dL_law_685 (lv_at hl 4 rfl)) ?_
      refine sp_m (aw_iconst (v := 3) (pc := 687) dL_law_687 rfl) ?_
      refine sp_m (aw_iadd (pc := 688) dL_law_688) ?_
      refine sp_g fun i122 => ?_
      refine sp_m (aw_sld hxs hxn i122 (pc := 689) dL_law_689) ?_
      have hj698_10 : ∀ j123 : Int32, ∀ ls : Array Slot, lv_has ls 7 [(0, .ref (sb D)), (1, .ref (gZ h0)), (2, .ref (gZ p2)), (3, .ref (gZ p4)), (4, .int s6v.1)] → SP (L_law_j698 h0 xs xn p2 s6v j123) (ZL P6 (fun z => z = (v, hE))) (AW (KL_law l D h0 hE v) s6v.2 698 ls (.int j123 :: .int (xs (ix (s6v.1 + 2))) :: .int (xs (ix (s6v.1 + 1))) :: .ref (gZ h0) :: [])) := by
        intro j123 ls hl
        unfold L_law_j698
        refine sp_g fun s125 => ?_
        refine sp_b fun p124 ep124 => ?_
        refine sp_m (G' := AW (KL_law l D h0 hE v) p124.2 (701) ls (.long p124.1 :: [])) (fun kk => aw_callV (As := [.int (xs (ix (s6v.1 + 1))), .int (xs (ix (s6v.1 + 2))), .int j123]) (metX1_worth _ _ ep124) (rcv_o okX1 s125) rfl mok_X1_worth q1135 q1136 q1137 q116 q1138 (Nat.le_of_ble_eq_true rfl) (Nat.le_of_ble_eq_true rfl) rfl hl.1 rfl (Nat.le_of_ble_eq_true rfl) (pc := 698) dL_law_698 kk) ?_
        refine sp_m (aw_aload_n (pc := 701) dL_law_701 rfl (lv_at hl 2 rfl)) ?_
        refine sp_m (aw_aload_n (pc := 702) dL_law_702 rfl (lv_at hl 0 rfl)) ?_
        refine sp_m (aw_iload (pc := 703) dL_law_703 (lv_at hl 4 rfl)) ?_
        refine sp_m (aw_iconst (v := 1) (pc := 705) dL_law_705 rfl) ?_
        refine sp_m (aw_iadd (pc := 706) dL_law_706) ?_
        refine sp_g fun i126 => ?_
        refine sp_m (aw_sld hxs hxn i126 (pc := 707) dL_law_707) ?_
        refine sp_m (aw_aload_n (pc := 708) dL_law_708 rfl (lv_at hl 0 rfl)) ?_
        refine sp_m (aw_iload (pc := 709) dL_law_709 (lv_at hl 4 rfl)) ?_
        refine sp_m (aw_iconst (v := 2) (pc := 711) dL_law_711 rfl) ?_
        refine sp_m (aw_iadd (pc := 712) dL_law_712) ?_
        refine sp_g fun i127 => ?_
        refine sp_m (aw_sld hxs hxn i127 (pc := 713) dL_law_713) ?_
        refine sp_m (aw_aload_n (pc := 714) dL_law_714 rfl (lv_at hl 0 rfl)) ?_
        refine sp_m (aw_iload (pc := 715) dL_law_715 (lv_at hl 4 rfl)) ?_
        refine sp_m (aw_iconst (v := 3) (pc := 717) dL_law_717 rfl) ?_
        refine sp_m (aw_iadd (pc := 718) dL_law_718) ?_
        refine sp_g fun i128 => ?_
        refine sp_m (aw_sld hxs hxn i128 (pc := 719) dL_law_719) ?_
        have hj728_11 : ∀ j129 : Int32, ∀ ls : Array Slot, lv_has ls 7 [(0, .ref (sb D)), (1, .ref (gZ h0)), (2, .ref (gZ p2)), (3, .ref (gZ p4)), (4, .int s6v.1)] → SP (L_law_j728 xs p2 s6v p124 j129) (ZL P6 (fun z => z = (v, hE))) (AW (KL_law l D h0 hE v) p124.2 728 ls (.int j129 :: .int (xs (ix (s6v.1 + 2))) :: .int (xs (ix (s6v.1 + 1))) :: .ref (gZ p2) :: .long p124.1 :: [])) := by
          intro j129 ls hl
          unfold L_law_j728
          refine sp_g fun s131 => ?_
          refine sp_b fun p130 ep130 => ?_
          refine sp_m (G' := AW (KL_law l D h0 hE v) p130.2 (731) ls (.long p130.1 :: .long p124.1 :: [])) (fun kk => aw_callV (As := [.int (xs (ix (s6v.1 + 1))), .int (xs (ix (s6v.1 + 2))), .int j129]) (metX7_worth _ _ ep130) (rcv_o okX7 s131) rfl mok_X7_worth q1952 q1953 q1954 q125 q1955 (Nat.le_of_ble_eq_true rfl) (Nat.le_of_ble_eq_true rfl) rfl hl.1 rfl (Nat.le_of_ble_eq_true rfl) (pc := 728) dL_law_728 kk) ?_
          refine sp_m (aw_lcmp (pc := 731) dL_law_731) ?_
          refine sp_if (fun c132 => ?_) (fun c132 => ?_)
          · refine sp_m (aw_if_eq_t (tgt := 2028) (pc := 732) dL_law_732 (by decide) ((lg_cmp_eq _ _).mpr c132)) ?_
            exact hj2028_1 p130.2 ls (lv_sub hl [0, 1, 2, 3, 4] rfl)
          · refine sp_m (aw_if_eq_f (tgt := 2028) (pc := 732) dL_law_732 (by decide) (fun z => c132 ((lg_cmp_eq _ _).mp z))) ?_
            refine sp_m (aw_iconst (v := 0) (pc := 735) dL_law_735 rfl) ?_
            exact sp_r fun hz => aw_zret (nar_b (Or.inl rfl)) hz rfl rfl rfl (pc := 736) dL_law_736
        refine sp_if (fun c133 => ?_) (fun c133 => ?_)
        · refine sp_m (aw_if_eq_t (tgt := 727) (pc := 720) dL_law_720 (by decide) c133) ?_
          refine sp_m (aw_iconst (v := 0) (pc := 727) dL_law_727 rfl) ?_
          exact hj728_11 0 ls (lv_sub hl [0, 1, 2, 3, 4] rfl)
        · refine sp_m (aw_if_eq_f (tgt := 727) (pc := 720) dL_law_720 (by decide) c133) ?_
          refine sp_m (aw_iconst (v := 1) (pc := 723) dL_law_723 rfl) ?_
          refine sp_m (aw_goto (tgt := 728) (pc := 724) dL_law_724 (by decide)) ?_
          exact hj728_11 1 ls (lv_sub hl [0, 1, 2, 3, 4] rfl)
      refine sp_if (fun c134 => ?_) (fun c134 => ?_)
      · refine sp_m (aw_if_eq_t (tgt := 697) (pc := 690) dL_law_690 (by decide) c134) ?_
        refine sp_m (aw_iconst (v := 0) (pc := 697) dL_law_697 rfl) ?_
        exact hj698_10 0 ls (lv_sub hl [0, 1, 2, 3, 4] rfl)
      · refine sp_m (aw_if_eq_f (tgt := 697) (pc := 690) dL_law_690 (by decide) c134) ?_
        refine sp_m (aw_iconst (v := 1) (pc := 693) dL_law_693 rfl) ?_
        refine sp_m (aw_goto (tgt := 698) (pc := 694) dL_law_694 (by decide)) ?_
        exact hj698_10 1 ls (lv_sub hl [0, 1, 2, 3, 4] rfl)
    refine sp_if (fun c135 => ?_) (fun c135 => ?_)
    · refine sp_m (aw_tableIn (tgt := 737) (pc := 40) dL_law_40 (by rw [c135]; decide) (by rw [c135]; decide) (by rw [c135] <;> rfl) (by decide)) ?_
      refine sp_m (aw_aload_n (pc := 737) dL_law_737 rfl (lv_at hl 1 rfl)) ?_
      refine sp_m (aw_aload_n (pc := 738) dL_law_738 rfl (lv_at hl 0 rfl)) ?_
      refine sp_m (aw_iload (pc := 739) dL_law_739 (lv_at hl 4 rfl)) ?_
      refine sp_m (aw_iconst (v := 1) (pc := 741) dL_law_741 rfl) ?_
      refine sp_m (aw_iadd (pc := 742) dL_law_742) ?_
      refine sp_g fun i136 => ?_
      refine sp_m (aw_sld hxs hxn i136 (pc := 743) dL_law_743) ?_
      refine sp_g fun s138 => ?_
      refine sp_b fun p137 ep137 => ?_
      refine sp_m (G' := AW (KL_law l D h0 hE v) p137.2 (747) ls (.int p137.1 :: [])) (fun kk => aw_callV (As := [.int (xs (ix (s6v.1 + 1)))]) (metX1_bestLane _ _ ep137) (rcv_o okX1 s138) rfl mok_X1_bestLane q1150 q1151 q1152 q116 q1153 (Nat.le_of_ble_eq_true rfl) (Nat.le_of_ble_eq_true rfl) rfl hl.1 rfl (Nat.le_of_ble_eq_true rfl) (pc := 744) dL_law_744 kk) ?_
      refine sp_m (aw_aload_n (pc := 747) dL_law_747 rfl (lv_at hl 2 rfl)) ?_
      refine sp_m (aw_aload_n (pc := 748) dL_law_748 rfl (lv_at hl 0 rfl)) ?_
      refine sp_m (aw_iload (pc := 749) dL_law_749 (lv_at hl 4 rfl)) ?_
      refine sp_m (aw_iconst (v := 1) (pc := 751) dL_law_751 rfl) ?_
      refine sp_m (aw_iadd (pc := 752) dL_law_752) ?_
      refine sp_g fun i139 => ?_
      refine sp_m (aw_sld hxs hxn i139 (pc := 753) dL_law_753) ?_
      refine sp_g fun s141 => ?_
      refine sp_b fun p140 ep140 => ?_
      refine sp_m (G' := AW (KL_law l D h0 hE v) p140.2 (757) ls (.int p140.1 :: .int p137.1 :: [])) (fun kk => aw_callV (As := [.int (xs (ix (s6v.1 + 1)))]) (metX7_bestLane _ _ ep140) (rcv_o okX7 s141) rfl mok_X7_bestLane q1985 q1986 q1987 q125 q1988 (Nat.le_of_ble_eq_true rfl) (Nat.le_of_ble_eq_true rfl) rfl hl.1 rfl (Nat.le_of_ble_eq_true rfl) (pc := 754) dL_law_754 kk) ?_
      refine sp_if (fun c142 => ?_) (fun c142 => ?_)
      · refine sp_m (aw_icmp_eq_t (tgt := 2028) (pc := 757) dL_law_757 (by decide) c142) ?_
        exact hj2028_1 p140.2 ls (lv_sub hl [0, 1, 2, 3, 4] rfl)
      · refine sp_m (aw_icmp_eq_f (tgt := 2028) (pc := 757) dL_law_757 (by decide) c142) ?_
        refine sp_m (aw_iconst (v := 0) (pc := 760) dL_law_760 rfl) ?_
        exact sp_r fun hz => aw_zret (nar_b (Or.inl rfl)) hz rfl rfl rfl (pc := 761) dL_law_761
    refine sp_if (fun c143 => ?_) (fun c143 => ?_)
    · refine sp_m (aw_tableIn (tgt := 762) (pc := 40) dL_law_40 (by rw [c143]; decide) (by rw [c143]; decide) (by rw [c143] <;> rfl) (by decide)) ?_
      refine sp_m (aw_aload_n (pc := 762) dL_law_762 rfl (lv_at hl 1 rfl)) ?_
      refine sp_m (aw_aload_n (pc := 763) dL_law_763 rfl (lv_at hl 0 rfl)) ?_
      refine sp_m (aw_iload (pc := 764) dL_law_764 (lv_at hl 4 rfl)) ?_
      refine sp_m (aw_iconst (v := 1) (pc := 766) dL_law_766 rfl) ?_
      refine sp_m (aw_iadd (pc := 767) dL_law_767) ?_
      refine sp_g fun i144 => ?_
      refine sp_m (aw_sld hxs hxn i144 (pc := 768) dL_law_768) ?_
      have hj777_12 : ∀ j145 : Int32, ∀ ls : Array Slot, lv_has ls 7 [(0, .ref (sb D)), (1, .ref (gZ h0)), (2, .ref (gZ p2)), (3, .ref (gZ p4)), (4, .int s6v.1)] → SP (L_law_j777 h0 xs xn p2 s6v j145) (ZL P6 (fun z => z = (v, hE))) (AW (KL_law l D h0 hE v) s6v.2 777 ls (.int j145 :: .ref (gZ h0) :: [])) := by
        intro j145 ls hl
        unfold L_law_j777
        refine sp_m (aw_aload_n (pc := 777) dL_law_777 rfl (lv_at hl 0 rfl)) ?_
        refine sp_m (aw_iload (pc := 778) dL_law_778 (lv_at hl 4 rfl)) ?_
        refine sp_m (aw_iconst (v := 2) (pc := 780) dL_law_780 rfl) ?_
        refine sp_m (aw_iadd (pc := 781) dL_law_781) ?_
        refine sp_g fun i146 => ?_
        refine sp_m (aw_sld hxs hxn i146 (pc := 782) dL_law_782) ?_
        have hj791_13 : ∀ j147 : Int32, ∀ ls : Array Slot, lv_has ls 7 [(0, .ref (sb D)), (1, .ref (gZ h0)), (2, .ref (gZ p2)), (3, .ref (gZ p4)), (4, .int s6v.1)] → SP (L_law_j791 h0 xs xn p2 s6v j145 j147) (ZL P6 (fun z => z = (v, hE))) (AW (KL_law l D h0 hE v) s6v.2 791 ls (.int j147 :: .int j145 :: .ref (gZ h0) :: [])) := by
          intro j147 ls hl
          unfold L_law_j791
          refine sp_g fun s149 => ?_
          refine sp_b fun p148 ep148 => ?_
          refine sp_m (G' := AW (KL_law l D h0 hE v) p148.2 (794) ls (.long p148.1 :: [])) (fun kk => aw_callV (As := [.int j145, .int j147]) (metX1_all _ _ ep148) (rcv_o okX1 s149) rfl mok_X1_all q1154 q1155 q1156 q116 q1157 (Nat.le_of_ble_eq_true rfl) (Nat.le_of_ble_eq_true rfl) rfl hl.1 rfl (Nat.le_of_ble_eq_true rfl) (pc := 791) dL_law_791 kk) ?_
          refine sp_m (aw_aload_n (pc := 794) dL_law_794 rfl (lv_at hl 2 rfl)) ?_
          refine sp_m (aw_aload_n (pc := 795) dL_law_795 rfl (lv_at hl 0 rfl)) ?_
          refine sp_m (aw_iload (pc := 796) dL_law_796 (lv_at hl 4 rfl)) ?_
          refine sp_m (aw_iconst (v := 1) (pc := 798) dL_law_798 rfl) ?_
          refine sp_m (aw_iadd (pc := 799) dL_law_799) ?_
          refine sp_g fun i150 => ?_
          refine sp_m (aw_sld hxs hxn i150 (pc := 800) dL_law_800) ?_
          have hj809_14 : ∀ j151 : Int32, ∀ ls : Array Slot, lv_has ls 7 [(0, .ref (sb D)), (1, .ref (gZ h0)), (2, .ref (gZ p2)), (3, .ref (gZ p4)), (4, .int s6v.1)] → SP (L_law_j809 xs xn p2 s6v p148 j151) (ZL P6 (fun z => z = (v, hE))) (AW (KL_law l D h0 hE v) p148.2 809 ls (.int j151 :: .ref (gZ p2) :: .long p148.1 :: [])) := by
            intro j151 ls hl
            unfold L_law_j809
            refine sp_m (aw_aload_n (pc := 809) dL_law_809 rfl (lv_at hl 0 rfl)) ?_
            refine sp_m (aw_iload (pc := 810) dL_law_810 (lv_at hl 4 rfl)) ?_
            refine sp_m (aw_iconst (v := 2) (pc := 812) dL_law_812 rfl) ?_
            refine sp_m (aw_iadd (pc := 813) dL_law_813) ?_
            refine sp_g fun i152 => ?_
            refine sp_m (aw_sld hxs hxn i152 (pc := 814) dL_law_814) ?_
            have hj823_15 : ∀ j153 : Int32, ∀ ls : Array Slot, lv_has ls 7 [(0, .ref (sb D)), (1, .ref (gZ h0)), (2, .ref (gZ p2)), (3, .ref (gZ p4)), (4, .int s6v.1)] → SP (L_law_j823 p2 s6v p148 j151 j153) (ZL P6 (fun z => z = (v, hE))) (AW (KL_law l D h0 hE v) p148.2 823 ls (.int j153 :: .int j151 :: .ref (gZ p2) :: .long p148.1 :: [])) := by
              intro j153 ls hl
              unfold L_law_j823
              refine sp_g fun s155 => ?_
              refine sp_b fun p154 ep154 => ?_
              refine sp_m (G' := AW (KL_law l D h0 hE v) p154.2 (826) ls (.long p154.1 :: .long p148.1 :: [])) (fun kk => aw_callV (As := [.int j151, .int j153]) (metX7_all _ _ ep154) (rcv_o okX7 s155) rfl mok_X7_all q1989 q1990 q1991 q125 q1992 (Nat.le_of_ble_eq_true rfl) (Nat.le_of_ble_eq_true rfl) rfl hl.1 rfl (Nat.le_of_ble_eq_true rfl) (pc := 823) dL_law_823 kk) ?_
              refine sp_m (aw_lcmp (pc := 826) dL_law_826) ?_
              refine sp_if (fun c156 => ?_) (fun c156 => ?_)
              · refine sp_m (aw_if_eq_t (tgt := 2028) (pc := 827) dL_law_827 (by decide) ((lg_cmp_eq _ _).mpr c156)) ?_
                exact hj2028_1 p154.2 ls (lv_sub hl [0, 1, 2, 3, 4] rfl)
              · refine sp_m (aw_if_eq_f (tgt := 2028) (pc := 827) dL_law_827 (by decide) (fun z => c156 ((lg_cmp_eq _ _).mp z))) ?_
                refine sp_m (aw_iconst (v := 0) (pc := 830) dL_law_830 rfl) ?_
                exact sp_r fun hz => aw_zret (nar_b (Or.inl rfl)) hz rfl rfl rfl (pc := 831) dL_law_831
            refine sp_if (fun c157 => ?_) (fun c157 => ?_)
            · refine sp_m (aw_if_eq_t (tgt := 822) (pc := 815) dL_law_815 (by decide) c157) ?_
              refine sp_m (aw_iconst (v := 0) (pc := 822) dL_law_822 rfl) ?_
              exact hj823_15 0 ls (lv_sub hl [0, 1, 2, 3, 4] rfl)
            · refine sp_m (aw_if_eq_f (tgt := 822) (pc := 815) dL_law_815 (by decide) c157) ?_
              refine sp_m (aw_iconst (v := 1) (pc := 818) dL_law_818 rfl) ?_
              refine sp_m (aw_goto (tgt := 823) (pc := 819) dL_law_819 (by decide)) ?_
              exact hj823_15 1 ls (lv_sub hl [0, 1, 2, 3, 4] rfl)
          refine sp_if (fun c158 => ?_) (fun c158 => ?_)
          · refine sp_m (aw_if_eq_t (tgt := 808) (pc := 801) dL_law_801 (by decide) c158) ?_
            refine sp_m (aw_iconst (v := 0) (pc := 808) dL_law_808 rfl) ?_
            exact hj809_14 0 ls (lv_sub hl [0, 1, 2, 3, 4] rfl)
          · refine sp_m (aw_if_eq_f (tgt := 808) (pc := 801) dL_law_801 (by decide) c158) ?_
            refine sp_m (aw_iconst (v := 1) (pc := 804) dL_law_804 rfl) ?_
            refine sp_m (aw_goto (tgt := 809) (pc := 805) dL_law_805 (by decide)) ?_
            exact hj809_14 1 ls (lv_sub hl [0, 1, 2, 3, 4] rfl)
        refine sp_if (fun c159 => ?_) (fun c159 => ?_)
        · refine sp_m (aw_if_eq_t (tgt := 790) (pc := 783) dL_law_783 (by decide) c159) ?_
          refine sp_m (aw_iconst (v := 0) (pc := 790) dL_law_790 rfl) ?_
          exact hj791_13 0 ls (lv_sub hl [0, 1, 2, 3, 4] rfl)
        · refine sp_m (aw_if_eq_f (tgt := 790) (pc := 783) dL_law_783 (by decide) c159) ?_
          refine sp_m (aw_iconst (v := 1) (pc := 786) dL_law_786 rfl) ?_
          refine sp_m (aw_goto (tgt := 791) (pc := 787) dL_law_787 (by decide)) ?_
          exact hj791_13 1 ls (lv_sub hl [0, 1, 2, 3, 4] rfl)
      refine sp_if (fun c160 => ?_) (fun c160 => ?_)
      · refine sp_m (aw_if_eq_t (tgt := 776) (pc := 769) dL_law_769 (by decide) c160) ?_
        refine sp_m (aw_iconst (v := 0) (pc := 776) dL_law_776 rfl) ?_
        exact hj777_12 0 ls (lv_sub hl [0, 1, 2, 3, 4] rfl)
      · refine sp_m (aw_if_eq_f (tgt := 776) (pc := 769) dL_law_769 (by decide) c160) ?_
        refine sp_m (aw_iconst (v := 1) (pc := 772) dL_law_772 rfl) ?_
        refine sp_m (aw_goto (tgt := 777) (pc := 773) dL_law_773 (by decide)) ?_
        exact hj777_12 1 ls (lv_sub hl [0, 1, 2, 3, 4] rfl)
    refine sp_if (fun c161 => ?_) (fun c161 => ?_)
    · refine sp_m (aw_tableIn (tgt := 832) (pc := 40) dL_law_40 (by rw [c161]; decide) (by rw [c161]; decide) (by rw [c161] <;> rfl) (by decide)) ?_
      refine sp_m (aw_aload_n (pc := 832) dL_law_832 rfl (lv_at hl 1 rfl)) ?_
      refine sp_g fun s163 => ?_
      refine sp_b fun p162 ep162 => ?_
      refine sp_m (G' := AW (KL_law l D h0 hE v) p162.2 (836) ls (.int p162.1 :: [])) (fun kk => aw_callV (As := []) (metX1_worst _ _ ep162) (rcv_o okX1 s163) rfl mok_X1_worst q1158 q1159 q1160 q116 q1161 (Nat.le_of_ble_eq_true rfl) (Nat.le_of_ble_eq_true rfl) rfl hl.1 rfl (Nat.le_of_ble_eq_true rfl) (pc := 833) dL_law_833 kk) ?_
      refine sp_m (aw_aload_n (pc := 836) dL_law_836 rfl (lv_at hl 2 rfl)) ?_
      refine sp_g fun s165 => ?_
      refine sp_b fun p164 ep164 => ?_
      refine sp_m (G' := AW (KL_law l D h0 hE v) p164.2 (840) ls (.int p164.1 :: .int p162.1 :: [])) (fun kk => aw_callV (As := []) (metX7_worst _ _ ep164) (rcv_o okX7 s165) rfl mok_X7_worst q1997 q1998 q1999 q125 q2000 (Nat.le_of_ble_eq_true rfl) (Nat.le_of_ble_eq_true rfl) rfl hl.1 rfl (Nat.le_of_ble_eq_true rfl) (pc := 837) dL_law_837 kk) ?_
      refine sp_if (fun c166 => ?_) (fun c166 => ?_)
      · refine sp_m (aw_icmp_eq_t (tgt := 2028) (pc := 840) dL_law_840 (by decide) c166) ?_
        exact hj2028_1 p164.2 ls (lv_sub hl [0, 1, 2, 3, 4] rfl)
      · refine sp_m (aw_icmp_eq_f (tgt := 2028) (pc := 840) dL_law_840 (by decide) c166) ?_
        refine sp_m (aw_iconst (v := 0) (pc := 843) dL_law_843 rfl) ?_
        exact sp_r fun hz => aw_zret (nar_b (Or.inl rfl)) hz rfl rfl rfl (pc := 844) dL_law_844
    refine sp_if (fun c167 => ?_) (fun c167 => ?_)
    · refine sp_m (aw_tableIn (tgt := 845) (pc := 40) dL_law_40 (by rw [c167]; decide) (by rw [c167]; decide) (by rw [c167] <;> rfl) (by decide)) ?_
      refine sp_m (aw_aload_n (pc := 845) dL_law_845 rfl (lv_at hl 1 rfl)) ?_
      refine sp_m (aw_aload_n (pc := 846) dL_law_846 rfl (lv_at hl 0 rfl)) ?_
      refine sp_m (aw_iload (pc := 847) dL_law_847 (lv_at hl 4 rfl)) ?_
      refine sp_m (aw_iconst (v := 1) (pc := 849) dL_law_849 rfl) ?_
      refine sp_m (aw_iadd (pc := 850) dL_law_850) ?_
      refine sp_g fun i168 => ?_
      refine sp_m (aw_sld hxs hxn i168 (pc := 851) dL_law_851) ?_
      refine sp_m (aw_aload_n (pc := 852) dL_law_852 rfl (lv_at hl 0 rfl)) ?_
      refine sp_m (aw_iload (pc := 853) dL_law_853 (lv_at hl 4 rfl)) ?_
      refine sp_m (aw_iconst (v := 2) (pc := 855) dL_law_855 rfl) ?_
      refine sp_m (aw_iadd (pc := 856) dL_law_856) ?_
      refine sp_g fun i169 => ?_
      refine sp_m (aw_sld hxs hxn i169 (pc := 857) dL_law_857) ?_
      refine sp_m (aw_aload_n (pc := 858) dL_law_858 rfl (lv_at hl 0 rfl)) ?_
      refine sp_m (aw_iload (pc := 859) dL_law_859 (lv_at hl 4 rfl)) ?_
      refine sp_m (aw_iconst (v := 3) (pc := 861) dL_law_861 rfl) ?_
      refine sp_m (aw_iadd (pc := 862) dL_law_862) ?_
      refine sp_g fun i170 => ?_
      refine sp_m (aw_sld hxs hxn i170 (pc := 863) dL_law_863) ?_
      have hj872_16 : ∀ j171 : Int32, ∀ ls : Array Slot, lv_has ls 7 [(0, .ref (sb D)), (1, .ref (gZ h0)), (2, .ref (gZ p2)), (3, .ref (gZ p4)), (4, .int s6v.1)] → SP (L_law_j872 h0 xs xn p2 s6v j171) (ZL P6 (fun z => z = (v, hE))) (AW (KL_law l D h0 hE v) s6v.2 872 ls (.int j171 :: .int (xs (ix (s6v.1 + 2))) :: .int (xs (ix (s6v.1 + 1))) :: .ref (gZ h0) :: [])) := by
        intro j171 ls hl
        unfold L_law_j872
        refine sp_m (aw_aload_n (pc := 872) dL_law_872 rfl (lv_at hl 0 rfl)) ?_
        refine sp_m (aw_iload (pc := 873) dL_law_873 (lv_at hl 4 rfl)) ?_
        refine sp_m (aw_iconst (v := 4) (pc := 875) dL_law_875 rfl) ?_
        refine sp_m (aw_iadd (pc := 876) dL_law_876) ?_
        refine sp_g fun i172 => ?_
        refine sp_m (aw_sld hxs hxn i172 (pc := 877) dL_law_877) ?_
        have hj886_17 : ∀ j173 : Int32, ∀ ls : Array Slot, lv_has ls 7 [(0, .ref (sb D)), (1, .ref (gZ h0)), (2, .ref (gZ p2)), (3, .ref (gZ p4)), (4, .int s6v.1)] → SP (L_law_j886 h0 xs xn p2 s6v j171 j173) (ZL P6 (fun z => z = (v, hE))) (AW (KL_law l D h0 hE v) s6v.2 886 ls (.int j173 :: .int j171 :: .int (xs (ix (s6v.1 + 2))) :: .int (xs (ix (s6v.1 + 1))) :: .ref (gZ h0) :: [])) := by
          intro j173 ls hl
          unfold L_law_j886
          refine sp_g fun s175 => ?_
          refine sp_b fun p174 ep174 => ?_
          refine sp_m (G' := AW (KL_law l D h0 hE v) p174.2 (889) ls (.long p174.1 :: [])) (fun kk => aw_callV (As := [.int (xs (ix (s6v.1 + 1))), .int (xs (ix (s6v.1 + 2))), .int j171, .int j173]) (metX1_worthIf _ _ ep174) (rcv_o okX1 s175) rfl mok_X1_worthIf q1162 q1163 q1164 q116 q1165 (Nat.le_of_ble_eq_true rfl) (Nat.le_of_ble_eq_true rfl) rfl hl.1 rfl (Nat.le_of_ble_eq_true rfl) (pc := 886) dL_law_886 kk) ?_
          refine sp_m (aw_aload_n (pc := 889) dL_law_889 rfl (lv_at hl 2 rfl)) ?_
          refine sp_m (aw_aload_n (pc := 890) dL_law_890 rfl (lv_at hl 0 rfl)) ?_
          refine sp_m (aw_iload (pc := 891) dL_law_891 (lv_at hl 4 rfl)) ?_
          refine sp_m (aw_iconst (v := 1) (pc := 893) dL_law_893 rfl) ?_
          refine sp_m (aw_iadd (pc := 894) dL_law_894) ?_
          refine sp_g fun i176 => ?_
          refine sp_m (aw_sld hxs hxn i176 (pc := 895) dL_law_895) ?_
          refine sp_m (aw_aload_n (pc := 896) dL_law_896 rfl (lv_at hl 0 rfl)) ?_
          refine sp_m (aw_iload (pc := 897) dL_law_897 (lv_at hl 4 rfl)) ?_
          refine sp_m (aw_iconst (v := 2) (pc := 899) dL_law_899 rfl) ?_
          refine sp_m (aw_iadd (pc := 900) dL_law_900) ?_
          refine sp_g fun i177 => ?_
          refine sp_m (aw_sld hxs hxn i177 (pc := 901) dL_law_901) ?_
          refine sp_m (aw_aload_n (pc := 902) dL_law_902 rfl (lv_at hl 0 rfl)) ?_
          refine sp_m (aw_iload (pc := 903) dL_law_903 (lv_at hl 4 rfl)) ?_
          refine sp_m (aw_iconst (v := 3) (pc := 905) dL_law_905 rfl) ?_
          refine sp_m (aw_iadd (pc := 906) dL_law_906) ?_
          refine sp_g fun i178 => ?_
          refine sp_m (aw_sld hxs hxn i178 (pc := 907) dL_law_907) ?_
          have hj916_18 : ∀ j179 : Int32, ∀ ls : Array Slot, lv_has ls 7 [(0, .ref (sb D)), (1, .ref (gZ h0)), (2, .ref (gZ p2)), (3, .ref (gZ p4)), (4, .int s6v.1)] → SP (L_law_j916 xs xn p2 s6v p174 j179) (ZL P6 (fun z => z = (v, hE))) (AW (KL_law l D h0 hE v) p174.2 916 ls (.int j179 :: .int (xs (ix (s6v.1 + 2))) :: .int (xs (ix (s6v.1 + 1))) :: .ref (gZ p2) :: .long p174.1 :: [])) := by
            intro j179 ls hl
            unfold L_law_j916
            refine sp_m (aw_aload_n (pc := 916) dL_law_916 rfl (lv_at hl 0 rfl)) ?_
            refine sp_m (aw_iload (pc := 917) dL_law_917 (lv_at hl 4 rfl)) ?_
            refine sp_m (aw_iconst (v := 4) (pc := 919) dL_law_919 rfl) ?_
            refine sp_m (aw_iadd (pc := 920) dL_law_920) ?_
            refine sp_g fun i180 => ?_
            refine sp_m (aw_sld hxs hxn i180 (pc := 921) dL_law_921) ?_
            have hj930_19 : ∀ j181 : Int32, ∀ ls : Array Slot, lv_has ls 7 [(0, .ref (sb D)), (1, .ref (gZ h0)), (2, .ref (gZ p2)), (3, .ref (gZ p4)), (4, .int s6v.1)] → SP (L_law_j930 xs p2 s6v p174 j179 j181) (ZL P6 (fun z => z = (v, hE))) (AW (KL_law l D h0 hE v) p174.2 930 ls (.int j181 :: .int j179 :: .int (xs (ix (s6v.1 + 2))) :: .int (xs (ix (s6v.1 + 1))) :: .ref (gZ p2) :: .long p174.1 :: [])) := by
              intro j181 ls hl
              unfold L_law_j930
              refine sp_g fun s183 => ?_
              refine sp_b fun p182 ep182 => ?_
              refine sp_m (G' := AW (KL_law l D h0 hE v) p182.2 (933) ls (.long p182.1 :: .long p174.1 :: [])) (fun kk => aw_callV (As := [.int (xs (ix (s6v.1 + 1))), .int (xs (ix (s6v.1 + 2))), .int j179, .int j181]) (metX7_worthIf _ _ ep182) (rcv_o okX7 s183) rfl mok_X7_worthIf q1969 q1970 q1971 q125 q1972 (Nat.le_of_ble_eq_true rfl) (Nat.le_of_ble_eq_true rfl) rfl hl.1 rfl (Nat.le_of_ble_eq_true rfl) (pc := 930) dL_law_930 kk) ?_
              refine sp_m (aw_lcmp (pc := 933) dL_law_933) ?_
              refine sp_if (fun c184 => ?_) (fun c184 => ?_)
              · refine sp_m (aw_if_eq_t (tgt := 2028) (pc := 934) dL_law_934 (by decide) ((lg_cmp_eq _ _).mpr c184)) ?_
                exact hj2028_1 p182.2 ls (lv_sub hl [0, 1, 2, 3, 4] rfl)
              · refine sp_m (aw_if_eq_f (tgt := 2028) (pc := 934) dL_law_934 (by decide) (fun z => c184 ((lg_cmp_eq _ _).mp z))) ?_
                refine sp_m (aw_iconst (v := 0) (pc := 937) dL_law_937 rfl) ?_
                exact sp_r fun hz => aw_zret (nar_b (Or.inl rfl)) hz rfl rfl rfl (pc := 938) dL_law_938
            refine sp_if (fun c185 => ?_) (fun c185 => ?_)
            · refine sp_m (aw_if_eq_t (tgt := 929) (pc := 922) dL_law_922 (by decide) c185) ?_
              refine sp_m (aw_iconst (v := 0) (pc := 929) dL_law_929 rfl) ?_
              exact hj930_19 0 ls (lv_sub hl [0, 1, 2, 3, 4] rfl)
            · refine sp_m (aw_if_eq_f (tgt := 929) (pc := 922) dL_law_922 (by decide) c185) ?_
              refine sp_m (aw_iconst (v := 1) (pc := 925) dL_law_925 rfl) ?_
              refine sp_m (aw_goto (tgt := 930) (pc := 926) dL_law_926 (by decide)) ?_
              exact hj930_19 1 ls (lv_sub hl [0, 1, 2, 3, 4] rfl)
          refine sp_if (fun c186 => ?_) (fun c186 => ?_)
          · refine sp_m (aw_if_eq_t (tgt := 915) (pc := 908) dL_law_908 (by decide) c186) ?_
            refine sp_m (aw_iconst (v := 0) (pc := 915) dL_law_915 rfl) ?_
            exact hj916_18 0 ls (lv_sub hl [0, 1, 2, 3, 4] rfl)
          · refine sp_m (aw_if_eq_f (tgt := 915) (pc := 908) dL_law_908 (by decide) c186) ?_
            refine sp_m (aw_iconst (v := 1) (pc := 911) dL_law_911 rfl) ?_
            refine sp_m (aw_goto (tgt := 916) (pc := 912) dL_law_912 (by decide)) ?_
            exact hj916_18 1 ls (lv_sub hl [0, 1, 2, 3, 4] rfl)
        refine sp_if (fun c187 => ?_) (fun c187 => ?_)
        · refine sp_m (aw_if_eq_t (tgt := 885) (pc := 878) dL_law_878 (by decide) c187) ?_
          refine sp_m (aw_iconst (v := 0) (pc := 885) dL_law_885 rfl) ?_
          exact hj886_17 0 ls (lv_sub hl [0, 1, 2, 3, 4] rfl)
        · refine sp_m (aw_if_eq_f (tgt := 885) (pc := 878) dL_law_878 (by decide) c187) ?_
          refine sp_m (aw_iconst (v := 1) (pc := 881) dL_law_881 rfl) ?_
          refine sp_m (aw_goto (tgt := 886) (pc := 882) dL_law_882 (by decide)) ?_
          exact hj886_17 1 ls (lv_sub hl [0, 1, 2, 3, 4] rfl)
      refine sp_if (fun c188 => ?_) (fun c188 => ?_)
      · refine sp_m (aw_if_eq_t (tgt := 871) (pc := 864) dL_law_864 (by decide) c188) ?_
        refine sp_m (aw_iconst (v := 0) (pc := 871) dL_law_871 rfl) ?_
        exact hj872_16 0 ls (lv_sub hl [0, 1, 2, 3, 4] rfl)
      · refine sp_m (aw_if_eq_f (tgt := 871) (pc := 864) dL_law_864 (by decide) c188) ?_
        refine sp_m (aw_iconst (v := 1) (pc := 867) dL_law_867 rfl) ?_
        refine sp_m (aw_goto (tgt := 872) (pc := 868) dL_law_868 (by decide)) ?_
        exact hj872_16 1 ls (lv_sub hl [0, 1, 2, 3, 4] rfl)
    refine sp_if (fun c189 => ?_) (fun c189 => ?_)
    · refine sp_m (aw_tableIn (tgt := 939) (pc := 40) dL_law_40 (by rw [c189]; decide) (by rw [c189]; decide) (by rw [c189] <;> rfl) (by decide)) ?_
      refine sp_m (aw_aload_n (pc := 939) dL_law_939 rfl (lv_at hl 1 rfl)) ?_
      refine sp_m (aw_aload_n (pc := 940) dL_law_940 rfl (lv_at hl 0 rfl)) ?_
      refine sp_m (aw_iload (pc := 941) dL_law_941 (lv_at hl 4 rfl)) ?_
      refine sp_m (aw_iconst (v := 1) (pc := 943) dL_law_943 rfl) ?_
      refine sp_m (aw_iadd (pc := 944) dL_law_944) ?_
      refine sp_g fun i190 => ?_
      refine sp_m (aw_sld hxs hxn i190 (pc := 945) dL_law_945) ?_
      refine sp_m (aw_aload_n (pc := 946) dL_law_946 rfl (lv_at hl 0 rfl)) ?_
      refine sp_m (aw_iload (pc := 947) dL_law_947 (lv_at hl 4 rfl)) ?_
      refine sp_m (aw_iconst (v := 2) (pc := 949) dL_law_949 rfl) ?_
      refine sp_m (aw_iadd (pc := 950) dL_law_950) ?_
      refine sp_g fun i191 => ?_
      refine sp_m (aw_sld hxs hxn i191 (pc := 951) dL_law_951) ?_
      refine sp_g fun s193 => ?_
      refine sp_b fun p192 ep192 => ?_
      refine sp_m (G' := AW (KL_law l D h0 hE v) p192.2 (955) ls (.int p192.1 :: [])) (fun kk => aw_callV (As := [.int (xs (ix (s6v.1 + 1))), .int (xs (ix (s6v.1 + 2)))]) (metX1_moodFor _ _ ep192) (rcv_o okX1 s193) rfl mok_X1_moodFor q1170 q1171 q1172 q116 q1173 (Nat.le_of_ble_eq_true rfl) (Nat.le_of_ble_eq_true rfl) rfl hl.1 rfl (Nat.le_of_ble_eq_true rfl) (pc := 952) dL_law_952 kk) ?_
      refine sp_m (aw_aload_n (pc := 955) dL_law_955 rfl (lv_at hl 2 rfl)) ?_
      refine sp_m (aw_aload_n (pc := 956) dL_law_956 rfl (lv_at hl 0 rfl)) ?_
      refine sp_m (aw_iload (pc := 957) dL_law_957 (lv_at hl 4 rfl)) ?_
      refine sp_m (aw_iconst (v := 1) (pc := 959) dL_law_959 rfl) ?_
      refine sp_m (aw_iadd (pc := 960) dL_law_960) ?_
      refine sp_g fun i194 => ?_
      refine sp_m (aw_sld hxs hxn i194 (pc := 961) dL_law_961) ?_
      refine sp_m (aw_aload_n (pc := 962) dL_law_962 rfl (lv_at hl 0 rfl)) ?_
      refine sp_m (aw_iload (pc := 963) dL_law_963 (lv_at hl 4 rfl)) ?_
      refine sp_m (aw_iconst (v := 2) (pc := 965) dL_law_965 rfl) ?_
      refine sp_m (aw_iadd (pc := 966) dL_law_966) ?_
      refine sp_g fun i195 => ?_
      refine sp_m (aw_sld hxs hxn i195 (pc := 967) dL_law_967) ?_
      refine sp_g fun s197 => ?_
      refine sp_b fun p196 ep196 => ?_
      refine sp_m (G' := AW (KL_law l D h0 hE v) p196.2 (971) ls (.int p196.1 :: .int p192.1 :: [])) (fun kk => aw_callV (As := [.int (xs (ix (s6v.1 + 1))), .int (xs (ix (s6v.1 + 2)))]) (metX7_moodFor _ _ ep196) (rcv_o okX7 s197) rfl mok_X7_moodFor q1977 q1978 q1979 q125 q1980 (Nat.le_of_ble_eq_true rfl) (Nat.le_of_ble_eq_true rfl) rfl hl.1 rfl (Nat.le_of_ble_eq_true rfl) (pc := 968) dL_law_968 kk) ?_
      refine sp_if (fun c198 => ?_) (fun c198 => ?_)
      · refine sp_m (aw_icmp_eq_t (tgt := 2028) (pc := 971) dL_law_971 (by decide) c198) ?_
        exact hj2028_1 p196.2 ls (lv_sub hl [0, 1, 2, 3, 4] rfl)
      · refine sp_m (aw_icmp_eq_f (tgt := 2028) (pc := 971) dL_law_971 (by decide) c198) ?_
        refine sp_m (aw_iconst (v := 0) (pc := 974) dL_law_974 rfl) ?_
        exact sp_r fun hz => aw_zret (nar_b (Or.inl rfl)) hz rfl rfl rfl (pc := 975) dL_law_975
    refine sp_if (fun c199 => ?_) (fun c199 => ?_)
    · refine sp_m (aw_tableIn (tgt := 976) (pc := 40) dL_law_40 (by rw [c199]; decide) (by rw [c199]; decide) (by rw [c199] <;> rfl) (by decide)) ?_
      refine sp_m (aw_aload_n (pc := 976) dL_law_976 rfl (lv_at hl 1 rfl)) ?_
      refine sp_g fun s201 => ?_
      refine sp_b fun p200 ep200 => ?_
      refine sp_m (G' := AW (KL_law l D h0 hE v) p200.2 (980) ls (.int p200.1 :: [])) (fun kk => aw_callV (As := []) (metX1_toHammer _ _ ep200) (rcv_o okX1 s201) rfl mok_X1_toHammer q1174 q1175 q1176 q116 q1177 (Nat.le_of_ble_eq_true rfl) (Nat.le_of_ble_eq_true rfl) rfl hl.1 rfl (Nat.le_of_ble_eq_true rfl) (pc := 977) dL_law_977 kk) ?_
      refine sp_m (aw_aload_n (pc := 980) dL_law_980 rfl (lv_at hl 2 rfl)) ?_
      refine sp_g fun s203 => ?_
      refine sp_b fun p202 ep202 => ?_
      refine sp_m (G' := AW (KL_law l D h0 hE v) p202.2 (984) ls (.int p202.1 :: .int p200.1 :: [])) (fun kk => aw_callV (As := []) (metX7_toHammer _ _ ep202) (rcv_o okX7 s203) rfl mok_X7_toHammer q1981 q1982 q1983 q125 q1984 (Nat.le_of_ble_eq_true rfl) (Nat.le_of_ble_eq_true rfl) rfl hl.1 rfl (Nat.le_of_ble_eq_true rfl) (pc := 981) dL_law_981 kk) ?_
      refine sp_if (fun c204 => ?_) (fun c204 => ?_)
      · refine sp_m (aw_icmp_eq_t (tgt := 2028) (pc := 984) dL_law_984 (by decide) c204) ?_
        exact hj2028_1 p202.2 ls (lv_sub hl [0, 1, 2, 3, 4] rfl)
      · refine sp_m (aw_icmp_eq_f (tgt := 2028) (pc := 984) dL_law_984 (by decide) c204) ?_
        refine sp_m (aw_iconst (v := 0) (pc := 987) dL_law_987 rfl) ?_
        exact sp_r fun hz => aw_zret (nar_b (Or.inl rfl)) hz rfl rfl rfl (pc := 988) dL_law_988
    refine sp_if (fun c205 => ?_) (fun c205 => ?_)
    · refine sp_m (aw_tableIn (tgt := 989) (pc := 40) dL_law_40 (by rw [c205]; decide) (by rw [c205]; decide) (by rw [c205] <;> rfl) (by decide)) ?_
      refine sp_m (aw_aload_n (pc := 989) dL_law_989 rfl (lv_at hl 1 rfl)) ?_
      refine sp_m (aw_aload_n (pc := 990) dL_law_990 rfl (lv_at hl 0 rfl)) ?_
      refine sp_m (aw_iload (pc := 991) dL_law_991 (lv_at hl 4 rfl)) ?_
      refine sp_m (aw_iconst (v := 1) (pc := 993) dL_law_993 rfl) ?_
      refine sp_m (aw_iadd (pc := 994) dL_law_994) ?_
      refine sp_g fun i206 => ?_
      refine sp_m (aw_sld hxs hxn i206 (pc := 995) dL_law_995) ?_
      refine sp_g fun s208 => ?_
      refine sp_b fun p207 ep207 => ?_
      refine sp_m (G' := AW (KL_law l D h0 hE v) p207.2 (999) ls (.int p207.1 :: [])) (fun kk => aw_callV (As := [.int (xs (ix (s6v.1 + 1)))]) (metX1_place _ _ ep207) (rcv_o okX1 s208) rfl mok_X1_place q1191 q1192 q1193 q116 q1194 (Nat.le_of_ble_eq_true rfl) (Nat.le_of_ble_eq_true rfl) rfl hl.1 rfl (Nat.le_of_ble_eq_true rfl) (pc := 996) dL_law_996 kk) ?_
      refine sp_m (aw_aload_n (pc := 999) dL_law_999 rfl (lv_at hl 2 rfl)) ?_
      refine sp_m (aw_aload_n (pc := 1000) dL_law_1000 rfl (lv_at hl 0 rfl)) ?_
      refine sp_m (aw_iload (pc := 1001) dL_law_1001 (lv_at hl 4 rfl)) ?_
      refine sp_m (aw_iconst (v := 1) (pc := 1003) dL_law_1003 rfl) ?_
      refine sp_m (aw_iadd (pc := 1004) dL_law_1004) ?_
      refine sp_g fun i209 => ?_
      refine sp_m (aw_sld hxs hxn i209 (pc := 1005) dL_law_1005) ?_
      refine sp_g fun s211 => ?_
      refine sp_b fun p210 ep210 => ?_
      refine sp_m (G' := AW (KL_law l D h0 hE v) p210.2 (1009) ls (.int p210.1 :: .int p207.1 :: [])) (fun kk => aw_callV (As := [.int (xs (ix (s6v.1 + 1)))]) (metX7_place _ _ ep210) (rcv_o okX7 s211) rfl mok_X7_place q2001 q2002 q2003 q125 q2004 (Nat.le_of_ble_eq_true rfl) (Nat.le_of_ble_eq_true rfl) rfl hl.1 rfl (Nat.le_of_ble_eq_true rfl) (pc := 1006) dL_law_1006 kk) ?_
      refine sp_if (fun c212 => ?_) (fun c212 => ?_)
      · refine sp_m (aw_icmp_eq_t (tgt := 2028) (pc := 1009) dL_law_1009 (by decide) c212) ?_
        exact hj2028_1 p210.2 ls (lv_sub hl [0, 1, 2, 3, 4] rfl)
      · refine sp_m (aw_icmp_eq_f (tgt := 2028) (pc := 1009) dL_law_1009 (by decide) c212) ?_
        refine sp_m (aw_iconst (v := 0) (pc := 1012) dL_law_1012 rfl) ?_
        exact sp_r fun hz => aw_zret (nar_b (Or.inl rfl)) hz rfl rfl rfl (pc := 1013) dL_law_1013
    refine sp_if (fun c213 => ?_) (fun c213 => ?_)
    · refine sp_m (aw_tableIn (tgt := 1014) (pc := 40) dL_law_40 (by rw [c213]; decide) (by rw [c213]; decide) (by rw [c213] <;> rfl) (by decide)) ?_
      refine sp_m (aw_aload_n (pc := 1014) dL_law_1014 rfl (lv_at hl 1 rfl)) ?_
      refine sp_m (aw_aload_n (pc := 1015) dL_law_1015 rfl (lv_at hl 0 rfl)) ?_
      refine sp_m (aw_iload (pc := 1016) dL_law_1016 (lv_at hl 4 rfl)) ?_
      refine sp_m (aw_iconst (v := 1) (pc := 1018) dL_law_1018 rfl) ?_
      refine sp_m (aw_iadd (pc := 1019) dL_law_1019) ?_
      refine sp_g fun i214 => ?_
      refine sp_m (aw_sld hxs hxn i214 (pc := 1020) dL_law_1020) ?_
      have hj1029_20 : ∀ j215 : Int32, ∀ ls : Array Slot, lv_has ls 7 [(0, .ref (sb D)), (1, .ref (gZ h0)), (2, .ref (gZ p2)), (3, .ref (gZ p4)), (4, .int s6v.1)] → SP (L_law_j1029 h0 xs xn p2 s6v j215) (ZL P6 (fun z => z = (v, hE))) (AW (KL_law l D h0 hE v) s6v.2 1029 ls (.int j215 :: .ref (gZ h0) :: [])) := by
        intro j215 ls hl
        unfold L_law_j1029
        refine sp_g fun s217 => ?_
        refine sp_b fun p216 ep216 => ?_
        refine sp_m (G' := AW (KL_law l D h0 hE v) p216.2 (1032) ls (.long p216.1 :: [])) (fun kk => aw_callV (As := [.int j215]) (metX1_placed _ _ ep216) (rcv_o okX1 s217) rfl mok_X1_placed q1211 q1212 q1213 q116 q1214 (Nat.le_of_ble_eq_true rfl) (Nat.le_of_ble_eq_true rfl) rfl hl.1 rfl (Nat.le_of_ble_eq_true rfl) (pc := 1029) dL_law_1029 kk) ?_
        refine sp_m (aw_aload_n (pc := 1032) dL_law_1032 rfl (lv_at hl 2 rfl)) ?_
        refine sp_m (aw_aload_n (pc := 1033) dL_law_1033 rfl (lv_at hl 0 rfl)) ?_
        refine sp_m (aw_iload (pc := 1034) dL_law_1034 (lv_at hl 4 rfl)) ?_
        refine sp_m (aw_iconst (v := 1) (pc := 1036) dL_law_1036 rfl) ?_
        refine sp_m (aw_iadd (pc := 1037) dL_law_1037) ?_
        refine sp_g fun i218 => ?_
        refine sp_m (aw_sld hxs hxn i218 (pc := 1038) dL_law_1038) ?_
        have hj1047_21 : ∀ j219 : Int32, ∀ ls : Array Slot, lv_has ls 7 [(0, .ref (sb D)), (1, .ref (gZ h0)), (2, .ref (gZ p2)), (3, .ref (gZ p4)), (4, .int s6v.1)] → SP (L_law_j1047 p2 s6v p216 j219) (ZL P6 (fun z => z = (v, hE))) (AW (KL_law l D h0 hE v) p216.2 1047 ls (.int j219 :: .ref (gZ p2) :: .long p216.1 :: [])) := by
          intro j219 ls hl
          unfold L_law_j1047
          refine sp_g fun s221 => ?_
          refine sp_b fun p220 ep220 => ?_
          refine sp_m (G' := AW (KL_law l D h0 hE v) p220.2 (1050) ls (.long p220.1 :: .long p216.1 :: [])) (fun kk => aw_callV (As := [.int j219]) (metX7_placed _ _ ep220) (rcv_o okX7 s221) rfl mok_X7_placed q2021 q2022 q2023 q125 q2024 (Nat.le_of_ble_eq_true rfl) (Nat.le_of_ble_eq_true rfl) rfl hl.1 rfl (Nat.le_of_ble_eq_true rfl) (pc := 1047) dL_law_1047 kk) ?_
          refine sp_m (aw_lcmp (pc := 1050) dL_law_1050) ?_
          refine sp_if (fun c222 => ?_) (fun c222 => ?_)
          · refine sp_m (aw_if_eq_t (tgt := 2028) (pc := 1051) dL_law_1051 (by decide) ((lg_cmp_eq _ _).mpr c222)) ?_
            exact hj2028_1 p220.2 ls (lv_sub hl [0, 1, 2, 3, 4] rfl)
          · refine sp_m (aw_if_eq_f (tgt := 2028) (pc := 1051) dL_law_1051 (by decide) (fun z => c222 ((lg_cmp_eq _ _).mp z))) ?_
            refine sp_m (aw_iconst (v := 0) (pc := 1054) dL_law_1054 rfl) ?_
            exact sp_r fun hz => aw_zret (nar_b (Or.inl rfl)) hz rfl rfl rfl (pc := 1055) dL_law_1055
        refine sp_if (fun c223 => ?_) (fun c223 => ?_)
        · refine sp_m (aw_if_eq_t (tgt := 1046) (pc := 1039) dL_law_1039 (by decide) c223) ?_
          refine sp_m (aw_iconst (v := 0) (pc := 1046) dL_law_1046 rfl) ?_
          exact hj1047_21 0 ls (lv_sub hl [0, 1, 2, 3, 4] rfl)
        · refine sp_m (aw_if_eq_f (tgt := 1046) (pc := 1039) dL_law_1039 (by decide) c223) ?_
          refine sp_m (aw_iconst (v := 1) (pc := 1042) dL_law_1042 rfl) ?_
          refine sp_m (aw_goto (tgt := 1047) (pc := 1043) dL_law_1043 (by decide)) ?_
          exact hj1047_21 1 ls (lv_sub hl [0, 1, 2, 3, 4] rfl)
      refine sp_if (fun c224 => ?_) (fun c224 => ?_)
      · refine sp_m (aw_if_eq_t (tgt := 1028) (pc := 1021) dL_law_1021 (by decide) c224) ?_
        refine sp_m (aw_iconst (v := 0) (pc := 1028) dL_law_1028 rfl) ?_
        exact hj1029_20 0 ls (lv_sub hl [0, 1, 2, 3, 4] rfl)
      · refine sp_m (aw_if_eq_f (tgt := 1028) (pc := 1021) dL_law_1021 (by decide) c224) ?_
        refine sp_m (aw_iconst (v := 1) (pc := 1024) dL_law_1024 rfl) ?_
        refine sp_m (aw_goto (tgt := 1029) (pc := 1025) dL_law_1025 (by decide)) ?_
        exact hj1029_20 1 ls (lv_sub hl [0, 1, 2, 3, 4] rfl)
    refine sp_if (fun c225 => ?_) (fun c225 => ?_)
    · refine sp_m (aw_tableIn (tgt := 1056) (pc := 40) dL_law_40 (by rw [c225]; decide) (by rw [c225]; decide) (by rw [c225] <;> rfl) (by decide)) ?_
      refine sp_m (aw_aload_n (pc := 1056) dL_law_1056 rfl (lv_at hl 1 rfl)) ?_
      refine sp_g fun s227 => ?_
      refine sp_b fun p226 ep226 => ?_
      refine sp_m (G' := AW (KL_law l D h0 hE v) p226.2 (1060) ls (.int p226.1 :: [])) (fun kk => aw_callV (As := []) (metX1_out _ _ ep226) (rcv_o okX1 s227) rfl mok_X1_out q1215 q1216 q1217 q116 q1218 (Nat.le_of_ble_eq_true rfl) (Nat.le_of_ble_eq_true rfl) rfl hl.1 rfl (Nat.le_of_ble_eq_true rfl) (pc := 1057) dL_law_1057 kk) ?_
      refine sp_m (aw_aload_n (pc := 1060) dL_law_1060 rfl (lv_at hl 2 rfl)) ?_
      refine sp_g fun s229 => ?_
      refine sp_b fun p228 ep228 => ?_
      refine sp_m (G' := AW (KL_law l D h0 hE v) p228.2 (1064) ls (.int p228.1 :: .int p226.1 :: [])) (fun kk => aw_callV (As := []) (metX7_out _ _ ep228) (rcv_o okX7 s229) rfl mok_X7_out q2025 q2026 q2027 q125 q2028 (Nat.le_of_ble_eq_true rfl) (Nat.le_of_ble_eq_true rfl) rfl hl.1 rfl (Nat.le_of_ble_eq_true rfl) (pc := 1061) dL_law_1061 kk) ?_
      refine sp_if (fun c230 => ?_) (fun c230 => ?_)
      · refine sp_m (aw_icmp_eq_t (tgt := 2028) (pc := 1064) dL_law_1064 (by decide) c230) ?_
        exact hj2028_1 p228.2 ls (lv_sub hl [0, 1, 2, 3, 4] rfl)
      · refine sp_m (aw_icmp_eq_f (tgt := 2028) (pc := 1064) dL_law_1064 (by decide) c230) ?_
        refine sp_m (aw_iconst (v := 0) (pc := 1067) dL_law_1067 rfl) ?_
        exact sp_r fun hz => aw_zret (nar_b (Or.inl rfl)) hz rfl rfl rfl (pc := 1068) dL_law_1068
    refine sp_if (fun c231 => ?_) (fun c231 => ?_)
    · refine sp_m (aw_tableIn (tgt := 1069) (pc := 40) dL_law_40 (by rw [c231]; decide) (by rw [c231]; decide) (by rw [c231] <;> rfl) (by decide)) ?_
      refine sp_m (aw_aload_n (pc := 1069) dL_law_1069 rfl (lv_at hl 1 rfl)) ?_
      refine sp_g fun s233 => ?_
      refine sp_b fun p232 ep232 => ?_
      refine sp_m (G' := AW (KL_law l D h0 hE v) p232.2 (1073) ls (.int p232.1 :: [])) (fun kk => aw_callV (As := []) (metX1_toOpen _ _ ep232) (rcv_o okX1 s233) rfl mok_X1_toOpen q1219 q1220 q1221 q116 q1222 (Nat.le_of_ble_eq_true rfl) (Nat.le_of_ble_eq_true rfl) rfl hl.1 rfl (Nat.le_of_ble_eq_true rfl) (pc := 1070) dL_law_1070 kk) ?_
      refine sp_m (aw_aload_n (pc := 1073) dL_law_1073 rfl (lv_at hl 2 rfl)) ?_
      refine sp_g fun s235 => ?_
      refine sp_b fun p234 ep234 => ?_
      refine sp_m (G' := AW (KL_law l D h0 hE v) p234.2 (1077) ls (.int p234.1 :: .int p232.1 :: [])) (fun kk => aw_callV (As := []) (metX7_toOpen _ _ ep234) (rcv_o okX7 s235) rfl mok_X7_toOpen q2029 q2030 q2031 q125 q2032 (Nat.le_of_ble_eq_true rfl) (Nat.le_of_ble_eq_true rfl) rfl hl.1 rfl (Nat.le_of_ble_eq_true rfl) (pc := 1074) dL_law_1074 kk) ?_
      refine sp_if (fun c236 => ?_) (fun c236 => ?_)
      · refine sp_m (aw_icmp_eq_t (tgt := 2028) (pc := 1077) dL_law_1077 (by decide) c236) ?_
        exact hj2028_1 p234.2 ls (lv_sub hl [0, 1, 2, 3, 4] rfl)
      · refine sp_m (aw_icmp_eq_f (tgt := 2028) (pc := 1077) dL_law_1077 (by decide) c236) ?_
        refine sp_m (aw_iconst (v := 0) (pc := 1080) dL_law_1080 rfl) ?_
        exact sp_r fun hz => aw_zret (nar_b (Or.inl rfl)) hz rfl rfl rfl (pc := 1081) dL_law_1081
    refine sp_if (fun c237 => ?_) (fun c237 => ?_)
    · refine sp_m (aw_tableIn (tgt := 1082) (pc := 40) dL_law_40 (by rw [c237]; decide) (by rw [c237]; decide) (by rw [c237] <;> rfl) (by decide)) ?_
      refine sp_m (aw_aload_n (pc := 1082) dL_law_1082 rfl (lv_at hl 1 rfl)) ?_
      refine sp_m (aw_aload_n (pc := 1083) dL_law_1083 rfl (lv_at hl 0 rfl)) ?_
      refine sp_m (aw_iload (pc := 1084) dL_law_1084 (lv_at hl 4 rfl)) ?_
      refine sp_m (aw_iconst (v := 1) (pc := 1086) dL_law_1086 rfl) ?_
      refine sp_m (aw_iadd (pc := 1087) dL_law_1087) ?_
      refine sp_g fun i238 => ?_
      refine sp_m (aw_sld hxs hxn i238 (pc := 1088) dL_law_1088) ?_
      refine sp_g fun s240 => ?_
      refine sp_b fun p239 ep239 => ?_
      refine sp_m (G' := AW (KL_law l D h0 hE v) p239.2 (1092) ls (.int p239.1 :: [])) (fun kk => aw_callV (As := [.int (xs (ix (s6v.1 + 1)))]) (metX1_rests _ _ ep239) (rcv_o okX1 s240) rfl mok_X1_rests q1223 q1224 q1225 q116 q1226 (Nat.le_of_ble_eq_true rfl) (Nat.le_of_ble_eq_true rfl) rfl hl.1 rfl (Nat.le_of_ble_eq_true rfl) (pc := 1089) dL_law_1089 kk) ?_
      refine sp_m (aw_aload_n (pc := 1092) dL_law_1092 rfl (lv_at hl 2 rfl)) ?_
      refine sp_m (aw_aload_n (pc := 1093) dL_law_1093 rfl (lv_at hl 0 rfl)) ?_
      refine sp_m (aw_iload (pc := 1094) dL_law_1094 (lv_at hl 4 rfl)) ?_
      refine sp_m (aw_iconst (v := 1) (pc := 1096) dL_law_1096 rfl) ?_
      refine sp_m (aw_iadd (pc := 1097) dL_law_1097) ?_
      refine sp_g fun i241 => ?_
      refine sp_m (aw_sld hxs hxn i241 (pc := 1098) dL_law_1098) ?_
      refine sp_g fun s243 => ?_
      refine sp_b fun p242 ep242 => ?_
      refine sp_m (G' := AW (KL_law l D h0 hE v) p242.2 (1102) ls (.int p242.1 :: .int p239.1 :: [])) (fun kk => aw_callV (As := [.int (xs (ix (s6v.1 + 1)))]) (metX7_rests _ _ ep242) (rcv_o okX7 s243) rfl mok_X7_rests q2037 q2038 q2039 q125 q2040 (Nat.le_of_ble_eq_true rfl) (Nat.le_of_ble_eq_true rfl) rfl hl.1 rfl (Nat.le_of_ble_eq_true rfl) (pc := 1099) dL_law_1099 kk) ?_
      refine sp_if (fun c244 => ?_) (fun c244 => ?_)
      · refine sp_m (aw_icmp_eq_t (tgt := 2028) (pc := 1102) dL_law_1102 (by decide) c244) ?_
        exact hj2028_1 p242.2 ls (lv_sub hl [0, 1, 2, 3, 4] rfl)
      · refine sp_m (aw_icmp_eq_f (tgt := 2028) (pc := 1102) dL_law_1102 (by decide) c244) ?_
        refine sp_m (aw_iconst (v := 0) (pc := 1105) dL_law_1105 rfl) ?_
        exact sp_r fun hz => aw_zret (nar_b (Or.inl rfl)) hz rfl rfl rfl (pc := 1106) dL_law_1106
    refine sp_if (fun c245 => ?_) (fun c245 => ?_)
    · refine sp_m (aw_tableIn (tgt := 1107) (pc := 40) dL_law_40 (by rw [c245]; decide) (by rw [c245]; decide) (by rw [c245] <;> rfl) (by decide)) ?_
      refine sp_m (aw_aload_n (pc := 1107) dL_law_1107 rfl (lv_at hl 1 rfl)) ?_
      refine sp_m (aw_aload_n (pc := 1108) dL_law_1108 rfl (lv_at hl 0 rfl)) ?_
      refine sp_m (aw_iload (pc := 1109) dL_law_1109 (lv_at hl 4 rfl)) ?_
      refine sp_m (aw_iconst (v := 1) (pc := 1111) dL_law_1111 rfl) ?_
      refine sp_m (aw_iadd (pc := 1112) dL_law_1112) ?_
      refine sp_g fun i246 => ?_
      refine sp_m (aw_sld hxs hxn i246 (pc := 1113) dL_law_1113) ?_
      refine sp_g fun s248 => ?_
      refine sp_b fun p247 ep247 => ?_
      refine sp_m (G' := AW (KL_law l D h0 hE v) p247.2 (1117) ls (.int p247.1 :: [])) (fun kk => aw_callV (As := [.int (xs (ix (s6v.1 + 1)))]) (metX1_rest _ _ ep247) (rcv_o okX1 s248) rfl mok_X1_rest q1235 q1236 q1237 q116 q1238 (Nat.le_of_ble_eq_true rfl) (Nat.le_of_ble_eq_true rfl) rfl hl.1 rfl (Nat.le_of_ble_eq_true rfl) (pc := 1114) dL_law_1114 kk) ?_
      refine sp_m (aw_aload_n (pc := 1117) dL_law_1117 rfl (lv_at hl 2 rfl)) ?_
      refine sp_m (aw_aload_n (pc := 1118) dL_law_1118 rfl (lv_at hl 0 rfl)) ?_
      refine sp_m (aw_iload (pc := 1119) dL_law_1119 (lv_at hl 4 rfl)) ?_
      refine sp_m (aw_iconst (v := 1) (pc := 1121) dL_law_1121 rfl) ?_
      refine sp_m (aw_iadd (pc := 1122) dL_law_1122) ?_
      refine sp_g fun i249 => ?_
      refine sp_m (aw_sld hxs hxn i249 (pc := 1123) dL_law_1123) ?_
      refine sp_g fun s251 => ?_
      refine sp_b fun p250 ep250 => ?_
      refine sp_m (G' := AW (KL_law l D h0 hE v) p250.2 (1127) ls (.int p250.1 :: .int p247.1 :: [])) (fun kk => aw_callV (As := [.int (xs (ix (s6v.1 + 1)))]) (metX7_rest _ _ ep250) (rcv_o okX7 s251) rfl mok_X7_rest q2049 q2050 q2051 q125 q2052 (Nat.le_of_ble_eq_true rfl) (Nat.le_of_ble_eq_true rfl) rfl hl.1 rfl (Nat.le_of_ble_eq_true rfl) (pc := 1124) dL_law_1124 kk) ?_
      refine sp_if (fun c252 => ?_) (fun c252 => ?_)
      · refine sp_m (aw_icmp_eq_t (tgt := 2028) (pc := 1127) dL_law_1127 (by decide) c252) ?_
        exact hj2028_1 p250.2 ls (lv_sub hl [0, 1, 2, 3, 4] rfl)
      · refine sp_m (aw_icmp_eq_f (tgt := 2028) (pc := 1127) dL_law_1127 (by decide) c252) ?_
        refine sp_m (aw_iconst (v := 0) (pc := 1130) dL_law_1130 rfl) ?_
        exact sp_r fun hz => aw_zret (nar_b (Or.inl rfl)) hz rfl rfl rfl (pc := 1131) dL_law_1131
    refine sp_if (fun c253 => ?_) (fun c253 => ?_)
    · refine sp_m (aw_tableIn (tgt := 1132) (pc := 40) dL_law_40 (by rw [c253]; decide) (by rw [c253]; decide) (by rw [c253] <;> rfl) (by decide)) ?_
      refine sp_m (aw_aload_n (pc := 1132) dL_law_1132 rfl (lv_at hl 1 rfl)) ?_
      refine sp_m (aw_aload_n (pc := 1133) dL_law_1133 rfl (lv_at hl 0 rfl)) ?_
      refine sp_m (aw_iload (pc := 1134) dL_law_1134 (lv_at hl 4 rfl)) ?_
      refine sp_m (aw_iconst (v := 1) (pc := 1136) dL_law_1136 rfl) ?_
      refine sp_m (aw_iadd (pc := 1137) dL_law_1137) ?_
      refine sp_g fun i254 => ?_
      refine sp_m (aw_sld hxs hxn i254 (pc := 1138) dL_law_1138) ?_
      refine sp_g fun s256 => ?_
      refine sp_b fun p255 ep255 => ?_
      refine sp_m (G' := AW (KL_law l D h0 hE v) p255.2 (1142) ls (.int p255.1 :: [])) (fun kk => aw_callV (As := [.int (xs (ix (s6v.1 + 1)))]) (metX1_weeks _ _ ep255) (rcv_o okX1 s256) rfl mok_X1_weeks q1239 q1240 q1241 q116 q1242 (Nat.le_of_ble_eq_true rfl) (Nat.le_of_ble_eq_true rfl) rfl hl.1 rfl (Nat.le_of_ble_eq_true rfl) (pc := 1139) dL_law_1139 kk) ?_
      refine sp_m (aw_aload_n (pc := 1142) dL_law_1142 rfl (lv_at hl 2 rfl)) ?_
      refine sp_m (aw_aload_n (pc := 1143) dL_law_1143 rfl (lv_at hl 0 rfl)) ?_
      refine sp_m (aw_iload (pc := 1144) dL_law_1144 (lv_at hl 4 rfl)) ?_
      refine sp_m (aw_iconst (v := 1) (pc := 1146) dL_law_1146 rfl) ?_
      refine sp_m (aw_iadd (pc := 1147) dL_law_1147) ?_
      refine sp_g fun i257 => ?_
      refine sp_m (aw_sld hxs hxn i257 (pc := 1148) dL_law_1148) ?_
      refine sp_g fun s259 => ?_
      refine sp_b fun p258 ep258 => ?_
      refine sp_m (G' := AW (KL_law l D h0 hE v) p258.2 (1152) ls (.int p258.1 :: .int p255.1 :: [])) (fun kk => aw_callV (As := [.int (xs (ix (s6v.1 + 1)))]) (metX7_weeks _ _ ep258) (rcv_o okX7 s259) rfl mok_X7_weeks q2053 q2054 q2055 q125 q2056 (Nat.le_of_ble_eq_true rfl) (Nat.le_of_ble_eq_true rfl) rfl hl.1 rfl (Nat.le_of_ble_eq_true rfl) (pc := 1149) dL_law_1149 kk) ?_
      refine sp_if (fun c260 => ?_) (fun c260 => ?_)
      · refine sp_m (aw_icmp_eq_t (tgt := 2028) (pc := 1152) dL_law_1152 (by decide) c260) ?_
        exact hj2028_1 p258.2 ls (lv_sub hl [0, 1, 2, 3, 4] rfl)
      · refine sp_m (aw_icmp_eq_f (tgt := 2028) (pc := 1152) dL_law_1152 (by decide) c260) ?_
        refine sp_m (aw_iconst (v := 0) (pc := 1155) dL_law_1155 rfl) ?_
        exact sp_r fun hz => aw_zret (nar_b (Or.inl rfl)) hz rfl rfl rfl (pc := 1156) dL_law_1156
    refine sp_if (fun c261 => ?_) (fun c261 => ?_)
    · refine sp_m (aw_tableIn (tgt := 1157) (pc := 40) dL_law_40 (by rw [c261]; decide) (by rw [c261]; decide) (by rw [c261] <;> rfl) (by decide)) ?_
      refine sp_m (aw_aload_n (pc := 1157) dL_law_1157 rfl (lv_at hl 1 rfl)) ?_
      refine sp_m (aw_aload_n (pc := 1158) dL_law_1158 rfl (lv_at hl 0 rfl)) ?_
      refine sp_m (aw_iload (pc := 1159) dL_law_1159 (lv_at hl 4 rfl)) ?_
      refine sp_m (aw_iconst (v := 1) (pc := 1161) dL_law_1161 rfl) ?_
      refine sp_m (aw_iadd (pc := 1162) dL_law_1162) ?_
      refine sp_g fun i262 => ?_
      refine sp_m (aw_sld hxs hxn i262 (pc := 1163) dL_law_1163) ?_
      refine sp_g fun s264 => ?_
      refine sp_b fun p263 ep263 => ?_
      refine sp_m (G' := AW (KL_law l D h0 hE v) p263.2 (1167) ls (.int p263.1 :: [])) (fun kk => aw_callV (As := [.int (xs (ix (s6v.1 + 1)))]) (metX1_sale _ _ ep263) (rcv_o okX1 s264) rfl mok_X1_sale q1252 q1253 q1254 q116 q1255 (Nat.le_of_ble_eq_true rfl) (Nat.le_of_ble_eq_true rfl) rfl hl.1 rfl (Nat.le_of_ble_eq_true rfl) (pc := 1164) dL_law_1164 kk) ?_
      refine sp_m (aw_aload_n (pc := 1167) dL_law_1167 rfl (lv_at hl 2 rfl)) ?_
      refine sp_m (aw_aload_n (pc := 1168) dL_law_1168 rfl (lv_at hl 0 rfl)) ?_
      refine sp_m (aw_iload (pc := 1169) dL_law_1169 (lv_at hl 4 rfl)) ?_
      refine sp_m (aw_iconst (v := 1) (pc := 1171) dL_law_1171 rfl) ?_
      refine sp_m (aw_iadd (pc := 1172) dL_law_1172) ?_
      refine sp_g fun i265 => ?_
      refine sp_m (aw_sld hxs hxn i265 (pc := 1173) dL_law_1173) ?_
      refine sp_g fun s267 => ?_
      refine sp_b fun p266 ep266 => ?_
      refine sp_m (G' := AW (KL_law l D h0 hE v) p266.2 (1177) ls (.int p266.1 :: .int p263.1 :: [])) (fun kk => aw_callV (As := [.int (xs (ix (s6v.1 + 1)))]) (metX7_sale _ _ ep266) (rcv_o okX7 s267) rfl mok_X7_sale q2057 q2058 q2059 q125 q2060 (Nat.le_of_ble_eq_true rfl) (Nat.le_of_ble_eq_true rfl) rfl hl.1 rfl (Nat.le_of_ble_eq_true rfl) (pc := 1174) dL_law_1174 kk) ?_
      refine sp_if (fun c268 => ?_) (fun c268 => ?_)
      · refine sp_m (aw_icmp_eq_t (tgt := 2028) (pc := 1177) dL_law_1177 (by decide) c268) ?_
        exact hj2028_1 p266.2 ls (lv_sub hl [0, 1, 2, 3, 4] rfl)
      · refine sp_m (aw_icmp_eq_f (tgt := 2028) (pc := 1177) dL_law_1177 (by decide) c268) ?_
        refine sp_m (aw_iconst (v := 0) (pc := 1180) dL_law_1180 rfl) ?_
        exact sp_r fun hz => aw_zret (nar_b (Or.inl rfl)) hz rfl rfl rfl (pc := 1181) dL_law_1181
    refine sp_if (fun c269 => ?_) (fun c269 => ?_)
    · refine sp_m (aw_tableIn (tgt := 1182) (pc := 40) dL_law_40 (by rw [c269]; decide) (by rw [c269]; decide) (by rw [c269] <;> rfl) (by decide)) ?_
      refine sp_m (aw_aload_n (pc := 1182) dL_law_1182 rfl (lv_at hl 1 rfl)) ?_
      refine sp_m (aw_aload_n (pc := 1183) dL_law_1183 rfl (lv_at hl 0 rfl)) ?_
      refine sp_m (aw_iload (pc := 1184) dL_law_1184 (lv_at hl 4 rfl)) ?_
      refine sp_m (aw_iconst (v := 1) (pc := 1186) dL_law_1186 rfl) ?_
      refine sp_m (aw_iadd (pc := 1187) dL_law_1187) ?_
      refine sp_g fun i270 => ?_
      refine sp_m (aw_sld hxs hxn i270 (pc := 1188) dL_law_1188) ?_
      refine sp_g fun s272 => ?_
      refine sp_b fun p271 ep271 => ?_
      refine sp_m (G' := AW (KL_law l D h0 hE v) p271.2 (1192) ls (.int p271.1 :: [])) (fun kk => aw_callV (As := [.int (xs (ix (s6v.1 + 1)))]) (metX1_saleOver _ _ ep271) (rcv_o okX1 s272) rfl mok_X1_saleOver q1272 q1273 q1274 q116 q1275 (Nat.le_of_ble_eq_true rfl) (Nat.le_of_ble_eq_true rfl) rfl hl.1 rfl (Nat.le_of_ble_eq_true rfl) (pc := 1189) dL_law_1189 kk) ?_
      refine sp_m (aw_aload_n (pc := 1192) dL_law_1192 rfl (lv_at hl 2 rfl)) ?_
      refine sp_m (aw_aload_n (pc := 1193) dL_law_1193 rfl (lv_at hl 0 rfl)) ?_
      refine sp_m (aw_iload (pc := 1194) dL_law_1194 (lv_at hl 4 rfl)) ?_
      refine sp_m (aw_iconst (v := 1) (pc := 1196) dL_law_1196 rfl) ?_
      refine sp_m (aw_iadd (pc := 1197) dL_law_1197) ?_
      refine sp_g fun i273 => ?_
      refine sp_m (aw_sld hxs hxn i273 (pc := 1198) dL_law_1198) ?_
      refine sp_g fun s275 => ?_
      refine sp_b fun p274 ep274 => ?_
      refine sp_m (G' := AW (KL_law l D h0 hE v) p274.2 (1202) ls (.int p274.1 :: .int p271.1 :: [])) (fun kk => aw_callV (As := [.int (xs (ix (s6v.1 + 1)))]) (metX7_saleOver _ _ ep274) (rcv_o okX7 s275) rfl mok_X7_saleOver q2072 q2073 q2074 q125 q2075 (Nat.le_of_ble_eq_true rfl) (Nat.le_of_ble_eq_true rfl) rfl hl.1 rfl (Nat.le_of_ble_eq_true rfl) (pc := 1199) dL_law_1199 kk) ?_
      refine sp_if (fun c276 => ?_) (fun c276 => ?_)
      · refine sp_m (aw_icmp_eq_t (tgt := 2028) (pc := 1202) dL_law_1202 (by decide) c276) ?_
        exact hj2028_1 p274.2 ls (lv_sub hl [0, 1, 2, 3, 4] rfl)
      · refine sp_m (aw_icmp_eq_f (tgt := 2028) (pc := 1202) dL_law_1202 (by decide) c276) ?_
        refine sp_m (aw_iconst (v := 0) (pc := 1205) dL_law_1205 rfl) ?_
        exact sp_r fun hz => aw_zret (nar_b (Or.inl rfl)) hz rfl rfl rfl (pc := 1206) dL_law_1206
    refine sp_if (fun c277 => ?_) (fun c277 => ?_)
    · refine sp_m (aw_tableIn (tgt := 1207) (pc := 40) dL_law_40 (by rw [c277]; decide) (by rw [c277]; decide) (by rw [c277] <;> rfl) (by decide)) ?_
      refine sp_m (aw_aload_n (pc := 1207) dL_law_1207 rfl (lv_at hl 1 rfl)) ?_
      refine sp_m (aw_aload_n (pc := 1208) dL_law_1208 rfl (lv_at hl 0 rfl)) ?_
      refine sp_m (aw_iload (pc := 1209) dL_law_1209 (lv_at hl 4 rfl)) ?_
      refine sp_m (aw_iconst (v := 1) (pc := 1211) dL_law_1211 rfl) ?_
      refine sp_m (aw_iadd (pc := 1212) dL_law_1212) ?_
      refine sp_g fun i278 => ?_
      refine sp_m (aw_sld hxs hxn i278 (pc := 1213) dL_law_1213) ?_
      refine sp_m (aw_aload_n (pc := 1214) dL_law_1214 rfl (lv_at hl 0 rfl)) ?_
      refine sp_m (aw_iload (pc := 1215) dL_law_1215 (lv_at hl 4 rfl)) ?_
      refine sp_m (aw_iconst (v := 2) (pc := 1217) dL_law_1217 rfl) ?_
      refine sp_m (aw_iadd (pc := 1218) dL_law_1218) ?_
      refine sp_g fun i279 => ?_
      refine sp_m (aw_sld hxs hxn i279 (pc := 1219) dL_law_1219) ?_
      refine sp_m (aw_aload_n (pc := 1220) dL_law_1220 rfl (lv_at hl 0 rfl)) ?_
      refine sp_m (aw_iload (pc := 1221) dL_law_1221 (lv_at hl 4 rfl)) ?_
      refine sp_m (aw_iconst (v := 3) (pc := 1223) dL_law_1223 rfl) ?_
      refine sp_m (aw_iadd (pc := 1224) dL_law_1224) ?_
      refine sp_g fun i280 => ?_
      refine sp_m (aw_sld hxs hxn i280 (pc := 1225) dL_law_1225) ?_
      refine sp_g fun s282 => ?_
      refine sp_b fun p281 ep281 => ?_
      refine sp_m (G' := AW (KL_law l D h0 hE v) p281.2 (1229) ls (.int p281.1 :: [])) (fun kk => aw_callV (As := [.int (xs (ix (s6v.1 + 1))), .int (xs (ix (s6v.1 + 2))), .int (xs (ix (s6v.1 + 3)))]) (metX1_march _ _ ep281) (rcv_o okX1 s282) rfl mok_X1_march q1276 q1277 q1278 q116 q1279 (Nat.le_of_ble_eq_true rfl) (Nat.le_of_ble_eq_true rfl) rfl hl.1 rfl (Nat.le_of_ble_eq_true rfl) (pc := 1226) dL_law_1226 kk) ?_
      refine sp_m (aw_aload_n (pc := 1229) dL_law_1229 rfl (lv_at hl 2 rfl)) ?_
      refine sp_m (aw_aload_n (pc := 1230) dL_law_1230 rfl (lv_at hl 0 rfl)) ?_
      refine sp_m (aw_iload (pc := 1231) dL_law_1231 (lv_at hl 4 rfl)) ?_
      refine sp_m (aw_iconst (v := 1) (pc := 1233) dL_law_1233 rfl) ?_
      refine sp_m (aw_iadd (pc := 1234) dL_law_1234) ?_
      refine sp_g fun i283 => ?_
      refine sp_m (aw_sld hxs hxn i283 (pc := 1235) dL_law_1235) ?_
      refine sp_m (aw_aload_n (pc := 1236) dL_law_1236 rfl (lv_at hl 0 rfl)) ?_
      refine sp_m (aw_iload (pc := 1237) dL_law_1237 (lv_at hl 4 rfl)) ?_
      refine sp_m (aw_iconst (v := 2) (pc := 1239) dL_law_1239 rfl) ?_
      refine sp_m (aw_iadd (pc := 1240) dL_law_1240) ?_
      refine sp_g fun i284 => ?_
      refine sp_m (aw_sld hxs hxn i284 (pc := 1241) dL_law_1241) ?_
      refine sp_m (aw_aload_n (pc := 1242) dL_law_1242 rfl (lv_at hl 0 rfl)) ?_
      refine sp_m (aw_iload (pc := 1243) dL_law_1243 (lv_at hl 4 rfl)) ?_
      refine sp_m (aw_iconst (v := 3) (pc := 1245) dL_law_1245 rfl) ?_
      refine sp_m (aw_iadd (pc := 1246) dL_law_1246) ?_
      refine sp_g fun i285 => ?_
      refine sp_m (aw_sld hxs hxn i285 (pc := 1247) dL_law_1247) ?_
      refine sp_g fun s287 => ?_
      refine sp_b fun p286 ep286 => ?_
      refine sp_m (G' := AW (KL_law l D h0 hE v) p286.2 (1251) ls (.int p286.1 :: .int p281.1 :: [])) (fun kk => aw_callV (As := [.int (xs (ix (s6v.1 + 1))), .int (xs (ix (s6v.1 + 2))), .int (xs (ix (s6v.1 + 3)))]) (metX7_march _ _ ep286) (rcv_o okX7 s287) rfl mok_X7_march q2076 q2077 q2078 q125 q2079 (Nat.le_of_ble_eq_true rfl) (Nat.le_of_ble_eq_true rfl) rfl hl.1 rfl (Nat.le_of_ble_eq_true rfl) (pc := 1248) dL_law_1248 kk) ?_
      refine sp_if (fun c288 => ?_) (fun c288 => ?_)
      · refine sp_m (aw_icmp_eq_t (tgt := 2028) (pc := 1251) dL_law_1251 (by decide) c288) ?_
        exact hj2028_1 p286.2 ls (lv_sub hl [0, 1, 2, 3, 4] rfl)
      · refine sp_m (aw_icmp_eq_f (tgt := 2028) (pc := 1251) dL_law_1251 (by decide) c288) ?_
        refine sp_m (aw_iconst (v := 0) (pc := 1254) dL_law_1254 rfl) ?_
        exact sp_r fun hz => aw_zret (nar_b (Or.inl rfl)) hz rfl rfl rfl (pc := 1255) dL_law_1255
    refine sp_if (fun c289 => ?_) (fun c289 => ?_)
    · refine sp_m (aw_tableIn (tgt := 1256) (pc := 40) dL_law_40 (by rw [c289]; decide) (by rw [c289]; decide) (by rw [c289] <;> rfl) (by decide)) ?_
      refine sp_m (aw_aload_n (pc := 1256) dL_law_1256 rfl (lv_at hl 1 rfl)) ?_
      refine sp_m (aw_aload_n (pc := 1257) dL_law_1257 rfl (lv_at hl 0 rfl)) ?_
      refine sp_m (aw_iload (pc := 1258) dL_law_1258 (lv_at hl 4 rfl)) ?_
      refine sp_m (aw_iconst (v := 1) (pc := 1260) dL_law_1260 rfl) ?_
      refine sp_m (aw_iadd (pc := 1261) dL_law_1261) ?_
      refine sp_g fun i290 => ?_
      refine sp_m (aw_sld hxs hxn i290 (pc := 1262) dL_law_1262) ?_
      refine sp_m (aw_aload_n (pc := 1263) dL_law_1263 rfl (lv_at hl 0 rfl)) ?_
      refine sp_m (aw_iload (pc := 1264) dL_law_1264 (lv_at hl 4 rfl)) ?_
      refine sp_m (aw_iconst (v := 2) (pc := 1266) dL_law_1266 rfl) ?_
      refine sp_m (aw_iadd (pc := 1267) dL_law_1267) ?_
      refine sp_g fun i291 => ?_
      refine sp_m (aw_sld hxs hxn i291 (pc := 1268) dL_law_1268) ?_
      refine sp_m (aw_aload_n (pc := 1269) dL_law_1269 rfl (lv_at hl 0 rfl)) ?_
      refine sp_m (aw_iload (pc := 1270) dL_law_1270 (lv_at hl 4 rfl)) ?_
      refine sp_m (aw_iconst (v := 3) (pc := 1272) dL_law_1272 rfl) ?_
      refine sp_m (aw_iadd (pc := 1273) dL_law_1273) ?_
      refine sp_g fun i292 => ?_
      refine sp_m (aw_sld hxs hxn i292 (pc := 1274) dL_law_1274) ?_
      refine sp_m (aw_aload_n (pc := 1275) dL_law_1275 rfl (lv_at hl 0 rfl)) ?_
      refine sp_m (aw_iload (pc := 1276) dL_law_1276 (lv_at hl 4 rfl)) ?_
      refine sp_m (aw_iconst (v := 4) (pc := 1278) dL_law_1278 rfl) ?_
      refine sp_m (aw_iadd (pc := 1279) dL_law_1279) ?_
      refine sp_g fun i293 => ?_
      refine sp_m (aw_sld hxs hxn i293 (pc := 1280) dL_law_1280) ?_
      refine sp_g fun s295 => ?_
      refine sp_b fun p294 ep294 => ?_
      refine sp_m (G' := AW (KL_law l D h0 hE v) p294.2 (1284) ls (.int p294.1 :: [])) (fun kk => aw_callV (As := [.int (xs (ix (s6v.1 + 1))), .int (xs (ix (s6v.1 + 2))), .int (xs (ix (s6v.1 + 3))), .int (xs (ix (s6v.1 + 4)))]) (metX1_marchAt _ _ ep294) (rcv_o okX1 s295) rfl mok_X1_marchAt q1304 q1305 q1306 q116 q1307 (Nat.le_of_ble_eq_true rfl) (Nat.le_of_ble_eq_true rfl) rfl hl.1 rfl (Nat.le_of_ble_eq_true rfl) (pc := 1281) dL_law_1281 kk) ?_
      refine sp_m (aw_aload_n (pc := 1284) dL_law_1284 rfl (lv_at hl 2 rfl)) ?_
      refine sp_m (aw_aload_n (pc := 1285) dL_law_1285 rfl (lv_at hl 0 rfl)) ?_
      refine sp_m (aw_iload (pc := 1286) dL_law_1286 (lv_at hl 4 rfl)) ?_
      refine sp_m (aw_iconst (v := 1) (pc := 1288) dL_law_1288 rfl) ?_
      refine sp_m (aw_iadd (pc := 1289) dL_law_1289) ?_
      refine sp_g fun i296 => ?_
      refine sp_m (aw_sld hxs hxn i296 (pc := 1290) dL_law_1290) ?_
      refine sp_m (aw_aload_n (pc := 1291) dL_law_1291 rfl (lv_at hl 0 rfl)) ?_
      refine sp_m (aw_iload (pc := 1292) dL_law_1292 (lv_at hl 4 rfl)) ?_
      refine sp_m (aw_iconst (v := 2) (pc := 1294) dL_law_1294 rfl) ?_
      refine sp_m (aw_iadd (pc := 1295) dL_law_1295) ?_
      refine sp_g fun i297 => ?_
      refine sp_m (aw_sld hxs hxn i297 (pc := 1296) dL_law_1296) ?_
      refine sp_m (aw_aload_n (pc := 1297) dL_law_1297 rfl (lv_at hl 0 rfl)) ?_
      refine sp_m (aw_iload (pc := 1298) dL_law_1298 (lv_at hl 4 rfl)) ?_
      refine sp_m (aw_iconst (v := 3) (pc := 1300) dL_law_1300 rfl) ?_
      refine sp_m (aw_iadd (pc := 1301) dL_law_1301) ?_
      refine sp_g fun i298 => ?_
      refine sp_m (aw_sld hxs hxn i298 (pc := 1302) dL_law_1302) ?_
      refine sp_m (aw_aload_n (pc := 1303) dL_law_1303 rfl (lv_at hl 0 rfl)) ?_
      refine sp_m (aw_iload (pc := 1304) dL_law_1304 (lv_at hl 4 rfl)) ?_
      refine sp_m (aw_iconst (v := 4) (pc := 1306) dL_law_1306 rfl) ?_
      refine sp_m (aw_iadd (pc := 1307) dL_law_1307) ?_
      refine sp_g fun i299 => ?_
      refine sp_m (aw_sld hxs hxn i299 (pc := 1308) dL_law_1308) ?_
      refine sp_g fun s301 => ?_
      refine sp_b fun p300 ep300 => ?_
      refine sp_m (G' := AW (KL_law l D h0 hE v) p300.2 (1312) ls (.int p300.1 :: .int p294.1 :: [])) (fun kk => aw_callV (As := [.int (xs (ix (s6v.1 + 1))), .int (xs (ix (s6v.1 + 2))), .int (xs (ix (s6v.1 + 3))), .int (xs (ix (s6v.1 + 4)))]) (metX7_marchAt _ _ ep300) (rcv_o okX7 s301) rfl mok_X7_marchAt q2099 q2100 q2101 q125 q2102 (Nat.le_of_ble_eq_true rfl) (Nat.le_of_ble_eq_true rfl) rfl hl.1 rfl (Nat.le_of_ble_eq_true rfl) (pc := 1309) dL_law_1309 kk) ?_
      refine sp_if (fun c302 => ?_) (fun c302 => ?_)
      · refine sp_m (aw_icmp_eq_t (tgt := 2028) (pc := 1312) dL_law_1312 (by decide) c302) ?_
        exact hj2028_1 p300.2 ls (lv_sub hl [0, 1, 2, 3, 4] rfl)
      · refine sp_m (aw_icmp_eq_f (tgt := 2028) (pc := 1312) dL_law_1312 (by decide) c302) ?_
        refine sp_m (aw_iconst (v := 0) (pc := 1315) dL_law_1315 rfl) ?_
        exact sp_r fun hz => aw_zret (nar_b (Or.inl rfl)) hz rfl rfl rfl (pc := 1316) dL_law_1316
    refine sp_if (fun c303 => ?_) (fun c303 => ?_)
    · refine sp_m (aw_tableIn (tgt := 1317) (pc := 40) dL_law_40 (by rw [c303]; decide) (by rw [c303]; decide) (by rw [c303] <;> rfl) (by decide)) ?_
      refine sp_m (aw_aload_n (pc := 1317) dL_law_1317 rfl (lv_at hl 1 rfl)) ?_
      refine sp_m (aw_aload_n (pc := 1318) dL_law_1318 rfl (lv_at hl 0 rfl)) ?_
      refine sp_m (aw_iload (pc := 1319) dL_law_1319 (lv_at hl 4 rfl)) ?_
      refine sp_m (aw_iconst (v := 1) (pc := 1321) dL_law_1321 rfl) ?_
      refine sp_m (aw_iadd (pc := 1322) dL_law_1322) ?_
      refine sp_g fun i304 => ?_
      refine sp_m (aw_sld hxs hxn i304 (pc := 1323) dL_law_1323) ?_
      refine sp_g fun s306 => ?_
      refine sp_b fun p305 ep305 => ?_
      refine sp_m (G' := AW (KL_law l D h0 hE v) p305.2 (1327) ls (.int p305.1 :: [])) (fun kk => aw_callV (As := [.int (xs (ix (s6v.1 + 1)))]) (metX1_reach _ _ ep305) (rcv_o okX1 s306) rfl mok_X1_reach q1316 q1317 q1318 q116 q1319 (Nat.le_of_ble_eq_true rfl) (Nat.le_of_ble_eq_true rfl) rfl hl.1 rfl (Nat.le_of_ble_eq_true rfl) (pc := 1324) dL_law_1324 kk) ?_
      refine sp_m (aw_aload_n (pc := 1327) dL_law_1327 rfl (lv_at hl 2 rfl)) ?_
      refine sp_m (aw_aload_n (pc := 1328) dL_law_1328 rfl (lv_at hl 0 rfl)) ?_
      refine sp_m (aw_iload (pc := 1329) dL_law_1329 (lv_at hl 4 rfl)) ?_
      refine sp_m (aw_iconst (v := 1) (pc := 1331) dL_law_1331 rfl) ?_
      refine sp_m (aw_iadd (pc := 1332) dL_law_1332) ?_
      refine sp_g fun i307 => ?_
      refine sp_m (aw_sld hxs hxn i307 (pc := 1333) dL_law_1333) ?_
      refine sp_g fun s309 => ?_
      refine sp_b fun p308 ep308 => ?_
      refine sp_m (G' := AW (KL_law l D h0 hE v) p308.2 (1337) ls (.int p308.1 :: .int p305.1 :: [])) (fun kk => aw_callV (As := [.int (xs (ix (s6v.1 + 1)))]) (metX7_reach _ _ ep308) (rcv_o okX7 s309) rfl mok_X7_reach q2103 q2104 q2105 q125 q2106 (Nat.le_of_ble_eq_true rfl) (Nat.le_of_ble_eq_true rfl) rfl hl.1 rfl (Nat.le_of_ble_eq_true rfl) (pc := 1334) dL_law_1334 kk) ?_
      refine sp_if (fun c310 => ?_) (fun c310 => ?_)
      · refine sp_m (aw_icmp_eq_t (tgt := 2028) (pc := 1337) dL_law_1337 (by decide) c310) ?_
        exact hj2028_1 p308.2 ls (lv_sub hl [0, 1, 2, 3, 4] rfl)
      · refine sp_m (aw_icmp_eq_f (tgt := 2028) (pc := 1337) dL_law_1337 (by decide) c310) ?_
        refine sp_m (aw_iconst (v := 0) (pc := 1340) dL_law_1340 rfl) ?_
        exact sp_r fun hz => aw_zret (nar_b (Or.inl rfl)) hz rfl rfl rfl (pc := 1341) dL_law_1341
    refine sp_if (fun c311 => ?_) (fun c311 => ?_)
    · refine sp_m (aw_tableIn (tgt := 1342) (pc := 40) dL_law_40 (by rw [c311]; decide) (by rw [c311]; decide) (by rw [c311] <;> rfl) (by decide)) ?_
      refine sp_m (aw_aload_n (pc := 1342) dL_law_1342 rfl (lv_at hl 1 rfl)) ?_
      refine sp_m (aw_aload_n (pc := 1343) dL_law_1343 rfl (lv_at hl 0 rfl)) ?_
      refine sp_m (aw_iload (pc := 1344) dL_law_1344 (lv_at hl 4 rfl)) ?_
      refine sp_m (aw_iconst (v := 1) (pc := 1346) dL_law_1346 rfl) ?_
      refine sp_m (aw_iadd (pc := 1347) dL_law_1347) ?_
      refine sp_g fun i312 => ?_
      refine sp_m (aw_sld hxs hxn i312 (pc := 1348) dL_law_1348) ?_
      refine sp_m (aw_aload_n (pc := 1349) dL_law_1349 rfl (lv_at hl 0 rfl)) ?_
      refine sp_m (aw_iload (pc := 1350) dL_law_1350 (lv_at hl 4 rfl)) ?_
      refine sp_m (aw_iconst (v := 2) (pc := 1352) dL_law_1352 rfl) ?_
      refine sp_m (aw_iadd (pc := 1353) dL_law_1353) ?_
      refine sp_g fun i313 => ?_
      refine sp_m (aw_sld hxs hxn i313 (pc := 1354) dL_law_1354) ?_
      refine sp_m (aw_aload_n (pc := 1355) dL_law_1355 rfl (lv_at hl 0 rfl)) ?_
      refine sp_m (aw_iload (pc := 1356) dL_law_1356 (lv_at hl 4 rfl)) ?_
      refine sp_m (aw_iconst (v := 3) (pc := 1358) dL_law_1358 rfl) ?_
      refine sp_m (aw_iadd (pc := 1359) dL_law_1359) ?_
      refine sp_g fun i314 => ?_
      refine sp_m (aw_sld hxs hxn i314 (pc := 1360) dL_law_1360) ?_
      refine sp_g fun s316 => ?_
      refine sp_b fun p315 ep315 => ?_
      refine sp_m (G' := AW (KL_law l D h0 hE v) p315.2 (1364) ls (.int p315.1 :: [])) (fun kk => aw_callV (As := [.int (xs (ix (s6v.1 + 1))), .int (xs (ix (s6v.1 + 2))), .int (xs (ix (s6v.1 + 3)))]) (metX1_worstPass _ _ ep315) (rcv_o okX1 s316) rfl mok_X1_worstPass q1320 q1321 q1322 q116 q1323 (Nat.le_of_ble_eq_true rfl) (Nat.le_of_ble_eq_true rfl) rfl hl.1 rfl (Nat.le_of_ble_eq_true rfl) (pc := 1361) dL_law_1361 kk) ?_
      refine sp_m (aw_aload_n (pc := 1364) dL_law_1364 rfl (lv_at hl 2 rfl)) ?_
      refine sp_m (aw_aload_n (pc := 1365) dL_law_1365 rfl (lv_at hl 0 rfl)) ?_
      refine sp_m (aw_iload (pc := 1366) dL_law_1366 (lv_at hl 4 rfl)) ?_
      refine sp_m (aw_iconst (v := 1) (pc := 1368) dL_law_1368 rfl) ?_
      refine sp_m (aw_iadd (pc := 1369) dL_law_1369) ?_
      refine sp_g fun i317 => ?_
      refine sp_m (aw_sld hxs hxn i317 (pc := 1370) dL_law_1370) ?_
      refine sp_m (aw_aload_n (pc := 1371) dL_law_1371 rfl (lv_at hl 0 rfl)) ?_
      refine sp_m (aw_iload (pc := 1372) dL_law_1372 (lv_at hl 4 rfl)) ?_
      refine sp_m (aw_iconst (v := 2) (pc := 1374) dL_law_1374 rfl) ?_
      refine sp_m (aw_iadd (pc := 1375) dL_law_1375) ?_
      refine sp_g fun i318 => ?_
      refine sp_m (aw_sld hxs hxn i318 (pc := 1376) dL_law_1376) ?_
      refine sp_m (aw_aload_n (pc := 1377) dL_law_1377 rfl (lv_at hl 0 rfl)) ?_
      refine sp_m (aw_iload (pc := 1378) dL_law_1378 (lv_at hl 4 rfl)) ?_
      refine sp_m (aw_iconst (v := 3) (pc := 1380) dL_law_1380 rfl) ?_
      refine sp_m (aw_iadd (pc := 1381) dL_law_1381) ?_
      refine sp_g fun i319 => ?_
      refine sp_m (aw_sld hxs hxn i319 (pc := 1382) dL_law_1382) ?_
      refine sp_g fun s321 => ?_
      refine sp_b fun p320 ep320 => ?_
      refine sp_m (G' := AW (KL_law l D h0 hE v) p320.2 (1386) ls (.int p320.1 :: .int p315.1 :: [])) (fun kk => aw_callV (As := [.int (xs (ix (s6v.1 + 1))), .int (xs (ix (s6v.1 + 2))), .int (xs (ix (s6v.1 + 3)))]) (metX7_worstPass _ _ ep320) (rcv_o okX7 s321) rfl mok_X7_worstPass q2107 q2108 q2109 q125 q2110 (Nat.le_of_ble_eq_true rfl) (Nat.le_of_ble_eq_true rfl) rfl hl.1 rfl (Nat.le_of_ble_eq_true rfl) (pc := 1383) dL_law_1383 kk) ?_
      refine sp_if (fun c322 => ?_) (fun c322 => ?_)
      · refine sp_m (aw_icmp_eq_t (tgt := 2028) (pc := 1386) dL_law_1386 (by decide) c322) ?_
        exact hj2028_1 p320.2 ls (lv_sub hl [0, 1, 2, 3, 4] rfl)
      · refine sp_m (aw_icmp_eq_f (tgt := 2028) (pc := 1386) dL_law_1386 (by decide) c322) ?_
        refine sp_m (aw_iconst (v := 0) (pc := 1389) dL_law_1389 rfl) ?_
        exact sp_r fun hz => aw_zret (nar_b (Or.inl rfl)) hz rfl rfl rfl (pc := 1390) dL_law_1390
    refine sp_if (fun c323 => ?_) (fun c323 => ?_)
    · refine sp_m (aw_tableIn (tgt := 1391) (pc := 40) dL_law_40 (by rw [c323]; decide) (by rw [c323]; decide) (by rw [c323] <;> rfl) (by decide)) ?_
      refine sp_m (aw_aload_n (pc := 1391) dL_law_1391 rfl (lv_at hl 1 rfl)) ?_
      refine sp_m (aw_aload_n (pc := 1392) dL_law_1392 rfl (lv_at hl 0 rfl)) ?_
      refine sp_m (aw_iload (pc := 1393) dL_law_1393 (lv_at hl 4 rfl)) ?_
      refine sp_m (aw_iconst (v := 1) (pc := 1395) dL_law_1395 rfl) ?_
      refine sp_m (aw_iadd (pc := 1396) dL_law_1396) ?_
      refine sp_g fun i324 => ?_
      refine sp_m (aw_sld hxs hxn i324 (pc := 1397) dL_law_1397) ?_
      refine sp_m (aw_aload_n (pc := 1398) dL_law_1398 rfl (lv_at hl 0 rfl)) ?_
      refine sp_m (aw_iload (pc := 1399) dL_law_1399 (lv_at hl 4 rfl)) ?_
      refine sp_m (aw_iconst (v := 2) (pc := 1401) dL_law_1401 rfl) ?_
      refine sp_m (aw_iadd (pc := 1402) dL_law_1402) ?_
      refine sp_g fun i325 => ?_
      refine sp_m (aw_sld hxs hxn i325 (pc := 1403) dL_law_1403) ?_
      refine sp_m (aw_aload_n (pc := 1404) dL_law_1404 rfl (lv_at hl 0 rfl)) ?_
      refine sp_m (aw_iload (pc := 1405) dL_law_1405 (lv_at hl 4 rfl)) ?_
      refine sp_m (aw_iconst (v := 3) (pc := 1407) dL_law_1407 rfl) ?_
      refine sp_m (aw_iadd (pc := 1408) dL_law_1408) ?_
      refine sp_g fun i326 => ?_
      refine sp_m (aw_sld hxs hxn i326 (pc := 1409) dL_law_1409) ?_
      refine sp_g fun s328 => ?_
      refine sp_b fun p327 ep327 => ?_
      refine sp_m (G' := AW (KL_law l D h0 hE v) p327.2 (1413) ls (.int p327.1 :: [])) (fun kk => aw_callV (As := [.int (xs (ix (s6v.1 + 1))), .int (xs (ix (s6v.1 + 2))), .int (xs (ix (s6v.1 + 3)))]) (metX1_setOut _ _ ep327) (rcv_o okX1 s328) rfl mok_X1_setOut q1325 q1326 q1327 q116 q1328 (Nat.le_of_ble_eq_true rfl) (Nat.le_of_ble_eq_true rfl) rfl hl.1 rfl (Nat.le_of_ble_eq_true rfl) (pc := 1410) dL_law_1410 kk) ?_
      refine sp_m (aw_aload_n (pc := 1413) dL_law_1413 rfl (lv_at hl 2 rfl)) ?_
      refine sp_m (aw_aload_n (pc := 1414) dL_law_1414 rfl (lv_at hl 0 rfl)) ?_
      refine sp_m (aw_iload (pc := 1415) dL_law_1415 (lv_at hl 4 rfl)) ?_
      refine sp_m (aw_iconst (v := 1) (pc := 1417) dL_law_1417 rfl) ?_
      refine sp_m (aw_iadd (pc := 1418) dL_law_1418) ?_
      refine sp_g fun i329 => ?_
      refine sp_m (aw_sld hxs hxn i329 (pc := 1419) dL_law_1419) ?_
      refine sp_m (aw_aload_n (pc := 1420) dL_law_1420 rfl (lv_at hl 0 rfl)) ?_
      refine sp_m (aw_iload (pc := 1421) dL_law_1421 (lv_at hl 4 rfl)) ?_
      refine sp_m (aw_iconst (v := 2) (pc := 1423) dL_law_1423 rfl) ?_
      refine sp_m (aw_iadd (pc := 1424) dL_law_1424) ?_
      refine sp_g fun i330 => ?_
      refine sp_m (aw_sld hxs hxn i330 (pc := 1425) dL_law_1425) ?_
      refine sp_m (aw_aload_n (pc := 1426) dL_law_1426 rfl (lv_at hl 0 rfl)) ?_
      refine sp_m (aw_iload (pc := 1427) dL_law_1427 (lv_at hl 4 rfl)) ?_
      refine sp_m (aw_iconst (v := 3) (pc := 1429) dL_law_1429 rfl) ?_
      refine sp_m (aw_iadd (pc := 1430) dL_law_1430) ?_
      refine sp_g fun i331 => ?_
      refine sp_m (aw_sld hxs hxn i331 (pc := 1431) dL_law_1431) ?_
      refine sp_g fun s333 => ?_
      refine sp_b fun p332 ep332 => ?_
      refine sp_m (G' := AW (KL_law l D h0 hE v) p332.2 (1435) ls (.int p332.1 :: .int p327.1 :: [])) (fun kk => aw_callV (As := [.int (xs (ix (s6v.1 + 1))), .int (xs (ix (s6v.1 + 2))), .int (xs (ix (s6v.1 + 3)))]) (metX7_setOut _ _ ep332) (rcv_o okX7 s333) rfl mok_X7_setOut q2111 q2112 q2113 q125 q2114 (Nat.le_of_ble_eq_true rfl) (Nat.le_of_ble_eq_true rfl) rfl hl.1 rfl (Nat.le_of_ble_eq_true rfl) (pc := 1432) dL_law_1432 kk) ?_
      refine sp_if (fun c334 => ?_) (fun c334 => ?_)
      · refine sp_m (aw_icmp_eq_t (tgt := 2028) (pc := 1435) dL_law_1435 (by decide) c334) ?_
        exact hj2028_1 p332.2 ls (lv_sub hl [0, 1, 2, 3, 4] rfl)
      · refine sp_m (aw_icmp_eq_f (tgt := 2028) (pc := 1435) dL_law_1435 (by decide) c334) ?_
        refine sp_m (aw_iconst (v := 0) (pc := 1438) dL_law_1438 rfl) ?_
        exact sp_r fun hz => aw_zret (nar_b (Or.inl rfl)) hz rfl rfl rfl (pc := 1439) dL_law_1439
    refine sp_if (fun c335 => ?_) (fun c335 => ?_)
    · refine sp_m (aw_tableIn (tgt := 1440) (pc := 40) dL_law_40 (by rw [c335]; decide) (by rw [c335]; decide) (by rw [c335] <;> rfl) (by decide)) ?_
      refine sp_m (aw_aload_n (pc := 1440) dL_law_1440 rfl (lv_at hl 1 rfl)) ?_
      refine sp_g fun s337 => ?_
      refine sp_b fun p336 ep336 => ?_
      refine sp_m (G' := AW (KL_law l D h0 hE v) p336.2 (1444) ls (.int p336.1 :: [])) (fun kk => aw_callV (As := []) (metX1_fits _ _ ep336) (rcv_o okX1 s337) rfl mok_X1_fits q1329 q1330 q1331 q116 q1332 (Nat.le_of_ble_eq_true rfl) (Nat.le_of_ble_eq_true rfl) rfl hl.1 rfl (Nat.le_of_ble_eq_true rfl) (pc := 1441) dL_law_1441 kk) ?_
      refine sp_m (aw_aload_n (pc := 1444) dL_law_1444 rfl (lv_at hl 2 rfl)) ?_
      refine sp_g fun s339 => ?_
      refine sp_b fun p338 ep338 => ?_
      refine sp_m (G' := AW (KL_law l D h0 hE v) p338.2 (1448) ls (.int p338.1 :: .int p336.1 :: [])) (fun kk => aw_callV (As := []) (metX7_fits _ _ ep338) (rcv_o okX7 s339) rfl mok_X7_fits q2115 q2116 q2117 q125 q2118 (Nat.le_of_ble_eq_true rfl) (Nat.le_of_ble_eq_true rfl) rfl hl.1 rfl (Nat.le_of_ble_eq_true rfl) (pc := 1445) dL_law_1445 kk) ?_
      refine sp_if (fun c340 => ?_) (fun c340 => ?_)
      · refine sp_m (aw_icmp_eq_t (tgt := 2028) (pc := 1448) dL_law_1448 (by decide) c340) ?_
        exact hj2028_1 p338.2 ls (lv_sub hl [0, 1, 2, 3, 4] rfl)
      · refine sp_m (aw_icmp_eq_f (tgt := 2028) (pc := 1448) dL_law_1448 (by decide) c340) ?_
        refine sp_m (aw_iconst (v := 0) (pc := 1451) dL_law_1451 rfl) ?_
        exact sp_r fun hz => aw_zret (nar_b (Or.inl rfl)) hz rfl rfl rfl (pc := 1452) dL_law_1452
    refine sp_if (fun c341 => ?_) (fun c341 => ?_)
    · refine sp_m (aw_tableIn (tgt := 1453) (pc := 40) dL_law_40 (by rw [c341]; decide) (by rw [c341]; decide) (by rw [c341] <;> rfl) (by decide)) ?_
      refine sp_m (aw_aload_n (pc := 1453) dL_law_1453 rfl (lv_at hl 1 rfl)) ?_
      refine sp_g fun s343 => ?_
      refine sp_b fun p342 ep342 => ?_
      refine sp_m (G' := AW (KL_law l D h0 hE v) p342.2 (1457) ls (.int p342.1 :: [])) (fun kk => aw_callV (As := []) (metX1_could _ _ ep342) (rcv_o okX1 s343) rfl mok_X1_could q1348 q1349 q1350 q116 q1351 (Nat.le_of_ble_eq_true rfl) (Nat.le_of_ble_eq_true rfl) rfl hl.1 rfl (Nat.le_of_ble_eq_true rfl) (pc := 1454) dL_law_1454 kk) ?_
      refine sp_m (aw_aload_n (pc := 1457) dL_law_1457 rfl (lv_at hl 2 rfl)) ?_
      refine sp_g fun s345 => ?_
      refine sp_b fun p344 ep344 => ?_
      refine sp_m (G' := AW (KL_law l D h0 hE v) p344.2 (1461) ls (.int p344.1 :: .int p342.1 :: [])) (fun kk => aw_callV (As := []) (metX7_could _ _ ep344) (rcv_o okX7 s345) rfl mok_X7_could q2127 q2128 q2129 q125 q2130 (Nat.le_of_ble_eq_true rfl) (Nat.le_of_ble_eq_true rfl) rfl hl.1 rfl (Nat.le_of_ble_eq_true rfl) (pc := 1458) dL_law_1458 kk) ?_
      refine sp_if (fun c346 => ?_) (fun c346 => ?_)
      · refine sp_m (aw_icmp_eq_t (tgt := 2028) (pc := 1461) dL_law_1461 (by decide) c346) ?_
        exact hj2028_1 p344.2 ls (lv_sub hl [0, 1, 2, 3, 4] rfl)
      · refine sp_m (aw_icmp_eq_f (tgt := 2028) (pc := 1461) dL_law_1461 (by decide) c346) ?_
        refine sp_m (aw_iconst (v := 0) (pc := 1464) dL_law_1464 rfl) ?_
        exact sp_r fun hz => aw_zret (nar_b (Or.inl rfl)) hz rfl rfl rfl (pc := 1465) dL_law_1465
    refine sp_if (fun c347 => ?_) (fun c347 => ?_)
    · refine sp_m (aw_tableIn (tgt := 1466) (pc := 40) dL_law_40 (by rw [c347]; decide) (by rw [c347]; decide) (by rw [c347] <;> rfl) (by decide)) ?_
      refine sp_m (aw_aload_n (pc := 1466) dL_law_1466 rfl (lv_at hl 1 rfl)) ?_
      refine sp_g fun s349 => ?_
      refine sp_b fun p348 ep348 => ?_
      refine sp_m (G' := AW (KL_law l D h0 hE v) p348.2 (1470) ls (.int p348.1 :: [])) (fun kk => aw_callV (As := []) (metX1_surely _ _ ep348) (rcv_o okX1 s349) rfl mok_X1_surely q1352 q1353 q1354 q116 q1355 (Nat.le_of_ble_eq_true rfl) (Nat.le_of_ble_eq_true rfl) rfl hl.1 rfl (Nat.le_of_ble_eq_true rfl) (pc := 1467) dL_law_1467 kk) ?_
      refine sp_m (aw_aload_n (pc := 1470) dL_law_1470 rfl (lv_at hl 2 rfl)) ?_
      refine sp_g fun s351 => ?_
      refine sp_b fun p350 ep350 => ?_
      refine sp_m (G' := AW (KL_law l D h0 hE v) p350.2 (1474) ls (.int p350.1 :: .int p348.1 :: [])) (fun kk => aw_callV (As := []) (metX7_surely _ _ ep350) (rcv_o okX7 s351) rfl mok_X7_surely q2131 q2132 q2133 q125 q2134 (Nat.le_of_ble_eq_true rfl) (Nat.le_of_ble_eq_true rfl) rfl hl.1 rfl (Nat.le_of_ble_eq_true rfl) (pc := 1471) dL_law_1471 kk) ?_
      refine sp_if (fun c352 => ?_) (fun c352 => ?_)
      · refine sp_m (aw_icmp_eq_t (tgt := 2028) (pc := 1474) dL_law_1474 (by decide) c352) ?_
        exact hj2028_1 p350.2 ls (lv_sub hl [0, 1, 2, 3, 4] rfl)
      · refine sp_m (aw_icmp_eq_f (tgt := 2028) (pc := 1474) dL_law_1474 (by decide) c352) ?_
        refine sp_m (aw_iconst (v := 0) (pc := 1477) dL_law_1477 rfl) ?_
        exact sp_r fun hz => aw_zret (nar_b (Or.inl rfl)) hz rfl rfl rfl (pc := 1478) dL_law_1478
    refine sp_if (fun c353 => ?_) (fun c353 => ?_)
    · refine sp_m (aw_tableIn (tgt := 1479) (pc := 40) dL_law_40 (by rw [c353]; decide) (by rw [c353]; decide) (by rw [c353] <;> rfl) (by decide)) ?_
      refine sp_m (aw_aload_n (pc := 1479) dL_law_1479 rfl (lv_at hl 1 rfl)) ?_
      refine sp_g fun s355 => ?_
      refine sp_b fun p354 ep354 => ?_
      refine sp_m (G' := AW (KL_law l D h0 hE v) p354.2 (1483) ls (.int p354.1 :: [])) (fun kk => aw_callV (As := []) (metX1_ask _ _ ep354) (rcv_o okX1 s355) rfl mok_X1_ask q1356 q1357 q1358 q116 q1359 (Nat.le_of_ble_eq_true rfl) (Nat.le_of_ble_eq_true rfl) rfl hl.1 rfl (Nat.le_of_ble_eq_true rfl) (pc := 1480) dL_law_1480 kk) ?_
      refine sp_m (aw_aload_n (pc := 1483) dL_law_1483 rfl (lv_at hl 2 rfl)) ?_
      refine sp_g fun s357 => ?_
      refine sp_b fun p356 ep356 => ?_
      refine sp_m (G' := AW (KL_law l D h0 hE v) p356.2 (1487) ls (.int p356.1 :: .int p354.1 :: [])) (fun kk => aw_callV (As := []) (metX7_ask _ _ ep356) (rcv_o okX7 s357) rfl mok_X7_ask q2135 q2136 q2137 q125 q2138 (Nat.le_of_ble_eq_true rfl) (Nat.le_of_ble_eq_true rfl) rfl hl.1 rfl (Nat.le_of_ble_eq_true rfl) (pc := 1484) dL_law_1484 kk) ?_
      refine sp_if (fun c358 => ?_) (fun c358 => ?_)
      · refine sp_m (aw_icmp_eq_t (tgt := 2028) (pc := 1487) dL_law_1487 (by decide) c358) ?_
        exact hj2028_1 p356.2 ls (lv_sub hl [0, 1, 2, 3, 4] rfl)
      · refine sp_m (aw_icmp_eq_f (tgt := 2028) (pc := 1487) dL_law_1487 (by decide) c358) ?_
        refine sp_m (aw_iconst (v := 0) (pc := 1490) dL_law_1490 rfl) ?_
        exact sp_r fun hz => aw_zret (nar_b (Or.inl rfl)) hz rfl rfl rfl (pc := 1491) dL_law_1491
    refine sp_if (fun c359 => ?_) (fun c359 => ?_)
    · refine sp_m (aw_tableIn (tgt := 1492) (pc := 40) dL_law_40 (by rw [c359]; decide) (by rw [c359]; decide) (by rw [c359] <;> rfl) (by decide)) ?_
      refine sp_m (aw_aload_n (pc := 1492) dL_law_1492 rfl (lv_at hl 1 rfl)) ?_
      refine sp_m (aw_aload_n (pc := 1493) dL_law_1493 rfl (lv_at hl 0 rfl)) ?_
      refine sp_m (aw_iload (pc := 1494) dL_law_1494 (lv_at hl 4 rfl)) ?_
      refine sp_m (aw_iconst (v := 1) (pc := 1496) dL_law_1496 rfl) ?_
      refine sp_m (aw_iadd (pc := 1497) dL_law_1497) ?_
      refine sp_g fun i360 => ?_
      refine sp_m (aw_sld hxs hxn i360 (pc := 1498) dL_law_1498) ?_
      refine sp_g fun s362 => ?_
      refine sp_b fun p361 ep361 => ?_
      refine sp_m (G' := AW (KL_law l D h0 hE v) p361.2 (1502) ls (.int p361.1 :: [])) (fun kk => aw_callV (As := [.int (xs (ix (s6v.1 + 1)))]) (metX1_turnedBy _ _ ep361) (rcv_o okX1 s362) rfl mok_X1_turnedBy q1365 q1366 q1367 q116 q1368 (Nat.le_of_ble_eq_true rfl) (Nat.le_of_ble_eq_true rfl) rfl hl.1 rfl (Nat.le_of_ble_eq_true rfl) (pc := 1499) dL_law_1499 kk) ?_
      refine sp_m (aw_aload_n (pc := 1502) dL_law_1502 rfl (lv_at hl 2 rfl)) ?_
      refine sp_m (aw_aload_n (pc := 1503) dL_law_1503 rfl (lv_at hl 0 rfl)) ?_
      refine sp_m (aw_iload (pc := 1504) dL_law_1504 (lv_at hl 4 rfl)) ?_
      refine sp_m (aw_iconst (v := 1) (pc := 1506) dL_law_1506 rfl) ?_
      refine sp_m (aw_iadd (pc := 1507) dL_law_1507) ?_
      refine sp_g fun i363 => ?_
      refine sp_m (aw_sld hxs hxn i363 (pc := 1508) dL_law_1508) ?_
      refine sp_g fun s365 => ?_
      refine sp_b fun p364 ep364 => ?_
      refine sp_m (G' := AW (KL_law l D h0 hE v) p364.2 (1512) ls (.int p364.1 :: .int p361.1 :: [])) (fun kk => aw_callV (As := [.int (xs (ix (s6v.1 + 1)))]) (metX7_turnedBy _ _ ep364) (rcv_o okX7 s365) rfl mok_X7_turnedBy q2143 q2144 q2145 q125 q2146 (Nat.le_of_ble_eq_true rfl) (Nat.le_of_ble_eq_true rfl) rfl hl.1 rfl (Nat.le_of_ble_eq_true rfl) (pc := 1509) dL_law_1509 kk) ?_
      refine sp_if (fun c366 => ?_) (fun c366 => ?_)
      · refine sp_m (aw_icmp_eq_t (tgt := 2028) (pc := 1512) dL_law_1512 (by decide) c366) ?_
        exact hj2028_1 p364.2 ls (lv_sub hl [0, 1, 2, 3, 4] rfl)
      · refine sp_m (aw_icmp_eq_f (tgt := 2028) (pc := 1512) dL_law_1512 (by decide) c366) ?_
        refine sp_m (aw_iconst (v := 0) (pc := 1515) dL_law_1515 rfl) ?_
        exact sp_r fun hz => aw_zret (nar_b (Or.inl rfl)) hz rfl rfl rfl (pc := 1516) dL_law_1516
    refine sp_if (fun c367 => ?_) (fun c367 => ?_)
    · refine sp_m (aw_tableIn (tgt := 1517) (pc := 40) dL_law_40 (by rw [c367]; decide) (by rw [c367]; decide) (by rw [c367] <;> rfl) (by decide)) ?_
      refine sp_m (aw_aload_n (pc := 1517) dL_law_1517 rfl (lv_at hl 1 rfl)) ?_
      refine sp_m (aw_aload_n (pc := 1518) dL_law_1518 rfl (lv_at hl 0 rfl)) ?_
      refine sp_m (aw_iload (pc := 1519) dL_law_1519 (lv_at hl 4 rfl)) ?_
      refine sp_m (aw_iconst (v := 1) (pc := 1521) dL_law_1521 rfl) ?_
      refine sp_m (aw_iadd (pc := 1522) dL_law_1522) ?_
      refine sp_g fun i368 => ?_
      refine sp_m (aw_sld hxs hxn i368 (pc := 1523) dL_law_1523) ?_
      refine sp_m (aw_aload_n (pc := 1524) dL_law_1524 rfl (lv_at hl 0 rfl)) ?_
      refine sp_m (aw_iload (pc := 1525) dL_law_1525 (lv_at hl 4 rfl)) ?_
      refine sp_m (aw_iconst (v := 2) (pc := 1527) dL_law_1527 rfl) ?_
      refine sp_m (aw_iadd (pc := 1528) dL_law_1528) ?_
      refine sp_g fun i369 => ?_
      refine sp_m (aw_sld hxs hxn i369 (pc := 1529) dL_law_1529) ?_
      refine sp_m (aw_aload_n (pc := 1530) dL_law_1530 rfl (lv_at hl 0 rfl)) ?_
      refine sp_m (aw_iload (pc := 1531) dL_law_1531 (lv_at hl 4 rfl)) ?_
      refine sp_m (aw_iconst (v := 3) (pc := 1533) dL_law_1533 rfl) ?_
      refine sp_m (aw_iadd (pc := 1534) dL_law_1534) ?_
      refine sp_g fun i370 => ?_
      refine sp_m (aw_sld hxs hxn i370 (pc := 1535) dL_law_1535) ?_
      have hj1544_22 : ∀ j371 : Int32, ∀ ls : Array Slot, lv_has ls 7 [(0, .ref (sb D)), (1, .ref (gZ h0)), (2, .ref (gZ p2)), (3, .ref (gZ p4)), (4, .int s6v.1)] → SP (L_law_j1544 h0 xs xn p2 s6v j371) (ZL P6 (fun z => z = (v, hE))) (AW (KL_law l D h0 hE v) s6v.2 1544 ls (.int j371 :: .int (xs (ix (s6v.1 + 2))) :: .int (xs (ix (s6v.1 + 1))) :: .ref (gZ h0) :: [])) := by
        intro j371 ls hl
        unfold L_law_j1544
        refine sp_g fun s373 => ?_
        refine sp_b fun p372 ep372 => ?_
        refine sp_m (G' := AW (KL_law l D h0 hE v) p372.2 (1547) ls (.int p372.1 :: [])) (fun kk => aw_callV (As := [.int (xs (ix (s6v.1 + 1))), .int (xs (ix (s6v.1 + 2))), .int j371]) (metX1_battles _ _ ep372) (rcv_o okX1 s373) rfl mok_X1_battles q1369 q1370 q1371 q116 q1372 (Nat.le_of_ble_eq_true rfl) (Nat.le_of_ble_eq_true rfl) rfl hl.1 rfl (Nat.le_of_ble_eq_true rfl) (pc := 1544) dL_law_1544 kk) ?_
        refine sp_m (aw_aload_n (pc := 1547) dL_law_1547 rfl (lv_at hl 2 rfl)) ?_
        refine sp_m (aw_aload_n (pc := 1548) dL_law_1548 rfl (lv_at hl 0 rfl)) ?_
        refine sp_m (aw_iload (pc := 1549) dL_law_1549 (lv_at hl 4 rfl)) ?_
        refine sp_m (aw_iconst (v := 1) (pc := 1551) dL_law_1551 rfl) ?_
        refine sp_m (aw_iadd (pc := 1552) dL_law_1552) ?_
        refine sp_g fun i374 => ?_
        refine sp_m (aw_sld hxs hxn i374 (pc := 1553) dL_law_1553) ?_
        refine sp_m (aw_aload_n (pc := 1554) dL_law_1554 rfl (lv_at hl 0 rfl)) ?_
        refine sp_m (aw_iload (pc := 1555) dL_law_1555 (lv_at hl 4 rfl)) ?_
        refine sp_m (aw_iconst (v := 2) (pc := 1557) dL_law_1557 rfl) ?_
        refine sp_m (aw_iadd (pc := 1558) dL_law_1558) ?_
        refine sp_g fun i375 => ?_
        refine sp_m (aw_sld hxs hxn i375 (pc := 1559) dL_law_1559) ?_
        refine sp_m (aw_aload_n (pc := 1560) dL_law_1560 rfl (lv_at hl 0 rfl)) ?_
        refine sp_m (aw_iload (pc := 1561) dL_law_1561 (lv_at hl 4 rfl)) ?_
        refine sp_m (aw_iconst (v := 3) (pc := 1563) dL_law_1563 rfl) ?_
        refine sp_m (aw_iadd (pc := 1564) dL_law_1564) ?_
        refine sp_g fun i376 => ?_
        refine sp_m (aw_sld hxs hxn i376 (pc := 1565) dL_law_1565) ?_
        have hj1574_23 : ∀ j377 : Int32, ∀ ls : Array Slot, lv_has ls 7 [(0, .ref (sb D)), (1, .ref (gZ h0)), (2, .ref (gZ p2)), (3, .ref (gZ p4)), (4, .int s6v.1)] → SP (L_law_j1574 xs p2 s6v p372 j377) (ZL P6 (fun z => z = (v, hE))) (AW (KL_law l D h0 hE v) p372.2 1574 ls (.int j377 :: .int (xs (ix (s6v.1 + 2))) :: .int (xs (ix (s6v.1 + 1))) :: .ref (gZ p2) :: .int p372.1 :: [])) := by
          intro j377 ls hl
          unfold L_law_j1574
          refine sp_g fun s379 => ?_
          refine sp_b fun p378 ep378 => ?_
          refine sp_m (G' := AW (KL_law l D h0 hE v) p378.2 (1577) ls (.int p378.1 :: .int p372.1 :: [])) (fun kk => aw_callV (As := [.int (xs (ix (s6v.1 + 1))), .int (xs (ix (s6v.1 + 2))), .int j377]) (metX7_battles _ _ ep378) (rcv_o okX7 s379) rfl mok_X7_battles q2147 q2148 q2149 q125 q2150 (Nat.le_of_ble_eq_true rfl) (Nat.le_of_ble_eq_true rfl) rfl hl.1 rfl (Nat.le_of_ble_eq_true rfl) (pc := 1574) dL_law_1574 kk) ?_
          refine sp_if (fun c380 => ?_) (fun c380 => ?_)
          · refine sp_m (aw_icmp_eq_t (tgt := 2028) (pc := 1577) dL_law_1577 (by decide) c380) ?_
            exact hj2028_1 p378.2 ls (lv_sub hl [0, 1, 2, 3, 4] rfl)
          · refine sp_m (aw_icmp_eq_f (tgt := 2028) (pc := 1577) dL_law_1577 (by decide) c380) ?_
            refine sp_m (aw_iconst (v := 0) (pc := 1580) dL_law_1580 rfl) ?_
            exact sp_r fun hz => aw_zret (nar_b (Or.inl rfl)) hz rfl rfl rfl (pc := 1581) dL_law_1581
        refine sp_if (fun c381 => ?_) (fun c381 => ?_)
        · refine sp_m (aw_if_eq_t (tgt := 1573) (pc := 1566) dL_law_1566 (by decide) c381) ?_
          refine sp_m (aw_iconst (v := 0) (pc := 1573) dL_law_1573 rfl) ?_
          exact hj1574_23 0 ls (lv_sub hl [0, 1, 2, 3, 4] rfl)
        · refine sp_m (aw_if_eq_f (tgt := 1573) (pc := 1566) dL_law_1566 (by decide) c381) ?_
          refine sp_m (aw_iconst (v := 1) (pc := 1569) dL_law_1569 rfl) ?_
          refine sp_m (aw_goto (tgt := 1574) (pc := 1570) dL_law_1570 (by decide)) ?_
          exact hj1574_23 1 ls (lv_sub hl [0, 1, 2, 3, 4] rfl)
      refine sp_if (fun c382 => ?_) (fun c382 => ?_)
      · refine sp_m (aw_if_eq_t (tgt := 1543) (pc := 1536) dL_law_1536 (by decide) c382) ?_
        refine sp_m (aw_iconst (v := 0) (pc := 1543) dL_law_1543 rfl) ?_
        exact hj1544_22 0 ls (lv_sub hl [0, 1, 2, 3, 4] rfl)
      · refine sp_m (aw_if_eq_f (tgt := 1543) (pc := 1536) dL_law_1536 (by decide) c382) ?_
        refine sp_m (aw_iconst (v := 1) (pc := 1539) dL_law_1539 rfl) ?_
        refine sp_m (aw_goto (tgt := 1544) (pc := 1540) dL_law_1540 (by decide)) ?_
        exact hj1544_22 1 ls (lv_sub hl [0, 1, 2, 3, 4] rfl)
    refine sp_if (fun c383 => ?_) (fun c383 => ?_)
    · refine sp_m (aw_tableIn (tgt := 1582) (pc := 40) dL_law_40 (by rw [c383]; decide) (by rw [c383]; decide) (by rw [c383] <;> rfl) (by decide)) ?_
      refine sp_m (aw_aload_n (pc := 1582) dL_law_1582 rfl (lv_at hl 1 rfl)) ?_
      refine sp_m (aw_aload_n (pc := 1583) dL_law_1583 rfl (lv_at hl 0 rfl)) ?_
      refine sp_m (aw_iload (pc := 1584) dL_law_1584 (lv_at hl 4 rfl)) ?_
      refine sp_m (aw_iconst (v := 1) (pc := 1586) dL_law_1586 rfl) ?_
      refine sp_m (aw_iadd (pc := 1587) dL_law_1587) ?_
      refine sp_g fun i384 => ?_
      refine sp_m (aw_sld hxs hxn i384 (pc := 1588) dL_law_1588) ?_
      refine sp_m (aw_aload_n (pc := 1589) dL_law_1589 rfl (lv_at hl 0 rfl)) ?_
      refine sp_m (aw_iload (pc := 1590) dL_law_1590 (lv_at hl 4 rfl)) ?_
      refine sp_m (aw_iconst (v := 2) (pc := 1592) dL_law_1592 rfl) ?_
      refine sp_m (aw_iadd (pc := 1593) dL_law_1593) ?_
      refine sp_g fun i385 => ?_
      refine sp_m (aw_sld hxs hxn i385 (pc := 1594) dL_law_1594) ?_
      refine sp_g fun s387 => ?_
      refine sp_b fun p386 ep386 => ?_
      refine sp_m (G' := AW (KL_law l D h0 hE v) p386.2 (1598) ls (.int p386.1 :: [])) (fun kk => aw_callV (As := [.int (xs (ix (s6v.1 + 1))), .int (xs (ix (s6v.1 + 2)))]) (metX1_won _ _ ep386) (rcv_o okX1 s387) rfl mok_X1_won q1398 q1399 q1400 q116 q1401 (Nat.le_of_ble_eq_true rfl) (Nat.le_of_ble_eq_true rfl) rfl hl.1 rfl (Nat.le_of_ble_eq_true rfl) (pc := 1595) dL_law_1595 kk) ?_
      refine sp_m (aw_aload_n (pc := 1598) dL_law_1598 rfl (lv_at hl 2 rfl)) ?_
      refine sp_m (aw_aload_n (pc := 1599) dL_law_1599 rfl (lv_at hl 0 rfl)) ?_
      refine sp_m (aw_iload (pc := 1600) dL_law_1600 (lv_at hl 4 rfl)) ?_
      refine sp_m (aw_iconst (v := 1) (pc := 1602) dL_law_1602 rfl) ?_
      refine sp_m (aw_iadd (pc := 1603) dL_law_1603) ?_
      refine sp_g fun i388 => ?_
      refine sp_m (aw_sld hxs hxn i388 (pc := 1604) dL_law_1604) ?_
      refine sp_m (aw_aload_n (pc := 1605) dL_law_1605 rfl (lv_at hl 0 rfl)) ?_
      refine sp_m (aw_iload (pc := 1606) dL_law_1606 (lv_at hl 4 rfl)) ?_
      refine sp_m (aw_iconst (v := 2) (pc := 1608) dL_law_1608 rfl) ?_
      refine sp_m (aw_iadd (pc := 1609) dL_law_1609) ?_
      refine sp_g fun i389 => ?_
      refine sp_m (aw_sld hxs hxn i389 (pc := 1610) dL_law_1610) ?_
      refine sp_g fun s391 => ?_
      refine sp_b fun p390 ep390 => ?_
      refine sp_m (G' := AW (KL_law l D h0 hE v) p390.2 (1614) ls (.int p390.1 :: .int p386.1 :: [])) (fun kk => aw_callV (As := [.int (xs (ix (s6v.1 + 1))), .int (xs (ix (s6v.1 + 2)))]) (metX7_won _ _ ep390) (rcv_o okX7 s391) rfl mok_X7_won q2175 q2176 q2177 q125 q2178 (Nat.le_of_ble_eq_true rfl) (Nat.le_of_ble_eq_true rfl) rfl hl.1 rfl (Nat.le_of_ble_eq_true rfl) (pc := 1611) dL_law_1611 kk) ?_
      refine sp_if (fun c392 => ?_) (fun c392 => ?_)
      · refine sp_m (aw_icmp_eq_t (tgt := 2028) (pc := 1614) dL_law_1614 (by decide) c392) ?_
        exact hj2028_1 p390.2 ls (lv_sub hl [0, 1, 2, 3, 4] rfl)
      · refine sp_m (aw_icmp_eq_f (tgt := 2028) (pc := 1614) dL_law_1614 (by decide) c392) ?_
        refine sp_m (aw_iconst (v := 0) (pc := 1617) dL_law_1617 rfl) ?_
        exact sp_r fun hz => aw_zret (nar_b (Or.inl rfl)) hz rfl rfl rfl (pc := 1618) dL_law_1618
    refine sp_if (fun c393 => ?_) (fun c393 => ?_)
    · refine sp_m (aw_tableIn (tgt := 1619) (pc := 40) dL_law_40 (by rw [c393]; decide) (by rw [c393]; decide) (by rw [c393] <;> rfl) (by decide)) ?_
      refine sp_m (aw_aload_n (pc := 1619) dL_law_1619 rfl (lv_at hl 1 rfl)) ?_
      refine sp_m (aw_aload_n (pc := 1620) dL_law_1620 rfl (lv_at hl 0 rfl)) ?_
      refine sp_m (aw_iload (pc := 1621) dL_law_1621 (lv_at hl 4 rfl)) ?_
      refine sp_m (aw_iconst (v := 1) (pc := 1623) dL_law_1623 rfl) ?_
      refine sp_m (aw_iadd (pc := 1624) dL_law_1624) ?_
      refine sp_g fun i394 => ?_
      refine sp_m (aw_sld hxs hxn i394 (pc := 1625) dL_law_1625) ?_
      refine sp_m (aw_aload_n (pc := 1626) dL_law_1626 rfl (lv_at hl 0 rfl)) ?_
      refine sp_m (aw_iload (pc := 1627) dL_law_1627 (lv_at hl 4 rfl)) ?_
      refine sp_m (aw_iconst (v := 2) (pc := 1629) dL_law_1629 rfl) ?_
      refine sp_m (aw_iadd (pc := 1630) dL_law_1630) ?_
      refine sp_g fun i395 => ?_
      refine sp_m (aw_sld hxs hxn i395 (pc := 1631) dL_law_1631) ?_
      refine sp_m (aw_aload_n (pc := 1632) dL_law_1632 rfl (lv_at hl 0 rfl)) ?_
      refine sp_m (aw_iload (pc := 1633) dL_law_1633 (lv_at hl 4 rfl)) ?_
      refine sp_m (aw_iconst (v := 3) (pc := 1635) dL_law_1635 rfl) ?_
      refine sp_m (aw_iadd (pc := 1636) dL_law_1636) ?_
      refine sp_g fun i396 => ?_
      refine sp_m (aw_sld hxs hxn i396 (pc := 1637) dL_law_1637) ?_
      refine sp_g fun s398 => ?_
      refine sp_b fun p397 ep397 => ?_
      refine sp_m (G' := AW (KL_law l D h0 hE v) p397.2 (1641) ls (.int p397.1 :: [])) (fun kk => aw_callV (As := [.int (xs (ix (s6v.1 + 1))), .int (xs (ix (s6v.1 + 2))), .int (xs (ix (s6v.1 + 3)))]) (metX1_acrossIn _ _ ep397) (rcv_o okX1 s398) rfl mok_X1_acrossIn q1402 q1403 q1404 q116 q1405 (Nat.le_of_ble_eq_true rfl) (Nat.le_of_ble_eq_true rfl) rfl hl.1 rfl (Nat.le_of_ble_eq_true rfl) (pc := 1638) dL_law_1638 kk) ?_
      refine sp_m (aw_aload_n (pc := 1641) dL_law_1641 rfl (lv_at hl 2 rfl)) ?_
      refine sp_m (aw_aload_n (pc := 1642) dL_law_1642 rfl (lv_at hl 0 rfl)) ?_
      refine sp_m (aw_iload (pc := 1643) dL_law_1643 (lv_at hl 4 rfl)) ?_
      refine sp_m (aw_iconst (v := 1) (pc := 1645) dL_law_1645 rfl) ?_
      refine sp_m (aw_iadd (pc := 1646) dL_law_1646) ?_
      refine sp_g fun i399 => ?_
      refine sp_m (aw_sld hxs hxn i399 (pc := 1647) dL_law_1647) ?_
      refine sp_m (aw_aload_n (pc := 1648) dL_law_1648 rfl (lv_at hl 0 rfl)) ?_
      refine sp_m (aw_iload (pc := 1649) dL_law_1649 (lv_at hl 4 rfl)) ?_
      refine sp_m (aw_iconst (v := 2) (pc := 1651) dL_law_1651 rfl) ?_
      refine sp_m (aw_iadd (pc := 1652) dL_law_1652) ?_
      refine sp_g fun i400 => ?_
      refine sp_m (aw_sld hxs hxn i400 (pc := 1653) dL_law_1653) ?_
      refine sp_m (aw_aload_n (pc := 1654) dL_law_1654 rfl (lv_at hl 0 rfl)) ?_
      refine sp_m (aw_iload (pc := 1655) dL_law_1655 (lv_at hl 4 rfl)) ?_
      refine sp_m (aw_iconst (v := 3) (pc := 1657) dL_law_1657 rfl) ?_
      refine sp_m (aw_iadd (pc := 1658) dL_law_1658) ?_
      refine sp_g fun i401 => ?_
      refine sp_m (aw_sld hxs hxn i401 (pc := 1659) dL_law_1659) ?_
      refine sp_g fun s403 => ?_
      refine sp_b fun p402 ep402 => ?_
      refine sp_m (G' := AW (KL_law l D h0 hE v) p402.2 (1663) ls (.int p402.1 :: .int p397.1 :: [])) (fun kk => aw_callV (As := [.int (xs (ix (s6v.1 + 1))), .int (xs (ix (s6v.1 + 2))), .int (xs (ix (s6v.1 + 3)))]) (metX7_acrossIn _ _ ep402) (rcv_o okX7 s403) rfl mok_X7_acrossIn q2179 q2180 q2181 q125 q2182 (Nat.le_of_ble_eq_true rfl) (Nat.le_of_ble_eq_true rfl) rfl hl.1 rfl (Nat.le_of_ble_eq_true rfl) (pc := 1660) dL_law_1660 kk) ?_
      refine sp_if (fun c404 => ?_) (fun c404 => ?_)
      · refine sp_m (aw_icmp_eq_t (tgt := 2028) (pc := 1663) dL_law_1663 (by decide) c404) ?_
        exact hj2028_1 p402.2 ls (lv_sub hl [0, 1, 2, 3, 4] rfl)
      · refine sp_m (aw_icmp_eq_f (tgt := 2028) (pc := 1663) dL_law_1663 (by decide) c404) ?_
        refine sp_m (aw_iconst (v := 0) (pc := 1666) dL_law_1666 rfl) ?_
        exact sp_r fun hz => aw_zret (nar_b (Or.inl rfl)) hz rfl rfl rfl (pc := 1667) dL_law_1667
    refine sp_if (fun c405 => ?_) (fun c405 => ?_)
    · refine sp_m (aw_tableIn (tgt := 1668) (pc := 40) dL_law_40 (by rw [c405]; decide) (by rw [c405]; decide) (by rw [c405] <;> rfl) (by decide)) ?_
      refine sp_m (aw_aload_n (pc := 1668) dL_law_1668 rfl (lv_at hl 1 rfl)) ?_
      refine sp_m (aw_aload_n (pc := 1669) dL_law_1669 rfl (lv_at hl 0 rfl)) ?_
      refine sp_m (aw_iload (pc := 1670) dL_law_1670 (lv_at hl 4 rfl)) ?_
      refine sp_m (aw_iconst (v := 1) (pc := 1672) dL_law_1672 rfl) ?_
      refine sp_m (aw_iadd (pc := 1673) dL_law_1673) ?_
      refine sp_g fun i406 => ?_
      refine sp_m (aw_sld hxs hxn i406 (pc := 1674) dL_law_1674) ?_
      refine sp_m (aw_aload_n (pc := 1675) dL_law_1675 rfl (lv_at hl 0 rfl)) ?_
      refine sp_m (aw_iload (pc := 1676) dL_law_1676 (lv_at hl 4 rfl)) ?_
      refine sp_m (aw_iconst (v := 2) (pc := 1678) dL_law_1678 rfl) ?_
      refine sp_m (aw_iadd (pc := 1679) dL_law_1679) ?_
      refine sp_g fun i407 => ?_
      refine sp_m (aw_sld hxs hxn i407 (pc := 1680) dL_law_1680) ?_
      refine sp_g fun s409 => ?_
      refine sp_b fun p408 ep408 => ?_
      refine sp_m (G' := AW (KL_law l D h0 hE v) p408.2 (1684) ls (.int p408.1 :: [])) (fun kk => aw_callV (As := [.int (xs (ix (s6v.1 + 1))), .int (xs (ix (s6v.1 + 2)))]) (metX1_move _ _ ep408) (rcv_o okX1 s409) rfl mok_X1_move q1406 q1407 q1408 q116 q1409 (Nat.le_of_ble_eq_true rfl) (Nat.le_of_ble_eq_true rfl) rfl hl.1 rfl (Nat.le_of_ble_eq_true rfl) (pc := 1681) dL_law_1681 kk) ?_
      refine sp_m (aw_aload_n (pc := 1684) dL_law_1684 rfl (lv_at hl 2 rfl)) ?_
      refine sp_m (aw_aload_n (pc := 1685) dL_law_1685 rfl (lv_at hl 0 rfl)) ?_
      refine sp_m (aw_iload (pc := 1686) dL_law_1686 (lv_at hl 4 rfl)) ?_
      refine sp_m (aw_iconst (v := 1) (pc := 1688) dL_law_1688 rfl) ?_
      refine sp_m (aw_iadd (pc := 1689) dL_law_1689) ?_
      refine sp_g fun i410 => ?_
      refine sp_m (aw_sld hxs hxn i410 (pc := 1690) dL_law_1690) ?_
      refine sp_m (aw_aload_n (pc := 1691) dL_law_1691 rfl (lv_at hl 0 rfl)) ?_
      refine sp_m (aw_iload (pc := 1692) dL_law_1692 (lv_at hl 4 rfl)) ?_
      refine sp_m (aw_iconst (v := 2) (pc := 1694) dL_law_1694 rfl) ?_
      refine sp_m (aw_iadd (pc := 1695) dL_law_1695) ?_
      refine sp_g fun i411 => ?_
      refine sp_m (aw_sld hxs hxn i411 (pc := 1696) dL_law_1696) ?_
      refine sp_g fun s413 => ?_
      refine sp_b fun p412 ep412 => ?_
      refine sp_m (G' := AW (KL_law l D h0 hE v) p412.2 (1700) ls (.int p412.1 :: .int p408.1 :: [])) (fun kk => aw_callV (As := [.int (xs (ix (s6v.1 + 1))), .int (xs (ix (s6v.1 + 2)))]) (metX7_move _ _ ep412) (rcv_o okX7 s413) rfl mok_X7_move q2183 q2184 q2185 q125 q2186 (Nat.le_of_ble_eq_true rfl) (Nat.le_of_ble_eq_true rfl) rfl hl.1 rfl (Nat.le_of_ble_eq_true rfl) (pc := 1697) dL_law_1697 kk) ?_
      refine sp_if (fun c414 => ?_) (fun c414 => ?_)
      · refine sp_m (aw_icmp_eq_t (tgt := 2028) (pc := 1700) dL_law_1700 (by decide) c414) ?_
        exact hj2028_1 p412.2 ls (lv_sub hl [0, 1, 2, 3, 4] rfl)
      · refine sp_m (aw_icmp_eq_f (tgt := 2028) (pc := 1700) dL_law_1700 (by decide) c414) ?_
        refine sp_m (aw_iconst (v := 0) (pc := 1703) dL_law_1703 rfl) ?_
        exact sp_r fun hz => aw_zret (nar_b (Or.inl rfl)) hz rfl rfl rfl (pc := 1704) dL_law_1704
    refine sp_if (fun c415 => ?_) (fun c415 => ?_)
    · refine sp_m (aw_tableIn (tgt := 1705) (pc := 40) dL_law_40 (by rw [c415]; decide) (by rw [c415]; decide) (by rw [c415] <;> rfl) (by decide)) ?_
      refine sp_m (aw_aload_n (pc := 1705) dL_law_1705 rfl (lv_at hl 1 rfl)) ?_
      refine sp_m (aw_aload_n (pc := 1706) dL_law_1706 rfl (lv_at hl 0 rfl)) ?_
      refine sp_m (aw_iload (pc := 1707) dL_law_1707 (lv_at hl 4 rfl)) ?_
      refine sp_m (aw_iconst (v := 1) (pc := 1709) dL_law_1709 rfl) ?_
      refine sp_m (aw_iadd (pc := 1710) dL_law_1710) ?_
      refine sp_g fun i416 => ?_
      refine sp_m (aw_sld hxs hxn i416 (pc := 1711) dL_law_1711) ?_
      refine sp_m (aw_aload_n (pc := 1712) dL_law_1712 rfl (lv_at hl 0 rfl)) ?_
      refine sp_m (aw_iload (pc := 1713) dL_law_1713 (lv_at hl 4 rfl)) ?_
      refine sp_m (aw_iconst (v := 2) (pc := 1715) dL_law_1715 rfl) ?_
      refine sp_m (aw_iadd (pc := 1716) dL_law_1716) ?_
      refine sp_g fun i417 => ?_
      refine sp_m (aw_sld hxs hxn i417 (pc := 1717) dL_law_1717) ?_
      refine sp_g fun s419 => ?_
      refine sp_b fun p418 ep418 => ?_
      refine sp_m (G' := AW (KL_law l D h0 hE v) p418.2 (1721) ls (.int p418.1 :: [])) (fun kk => aw_callV (As := [.int (xs (ix (s6v.1 + 1))), .int (xs (ix (s6v.1 + 2)))]) (metX1_wound _ _ ep418) (rcv_o okX1 s419) rfl mok_X1_wound q1422 q1423 q1424 q116 q1425 (Nat.le_of_ble_eq_true rfl) (Nat.le_of_ble_eq_true rfl) rfl hl.1 rfl (Nat.le_of_ble_eq_true rfl) (pc := 1718) dL_law_1718 kk) ?_
      refine sp_m (aw_aload_n (pc := 1721) dL_law_1721 rfl (lv_at hl 2 rfl)) ?_
      refine sp_m (aw_aload_n (pc := 1722) dL_law_1722 rfl (lv_at hl 0 rfl)) ?_
      refine sp_m (aw_iload (pc := 1723) dL_law_1723 (lv_at hl 4 rfl)) ?_
      refine sp_m (aw_iconst (v := 1) (pc := 1725) dL_law_1725 rfl) ?_
      refine sp_m (aw_iadd (pc := 1726) dL_law_1726) ?_
      refine sp_g fun i420 => ?_
      refine sp_m (aw_sld hxs hxn i420 (pc := 1727) dL_law_1727) ?_
      refine sp_m (aw_aload_n (pc := 1728) dL_law_1728 rfl (lv_at hl 0 rfl)) ?_
      refine sp_m (aw_iload (pc := 1729) dL_law_1729 (lv_at hl 4 rfl)) ?_
      refine sp_m (aw_iconst (v := 2) (pc := 1731) dL_law_1731 rfl) ?_
      refine sp_m (aw_iadd (pc := 1732) dL_law_1732) ?_
      refine sp_g fun i421 => ?_
      refine sp_m (aw_sld hxs hxn i421 (pc := 1733) dL_law_1733) ?_
      refine sp_g fun s423 => ?_
      refine sp_b fun p422 ep422 => ?_
      refine sp_m (G' := AW (KL_law l D h0 hE v) p422.2 (1737) ls (.int p422.1 :: .int p418.1 :: [])) (fun kk => aw_callV (As := [.int (xs (ix (s6v.1 + 1))), .int (xs (ix (s6v.1 + 2)))]) (metX7_wound _ _ ep422) (rcv_o okX7 s423) rfl mok_X7_wound q2199 q2200 q2201 q125 q2202 (Nat.le_of_ble_eq_true rfl) (Nat.le_of_ble_eq_true rfl) rfl hl.1 rfl (Nat.le_of_ble_eq_true rfl) (pc := 1734) dL_law_1734 kk) ?_
      refine sp_if (fun c424 => ?_) (fun c424 => ?_)
      · refine sp_m (aw_icmp_eq_t (tgt := 2028) (pc := 1737) dL_law_1737 (by decide) c424) ?_
        exact hj2028_1 p422.2 ls (lv_sub hl [0, 1, 2, 3, 4] rfl)
      · refine sp_m (aw_icmp_eq_f (tgt := 2028) (pc := 1737) dL_law_1737 (by decide) c424) ?_
        refine sp_m (aw_iconst (v := 0) (pc := 1740) dL_law_1740 rfl) ?_
        exact sp_r fun hz => aw_zret (nar_b (Or.inl rfl)) hz rfl rfl rfl (pc := 1741) dL_law_1741
    refine sp_if (fun c425 => ?_) (fun c425 => ?_)
    · refine sp_m (aw_tableIn (tgt := 1742) (pc := 40) dL_law_40 (by rw [c425]; decide) (by rw [c425]; decide) (by rw [c425] <;> rfl) (by decide)) ?_
      refine sp_m (aw_aload_n (pc := 1742) dL_law_1742 rfl (lv_at hl 1 rfl)) ?_
      refine sp_m (aw_aload_n (pc := 1743) dL_law_1743 rfl (lv_at hl 0 rfl)) ?_
      refine sp_m (aw_iload (pc := 1744) dL_law_1744 (lv_at hl 4 rfl)) ?_
      refine sp_m (aw_iconst (v := 1) (pc := 1746) dL_law_1746 rfl) ?_
      refine sp_m (aw_iadd (pc := 1747) dL_law_1747) ?_
      refine sp_g fun i426 => ?_
      refine sp_m (aw_sld hxs hxn i426 (pc := 1748) dL_law_1748) ?_
      refine sp_g fun s428 => ?_
      refine sp_b fun p427 ep427 => ?_
      refine sp_m (G' := AW (KL_law l D h0 hE v) p427.2 (1752) ls (.int p427.1 :: [])) (fun kk => aw_callV (As := [.int (xs (ix (s6v.1 + 1)))]) (metX1_hammer _ _ ep427) (rcv_o okX1 s428) rfl mok_X1_hammer q1426 q1427 q1428 q116 q1429 (Nat.le_of_ble_eq_true rfl) (Nat.le_of_ble_eq_true rfl) rfl hl.1 rfl (Nat.le_of_ble_eq_true rfl) (pc := 1749) dL_law_1749 kk) ?_
      refine sp_m (aw_aload_n (pc := 1752) dL_law_1752 rfl (lv_at hl 2 rfl)) ?_
      refine sp_m (aw_aload_n (pc := 1753) dL_law_1753 rfl (lv_at hl 0 rfl)) ?_
      refine sp_m (aw_iload (pc := 1754) dL_law_1754 (lv_at hl 4 rfl)) ?_
      refine sp_m (aw_iconst (v := 1) (pc := 1756) dL_law_1756 rfl) ?_
      refine sp_m (aw_iadd (pc := 1757) dL_law_1757) ?_
      refine sp_g fun i429 => ?_
      refine sp_m (aw_sld hxs hxn i429 (pc := 1758) dL_law_1758) ?_
      refine sp_g fun s431 => ?_
      refine sp_b fun p430 ep430 => ?_
      refine sp_m (G' := AW (KL_law l D h0 hE v) p430.2 (1762) ls (.int p430.1 :: .int p427.1 :: [])) (fun kk => aw_callV (As := [.int (xs (ix (s6v.1 + 1)))]) (metX7_hammer _ _ ep430) (rcv_o okX7 s431) rfl mok_X7_hammer q2203 q2204 q2205 q125 q2206 (Nat.le_of_ble_eq_true rfl) (Nat.le_of_ble_eq_true rfl) rfl hl.1 rfl (Nat.le_of_ble_eq_true rfl) (pc := 1759) dL_law_1759 kk) ?_
      refine sp_if (fun c432 => ?_) (fun c432 => ?_)
      · refine sp_m (aw_icmp_eq_t (tgt := 2028) (pc := 1762) dL_law_1762 (by decide) c432) ?_
        exact hj2028_1 p430.2 ls (lv_sub hl [0, 1, 2, 3, 4] rfl)
      · refine sp_m (aw_icmp_eq_f (tgt := 2028) (pc := 1762) dL_law_1762 (by decide) c432) ?_
        refine sp_m (aw_iconst (v := 0) (pc := 1765) dL_law_1765 rfl) ?_
        exact sp_r fun hz => aw_zret (nar_b (Or.inl rfl)) hz rfl rfl rfl (pc := 1766) dL_law_1766
    refine sp_if (fun c433 => ?_) (fun c433 => ?_)
    · refine sp_m (aw_tableIn (tgt := 1767) (pc := 40) dL_law_40 (by rw [c433]; decide) (by rw [c433]; decide) (by rw [c433] <;> rfl) (by decide)) ?_
      refine sp_m (aw_aload_n (pc := 1767) dL_law_1767 rfl (lv_at hl 1 rfl)) ?_
      refine sp_m (aw_aload_n (pc := 1768) dL_law_1768 rfl (lv_at hl 0 rfl)) ?_
      refine sp_m (aw_iload (pc := 1769) dL_law_1769 (lv_at hl 4 rfl)) ?_
      refine sp_m (aw_iconst (v := 1) (pc := 1771) dL_law_1771 rfl) ?_
      refine sp_m (aw_iadd (pc := 1772) dL_law_1772) ?_
      refine sp_g fun i434 => ?_
      refine sp_m (aw_sld hxs hxn i434 (pc := 1773) dL_law_1773) ?_
      refine sp_m (aw_aload_n (pc := 1774) dL_law_1774 rfl (lv_at hl 0 rfl)) ?_
      refine sp_m (aw_iload (pc := 1775) dL_law_1775 (lv_at hl 4 rfl)) ?_
      refine sp_m (aw_iconst (v := 2) (pc := 1777) dL_law_1777 rfl) ?_
      refine sp_m (aw_iadd (pc := 1778) dL_law_1778) ?_
      refine sp_g fun i435 => ?_
      refine sp_m (aw_sld hxs hxn i435 (pc := 1779) dL_law_1779) ?_
      refine sp_g fun s437 => ?_
      refine sp_b fun p436 ep436 => ?_
      refine sp_m (G' := AW (KL_law l D h0 hE v) p436.2 (1783) ls (.int p436.1 :: [])) (fun kk => aw_callV (As := [.int (xs (ix (s6v.1 + 1))), .int (xs (ix (s6v.1 + 2)))]) (metX1_teach _ _ ep436) (rcv_o okX1 s437) rfl mok_X1_teach q1430 q1431 q1432 q116 q1433 (Nat.le_of_ble_eq_true rfl) (Nat.le_of_ble_eq_true rfl) rfl hl.1 rfl (Nat.le_of_ble_eq_true rfl) (pc := 1780) dL_law_1780 kk) ?_
      refine sp_m (aw_aload_n (pc := 1783) dL_law_1783 rfl (lv_at hl 2 rfl)) ?_
      refine sp_m (aw_aload_n (pc := 1784) dL_law_1784 rfl (lv_at hl 0 rfl)) ?_
      refine sp_m (aw_iload (pc := 1785) dL_law_1785 (lv_at hl 4 rfl)) ?_
      refine sp_m (aw_iconst (v := 1) (pc := 1787) dL_law_1787 rfl) ?_
      refine sp_m (aw_iadd (pc := 1788) dL_law_1788) ?_
      refine sp_g fun i438 => ?_
      refine sp_m (aw_sld hxs hxn i438 (pc := 1789) dL_law_1789) ?_
      refine sp_m (aw_aload_n (pc := 1790) dL_law_1790 rfl (lv_at hl 0 rfl)) ?_
      refine sp_m (aw_iload (pc := 1791) dL_law_1791 (lv_at hl 4 rfl)) ?_
      refine sp_m (aw_iconst (v := 2) (pc := 1793) dL_law_1793 rfl) ?_
      refine sp_m (aw_iadd (pc := 1794) dL_law_1794) ?_
      refine sp_g fun i439 => ?_
      refine sp_m (aw_sld hxs hxn i439 (pc := 1795) dL_law_1795) ?_
      refine sp_g fun s441 => ?_
      refine sp_b fun p440 ep440 => ?_
      refine sp_m (G' := AW (KL_law l D h0 hE v) p440.2 (1799) ls (.int p440.1 :: .int p436.1 :: [])) (fun kk => aw_callV (As := [.int (xs (ix (s6v.1 + 1))), .int (xs (ix (s6v.1 + 2)))]) (metX7_teach _ _ ep440) (rcv_o okX7 s441) rfl mok_X7_teach q2207 q2208 q2209 q125 q2210 (Nat.le_of_ble_eq_true rfl) (Nat.le_of_ble_eq_true rfl) rfl hl.1 rfl (Nat.le_of_ble_eq_true rfl) (pc := 1796) dL_law_1796 kk) ?_
      refine sp_if (fun c442 => ?_) (fun c442 => ?_)
      · refine sp_m (aw_icmp_eq_t (tgt := 2028) (pc := 1799) dL_law_1799 (by decide) c442) ?_
        exact hj2028_1 p440.2 ls (lv_sub hl [0, 1, 2, 3, 4] rfl)
      · refine sp_m (aw_icmp_eq_f (tgt := 2028) (pc := 1799) dL_law_1799 (by decide) c442) ?_
        refine sp_m (aw_iconst (v := 0) (pc := 1802) dL_law_1802 rfl) ?_
        exact sp_r fun hz => aw_zret (nar_b (Or.inl rfl)) hz rfl rfl rfl (pc := 1803) dL_law_1803
    refine sp_if (fun c443 => ?_) (fun c443 => ?_)
    · refine sp_m (aw_tableIn (tgt := 1804) (pc := 40) dL_law_40 (by rw [c443]; decide) (by rw [c443]; decide) (by rw [c443] <;> rfl) (by decide)) ?_
      refine sp_m (aw_aload_n (pc := 1804) dL_law_1804 rfl (lv_at hl 1 rfl)) ?_
      refine sp_m (aw_aload_n (pc := 1805) dL_law_1805 rfl (lv_at hl 0 rfl)) ?_
      refine sp_m (aw_iload (pc := 1806) dL_law_1806 (lv_at hl 4 rfl)) ?_
      refine sp_m (aw_iconst (v := 1) (pc := 1808) dL_law_1808 rfl) ?_
      refine sp_m (aw_iadd (pc := 1809) dL_law_1809) ?_
      refine sp_g fun i444 => ?_
      refine sp_m (aw_sld hxs hxn i444 (pc := 1810) dL_law_1810) ?_
      have hj1819_24 : ∀ j445 : Int32, ∀ ls : Array Slot, lv_has ls 7 [(0, .ref (sb D)), (1, .ref (gZ h0)), (2, .ref (gZ p2)), (3, .ref (gZ p4)), (4, .int s6v.1)] → SP (L_law_j1819 h0 xs xn p2 s6v j445) (ZL P6 (fun z => z = (v, hE))) (AW (KL_law l D h0 hE v) s6v.2 1819 ls (.int j445 :: .ref (gZ h0) :: [])) := by
        intro j445 ls hl
        unfold L_law_j1819
        refine sp_g fun s447 => ?_
        refine sp_b fun p446 ep446 => ?_
        refine sp_m (G' := AW (KL_law l D h0 hE v) p446.2 (1822) ls (.int p446.1 :: [])) (fun kk => aw_callV (As := [.int j445]) (metX1_rain _ _ ep446) (rcv_o okX1 s447) rfl mok_X1_rain q1435 q1436 q1437 q116 q1438 (Nat.le_of_ble_eq_true rfl) (Nat.le_of_ble_eq_true rfl) rfl hl.1 rfl (Nat.le_of_ble_eq_true rfl) (pc := 1819) dL_law_1819 kk) ?_
        refine sp_m (aw_aload_n (pc := 1822) dL_law_1822 rfl (lv_at hl 2 rfl)) ?_
        refine sp_m (aw_aload_n (pc := 1823) dL_law_1823 rfl (lv_at hl 0 rfl)) ?_
        refine sp_m (aw_iload (pc := 1824) dL_law_1824 (lv_at hl 4 rfl)) ?_
        refine sp_m (aw_iconst (v := 1) (pc := 1826) dL_law_1826 rfl) ?_
        refine sp_m (aw_iadd (pc := 1827) dL_law_1827) ?_
        refine sp_g fun i448 => ?_
        refine sp_m (aw_sld hxs hxn i448 (pc := 1828) dL_law_1828) ?_
        have hj1837_25 : ∀ j449 : Int32, ∀ ls : Array Slot, lv_has ls 7 [(0, .ref (sb D)), (1, .ref (gZ h0)), (2, .ref (gZ p2)), (3, .ref (gZ p4)), (4, .int s6v.1)] → SP (L_law_j1837 p2 s6v p446 j449) (ZL P6 (fun z => z = (v, hE))) (AW (KL_law l D h0 hE v) p446.2 1837 ls (.int j449 :: .ref (gZ p2) :: .int p446.1 :: [])) := by
          intro j449 ls hl
          unfold L_law_j1837
          refine sp_g fun s451 => ?_
          refine sp_b fun p450 ep450 => ?_
          refine sp_m (G' := AW (KL_law l D h0 hE v) p450.2 (1840) ls (.int p450.1 :: .int p446.1 :: [])) (fun kk => aw_callV (As := [.int j449]) (metX7_rain _ _ ep450) (rcv_o okX7 s451) rfl mok_X7_rain q2211 q2212 q2213 q125 q2214 (Nat.le_of_ble_eq_true rfl) (Nat.le_of_ble_eq_true rfl) rfl hl.1 rfl (Nat.le_of_ble_eq_true rfl) (pc := 1837) dL_law_1837 kk) ?_
          refine sp_if (fun c452 => ?_) (fun c452 => ?_)
          · refine sp_m (aw_icmp_eq_t (tgt := 2028) (pc := 1840) dL_law_1840 (by decide) c452) ?_
            exact hj2028_1 p450.2 ls (lv_sub hl [0, 1, 2, 3, 4] rfl)
          · refine sp_m (aw_icmp_eq_f (tgt := 2028) (pc := 1840) dL_law_1840 (by decide) c452) ?_
            refine sp_m (aw_iconst (v := 0) (pc := 1843) dL_law_1843 rfl) ?_
            exact sp_r fun hz => aw_zret (nar_b (Or.inl rfl)) hz rfl rfl rfl (pc := 1844) dL_law_1844
        refine sp_if (fun c453 => ?_) (fun c453 => ?_)
        · refine sp_m (aw_if_eq_t (tgt := 1836) (pc := 1829) dL_law_1829 (by decide) c453) ?_
          refine sp_m (aw_iconst (v := 0) (pc := 1836) dL_law_1836 rfl) ?_
          exact hj1837_25 0 ls (lv_sub hl [0, 1, 2, 3, 4] rfl)
        · refine sp_m (aw_if_eq_f (tgt := 1836) (pc := 1829) dL_law_1829 (by decide) c453) ?_
          refine sp_m (aw_iconst (v := 1) (pc := 1832) dL_law_1832 rfl) ?_
          refine sp_m (aw_goto (tgt := 1837) (pc := 1833) dL_law_1833 (by decide)) ?_
          exact hj1837_25 1 ls (lv_sub hl [0, 1, 2, 3, 4] rfl)
      refine sp_if (fun c454 => ?_) (fun c454 => ?_)
      · refine sp_m (aw_if_eq_t (tgt := 1818) (pc := 1811) dL_law_1811 (by decide) c454) ?_
        refine sp_m (aw_iconst (v := 0) (pc := 1818) dL_law_1818 rfl) ?_
        exact hj1819_24 0 ls (lv_sub hl [0, 1, 2, 3, 4] rfl)
      · refine sp_m (aw_if_eq_f (tgt := 1818) (pc := 1811) dL_law_1811 (by decide) c454) ?_
        refine sp_m (aw_iconst (v := 1) (pc := 1814) dL_law_1814 rfl) ?_
        refine sp_m (aw_goto (tgt := 1819) (pc := 1815) dL_law_1815 (by decide)) ?_
        exact hj1819_24 1 ls (lv_sub hl [0, 1, 2, 3, 4] rfl)
    refine sp_if (fun c455 => ?_) (fun c455 => ?_)
    · refine sp_m (aw_tableIn (tgt := 1845) (pc := 40) dL_law_40 (by rw [c455]; decide) (by rw [c455]; decide) (by rw [c455] <;> rfl) (by decide)) ?_
      refine sp_m (aw_aload_n (pc := 1845) dL_law_1845 rfl (lv_at hl 1 rfl)) ?_
      refine sp_g fun s457 => ?_
      refine sp_b fun p456 ep456 => ?_
      refine sp_m (G' := AW (KL_law l D h0 hE v) p456.2 (1849) ls (.int p456.1 :: [])) (fun kk => aw_callV (As := []) (metX1_battle _ _ ep456) (rcv_o okX1 s457) rfl mok_X1_battle q1439 q1440 q1441 q116 q1442 (Nat.le_of_ble_eq_true rfl) (Nat.le_of_ble_eq_true rfl) rfl hl.1 rfl (Nat.le_of_ble_eq_true rfl) (pc := 1846) dL_law_1846 kk) ?_
      refine sp_m (aw_aload_n (pc := 1849) dL_law_1849 rfl (lv_at hl 2 rfl)) ?_
      refine sp_g fun s459 => ?_
      refine sp_b fun p458 ep458 => ?_
      refine sp_m (G' := AW (KL_law l D h0 hE v) p458.2 (1853) ls (.int p458.1 :: .int p456.1 :: [])) (fun kk => aw_callV (As := []) (metX7_battle _ _ ep458) (rcv_o okX7 s459) rfl mok_X7_battle q2215 q2216 q2217 q125 q2218 (Nat.le_of_ble_eq_true rfl) (Nat.le_of_ble_eq_true rfl) rfl hl.1 rfl (Nat.le_of_ble_eq_true rfl) (pc := 1850) dL_law_1850 kk) ?_
      refine sp_if (fun c460 => ?_) (fun c460 => ?_)
      · refine sp_m (aw_icmp_eq_t (tgt := 2028) (pc := 1853) dL_law_1853 (by decide) c460) ?_
        exact hj2028_1 p458.2 ls (lv_sub hl [0, 1, 2, 3, 4] rfl)
      · refine sp_m (aw_icmp_eq_f (tgt := 2028) (pc := 1853) dL_law_1853 (by decide) c460) ?_
        refine sp_m (aw_iconst (v := 0) (pc := 1856) dL_law_1856 rfl) ?_
        exact sp_r fun hz => aw_zret (nar_b (Or.inl rfl)) hz rfl rfl rfl (pc := 1857) dL_law_1857
    refine sp_if (fun c461 => ?_) (fun c461 => ?_)
    · refine sp_m (aw_tableIn (tgt := 1858) (pc := 40) dL_law_40 (by rw [c461]; decide) (by rw [c461]; decide) (by rw [c461] <;> rfl) (by decide)) ?_
      refine sp_m (aw_aload_n (pc := 1858) dL_law_1858 rfl (lv_at hl 1 rfl)) ?_
      refine sp_m (aw_aload_n (pc := 1859) dL_law_1859 rfl (lv_at hl 0 rfl)) ?_
      refine sp_m (aw_iload (pc := 1860) dL_law_1860 (lv_at hl 4 rfl)) ?_
      refine sp_m (aw_iconst (v := 1) (pc := 1862) dL_law_1862 rfl) ?_
      refine sp_m (aw_iadd (pc := 1863) dL_law_1863) ?_
      refine sp_g fun i462 => ?_
      refine sp_m (aw_sld hxs hxn i462 (pc := 1864) dL_law_1864) ?_
      refine sp_g fun s464 => ?_
      refine sp_b fun p463 ep463 => ?_
      refine sp_m (G' := AW (KL_law l D h0 hE v) p463.2 (1868) ls (.int p463.1 :: [])) (fun kk => aw_callV (As := [.int (xs (ix (s6v.1 + 1)))]) (metX1_seed _ _ ep463) (rcv_o okX1 s464) rfl mok_X1_seed q1443 q1444 q1445 q116 q1446 (Nat.le_of_ble_eq_true rfl) (Nat.le_of_ble_eq_true rfl) rfl hl.1 rfl (Nat.le_of_ble_eq_true rfl) (pc := 1865) dL_law_1865 kk) ?_
      refine sp_m (aw_aload_n (pc := 1868) dL_law_1868 rfl (lv_at hl 2 rfl)) ?_
      refine sp_m (aw_aload_n (pc := 1869) dL_law_1869 rfl (lv_at hl 0 rfl)) ?_
      refine sp_m (aw_iload (pc := 1870) dL_law_1870 (lv_at hl 4 rfl)) ?_
      refine sp_m (aw_iconst (v := 1) (pc := 1872) dL_law_1872 rfl) ?_
      refine sp_m (aw_iadd (pc := 1873) dL_law_1873) ?_
      refine sp_g fun i465 => ?_
      refine sp_m (aw_sld hxs hxn i465 (pc := 1874) dL_law_1874) ?_
      refine sp_g fun s467 => ?_
      refine sp_b fun p466 ep466 => ?_
      refine sp_m (G' := AW (KL_law l D h0 hE v) p466.2 (1878) ls (.int p466.1 :: .int p463.1 :: [])) (fun kk => aw_callV (As := [.int (xs (ix (s6v.1 + 1)))]) (metX7_seed _ _ ep466) (rcv_o okX7 s467) rfl mok_X7_seed q2219 q2220 q2221 q125 q2222 (Nat.le_of_ble_eq_true rfl) (Nat.le_of_ble_eq_true rfl) rfl hl.1 rfl (Nat.le_of_ble_eq_true rfl) (pc := 1875) dL_law_1875 kk) ?_
      refine sp_if (fun c468 => ?_) (fun c468 => ?_)
      · refine sp_m (aw_icmp_eq_t (tgt := 2028) (pc := 1878) dL_law_1878 (by decide) c468) ?_
        exact hj2028_1 p466.2 ls (lv_sub hl [0, 1, 2, 3, 4] rfl)
      · refine sp_m (aw_icmp_eq_f (tgt := 2028) (pc := 1878) dL_law_1878 (by decide) c468) ?_
        refine sp_m (aw_iconst (v := 0) (pc := 1881) dL_law_1881 rfl) ?_
        exact sp_r fun hz => aw_zret (nar_b (Or.inl rfl)) hz rfl rfl rfl (pc := 1882) dL_law_1882
    refine sp_if (fun c469 => ?_) (fun c469 => ?_)
    · refine sp_m (aw_tableIn (tgt := 1883) (pc := 40) dL_law_40 (by rw [c469]; decide) (by rw [c469]; decide) (by rw [c469] <;> rfl) (by decide)) ?_
      refine sp_m (aw_aload_n (pc := 1883) dL_law_1883 rfl (lv_at hl 1 rfl)) ?_
      refine sp_g fun s471 => ?_
      refine sp_b fun p470 ep470 => ?_
      refine sp_m (G' := AW (KL_law l D h0 hE v) p470.2 (1887) ls (.int p470.1 :: [])) (fun kk => aw_callV (As := []) (metX1_undo _ _ ep470) (rcv_o okX1 s471) rfl mok_X1_undo q1447 q1448 q1449 q116 q1450 (Nat.le_of_ble_eq_true rfl) (Nat.le_of_ble_eq_true rfl) rfl hl.1 rfl (Nat.le_of_ble_eq_true rfl) (pc := 1884) dL_law_1884 kk) ?_
      refine sp_m (aw_aload_n (pc := 1887) dL_law_1887 rfl (lv_at hl 2 rfl)) ?_
      refine sp_g fun s473 => ?_
      refine sp_b fun p472 ep472 => ?_
      refine sp_m (G' := AW (KL_law l D h0 hE v) p472.2 (1891) ls (.int p472.1 :: .int p470.1 :: [])) (fun kk => aw_callV (As := []) (metX7_undo _ _ ep472) (rcv_o okX7 s473) rfl mok_X7_undo q2223 q2224 q2225 q125 q2226 (Nat.le_of_ble_eq_true rfl) (Nat.le_of_ble_eq_true rfl) rfl hl.1 rfl (Nat.le_of_ble_eq_true rfl) (pc := 1888) dL_law_1888 kk) ?_
      refine sp_if (fun c474 => ?_) (fun c474 => ?_)
      · refine sp_m (aw_icmp_eq_t (tgt := 2028) (pc := 1891) dL_law_1891 (by decide) c474) ?_
        exact hj2028_1 p472.2 ls (lv_sub hl [0, 1, 2, 3, 4] rfl)
      · refine sp_m (aw_icmp_eq_f (tgt := 2028) (pc := 1891) dL_law_1891 (by decide) c474) ?_
        refine sp_m (aw_iconst (v := 0) (pc := 1894) dL_law_1894 rfl) ?_
        exact sp_r fun hz => aw_zret (nar_b (Or.inl rfl)) hz rfl rfl rfl (pc := 1895) dL_law_1895
    refine sp_if (fun c475 => ?_) (fun c475 => ?_)
    · refine sp_m (aw_tableIn (tgt := 1896) (pc := 40) dL_law_40 (by rw [c475]; decide) (by rw [c475]; decide) (by rw [c475] <;> rfl) (by decide)) ?_
      refine sp_m (aw_aload_n (pc := 1896) dL_law_1896 rfl (lv_at hl 1 rfl)) ?_
      refine sp_g fun s477 => ?_
      refine sp_b fun p476 ep476 => ?_
      refine sp_m (G' := AW (KL_law l D h0 hE v) p476.2 (1900) ls (.int p476.1 :: [])) (fun kk => aw_callV (As := []) (metX1_mark _ _ ep476) (rcv_o okX1 s477) rfl mok_X1_mark q1451 q1452 q1453 q116 q1454 (Nat.le_of_ble_eq_true rfl) (Nat.le_of_ble_eq_true rfl) rfl hl.1 rfl (Nat.le_of_ble_eq_true rfl) (pc := 1897) dL_law_1897 kk) ?_
      refine sp_m (aw_aload_n (pc := 1900) dL_law_1900 rfl (lv_at hl 2 rfl)) ?_
      refine sp_g fun s479 => ?_
      refine sp_b fun p478 ep478 => ?_
      refine sp_m (G' := AW (KL_law l D h0 hE v) p478.2 (1904) ls (.int p478.1 :: .int p476.1 :: [])) (fun kk => aw_callV (As := []) (metX7_mark _ _ ep478) (rcv_o okX7 s479) rfl mok_X7_mark q2227 q2228 q2229 q125 q2230 (Nat.le_of_ble_eq_true rfl) (Nat.le_of_ble_eq_true rfl) rfl hl.1 rfl (Nat.le_of_ble_eq_true rfl) (pc := 1901) dL_law_1901 kk) ?_
      refine sp_if (fun c480 => ?_) (fun c480 => ?_)
      · refine sp_m (aw_icmp_eq_t (tgt := 2028) (pc := 1904) dL_law_1904 (by decide) c480) ?_
        exact hj2028_1 p478.2 ls (lv_sub hl [0, 1, 2, 3, 4] rfl)
      · refine sp_m (aw_icmp_eq_f (tgt := 2028) (pc := 1904) dL_law_1904 (by decide) c480) ?_
        refine sp_m (aw_iconst (v := 0) (pc := 1907) dL_law_1907 rfl) ?_
        exact sp_r fun hz => aw_zret (nar_b (Or.inl rfl)) hz rfl rfl rfl (pc := 1908) dL_law_1908
    refine sp_if (fun c481 => ?_) (fun c481 => ?_)
    · refine sp_m (aw_tableIn (tgt := 1909) (pc := 40) dL_law_40 (by rw [c481]; decide) (by rw [c481]; decide) (by rw [c481] <;> rfl) (by decide)) ?_
      refine sp_m (aw_aload_n (pc := 1909) dL_law_1909 rfl (lv_at hl 1 rfl)) ?_
      refine sp_m (aw_aload_n (pc := 1910) dL_law_1910 rfl (lv_at hl 0 rfl)) ?_
      refine sp_m (aw_iload (pc := 1911) dL_law_1911 (lv_at hl 4 rfl)) ?_
      refine sp_m (aw_iconst (v := 1) (pc := 1913) dL_law_1913 rfl) ?_
      refine sp_m (aw_iadd (pc := 1914) dL_law_1914) ?_
      refine sp_g fun i482 => ?_
      refine sp_m (aw_sld hxs hxn i482 (pc := 1915) dL_law_1915) ?_
      refine sp_g fun s484 => ?_
      refine sp_b fun p483 ep483 => ?_
      refine sp_m (G' := AW (KL_law l D h0 hE v) p483.2 (1919) ls (.int p483.1 :: [])) (fun kk => aw_callV (As := [.int (xs (ix (s6v.1 + 1)))]) (metX1_back _ _ ep483) (rcv_o okX1 s484) rfl mok_X1_back q1455 q1456 q1457 q116 q1458 (Nat.le_of_ble_eq_true rfl) (Nat.le_of_ble_eq_true rfl) rfl hl.1 rfl (Nat.le_of_ble_eq_true rfl) (pc := 1916) dL_law_1916 kk) ?_
      refine sp_m (aw_aload_n (pc := 1919) dL_law_1919 rfl (lv_at hl 2 rfl)) ?_
      refine sp_m (aw_aload_n (pc := 1920) dL_law_1920 rfl (lv_at hl 0 rfl)) ?_
      refine sp_m (aw_iload (pc := 1921) dL_law_1921 (lv_at hl 4 rfl)) ?_
      refine sp_m (aw_iconst (v := 1) (pc := 1923) dL_law_1923 rfl) ?_
      refine sp_m (aw_iadd (pc := 1924) dL_law_1924) ?_
      refine sp_g fun i485 => ?_
      refine sp_m (aw_sld hxs hxn i485 (pc := 1925) dL_law_1925) ?_
      refine sp_g fun s487 => ?_
      refine sp_b fun p486 ep486 => ?_
      refine sp_m (G' := AW (KL_law l D h0 hE v) p486.2 (1929) ls (.int p486.1 :: .int p483.1 :: [])) (fun kk => aw_callV (As := [.int (xs (ix (s6v.1 + 1)))]) (metX7_back _ _ ep486) (rcv_o okX7 s487) rfl mok_X7_back q2231 q2232 q2233 q125 q2234 (Nat.le_of_ble_eq_true rfl) (Nat.le_of_ble_eq_true rfl) rfl hl.1 rfl (Nat.le_of_ble_eq_true rfl) (pc := 1926) dL_law_1926 kk) ?_
      refine sp_if (fun c488 => ?_) (fun c488 => ?_)
      · refine sp_m (aw_icmp_eq_t (tgt := 2028) (pc := 1929) dL_law_1929 (by decide) c488) ?_
        exact hj2028_1 p486.2 ls (lv_sub hl [0, 1, 2, 3, 4] rfl)
      · refine sp_m (aw_icmp_eq_f (tgt := 2028) (pc := 1929) dL_law_1929 (by decide) c488) ?_
        refine sp_m (aw_iconst (v := 0) (pc := 1932) dL_law_1932 rfl) ?_
        exact sp_r fun hz => aw_zret (nar_b (Or.inl rfl)) hz rfl rfl rfl (pc := 1933) dL_law_1933
    refine sp_if (fun c489 => ?_) (fun c489 => ?_)
    · refine sp_m (aw_tableIn (tgt := 1934) (pc := 40) dL_law_40 (by rw [c489]; decide) (by rw [c489]; decide) (by rw [c489] <;> rfl) (by decide)) ?_
      refine sp_m (aw_aload_n (pc := 1934) dL_law_1934 rfl (lv_at hl 1 rfl)) ?_
      refine sp_m (aw_aload_n (pc := 1935) dL_law_1935 rfl (lv_at hl 0 rfl)) ?_
      refine sp_m (aw_iload (pc := 1936) dL_law_1936 (lv_at hl 4 rfl)) ?_
      refine sp_m (aw_iconst (v := 1) (pc := 1938) dL_law_1938 rfl) ?_
      refine sp_m (aw_iadd (pc := 1939) dL_law_1939) ?_
      refine sp_g fun i490 => ?_
      refine sp_m (aw_sld hxs hxn i490 (pc := 1940) dL_law_1940) ?_
      refine sp_m (aw_aload_n (pc := 1941) dL_law_1941 rfl (lv_at hl 3 rfl)) ?_
      refine sp_b fun p491 ep491 => ?_
      refine sp_m (G' := AW (KL_law l D h0 hE v) p491.2 (1945) ls (.int p491.1 :: [])) (fun kk => aw_callSH (As := [.ref (gZ h0), .int (xs (ix (s6v.1 + 1))), .ref (gZ p4)]) (metX0_led _ _ hst ep491) mok_X0_led q1467 q1468 q115 q1469 (Nat.le_of_ble_eq_true rfl) (Nat.le_of_ble_eq_true rfl) rfl hl.1 rfl (Nat.le_of_ble_eq_true rfl) (pc := 1942) dL_law_1942 kk) ?_
      refine sp_m (aw_istore (lv' := [(5, .int p491.1), (0, .ref (sb D)), (1, .ref (gZ h0)), (2, .ref (gZ p2)), (3, .ref (gZ p4)), (4, .int s6v.1)]) (pc := 1945) dL_law_1945 hl (by decide) rfl) (sp_all fun ls hl => ?_)
      refine sp_m (aw_aload_n (pc := 1947) dL_law_1947 rfl (lv_at hl 3 rfl)) ?_
      refine sp_m (aw_aload_n (pc := 1948) dL_law_1948 rfl (lv_at hl 1 rfl)) ?_
      refine sp_m (aw_iload (pc := 1949) dL_law_1949 (lv_at hl 5 rfl)) ?_
      refine sp_m (aw_iconst (v := 1) (pc := 1951) dL_law_1951 rfl) ?_
      refine sp_m (aw_iadd (pc := 1952) dL_law_1952) ?_
      refine sp_g fun i492 => ?_
      refine sp_m (aw_sld hxs hxn i492 (pc := 1953) dL_law_1953) ?_
      refine sp_g fun s494 => ?_
      refine sp_b fun p493 ep493 => ?_
      refine sp_m (G' := AW (KL_law l D h0 hE v) p493.2 (1957) ls (.int p493.1 :: [])) (fun kk => aw_callV (As := [.int (xs (ix (s6v.1 + 1)))]) (metX7_led _ _ ep493) (rcv_o okX7 s494) rfl mok_X7_led q2235 q2236 q2237 q125 q2238 (Nat.le_of_ble_eq_true rfl) (Nat.le_of_ble_eq_true rfl) rfl hl.1 rfl (Nat.le_of_ble_eq_true rfl) (pc := 1954) dL_law_1954 kk) ?_
      refine sp_m (aw_istore (lv' := [(6, .int p493.1), (5, .int p491.1), (0, .ref (sb D)), (1, .ref (gZ h0)), (2, .ref (gZ p2)), (3, .ref (gZ p4)), (4, .int s6v.1)]) (pc := 1957) dL_law_1957 hl (by decide) rfl) (sp_all fun ls hl => ?_)
      refine sp_m (aw_aload_n (pc := 1959) dL_law_1959 rfl (lv_at hl 4 rfl)) ?_
      refine sp_g fun s496 => ?_
      refine sp_b fun p495 ep495 => ?_
      refine sp_m (G' := AW (KL_law l D h0 hE v) p493.2 (1963) ls (.int p495 :: [])) (fun kk => aw_callV (As := []) (metX7_thrown _ _ ep495) (rcv_o okX7 s496) rfl mok_X7_thrown q1620 q1621 q1622 q125 q1623 (Nat.le_of_ble_eq_true rfl) (Nat.le_of_ble_eq_true rfl) rfl hl.1 rfl (Nat.le_of_ble_eq_true rfl) (pc := 1960) dL_law_1960 kk) ?_
      refine sp_m (aw_iload (pc := 1963) dL_law_1963 (lv_at hl 1 rfl)) ?_
      refine sp_if (fun c497 => ?_) (fun c497 => ?_)
      · refine sp_m (aw_icmp_eq_t (tgt := 1970) (pc := 1965) dL_law_1965 (by decide) c497) ?_
        refine sp_m (aw_iload (pc := 1970) dL_law_1970 (lv_at hl 1 rfl)) ?_
        have hj1987_26 : ∀ ls : Array Slot, lv_has ls 7 [(0, .ref (sb D)), (1, .ref (gZ h0)), (2, .ref (gZ p2)), (3, .ref (gZ p4)), (4, .int s6v.1)] → SP (L_law_j1987 s6v p493) (ZL P6 (fun z => z = (v, hE))) (AW (KL_law l D h0 hE v) p493.2 1987 ls ([])) := by
          intro ls hl
          unfold L_law_j1987
          refine sp_m (aw_goto (tgt := 2028) (pc := 1987) dL_law_1987 (by decide)) ?_
          exact hj2028_1 p493.2 ls (lv_sub hl [0, 1, 2, 3, 4] rfl)
        refine sp_if (fun c498 => ?_) (fun c498 => ?_)
        · refine sp_m (aw_if_ne_t (tgt := 1987) (pc := 1972) dL_law_1972 (by decide) c498) ?_
          exact hj1987_26 ls (lv_sub hl [2, 3, 4, 5, 6] rfl)
        · refine sp_m (aw_if_ne_f (tgt := 1987) (pc := 1972) dL_law_1972 (by decide) (Decidable.not_not.mp c498)) ?_
          refine sp_m (aw_aload_n (pc := 1975) dL_law_1975 rfl (lv_at hl 5 rfl)) ?_
          refine sp_m (aw_iconst (v := 0) (pc := 1976) dL_law_1976 rfl) ?_
          refine sp_g fun s499 => ?_
          refine sp_g fun i500 => ?_
          refine sp_m (aw_lald s499 i500 (pc := 1977) dL_law_1977) ?_
          refine sp_m (aw_iload (pc := 1978) dL_law_1978 (lv_at hl 0 rfl)) ?_
          refine sp_m (aw_i2l (pc := 1980) dL_law_1980) ?_
          refine sp_m (aw_lcmp (pc := 1981) dL_law_1981) ?_
          refine sp_if (fun c501 => ?_) (fun c501 => ?_)
          · refine sp_m (aw_if_eq_t (tgt := 1987) (pc := 1982) dL_law_1982 (by decide) ((lg_cmp_eq _ _).mpr c501)) ?_
            exact hj1987_26 ls (lv_sub hl [2, 3, 4, 5, 6] rfl)
          · refine sp_m (aw_if_eq_f (tgt := 1987) (pc := 1982) dL_law_1982 (by decide) (fun z => c501 ((lg_cmp_eq _ _).mp z))) ?_
            refine sp_m (aw_iconst (v := 0) (pc := 1985) dL_law_1985 rfl) ?_
            exact sp_r fun hz => aw_zret (nar_b (Or.inl rfl)) hz rfl rfl rfl (pc := 1986) dL_law_1986
      · refine sp_m (aw_icmp_eq_f (tgt := 1970) (pc := 1965) dL_law_1965 (by decide) c497) ?_
        refine sp_m (aw_iconst (v := 0) (pc := 1968) dL_law_1968 rfl) ?_
        exact sp_r fun hz => aw_zret (nar_b (Or.inl rfl)) hz rfl rfl rfl (pc := 1969) dL_law_1969
    refine sp_if (fun c502 => ?_) (fun c502 => ?_)
    · refine sp_m (aw_tableIn (tgt := 1990) (pc := 40) dL_law_40 (by rw [c502]; decide) (by rw [c502]; decide) (by rw [c502] <;> rfl) (by decide)) ?_
      refine sp_m (aw_aload_n (pc := 1990) dL_law_1990 rfl (lv_at hl 1 rfl)) ?_
      refine sp_m (aw_aload_n (pc := 1991) dL_law_1991 rfl (lv_at hl 0 rfl)) ?_
      refine sp_m (aw_iload (pc := 1992) dL_law_1992 (lv_at hl 4 rfl)) ?_
      refine sp_m (aw_iconst (v := 1) (pc := 1994) dL_law_1994 rfl) ?_
      refine sp_m (aw_iadd (pc := 1995) dL_law_1995) ?_
      refine sp_g fun i503 => ?_
      refine sp_m (aw_sld hxs hxn i503 (pc := 1996) dL_law_1996) ?_
      refine sp_g fun s505 => ?_
      refine sp_b fun p504 ep504 => ?_
      refine sp_m (G' := AW (KL_law l D h0 hE v) s6v.2 (2000) ls (.int p504 :: [])) (fun kk => aw_callV (As := [.int (xs (ix (s6v.1 + 1)))]) (metX1_size _ _ ep504) (rcv_o okX1 s505) rfl mok_X1_size q1459 q1460 q1461 q116 q1462 (Nat.le_of_ble_eq_true rfl) (Nat.le_of_ble_eq_true rfl) rfl hl.1 rfl (Nat.le_of_ble_eq_true rfl) (pc := 1997) dL_law_1997 kk) ?_
      refine sp_m (aw_aload_n (pc := 2000) dL_law_2000 rfl (lv_at hl 2 rfl)) ?_
      refine sp_m (aw_aload_n (pc := 2001) dL_law_2001 rfl (lv_at hl 0 rfl)) ?_
      refine sp_m (aw_iload (pc := 2002) dL_law_2002 (lv_at hl 4 rfl)) ?_
      refine sp_m (aw_iconst (v := 1) (pc := 2004) dL_law_2004 rfl) ?_
      refine sp_m (aw_iadd (pc := 2005) dL_law_2005) ?_
      refine sp_g fun i506 => ?_
      refine sp_m (aw_sld hxs hxn i506 (pc := 2006) dL_law_2006) ?_
      refine sp_g fun s508 => ?_
      refine sp_b fun p507 ep507 => ?_
      refine sp_m (G' := AW (KL_law l D h0 hE v) p507.2 (2010) ls (.int p507.1 :: .int p504 :: [])) (fun kk => aw_callV (As := [.int (xs (ix (s6v.1 + 1)))]) (metX7_size _ _ ep507) (rcv_o okX7 s508) rfl mok_X7_size q2239 q2240 q2241 q125 q2242 (Nat.le_of_ble_eq_true rfl) (Nat.le_of_ble_eq_true rfl) rfl hl.1 rfl (Nat.le_of_ble_eq_true rfl) (pc := 2007) dL_law_2007 kk) ?_
      refine sp_if (fun c509 => ?_) (fun c509 => ?_)
      · refine sp_m (aw_icmp_eq_t (tgt := 2028) (pc := 2010) dL_law_2010 (by decide) c509) ?_
        exact hj2028_1 p507.2 ls (lv_sub hl [0, 1, 2, 3, 4] rfl)
      · refine sp_m (aw_icmp_eq_f (tgt := 2028) (pc := 2010) dL_law_2010 (by decide) c509) ?_
        refine sp_m (aw_iconst (v := 0) (pc := 2013) dL_law_2013 rfl) ?_
        exact sp_r fun hz => aw_zret (nar_b (Or.inl rfl)) hz rfl rfl rfl (pc := 2014) dL_law_2014
    refine sp_if (fun c510 => ?_) (fun c510 => ?_)
    · refine sp_m (aw_tableIn (tgt := 2015) (pc := 40) dL_law_40 (by rw [c510]; decide) (by rw [c510]; decide) (by rw [c510] <;> rfl) (by decide)) ?_
      refine sp_m (aw_aload_n (pc := 2015) dL_law_2015 rfl (lv_at hl 1 rfl)) ?_
      refine sp_g fun s512 => ?_
      refine sp_b fun p511 ep511 => ?_
      refine sp_m (G' := AW (KL_law l D h0 hE v) s6v.2 (2019) ls (.int p511 :: [])) (fun kk => aw_callV (As := []) (metX1_trouble _ _ ep511) (rcv_o okX1 s512) rfl mok_X1_trouble q1463 q1464 q1465 q116 q1466 (Nat.le_of_ble_eq_true rfl) (Nat.le_of_ble_eq_true rfl) rfl hl.1 rfl (Nat.le_of_ble_eq_true rfl) (pc := 2016) dL_law_2016 kk) ?_
      refine sp_m (aw_aload_n (pc := 2019) dL_law_2019 rfl (lv_at hl 2 rfl)) ?_
      refine sp_g fun s514 => ?_
      refine sp_b fun p513 ep513 => ?_
      refine sp_m (G' := AW (KL_law l D h0 hE v) p513.2 (2023) ls (.int p513.1 :: .int p511 :: [])) (fun kk => aw_callV (As := []) (metX7_trouble _ _ ep513) (rcv_o okX7 s514) rfl mok_X7_trouble q2243 q2244 q2245 q125 q2246 (Nat.le_of_ble_eq_true rfl) (Nat.le_of_ble_eq_true rfl) rfl hl.1 rfl (Nat.le_of_ble_eq_true rfl) (pc := 2020) dL_law_2020 kk) ?_
      refine sp_if (fun c515 => ?_) (fun c515 => ?_)
      · refine sp_m (aw_icmp_eq_t (tgt := 2028) (pc := 2023) dL_law_2023 (by decide) c515) ?_
        exact hj2028_1 p513.2 ls (lv_sub hl [0, 1, 2, 3, 4] rfl)
      · refine sp_m (aw_icmp_eq_f (tgt := 2028) (pc := 2023) dL_law_2023 (by decide) c515) ?_
        refine sp_m (aw_iconst (v := 0) (pc := 2026) dL_law_2026 rfl) ?_
        exact sp_r fun hz => aw_zret (nar_b (Or.inl rfl)) hz rfl rfl rfl (pc := 2027) dL_law_2027
    exact sp_n
