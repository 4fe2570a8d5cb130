/-! THE START: D and the first abstract heap out of what the Statement gives (printed by wip gen/start.py) -/
set_option maxRecDepth 100000
def gvl : List Cond := flatC (Jvm.Cond.and given_1 narrow_1)
/-- a String constant: what is said of it -/
def kGood (s : State) (t : Term) (N : Nat) (f : Nat → Int32) : Prop := ∃ a v : Nat, t.eval #[] s none [] s = some (.ref a) ∧ va_O "java/lang/String" a (fun q => s.heap.size ≤ q) s s.heap ∧ va_OF "java/lang/String" "coder" "B" (.int 0) a (fun q => s.heap.size ≤ q) s s.heap ∧ va_OF "java/lang/String" "value" "[B" (.ref v) a (fun q => s.heap.size ≤ q) s s.heap ∧ va_T .byte v N (fun j => .int (f j)) (fun q => s.heap.size ≤ q) s s.heap
theorem kst_of {args : Array Value} {s : State} {own : String} {ix : Nat} {N : Nat} {f : Nat → Int32} (hN : N < 2 ^ 31) (hex : (Cond.exactly (.string own ix) "java/lang/String").before args s = true) (hco : (Cond.eq (.field (.string own ix) "java/lang/String" "coder" "B") (.int 0)).before args s = true) (har : (Cond.arrayOf (.field (.string own ix) "java/lang/String" "value" "[B") .byte).before args s = true) (hle : (Cond.eq (.length (.field (.string own ix) "java/lang/String" "value" "[B")) (.int (Int32.ofNat N))).before args s = true)
    (hel : ∀ j : Nat, j < N → (Cond.eq (.elem (.field (.string own ix) "java/lang/String" "value" "[B") (.int (Int32.ofNat j))) (.int (f j))).before args s = true) : kGood s (.string own ix) N f := by
  have hA : ∀ a : Nat, a < s.heap.size → ¬ (fun q => s.heap.size ≤ q) a := fun a h => Nat.not_le.mpr h
  obtain ⟨a, c, cA, kA, q1, q2, q3, q4, q5, q6, -⟩ := Cond.exactly_spec (args := args) (first := s) (o := none) (s := s) (idx := []) (t := .string own ix) (cls := "java/lang/String") hex
  obtain ⟨t, ht, hT⟩ := va_Tof (f := fun j => .int (f j)) (A := fun q => s.heap.size ≤ q) hN har (va_eqt hle) (fun j hj => va_eqt (hel j hj)) hA
  exact ⟨a, t, q1, ⟨cA, q3, q5, by rw [q6]; exact q2, hA a (Array.getElem?_eq_some_iff.mp q3).1⟩, vk_OFof q1 (va_eqt hco) hA, vk_OFof q1 ht hA, hT⟩
section
variable {s : State} {args : Array Value}
theorem kg_0 (gv : ∀ (i : Nat) {w : Cond}, gvl[i]? = some w → w.before args s = true) : kGood s (.string "ElephantLine$Reader" 59) (kLen 0) (kByt 0) := kst_of (args := args) (by decide) (gv 247 (by decide +kernel)) (gv 248 (by decide +kernel)) (gv 249 (by decide +kernel)) (gv 250 (by decide +kernel)) (fun j hj => by
  exact absurd hj (Nat.not_lt_zero _))
theorem kg_1 (gv : ∀ (i : Nat) {w : Cond}, gvl[i]? = some w → w.before args s = true) : kGood s (.string "ElephantLine$Reader" 90) (kLen 1) (kByt 1) := kst_of (args := args) (by decide) (gv 254 (by decide +kernel)) (gv 255 (by decide +kernel)) (gv 256 (by decide +kernel)) (gv 257 (by decide +kernel)) (fun j hj => by
  match j, hj with
  | 0, _ => exact (gv 258 (by decide +kernel))
  | 1, _ => exact (gv 259 (by decide +kernel))
  | 2, _ => exact (gv 260 (by decide +kernel))
  | 3, _ => exact (gv 261 (by decide +kernel))
  | 4, _ => exact (gv 262 (by decide +kernel))
  | k + 5, h => exact absurd h (by show ¬ k + 5 < 5; omega))
theorem kg_2 (gv : ∀ (i : Nat) {w : Cond}, gvl[i]? = some w → w.before args s = true) : kGood s (.string "ElephantLine$Reader" 92) (kLen 2) (kByt 2) := kst_of (args := args) (by decide) (gv 265 (by decide +kernel)) (gv 266 (by decide +kernel)) (gv 267 (by decide +kernel)) (gv 268 (by decide +kernel)) (fun j hj => by
  match j, hj with
  | 0, _ => exact (gv 269 (by decide +kernel))
  | 1, _ => exact (gv 270 (by decide +kernel))
  | 2, _ => exact (gv 271 (by decide +kernel))
  | 3, _ => exact (gv 272 (by decide +kernel))
  | k + 4, h => exact absurd h (by show ¬ k + 4 < 4; omega))
theorem kg_3 (gv : ∀ (i : Nat) {w : Cond}, gvl[i]? = some w → w.before args s = true) : kGood s (.string "ElephantLine$Reader" 94) (kLen 3) (kByt 3) := kst_of (args := args) (by decide) (gv 275 (by decide +kernel)) (gv 276 (by decide +kernel)) (gv 277 (by decide +kernel)) (gv 278 (by decide +kernel)) (fun j hj => by
  match j, hj with
  | 0, _ => exact (gv 279 (by decide +kernel))
  | 1, _ => exact (gv 280 (by decide +kernel))
  | 2, _ => exact (gv 281 (by decide +kernel))
  | 3, _ => exact (gv 282 (by decide +kernel))
  | 4, _ => exact (gv 283 (by decide +kernel))
  | k + 5, h => exact absurd h (by show ¬ k + 5 < 5; omega))
theorem kg_4 (gv : ∀ (i : Nat) {w : Cond}, gvl[i]? = some w → w.before args s = true) : kGood s (.string "ElephantLine$Reader" 96) (kLen 4) (kByt 4) := kst_of (args := args) (by decide) (gv 286 (by decide +kernel)) (gv 287 (by decide +kernel)) (gv 288 (by decide +kernel)) (gv 289 (by decide +kernel)) (fun j hj => by
  match j, hj with
  | 0, _ => exact (gv 290 (by decide +kernel))
  | 1, _ => exact (gv 291 (by decide +kernel))
  | 2, _ => exact (gv 292 (by decide +kernel))
  | 3, _ => exact (gv 293 (by decide +kernel))
  | k + 4, h => exact absurd h (by show ¬ k + 4 < 4; omega))
theorem kg_5 (gv : ∀ (i : Nat) {w : Cond}, gvl[i]? = some w → w.before args s = true) : kGood s (.string "ElephantLine$Reader" 98) (kLen 5) (kByt 5) := kst_of (args := args) (by decide) (gv 296 (by decide +kernel)) (gv 297 (by decide +kernel)) (gv 298 (by decide +kernel)) (gv 299 (by decide +kernel)) (fun j hj => by
  match j, hj with
  | 0, _ => exact (gv 300 (by decide +kernel))
  | 1, _ => exact (gv 301 (by decide +kernel))
  | 2, _ => exact (gv 302 (by decide +kernel))
  | 3, _ => exact (gv 303 (by decide +kernel))
  | k + 4, h => exact absurd h (by show ¬ k + 4 < 4; omega))
theorem kg_6 (gv : ∀ (i : Nat) {w : Cond}, gvl[i]? = some w → w.before args s = true) : kGood s (.string "ElephantLine$Reader" 100) (kLen 6) (kByt 6) := kst_of (args := args) (by decide) (gv 306 (by decide +kernel)) (gv 307 (by decide +kernel)) (gv 308 (by decide +kernel)) (gv 309 (by decide +kernel)) (fun j hj => by
  match j, hj with
  | 0, _ => exact (gv 310 (by decide +kernel))
  | 1, _ => exact (gv 311 (by decide +kernel))
  | 2, _ => exact (gv 312 (by decide +kernel))
  | 3, _ => exact (gv 313 (by decide +kernel))
  | 4, _ => exact (gv 314 (by decide +kernel))
  | 5, _ => exact (gv 315 (by decide +kernel))
  | k + 6, h => exact absurd h (by show ¬ k + 6 < 6; omega))
theorem kg_7 (gv : ∀ (i : Nat) {w : Cond}, gvl[i]? = some w → w.before args s = true) : kGood s (.string "ElephantLine$Reader" 167) (kLen 7) (kByt 7) := kst_of (args := args) (by decide) (gv 318 (by decide +kernel)) (gv 319 (by decide +kernel)) (gv 320 (by decide +kernel)) (gv 321 (by decide +kernel)) (fun j hj => by
  match j, hj with
  | 0, _ => exact (gv 322 (by decide +kernel))
  | 1, _ => exact (gv 323 (by decide +kernel))
  | 2, _ => exact (gv 324 (by decide +kernel))
  | 3, _ => exact (gv 325 (by decide +kernel))
  | 4, _ => exact (gv 326 (by decide +kernel))
  | k + 5, h => exact absurd h (by show ¬ k + 5 < 5; omega))
theorem kg_8 (gv : ∀ (i : Nat) {w : Cond}, gvl[i]? = some w → w.before args s = true) : kGood s (.string "ElephantLine$Reader" 172) (kLen 8) (kByt 8) := kst_of (args := args) (by decide) (gv 329 (by decide +kernel)) (gv 330 (by decide +kernel)) (gv 331 (by decide +kernel)) (gv 332 (by decide +kernel)) (fun j hj => by
  match j, hj with
  | 0, _ => exact (gv 333 (by decide +kernel))
  | 1, _ => exact (gv 334 (by decide +kernel))
  | 2, _ => exact (gv 335 (by decide +kernel))
  | 3, _ => exact (gv 336 (by decide +kernel))
  | k + 4, h => exact absurd h (by show ¬ k + 4 < 4; omega))
theorem kg_9 (gv : ∀ (i : Nat) {w : Cond}, gvl[i]? = some w → w.before args s = true) : kGood s (.string "ElephantLine$Reader" 176) (kLen 9) (kByt 9) := kst_of (args := args) (by decide) (gv 339 (by decide +kernel)) (gv 340 (by decide +kernel)) (gv 341 (by decide +kernel)) (gv 342 (by decide +kernel)) (fun j hj => by
  match j, hj with
  | 0, _ => exact (gv 343 (by decide +kernel))
  | 1, _ => exact (gv 344 (by decide +kernel))
  | 2, _ => exact (gv 345 (by decide +kernel))
  | 3, _ => exact (gv 346 (by decide +kernel))
  | k + 4, h => exact absurd h (by show ¬ k + 4 < 4; omega))
theorem kg_10 (gv : ∀ (i : Nat) {w : Cond}, gvl[i]? = some w → w.before args s = true) : kGood s (.string "ElephantLine$Reader" 178) (kLen 10) (kByt 10) := kst_of (args := args) (by decide) (gv 349 (by decide +kernel)) (gv 350 (by decide +kernel)) (gv 351 (by decide +kernel)) (gv 352 (by decide +kernel)) (fun j hj => by
  match j, hj with
  | 0, _ => exact (gv 353 (by decide +kernel))
  | 1, _ => exact (gv 354 (by decide +kernel))
  | 2, _ => exact (gv 355 (by decide +kernel))
  | 3, _ => exact (gv 356 (by decide +kernel))
  | k + 4, h => exact absurd h (by show ¬ k + 4 < 4; omega))
theorem kg_11 (gv : ∀ (i : Nat) {w : Cond}, gvl[i]? = some w → w.before args s = true) : kGood s (.string "ElephantLine$Reader" 183) (kLen 11) (kByt 11) := kst_of (args := args) (by decide) (gv 359 (by decide +kernel)) (gv 360 (by decide +kernel)) (gv 361 (by decide +kernel)) (gv 362 (by decide +kernel)) (fun j hj => by
  match j, hj with
  | 0, _ => exact (gv 363 (by decide +kernel))
  | 1, _ => exact (gv 364 (by decide +kernel))
  | 2, _ => exact (gv 365 (by decide +kernel))
  | 3, _ => exact (gv 366 (by decide +kernel))
  | k + 4, h => exact absurd h (by show ¬ k + 4 < 4; omega))
theorem kg_12 (gv : ∀ (i : Nat) {w : Cond}, gvl[i]? = some w → w.before args s = true) : kGood s (.string "ElephantLine$Reader" 192) (kLen 12) (kByt 12) := kst_of (args := args) (by decide) (gv 369 (by decide +kernel)) (gv 370 (by decide +kernel)) (gv 371 (by decide +kernel)) (gv 372 (by decide +kernel)) (fun j hj => by
  match j, hj with
  | 0, _ => exact (gv 373 (by decide +kernel))
  | 1, _ => exact (gv 374 (by decide +kernel))
  | 2, _ => exact (gv 375 (by decide +kernel))
  | 3, _ => exact (gv 376 (by decide +kernel))
  | 4, _ => exact (gv 377 (by decide +kernel))
  | k + 5, h => exact absurd h (by show ¬ k + 5 < 5; omega))
theorem kg_13 (gv : ∀ (i : Nat) {w : Cond}, gvl[i]? = some w → w.before args s = true) : kGood s (.string "ElephantLine$Reader" 208) (kLen 13) (kByt 13) := kst_of (args := args) (by decide) (gv 380 (by decide +kernel)) (gv 381 (by decide +kernel)) (gv 382 (by decide +kernel)) (gv 383 (by decide +kernel)) (fun j hj => by
  match j, hj with
  | 0, _ => exact (gv 384 (by decide +kernel))
  | 1, _ => exact (gv 385 (by decide +kernel))
  | 2, _ => exact (gv 386 (by decide +kernel))
  | 3, _ => exact (gv 387 (by decide +kernel))
  | 4, _ => exact (gv 388 (by decide +kernel))
  | k + 5, h => exact absurd h (by show ¬ k + 5 < 5; omega))
theorem kg_14 (gv : ∀ (i : Nat) {w : Cond}, gvl[i]? = some w → w.before args s = true) : kGood s (.string "ElephantLine$Reader" 215) (kLen 14) (kByt 14) := kst_of (args := args) (by decide) (gv 391 (by decide +kernel)) (gv 392 (by decide +kernel)) (gv 393 (by decide +kernel)) (gv 394 (by decide +kernel)) (fun j hj => by
  match j, hj with
  | 0, _ => exact (gv 395 (by decide +kernel))
  | 1, _ => exact (gv 396 (by decide +kernel))
  | 2, _ => exact (gv 397 (by decide +kernel))
  | 3, _ => exact (gv 398 (by decide +kernel))
  | k + 4, h => exact absurd h (by show ¬ k + 4 < 4; omega))
theorem kg_15 (gv : ∀ (i : Nat) {w : Cond}, gvl[i]? = some w → w.before args s = true) : kGood s (.string "ElephantLine$Reader" 220) (kLen 15) (kByt 15) := kst_of (args := args) (by decide) (gv 401 (by decide +kernel)) (gv 402 (by decide +kernel)) (gv 403 (by decide +kernel)) (gv 404 (by decide +kernel)) (fun j hj => by
  match j, hj with
  | 0, _ => exact (gv 405 (by decide +kernel))
  | 1, _ => exact (gv 406 (by decide +kernel))
  | 2, _ => exact (gv 407 (by decide +kernel))
  | 3, _ => exact (gv 408 (by decide +kernel))
  | 4, _ => exact (gv 409 (by decide +kernel))
  | k + 5, h => exact absurd h (by show ¬ k + 5 < 5; omega))
theorem kg_16 (gv : ∀ (i : Nat) {w : Cond}, gvl[i]? = some w → w.before args s = true) : kGood s (.string "ElephantLine$Reader" 225) (kLen 16) (kByt 16) := kst_of (args := args) (by decide) (gv 412 (by decide +kernel)) (gv 413 (by decide +kernel)) (gv 414 (by decide +kernel)) (gv 415 (by decide +kernel)) (fun j hj => by
  match j, hj with
  | 0, _ => exact (gv 416 (by decide +kernel))
  | 1, _ => exact (gv 417 (by decide +kernel))
  | 2, _ => exact (gv 418 (by decide +kernel))
  | 3, _ => exact (gv 419 (by decide +kernel))
  | 4, _ => exact (gv 420 (by decide +kernel))
  | 5, _ => exact (gv 421 (by decide +kernel))
  | k + 6, h => exact absurd h (by show ¬ k + 6 < 6; omega))
theorem kg_17 (gv : ∀ (i : Nat) {w : Cond}, gvl[i]? = some w → w.before args s = true) : kGood s (.string "ElephantLine$Reader" 238) (kLen 17) (kByt 17) := kst_of (args := args) (by decide) (gv 424 (by decide +kernel)) (gv 425 (by decide +kernel)) (gv 426 (by decide +kernel)) (gv 427 (by decide +kernel)) (fun j hj => by
  match j, hj with
  | 0, _ => exact (gv 428 (by decide +kernel))
  | 1, _ => exact (gv 429 (by decide +kernel))
  | k + 2, h => exact absurd h (by show ¬ k + 2 < 2; omega))
theorem kg_18 (gv : ∀ (i : Nat) {w : Cond}, gvl[i]? = some w → w.before args s = true) : kGood s (.string "ElephantLine$Reader" 243) (kLen 18) (kByt 18) := kst_of (args := args) (by decide) (gv 432 (by decide +kernel)) (gv 433 (by decide +kernel)) (gv 434 (by decide +kernel)) (gv 435 (by decide +kernel)) (fun j hj => by
  match j, hj with
  | 0, _ => exact (gv 436 (by decide +kernel))
  | 1, _ => exact (gv 437 (by decide +kernel))
  | 2, _ => exact (gv 438 (by decide +kernel))
  | 3, _ => exact (gv 439 (by decide +kernel))
  | k + 4, h => exact absurd h (by show ¬ k + 4 < 4; omega))
theorem kg_19 (gv : ∀ (i : Nat) {w : Cond}, gvl[i]? = some w → w.before args s = true) : kGood s (.string "ElephantLine$Reader" 247) (kLen 19) (kByt 19) := kst_of (args := args) (by decide) (gv 442 (by decide +kernel)) (gv 443 (by decide +kernel)) (gv 444 (by decide +kernel)) (gv 445 (by decide +kernel)) (fun j hj => by
  match j, hj with
  | 0, _ => exact (gv 446 (by decide +kernel))
  | 1, _ => exact (gv 447 (by decide +kernel))
  | 2, _ => exact (gv 448 (by decide +kernel))
  | 3, _ => exact (gv 449 (by decide +kernel))
  | 4, _ => exact (gv 450 (by decide +kernel))
  | k + 5, h => exact absurd h (by show ¬ k + 5 < 5; omega))
theorem kg_20 (gv : ∀ (i : Nat) {w : Cond}, gvl[i]? = some w → w.before args s = true) : kGood s (.string "ElephantLine$Reader" 271) (kLen 20) (kByt 20) := kst_of (args := args) (by decide) (gv 453 (by decide +kernel)) (gv 454 (by decide +kernel)) (gv 455 (by decide +kernel)) (gv 456 (by decide +kernel)) (fun j hj => by
  match j, hj with
  | 0, _ => exact (gv 457 (by decide +kernel))
  | 1, _ => exact (gv 458 (by decide +kernel))
  | 2, _ => exact (gv 459 (by decide +kernel))
  | 3, _ => exact (gv 460 (by decide +kernel))
  | 4, _ => exact (gv 461 (by decide +kernel))
  | k + 5, h => exact absurd h (by show ¬ k + 5 < 5; omega))
end
