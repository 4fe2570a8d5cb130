/-! THE START, on (printed by wip gen/start.py) -/
set_option maxRecDepth 100000
def tmK : Nat → Term := fun i => match i with
  | 0 => .string "ElephantLine$Reader" 59
  | 1 => .string "ElephantLine$Reader" 90
  | 2 => .string "ElephantLine$Reader" 92
  | 3 => .string "ElephantLine$Reader" 94
  | 4 => .string "ElephantLine$Reader" 96
  | 5 => .string "ElephantLine$Reader" 98
  | 6 => .string "ElephantLine$Reader" 100
  | 7 => .string "ElephantLine$Reader" 167
  | 8 => .string "ElephantLine$Reader" 172
  | 9 => .string "ElephantLine$Reader" 176
  | 10 => .string "ElephantLine$Reader" 178
  | 11 => .string "ElephantLine$Reader" 183
  | 12 => .string "ElephantLine$Reader" 192
  | 13 => .string "ElephantLine$Reader" 208
  | 14 => .string "ElephantLine$Reader" 215
  | 15 => .string "ElephantLine$Reader" 220
  | 16 => .string "ElephantLine$Reader" 225
  | 17 => .string "ElephantLine$Reader" 238
  | 18 => .string "ElephantLine$Reader" 243
  | 19 => .string "ElephantLine$Reader" 247
  | 20 => .string "ElephantLine$Reader" 271
  | _ => .string "" 0
section
variable {s : State} {args : Array Value}
theorem kg_all (gv : ∀ (i : Nat) {w : Cond}, gvl[i]? = some w → w.before args s = true) : ∃ f : Nat → Nat × Nat, ∀ i, i < nKs → (tmK i).eval #[] s none [] s = some (.ref (f i).1) ∧ va_O "java/lang/String" (f i).1 (fun q => s.heap.size ≤ q) s s.heap ∧ va_OF "java/lang/String" "coder" "B" (.int 0) (f i).1 (fun q => s.heap.size ≤ q) s s.heap ∧ va_OF "java/lang/String" "value" "[B" (.ref (f i).2) (f i).1 (fun q => s.heap.size ≤ q) s s.heap ∧ va_T .byte (f i).2 (kLen i) (fun j => .int (kByt i j)) (fun q => s.heap.size ≤ q) s s.heap := by
  have h : ∀ i, i < nKs → kGood s (tmK i) (kLen i) (kByt i) := by
    intro i hi
    match i, hi with
    | 0, _ => exact kg_0 gv
    | 1, _ => exact kg_1 gv
    | 2, _ => exact kg_2 gv
    | 3, _ => exact kg_3 gv
    | 4, _ => exact kg_4 gv
    | 5, _ => exact kg_5 gv
    | 6, _ => exact kg_6 gv
    | 7, _ => exact kg_7 gv
    | 8, _ => exact kg_8 gv
    | 9, _ => exact kg_9 gv
    | 10, _ => exact kg_10 gv
    | 11, _ => exact kg_11 gv
    | 12, _ => exact kg_12 gv
    | 13, _ => exact kg_13 gv
    | 14, _ => exact kg_14 gv
    | 15, _ => exact kg_15 gv
    | 16, _ => exact kg_16 gv
    | 17, _ => exact kg_17 gv
    | 18, _ => exact kg_18 gv
    | 19, _ => exact kg_19 gv
    | 20, _ => exact kg_20 gv
    | k + 21, h => exact absurd h (by show ¬ k + 21 < 21; omega)
  have h2 : ∀ i, ∃ q : Nat × Nat, i < nKs → (tmK i).eval #[] s none [] s = some (.ref q.1) ∧ va_O "java/lang/String" q.1 (fun q => s.heap.size ≤ q) s s.heap ∧ va_OF "java/lang/String" "coder" "B" (.int 0) q.1 (fun q => s.heap.size ≤ q) s s.heap ∧ va_OF "java/lang/String" "value" "[B" (.ref q.2) q.1 (fun q => s.heap.size ≤ q) s s.heap ∧ va_T .byte q.2 (kLen i) (fun j => .int (kByt i j)) (fun q => s.heap.size ≤ q) s s.heap := by
    intro i
    by_cases hi : i < nKs
    · obtain ⟨a, v, q1, q2⟩ := h i hi
      exact ⟨(a, v), fun _ => ⟨q1, q2⟩⟩
    · exact ⟨(0, 0), fun z => absurd z hi⟩
  obtain ⟨f, hf⟩ := Classical.axiomOfChoice h2
  exact ⟨f, hf⟩
theorem cls_all (hts : ∀ w ∈ lw_tbl, w.before args s = true) : ∃ D1 : va_G, ∀ (k : Nat) (q : vw_C), vwCl[k]? = some q → u_Kn s q.1 q.2.1 q.2.2 (D1.1 k) (D1.2 k) := by
  have hta : ∀ w ∈ lw_all, w.before args s = true := fun w hw => hts w (lw_all_tbl hw)
  have h : ∀ k : Nat, ∃ c : ClassId × (Nat → Nat), ∀ q : vw_C, vwCl[k]? = some q → u_Kn s q.1 q.2.1 q.2.2 c.1 c.2 := by
    intro k
    match k with
    | 0 =>
      obtain ⟨c, f, h⟩ := u_known (args := args) (s := s) (n := 24) hta okX1.2.2.2 (by first | exact hts _ q148 | exact hts _ (lw_all_tbl q148))
      exact ⟨(c, f), fun q hq => by cases hq; exact h⟩
    | 1 =>
      obtain ⟨c, f, h⟩ := u_known (args := args) (s := s) (n := 10) hta okX2.2.2.2 (by first | exact hts _ q156 | exact hts _ (lw_all_tbl q156))
      exact ⟨(c, f), fun q hq => by cases hq; exact h⟩
    | 2 =>
      obtain ⟨c, f, h⟩ := u_known (args := args) (s := s) (n := 8) hta okX3.2.2.2 (by first | exact hts _ q162 | exact hts _ (lw_all_tbl q162))
      exact ⟨(c, f), fun q hq => by cases hq; exact h⟩
    | 3 =>
      obtain ⟨c, f, h⟩ := u_known (args := args) (s := s) (n := 10) hta okX4.2.2.2 (by first | exact hts _ q268 | exact hts _ (lw_all_tbl q268))
      exact ⟨(c, f), fun q hq => by cases hq; exact h⟩
    | 4 =>
      obtain ⟨c, f, h⟩ := u_known (args := args) (s := s) (n := 6) hta okX5.2.2.2 (by first | exact hts _ q315 | exact hts _ (lw_all_tbl q315))
      exact ⟨(c, f), fun q hq => by cases hq; exact h⟩
    | 5 =>
      obtain ⟨c, f, h⟩ := u_known (args := args) (s := s) (n := 6) hta okX6.2.2.2 (by first | exact hts _ q341 | exact hts _ (lw_all_tbl q341))
      exact ⟨(c, f), fun q hq => by cases hq; exact h⟩
    | 6 =>
      obtain ⟨c, f, h⟩ := u_known (args := args) (s := s) (n := 39) hta okX7.2.2.2 (by first | exact hts _ q1497 | exact hts _ (lw_all_tbl q1497))
      exact ⟨(c, f), fun q hq => by cases hq; exact h⟩
    | 7 =>
      obtain ⟨c, f, h⟩ := u_known (args := args) (s := s) (n := 12) hta okX8.2.2.2 (by first | exact hts _ q468 | exact hts _ (lw_all_tbl q468))
      exact ⟨(c, f), fun q hq => by cases hq; exact h⟩
    | 8 =>
      obtain ⟨c, f, h⟩ := u_known (args := args) (s := s) (n := 4) hta okJ3.2.2.2 (by first | exact hts _ q553 | exact hts _ (lw_all_tbl q553))
      exact ⟨(c, f), fun q hq => by cases hq; exact h⟩
    | 9 =>
      obtain ⟨c, f, h⟩ := u_known (args := args) (s := s) (n := 0) hta okX9.2.2.2 (by first | exact hts _ q753 | exact hts _ (lw_all_tbl q753))
      exact ⟨(c, f), fun q hq => by cases hq; exact h⟩
    | 10 =>
      obtain ⟨c, f, h⟩ := u_known (args := args) (s := s) (n := 0) hta okX10.2.2.2 (by first | exact hts _ q761 | exact hts _ (lw_all_tbl q761))
      exact ⟨(c, f), fun q hq => by cases hq; exact h⟩
    | 11 =>
      obtain ⟨c, f, h⟩ := u_known (args := args) (s := s) (n := 0) hta okX11.2.2.2 (by first | exact hts _ q769 | exact hts _ (lw_all_tbl q769))
      exact ⟨(c, f), fun q hq => by cases hq; exact h⟩
    | 12 =>
      obtain ⟨c, f, h⟩ := u_known (args := args) (s := s) (n := 0) hta okX12.2.2.2 (by first | exact hts _ q777 | exact hts _ (lw_all_tbl q777))
      exact ⟨(c, f), fun q hq => by cases hq; exact h⟩
    | 13 =>
      obtain ⟨c, f, h⟩ := u_known (args := args) (s := s) (n := 6) hta okX15.2.2.2 (by first | exact hts _ q806 | exact hts _ (lw_all_tbl q806))
      exact ⟨(c, f), fun q hq => by cases hq; exact h⟩
    | 14 =>
      obtain ⟨c, f, h⟩ := u_known (args := args) (s := s) (n := 6) hta okX16.2.2.2 (by first | exact hts _ q848 | exact hts _ (lw_all_tbl q848))
      exact ⟨(c, f), fun q hq => by cases hq; exact h⟩
    | 15 =>
      obtain ⟨c, f, h⟩ := u_known (args := args) (s := s) (n := 6) hta okX17.2.2.2 (by first | exact hts _ q862 | exact hts _ (lw_all_tbl q862))
      exact ⟨(c, f), fun q hq => by cases hq; exact h⟩
    | 16 =>
      obtain ⟨c, f, h⟩ := u_known (args := args) (s := s) (n := 6) hta okX18.2.2.2 (by first | exact hts _ q876 | exact hts _ (lw_all_tbl q876))
      exact ⟨(c, f), fun q hq => by cases hq; exact h⟩
    | 17 =>
      obtain ⟨c, f, h⟩ := u_known (args := args) (s := s) (n := 2) hta okX19.2.2.2 (by first | exact hts _ q896 | exact hts _ (lw_all_tbl q896))
      exact ⟨(c, f), fun q hq => by cases hq; exact h⟩
    | 18 =>
      obtain ⟨c, f, h⟩ := u_known (args := args) (s := s) (n := 18) hta okX20.2.2.2 (by first | exact hts _ q1637 | exact hts _ (lw_all_tbl q1637))
      exact ⟨(c, f), fun q hq => by cases hq; exact h⟩
    | k + 19 => exact ⟨(0, fun _ => 0), fun q hq => by simp [vwCl] at hq⟩
  obtain ⟨f, hf⟩ := Classical.axiomOfChoice h
  exact ⟨(fun k => (f k).1, fun k => (f k).2), fun k q hq => hf k q hq⟩
theorem arr_all (hts : ∀ w ∈ lw_tbl, w.before args s = true) : ∃ f : Nat → ClassId, ∀ (k : Nat) (q : ClassId × FieldType), (tysD f)[k]? = some q → ArrOfT s q.1 q.2 ∧ va_RA s q.1 q.2 := by
  have h : ∀ t : Nat, ∃ c : ClassId, t < 8 → ArrOfT s c (aty t) ∧ va_RA s c (aty t) := by
    intro t
    match t with
    | 0 =>
      obtain ⟨c, k, comp, h1, h2, h3⟩ := Cond.arrayClass_spec (args := args) (s := s) (by first | exact hts _ q313 | exact hts _ (lw_all_tbl q313))
      exact ⟨c, fun _ => ⟨fun n z => ⟨fun k h => (by cases h), k, h2, comp, h3⟩, h1⟩⟩
    | 1 =>
      obtain ⟨c, k, comp, h1, h2, h3⟩ := Cond.arrayClass_spec (args := args) (s := s) (by first | exact hts _ q234 | exact hts _ (lw_all_tbl q234))
      exact ⟨c, fun _ => ⟨fun n z => ⟨fun k h => (by cases h), k, h2, comp, h3⟩, h1⟩⟩
    | 2 =>
      obtain ⟨c, k, comp, h1, h2, h3⟩ := Cond.arrayClass_spec (args := args) (s := s) (by first | exact hts _ q266 | exact hts _ (lw_all_tbl q266))
      exact ⟨c, fun _ => ⟨fun n z => ⟨fun k h => (by cases h), k, h2, comp, h3⟩, h1⟩⟩
    | 3 =>
      obtain ⟨c, k, comp, h1, h2, h3⟩ := Cond.arrayClass_spec (args := args) (s := s) (by first | exact hts _ q1708 | exact hts _ (lw_all_tbl q1708))
      exact ⟨c, fun _ => ⟨fun n z => ⟨fun k h => (by cases h), k, h2, comp, h3⟩, h1⟩⟩
    | 4 =>
      obtain ⟨comp, c, k, f1, -, f2, f3, f4⟩ := Cond.arrayOver_spec (args := args) (s := s) (by first | exact hts _ q365 | exact hts _ (lw_all_tbl q365))
      exact ⟨c, fun _ => ⟨fun n z => ⟨fun k h => (by cases h), k, f2, comp, f3⟩, k, comp, f2, f3, f1, f4⟩⟩
    | 5 =>
      obtain ⟨comp, c, k, f1, -, f2, f3, f4⟩ := Cond.arrayOver_spec (args := args) (s := s) (by first | exact hts _ q476 | exact hts _ (lw_all_tbl q476))
      exact ⟨c, fun _ => ⟨fun n z => ⟨fun k h => (by cases h), k, f2, comp, f3⟩, k, comp, f2, f3, f1, f4⟩⟩
    | 6 =>
      obtain ⟨comp, c, k, f1, -, f2, f3, f4⟩ := Cond.arrayOver_spec (args := args) (s := s) (by first | exact hts _ q474 | exact hts _ (lw_all_tbl q474))
      exact ⟨c, fun _ => ⟨fun n z => ⟨fun k h => (by cases h), k, f2, comp, f3⟩, k, comp, f2, f3, f1, f4⟩⟩
    | 7 =>
      obtain ⟨comp, c, k, f1, -, f2, f3, f4⟩ := Cond.arrayOver_spec (args := args) (s := s) (by first | exact hts _ q478 | exact hts _ (lw_all_tbl q478))
      exact ⟨c, fun _ => ⟨fun n z => ⟨fun k h => (by cases h), k, f2, comp, f3⟩, k, comp, f2, f3, f1, f4⟩⟩
    | k + 8 => exact ⟨0, fun z => absurd z (by omega)⟩
  obtain ⟨f, hf⟩ := Classical.axiomOfChoice h
  refine ⟨f, fun k q hq => ?_⟩
  match k, hq with
  | 0, hq => cases hq; exact hf 0 (by decide)
  | 1, hq => cases hq; exact hf 1 (by decide)
  | 2, hq => cases hq; exact hf 2 (by decide)
  | 3, hq => cases hq; exact hf 3 (by decide)
  | 4, hq => cases hq; exact hf 4 (by decide)
  | 5, hq => cases hq; exact hf 5 (by decide)
  | 6, hq => cases hq; exact hf 6 (by decide)
  | 7, hq => cases hq; exact hf 7 (by decide)
  | k + 8, hq => simp [tysD] at hq
theorem st_rf {C n d : String} {A : Nat → Prop} (h : va_Zq C n d A s s.heap) : ∃ r : Option Nat, va_Z C n d (va_rf r) A s s.heap := by
  rcases h with h | ⟨t, h⟩
  · exact ⟨none, h⟩
  · exact ⟨some t, h⟩
/-- the number of a constant at a; of its bytes -/
def ikA (f : Nat → Nat) (a : Nat) : Option Nat := (List.range nKs).find? (fun i => f i == a)
theorem ikA_some {f : Nat → Nat} {a i : Nat} (h : ikA f a = some i) : i < nKs ∧ f i = a := by
  have h1 := List.find?_some h
  have h2 := List.mem_of_find?_eq_some h
  exact ⟨List.mem_range.mp h2, by simpa using h1⟩
theorem ikA_of {f : Nat → Nat} {i : Nat} (hi : i < nKs) : ∃ k, ikA f (f i) = some k := by
  cases h : ikA f (f i) with
  | some k => exact ⟨k, rfl⟩
  | none =>
    have := List.find?_eq_none.mp h i (List.mem_range.mpr hi)
    simp at this
def hI (f : Nat → Nat × Nat) : Nat → Nat → Int32 := fun a k => match ikA (fun i => (f i).1) a with
  | some _ => 0
  | none => match ikA (fun i => (f i).2) a with
    | some i => kByt i k
    | none => 0
def hR (f : Nat → Nat × Nat) : Nat → Nat → Option Nat := fun a _ => match ikA (fun i => (f i).1) a with
  | some i => some (f i).2
  | none => none
def hS_ (f : Nat → Nat × Nat) : Nat → Nat := fun a => match ikA (fun i => (f i).1) a with
  | some _ => 200
  | none => match ikA (fun i => (f i).2) a with
    | some _ => 201
    | none => 0
def hN_ (f : Nat → Nat × Nat) : Nat → Nat := fun a => match ikA (fun i => (f i).2) a with
  | some i => kLen i
  | none => 0
def kK (f : Nat → Nat × Nat) (r0 r1 r2 : Option Nat) : Nat → Option Nat := fun i => if i < nKs then some (f i).1 else if i = 100 then r0 else if i = 101 then r1 else if i = 102 then r2 else none
def kV (f : Nat → Nat × Nat) (b L : Nat) (xs : Nat → Int32) : Nat → Nat := fun k => if k < nKs then (f k).2 else if k = 1000 then b else if k = 1001 then L else (xs (k - 2000)).toUInt32.toNat
/-- the first heap -/
def ah0 (f : Nat → Nat × Nat) (r0 r1 r2 : Option Nat) (z : Nat) : AH := (hI f, fun _ _ => 0, hR f, hS_ f, hN_ f, z, 0, kK f r0 r1 r2)
theorem sx_eq (f : Nat → Nat × Nat) (b L : Nat) (xs : Nat → Int32) : (fun j => Int32.ofNat (kV f b L xs (2000 + j))) = xs := by
  funext j
  have h : kV f b L xs (2000 + j) = (xs j).toUInt32.toNat := by
    unfold kV
    rw [if_neg (by unfold nKs; omega), if_neg (by omega), if_neg (by omega)]
    congr 2
    congr 1
    omega
  rw [h]
  apply Int32.toBitVec_inj.mp
  simp
/-- what the pure layer is given of the first heap -/
def Ini (h : AH) : Prop := ∀ i, i < nKs → ∃ a v, gK h i = some a ∧ gS h a = 200 ∧ gI h a 1 = 0 ∧ gR h a 0 = some v ∧ gS h v = 201 ∧ gN h v = kLen i ∧ (∀ j, j < kLen i → gI h v j = kByt i j) ∧ a < gZ h ∧ v < gZ h
/-- all that holds all through, at the start -/
theorem amb_start (hts : ∀ w ∈ lw_tbl, w.before args s = true) (gv : ∀ (i : Nat) {w : Cond}, gvl[i]? = some w → w.before args s = true) {b L : Nat} {xs : Nat → Int32} (hX : va_X b L xs s s.heap) (hbl : b < s.heap.size) :
    ∃ (D1 : va_G) (g : Nat → ClassId) (f : Nat → Nat × Nat) (r0 r1 r2 : Option Nat), Amb (D1, g, kK f r0 r1 r2, kV f b L xs, s.heap.size) s ∧ ∀ i, i < nKs → (f i).1 < s.heap.size ∧ (f i).2 < s.heap.size ∧ (∀ j, j < nKs → (f i).1 ≠ (f j).2) ∧ (∀ j, j < nKs → (f i).1 = (f j).1 → (f i).2 = (f j).2) ∧ ∀ j, j < nKs → (f i).2 = (f j).2 → kLen i = kLen j ∧ ∀ n, n < kLen j → kByt i n = kByt j n := by
  have hA : ∀ a : Nat, a < s.heap.size → ¬ (fun q => s.heap.size ≤ q) a := fun a h => Nat.not_le.mpr h
  have hta : ∀ w ∈ lw_all, w.before args s = true := fun w hw => hts w (lw_all_tbl hw)
  obtain ⟨D1, hD1⟩ := cls_all hts
  obtain ⟨g, hg⟩ := arr_all hts
  obtain ⟨f, hf⟩ := kg_all gv
  obtain ⟨r0, hr0⟩ := st_rf (va_Zqof (A := fun q => s.heap.size ≤ q) (by first | exact hts _ q188 | exact hts _ (lw_all_tbl q188)) (by first | exact hts _ q118 | exact hts _ (lw_all_tbl q118)) (gv 4 (by decide +kernel)) hA)
  obtain ⟨r1, hr1⟩ := st_rf (va_Zqof (A := fun q => s.heap.size ≤ q) (by first | exact hts _ q190 | exact hts _ (lw_all_tbl q190)) (by first | exact hts _ q118 | exact hts _ (lw_all_tbl q118)) (gv 5 (by decide +kernel)) hA)
  obtain ⟨r2, hr2⟩ := st_rf (va_Zqof (A := fun q => s.heap.size ≤ q) (by first | exact hts _ q564 | exact hts _ (lw_all_tbl q564)) (by first | exact hts _ q128 | exact hts _ (lw_all_tbl q128)) (gv 6 (by decide +kernel)) hA)
  refine ⟨D1, g, f, r0, r1, r2, ⟨⟨hD1, hg⟩, fun w hw => va_Nw.of (nwl_on w hw) (hts w (nwl_tbl w hw)), ?_, ?_, ?_, ?_, ?_, ?_, ⟨?_, ?_, ?_⟩, Nat.le_refl _⟩, fun i hi => ⟨?_, ?_, fun j hj => ?_, fun j hj e => ?_, fun j hj e => ?_⟩⟩
  · exact List.forall_mem_cons.mpr ⟨va_AO.of (by first | exact hts _ q365 | exact hts _ (lw_all_tbl q365)), List.forall_mem_cons.mpr ⟨va_AO.of (by first | exact hts _ q476 | exact hts _ (lw_all_tbl q476)), List.forall_mem_cons.mpr ⟨va_AO.of (by first | exact hts _ q474 | exact hts _ (lw_all_tbl q474)), List.forall_mem_cons.mpr ⟨va_AO.of (by first | exact hts _ q478 | exact hts _ (lw_all_tbl q478)), fun _ h => absurd h List.not_mem_nil⟩⟩⟩⟩
  · exact List.forall_mem_cons.mpr ⟨va_Nc.of (args := args) (gv 99 (by decide +kernel)), List.forall_mem_cons.mpr ⟨va_Nc.of (args := args) (gv 100 (by decide +kernel)), List.forall_mem_cons.mpr ⟨va_Nc.of (args := args) (gv 101 (by decide +kernel)), List.forall_mem_cons.mpr ⟨va_Nc.of (args := args) (gv 66 (by decide +kernel)), List.forall_mem_cons.mpr ⟨va_Nc.of (args := args) (gv 67 (by decide +kernel)), List.forall_mem_cons.mpr ⟨va_Nc.of (args := args) (gv 68 (by decide +kernel)), List.forall_mem_cons.mpr ⟨va_Nc.of (args := args) (gv 69 (by decide +kernel)), List.forall_mem_cons.mpr ⟨va_Nc.of (args := args) (gv 86 (by decide +kernel)), fun _ h => absurd h List.not_mem_nil⟩⟩⟩⟩⟩⟩⟩⟩
  · exact List.forall_mem_cons.mpr ⟨⟨_, rfl, vk_R.of (A := args) (by first | exact hts _ q630 | exact hts _ (lw_all_tbl q630)) (hf 0 (by decide)).1⟩, List.forall_mem_cons.mpr ⟨⟨_, rfl, vk_R.of (A := args) (by first | exact hts _ q699 | exact hts _ (lw_all_tbl q699)) (hf 1 (by decide)).1⟩, List.forall_mem_cons.mpr ⟨⟨_, rfl, vk_R.of (A := args) (by first | exact hts _ q708 | exact hts _ (lw_all_tbl q708)) (hf 2 (by decide)).1⟩, List.forall_mem_cons.mpr ⟨⟨_, rfl, vk_R.of (A := args) (by first | exact hts _ q709 | exact hts _ (lw_all_tbl q709)) (hf 3 (by decide)).1⟩, List.forall_mem_cons.mpr ⟨⟨_, rfl, vk_R.of (A := args) (by first | exact hts _ q710 | exact hts _ (lw_all_tbl q710)) (hf 4 (by decide)).1⟩, List.forall_mem_cons.mpr ⟨⟨_, rfl, vk_R.of (A := args) (by first | exact hts _ q711 | exact hts _ (lw_all_tbl q711)) (hf 5 (by decide)).1⟩, List.forall_mem_cons.mpr ⟨⟨_, rfl, vk_R.of (A := args) (by first | exact hts _ q712 | exact hts _ (lw_all_tbl q712)) (hf 6 (by decide)).1⟩, List.forall_mem_cons.mpr ⟨⟨_, rfl, vk_R.of (A := args) (by first | exact hts _ q717 | exact hts _ (lw_all_tbl q717)) (hf 7 (by decide)).1⟩, List.forall_mem_cons.mpr ⟨⟨_, rfl, vk_R.of (A := args) (by first | exact hts _ q738 | exact hts _ (lw_all_tbl q738)) (hf 8 (by decide)).1⟩, List.forall_mem_cons.mpr ⟨⟨_, rfl, vk_R.of (A := args) (by first | exact hts _ q751 | exact hts _ (lw_all_tbl q751)) (hf 9 (by decide)).1⟩, List.forall_mem_cons.mpr ⟨⟨_, rfl, vk_R.of (A := args) (by first | exact hts _ q759 | exact hts _ (lw_all_tbl q759)) (hf 10 (by decide)).1⟩, List.forall_mem_cons.mpr ⟨⟨_, rfl, vk_R.of (A := args) (by first | exact hts _ q767 | exact hts _ (lw_all_tbl q767)) (hf 11 (by decide)).1⟩, List.forall_mem_cons.mpr ⟨⟨_, rfl, vk_R.of (A := args) (by first | exact hts _ q775 | exact hts _ (lw_all_tbl q775)) (hf 12 (by decide)).1⟩, List.forall_mem_cons.mpr ⟨⟨_, rfl, vk_R.of (A := args) (by first | exact hts _ q804 | exact hts _ (lw_all_tbl q804)) (hf 13 (by decide)).1⟩, List.forall_mem_cons.mpr ⟨⟨_, rfl, vk_R.of (A := args) (by first | exact hts _ q846 | exact hts _ (lw_all_tbl q846)) (hf 14 (by decide)).1⟩, List.forall_mem_cons.mpr ⟨⟨_, rfl, vk_R.of (A := args) (by first | exact hts _ q860 | exact hts _ (lw_all_tbl q860)) (hf 15 (by decide)).1⟩, List.forall_mem_cons.mpr ⟨⟨_, rfl, vk_R.of (A := args) (by first | exact hts _ q874 | exact hts _ (lw_all_tbl q874)) (hf 16 (by decide)).1⟩, List.forall_mem_cons.mpr ⟨⟨_, rfl, vk_R.of (A := args) (by first | exact hts _ q888 | exact hts _ (lw_all_tbl q888)) (hf 17 (by decide)).1⟩, List.forall_mem_cons.mpr ⟨⟨_, rfl, vk_R.of (A := args) (by first | exact hts _ q889 | exact hts _ (lw_all_tbl q889)) (hf 18 (by decide)).1⟩, List.forall_mem_cons.mpr ⟨⟨_, rfl, vk_R.of (A := args) (by first | exact hts _ q890 | exact hts _ (lw_all_tbl q890)) (hf 19 (by decide)).1⟩, List.forall_mem_cons.mpr ⟨⟨_, rfl, vk_R.of (A := args) (by first | exact hts _ q916 | exact hts _ (lw_all_tbl q916)) (hf 20 (by decide)).1⟩, List.forall_mem_cons.mpr ⟨⟨_, rfl, vk_R.of (A := args) (by first | exact hts _ q1732 | exact hts _ (lw_all_tbl q1732)) (va_eqR (args := args) (t := .string "ElephantLine$Reader" 90) (u := .string "ElephantLineModel" 144) (a := (f 1).1) (gv 475 (by decide +kernel)) (hf 1 (by decide)).1)⟩, List.forall_mem_cons.mpr ⟨⟨_, rfl, vk_R.of (A := args) (by first | exact hts _ q1797 | exact hts _ (lw_all_tbl q1797)) (va_eqR (args := args) (t := .string "ElephantLine$Reader" 92) (u := .string "ElephantLineModel" 146) (a := (f 2).1) (gv 509 (by decide +kernel)) (hf 2 (by decide)).1)⟩, List.forall_mem_cons.mpr ⟨⟨_, rfl, vk_R.of (A := args) (by first | exact hts _ q1813 | exact hts _ (lw_all_tbl q1813)) (va_eqR (args := args) (t := .string "ElephantLine$Reader" 94) (u := .string "ElephantLineModel" 148) (a := (f 3).1) (gv 566 (by decide +kernel)) (hf 3 (by decide)).1)⟩, List.forall_mem_cons.mpr ⟨⟨_, rfl, vk_R.of (A := args) (by first | exact hts _ q1826 | exact hts _ (lw_all_tbl q1826)) (va_eqR (args := args) (t := .string "ElephantLine$Reader" 96) (u := .string "ElephantLineModel" 150) (a := (f 4).1) (gv 577 (by decide +kernel)) (hf 4 (by decide)).1)⟩, List.forall_mem_cons.mpr ⟨⟨_, rfl, vk_R.of (A := args) (by first | exact hts _ q1827 | exact hts _ (lw_all_tbl q1827)) (va_eqR (args := args) (t := .string "ElephantLine$Reader" 98) (u := .string "ElephantLineModel" 152) (a := (f 5).1) (gv 588 (by decide +kernel)) (hf 5 (by decide)).1)⟩, List.forall_mem_cons.mpr ⟨⟨_, rfl, vk_R.of (A := args) (by first | exact hts _ q1828 | exact hts _ (lw_all_tbl q1828)) (va_eqR (args := args) (t := .string "ElephantLine$Reader" 100) (u := .string "ElephantLineModel" 154) (a := (f 6).1) (gv 601 (by decide +kernel)) (hf 6 (by decide)).1)⟩, List.forall_mem_cons.mpr ⟨⟨_, rfl, vk_R.of (A := args) (by first | exact hts _ q1776 | exact hts _ (lw_all_tbl q1776)) (va_eqR (args := args) (t := .string "ElephantLine$Reader" 167) (u := .string "ElephantLineModel" 216) (a := (f 7).1) (gv 487 (by decide +kernel)) (hf 7 (by decide)).1)⟩, List.forall_mem_cons.mpr ⟨⟨_, rfl, vk_R.of (A := args) (by first | exact hts _ q1796 | exact hts _ (lw_all_tbl q1796)) (va_eqR (args := args) (t := .string "ElephantLine$Reader" 172) (u := .string "ElephantLineModel" 221) (a := (f 8).1) (gv 498 (by decide +kernel)) (hf 8 (by decide)).1)⟩, List.forall_mem_cons.mpr ⟨⟨_, rfl, vk_R.of (A := args) (by first | exact hts _ q1809 | exact hts _ (lw_all_tbl q1809)) (va_eqR (args := args) (t := .string "ElephantLine$Reader" 176) (u := .string "ElephantLineModel" 233) (a := (f 9).1) (gv 520 (by decide +kernel)) (hf 9 (by decide)).1)⟩, List.forall_mem_cons.mpr ⟨⟨_, rfl, vk_R.of (A := args) (by first | exact hts _ q1810 | exact hts _ (lw_all_tbl q1810)) (va_eqR (args := args) (t := .string "ElephantLine$Reader" 178) (u := .string "ElephantLineModel" 235) (a := (f 10).1) (gv 531 (by decide +kernel)) (hf 10 (by decide)).1)⟩, List.forall_mem_cons.mpr ⟨⟨_, rfl, vk_R.of (A := args) (by first | exact hts _ q1811 | exact hts _ (lw_all_tbl q1811)) (va_eqR (args := args) (t := .string "ElephantLine$Reader" 183) (u := .string "ElephantLineModel" 237) (a := (f 11).1) (gv 542 (by decide +kernel)) (hf 11 (by decide)).1)⟩, List.forall_mem_cons.mpr ⟨⟨_, rfl, vk_R.of (A := args) (by first | exact hts _ q1812 | exact hts _ (lw_all_tbl q1812)) (va_eqR (args := args) (t := .string "ElephantLine$Reader" 192) (u := .string "ElephantLineModel" 239) (a := (f 12).1) (gv 554 (by decide +kernel)) (hf 12 (by decide)).1)⟩, List.forall_mem_cons.mpr ⟨⟨_, rfl, vk_R.of (A := args) (by first | exact hts _ q1833 | exact hts _ (lw_all_tbl q1833)) (va_eqR (args := args) (t := .string "ElephantLine$Reader" 208) (u := .string "ElephantLineModel" 254) (a := (f 13).1) (gv 613 (by decide +kernel)) (hf 13 (by decide)).1)⟩, List.forall_mem_cons.mpr ⟨⟨_, rfl, vk_R.of (A := args) (by first | exact hts _ q1834 | exact hts _ (lw_all_tbl q1834)) (va_eqR (args := args) (t := .string "ElephantLine$Reader" 215) (u := .string "ElephantLineModel" 256) (a := (f 14).1) (gv 624 (by decide +kernel)) (hf 14 (by decide)).1)⟩, List.forall_mem_cons.mpr ⟨⟨_, rfl, vk_R.of (A := args) (by first | exact hts _ q1835 | exact hts _ (lw_all_tbl q1835)) (va_eqR (args := args) (t := .string "ElephantLine$Reader" 220) (u := .string "ElephantLineModel" 258) (a := (f 15).1) (gv 636 (by decide +kernel)) (hf 15 (by decide)).1)⟩, List.forall_mem_cons.mpr ⟨⟨_, rfl, vk_R.of (A := args) (by first | exact hts _ q1836 | exact hts _ (lw_all_tbl q1836)) (va_eqR (args := args) (t := .string "ElephantLine$Reader" 225) (u := .string "ElephantLineModel" 260) (a := (f 16).1) (gv 649 (by decide +kernel)) (hf 16 (by decide)).1)⟩, List.forall_mem_cons.mpr ⟨⟨_, rfl, vk_R.of (A := args) (by first | exact hts _ q1837 | exact hts _ (lw_all_tbl q1837)) (va_eqR (args := args) (t := .string "ElephantLine$Reader" 238) (u := .string "ElephantLineModel" 262) (a := (f 17).1) (gv 658 (by decide +kernel)) (hf 17 (by decide)).1)⟩, List.forall_mem_cons.mpr ⟨⟨_, rfl, vk_R.of (A := args) (by first | exact hts _ q1838 | exact hts _ (lw_all_tbl q1838)) (va_eqR (args := args) (t := .string "ElephantLine$Reader" 243) (u := .string "ElephantLineModel" 263) (a := (f 18).1) (gv 669 (by decide +kernel)) (hf 18 (by decide)).1)⟩, List.forall_mem_cons.mpr ⟨⟨_, rfl, vk_R.of (A := args) (by first | exact hts _ q1839 | exact hts _ (lw_all_tbl q1839)) (va_eqR (args := args) (t := .string "ElephantLine$Reader" 247) (u := .string "ElephantLineModel" 265) (a := (f 19).1) (gv 681 (by decide +kernel)) (hf 19 (by decide)).1)⟩, List.forall_mem_cons.mpr ⟨⟨_, rfl, vk_R.of (A := args) (by first | exact hts _ q1856 | exact hts _ (lw_all_tbl q1856)) (va_eqR (args := args) (t := .string "ElephantLine$Reader" 271) (u := .string "ElephantLineModel" 291) (a := (f 20).1) (gv 693 (by decide +kernel)) (hf 20 (by decide)).1)⟩, List.forall_mem_cons.mpr ⟨⟨_, rfl, vk_R.of (A := args) (by first | exact hts _ q572 | exact hts _ (lw_all_tbl q572)) (va_eqv (args := args) (t := .string "java/lang/String" 7) (u := .string "ElephantLine$Reader" 59) (v := .ref (f 0).1) (gv 253 (by decide +kernel)) (hf 0 (by decide)).1)⟩, fun _ h => absurd h List.not_mem_nil⟩⟩⟩⟩⟩⟩⟩⟩⟩⟩⟩⟩⟩⟩⟩⟩⟩⟩⟩⟩⟩⟩⟩⟩⟩⟩⟩⟩⟩⟩⟩⟩⟩⟩⟩⟩⟩⟩⟩⟩⟩⟩
  · intro i hi
    obtain ⟨h1, h2, h3, h4, h5⟩ := hf i hi
    refine ⟨(f i).1, if_pos hi, h2, h3, ?_, ?_⟩
    · rw [← show kV f b L xs i = (f i).2 from if_pos hi] at h4; exact h4
    · rw [← show kV f b L xs i = (f i).2 from if_pos hi] at h5; exact h5
  · exact List.forall_mem_cons.mpr ⟨va_Zof (args := args) (by first | exact hts _ q574 | exact hts _ (lw_all_tbl q574)) (by first | exact hts _ q127 | exact hts _ (lw_all_tbl q127)) (va_eqi (args := args) (gv 7 (by decide +kernel))) hA, List.forall_mem_cons.mpr ⟨va_Zof (args := args) (by first | exact hts _ q595 | exact hts _ (lw_all_tbl q595)) (by first | exact hts _ q129 | exact hts _ (lw_all_tbl q129)) (va_eqi (args := args) (gv 8 (by decide +kernel))) hA, List.forall_mem_cons.mpr ⟨va_Zof (args := args) (by first | exact hts _ q600 | exact hts _ (lw_all_tbl q600)) (by first | exact hts _ q129 | exact hts _ (lw_all_tbl q129)) (va_eqi (args := args) (gv 9 (by decide +kernel))) hA, List.forall_mem_cons.mpr ⟨va_Zof (args := args) (by first | exact hts _ q602 | exact hts _ (lw_all_tbl q602)) (by first | exact hts _ q129 | exact hts _ (lw_all_tbl q129)) (va_eqi (args := args) (gv 10 (by decide +kernel))) hA, fun _ h => absurd h List.not_mem_nil⟩⟩⟩⟩
  · exact List.forall_mem_cons.mpr ⟨hr0, List.forall_mem_cons.mpr ⟨hr1, List.forall_mem_cons.mpr ⟨hr2, fun _ h => absurd h List.not_mem_nil⟩⟩⟩
  · exact vx_Zqof (args := args) (by first | exact hts _ q188 | exact hts _ (lw_all_tbl q188)) (by first | exact hts _ q118 | exact hts _ (lw_all_tbl q118)) (gv 4 (by decide +kernel)) hA
  · exact vx_Zqof (args := args) (by first | exact hts _ q190 | exact hts _ (lw_all_tbl q190)) (by first | exact hts _ q118 | exact hts _ (lw_all_tbl q118)) (gv 5 (by decide +kernel)) hA
  · obtain ⟨scr, h1, h2, h3, h4, h5⟩ := hX
    refine ⟨scr, h1, h2, h3, Nat.le_of_eq h4.symm, by rw [h4]; rfl, fun j hj => ?_, Nat.not_le.mpr hbl⟩
    rw [h5 j hj]
    exact congrArg (fun z => some (Value.int (z j))) (sx_eq f b L xs).symm
  · obtain ⟨cell, h1, -⟩ := (hf i hi).2.1
    exact (Array.getElem?_eq_some_iff.mp h1).1
  · obtain ⟨cell, h1, -⟩ := (hf i hi).2.2.2.2
    exact (Array.getElem?_eq_some_iff.mp h1).1
  · intro e
    obtain ⟨cell, h1, h2, h3, -⟩ := (hf i hi).2.1
    obtain ⟨cell2, k1, ⟨k2, kA, k3, comp, k4⟩, -⟩ := (hf j hj).2.2.2.2
    obtain ⟨m1, kC, m2, m3⟩ := (hD1 8 _ rfl).2
    rw [e] at h1
    cases h1.symm.trans k1
    rw [Option.some.inj (h3.symm.trans m1)] at k3
    cases k3.symm.trans m2
    rw [k4] at m3
    cases m3
  · obtain ⟨cf, k, fi, fl, cell, h1, h2, h3, h4, h5, h6⟩ := (hf i hi).2.2.2.1
    obtain ⟨cf', k', fi', fl', cell', h1', h2', h3', h4', h5', h6'⟩ := (hf j hj).2.2.2.1
    rw [e] at h3
    cases h3.symm.trans h3'
    cases h1.symm.trans h1'
    have := h5.symm.trans h5'
    injection this with this
    injection this
  · obtain ⟨cell, h1, -, -, -, h2, h3, -⟩ := (hf i hi).2.2.2.2
    obtain ⟨cell', h1', -, -, -, h2', h3', -⟩ := (hf j hj).2.2.2.2
    rw [e] at h1
    cases h1.symm.trans h1'
    have hk : kLen i = kLen j := by
      have hb : ∀ i, i < nKs → kLen i < 2 ^ 31 := by decide
      have := congrArg Int32.toNatClampNeg (h2.symm.trans h2')
      rw [Int32.toNatClampNeg_ofNat_of_lt (hb i hi), Int32.toNatClampNeg_ofNat_of_lt (hb j hj)] at this
      exact this
    refine ⟨hk, fun n hn => ?_⟩
    have := (h3 n (by rw [hk]; exact hn)).symm.trans (h3' n hn)
    injection this with this
    injection this
/-- the heap at the start is as the first abstract heap says -/
theorem hp_start {D1 : va_G} {g : Nat → ClassId} {f : Nat → Nat × Nat} {r0 r1 r2 : Option Nat} {b L : Nat} {xs : Nat → Int32} (hf : ∀ i, i < nKs → (f i).1 < s.heap.size ∧ (f i).2 < s.heap.size ∧ (∀ j, j < nKs → (f i).1 ≠ (f j).2) ∧ (∀ j, j < nKs → (f i).1 = (f j).1 → (f i).2 = (f j).2) ∧ ∀ j, j < nKs → (f i).2 = (f j).2 → kLen i = kLen j ∧ ∀ n, n < kLen j → kByt i n = kByt j n) :
    HP (D1, g, kK f r0 r1 r2, kV f b L xs, s.heap.size) (ah0 f r0 r1 r2 s.heap.size) s.heap := by
  refine ⟨rfl, Nat.le_refl _, rfl, fun a => ?_⟩
  have hs : gS (ah0 f r0 r1 r2 s.heap.size) a = hS_ f a := rfl
  have hc : hS_ f a = 200 ∨ hS_ f a = 201 ∨ hS_ f a = 0 := by
    unfold hS_
    cases ikA (fun i => (f i).1) a with
    | some _ => exact Or.inl rfl
    | none =>
      cases ikA (fun i => (f i).2) a with
      | some _ => exact Or.inr (Or.inl rfl)
      | none => exact Or.inr (Or.inr rfl)
  refine ⟨fun c h1 h2 => ?_, fun t h1 h2 => ?_, fun h1 => ?_, fun h1 => ?_⟩
  · rw [hs] at h1; omega
  · rw [hs] at h1; omega
  · rw [hs] at h1
    cases e : ikA (fun i => (f i).1) a with
    | none =>
      unfold hS_ at h1
      rw [e] at h1
      cases e2 : ikA (fun i => (f i).2) a with
      | none => rw [e2] at h1; cases h1
      | some _ => rw [e2] at h1; cases h1
    | some i =>
      obtain ⟨g1, g2⟩ := ikA_some e
      refine ⟨by rw [← g2]; exact (hf i g1).1, i, g1, ?_, ?_, ?_⟩
      · rw [← g2]; exact if_pos g1
      · show hI f a 1 = 0
        unfold hI
        rw [e]
      · show hR f a 0 = some (kV f b L xs i)
        unfold hR
        rw [e, show kV f b L xs i = (f i).2 from if_pos g1]
  · rw [hs] at h1
    cases e : ikA (fun i => (f i).1) a with
    | some _ => unfold hS_ at h1; rw [e] at h1; cases h1
    | none =>
      cases e2 : ikA (fun i => (f i).2) a with
      | none => unfold hS_ at h1; rw [e, e2] at h1; cases h1
      | some i =>
        obtain ⟨g1, g2⟩ := ikA_some e2
        refine ⟨by rw [← g2]; exact (hf i g1).2.1, i, g1, ?_, ?_, fun j hj => ?_⟩
        · show kV f b L xs i = a
          rw [show kV f b L xs i = (f i).2 from if_pos g1]; exact g2
        · show hN_ f a = kLen i
          unfold hN_
          rw [e2]
        · show hI f a j = kByt i j
          unfold hI
          rw [e, e2]
theorem ini_start {f : Nat → Nat × Nat} {r0 r1 r2 : Option Nat} {z : Nat} (hf : ∀ i, i < nKs → (f i).1 < z ∧ (f i).2 < z ∧ (∀ j, j < nKs → (f i).1 ≠ (f j).2) ∧ (∀ j, j < nKs → (f i).1 = (f j).1 → (f i).2 = (f j).2) ∧ ∀ j, j < nKs → (f i).2 = (f j).2 → kLen i = kLen j ∧ ∀ n, n < kLen j → kByt i n = kByt j n) : Ini (ah0 f r0 r1 r2 z) := by
  intro i hi
  obtain ⟨k, hk⟩ := ikA_of (f := fun i => (f i).1) hi
  obtain ⟨n, hn⟩ := ikA_of (f := fun i => (f i).2) hi
  obtain ⟨k1, k2⟩ := ikA_some hk
  obtain ⟨n1, n2⟩ := ikA_some hn
  have hv : ikA (fun i => (f i).1) (f i).2 = none := by
    cases e : ikA (fun i => (f i).1) (f i).2 with
    | none => rfl
    | some j =>
      obtain ⟨e1, e2⟩ := ikA_some e
      exact absurd e2 ((hf j e1).2.2.1 i hi)
  have hk' : ikA (fun i => (f i).1) (f i).1 = some k := hk
  have hn' : ikA (fun i => (f i).2) (f i).2 = some n := hn
  obtain ⟨m1, m2⟩ := (hf n n1).2.2.2.2 i hi n2
  refine ⟨(f i).1, (f i).2, if_pos hi, ?_, ?_, ?_, ?_, ?_, fun j hj => ?_, (hf i hi).1, (hf i hi).2.1⟩
  · show hS_ f (f i).1 = 200
    unfold hS_
    rw [hk']
  · show hI f (f i).1 1 = 0
    unfold hI
    rw [hk']
  · show hR f (f i).1 0 = some (f i).2
    unfold hR
    rw [hk']
    exact congrArg some ((hf k k1).2.2.2.1 i hi k2)
  · show hS_ f (f i).2 = 201
    unfold hS_
    rw [hv, hn']
  · show hN_ f (f i).2 = kLen i
    unfold hN_
    rw [hn']
    exact m1
  · show hI f (f i).2 j = kByt i j
    unfold hI
    rw [hv, hn']
    exact m2 j hj
end
/-- the law's end: nothing old was written -/
theorem fr_drop {s t : State} {L : List Loc} {c n : Nat} (h : s.sameButNew t L c n) (hL : ∀ q ∈ L, s.heap.size ≤ q.base) : s.sameButNew t [] c n := by
  obtain ⟨h1, h2, h3, h4, h5, h6⟩ := h
  refine ⟨h1, h2, h3, h4, h5, fun a c hc => ?_⟩
  obtain ⟨c', g1, g2, g3, g4⟩ := h6 a c hc
  refine ⟨c', g1, g2, g3, fun i _ => g4 i (fun hm => ?_)⟩
  have := hL _ hm
  have h7 := (Array.getElem?_eq_some_iff.mp hc).1
  exact absurd h7 (Nat.not_lt.mpr this)
def R_law : String := "ElephantLineLaw"
def lw_P (b : Addr) (xs : List Int32) (args : Array Value) (s : State) : Prop := args = #[.ref b] ∧ s.IntsAt b xs ∧ xs.length ≤ 384 ∧ (Jvm.Cond.and given_1 narrow_1).before args s = true
def lw_Q (_ : Array Value) (s : State) (o : Outcome) (t : State) : Prop := o = .returned (some (.int 1)) ∧ Framed s o t [] 1200128 5501098
def lw_Z (below : List Frame) (a : Array Value) (s : State) : State → Prop := fun t => ∃ o, t.status = .running ∧ Ended t below o ∧ lw_Q a s o t
/-- what holds at the law's entry -/
def lw_At (p : Program) (s : State) (m : MethodId) (meth : Method) (c : Code) (b L : Nat) (xs : Nat → Int32) : Prop :=
  p.tables.exec = Jvm.exec ∧ c.code = code ∧ meth.sig.returnType = ret ∧ c.maxLocals = 7 ∧ s.vm.findClass R_law = some m.cls ∧ (∀ w ∈ lw_tbl, w.before #[Value.ref b] s = true) ∧ va_X b L xs s s.heap ∧ b < s.heap.size ∧ meth.locks = false ∧ (Jvm.Cond.and given_1 narrow_1).before #[Value.ref b] s = true ∧ meth.name = "law" ∧ c.exceptionTable.toList = []
/-- the law, from its entry, out of what its function answers -/
theorem start_of {p : Program} {e : Env} {s : State} {m : MethodId} {below : List Frame} {meth : Method} {c : Code} (l : Launch) (hst : l.stackTraces = false) {b L : Nat} {xs : Nat → Int32} (C0 : lw_At p s m meth c b L xs)
    (pure : ∀ h0 : AH, Ini h0 → ∃ hE : AH, fL_law xs L h0 = some (1, hE) ∧ gZ hE ≤ gZ h0 + 1200128 ∧ gQ hE ≤ gQ h0 + 5501098) : W p l e room_1 s m #[Value.ref b] below meth c s.heap [] 0 0 (lw_Z below #[Value.ref b] s) (entryFrame m ([Value.ref b] : List Value).toArray 7) := by
  obtain ⟨hx, hb, hr, hml, hown, hts, hX, hbl, hlocks, hgv, hnm, htb⟩ := C0
  have gv : ∀ (i : Nat) {w : Cond}, gvl[i]? = some w → w.before #[Value.ref b] s = true := fun i w h => flat_of_before _ hgv w (List.mem_of_getElem? h)
  obtain ⟨D1, g, f, r0, r1, r2, hA, hf⟩ := amb_start hts gv hX hbl
  have hP := hp_start (D1 := D1) (g := g) (r0 := r0) (r1 := r1) (r2 := r2) (b := b) (L := L) (xs := xs) hf
  obtain ⟨hE, hrun, hz, hq⟩ := pure _ (ini_start (r0 := r0) (r1 := r1) (r2 := r2) hf)
  have hl := lv_entry ([.ref b]) (n := 7) (Nat.le_of_ble_eq_true rfl)
  rw [lg_entry_eq]
  generalize (lg_sl ([.ref b]) ++ List.replicate (7 - (lg_sl ([.ref b])).length) Slot.unset).toArray = ls at hl ⊢
  have w := walkL_law l (D1, g, kK f r0 r1 r2, kV f b L xs, s.heap.size) hst (xs := xs) (xn := L) (sx_eq f b L xs).symm rfl hrun (ls := ls) hl
  have C : Cx (KL_law l (D1, g, kK f r0 r1 r2, kV f b L xs, s.heap.size) (ah0 f r0 r1 r2 s.heap.size) hE 1) p room_1 s m #[Value.ref b] meth c :=
    ⟨hx, hb, hml, hown, fun w hw => hts w (lw_all_tbl hw), hA, Nat.le_of_ble_eq_true rfl, Nat.le_of_ble_eq_true rfl, Nat.sub_le_iff_le_add'.mpr hz, Nat.sub_le_iff_le_add'.mpr hq, rfl, hlocks, hr, hnm, htb⟩
  have k := w.2 (Nat.le_refl _) (Nat.le_refl _) p e room_1 s m #[Value.ref b] below meth c C s.heap [] hP va_S.rf
  rw [Nat.sub_self, Nat.sub_self] at k
  intro T hT X
  obtain ⟨t, a1, b1⟩ := k T hT X
  refine ⟨t, a1, ?_⟩
  unfold aQ at b1
  rw [if_neg (by show ¬ false = true; decide)] at b1
  obtain ⟨o, h1, h2, ⟨⟨r, hv, ho⟩, -, -⟩, Lo, ⟨g1, g2, g3⟩, hLo⟩ := b1
  cases hv
  exact ⟨o, h1, h2, ho, g1, g2, State.sameButNew.mono (fr_drop g3 hLo) (Nat.sub_le_iff_le_add'.mpr hz) (Nat.sub_le_iff_le_add'.mpr hq)⟩
