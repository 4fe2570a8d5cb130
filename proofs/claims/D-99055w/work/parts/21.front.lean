/-! THE PURE LAYER: a war and a line as numbers; the component's Front -/
set_option maxRecDepth 100000
def bt (s n : Nat) : Bool := s / 2 ^ n % 2 == 1
def bN (c : Bool) : Int32 := if c then 1 else 0
theorem bN_0 (c : Bool) : (bN c = 0) = (c = false) := by cases c <;> simp [bN]
theorem bN_1 (c : Bool) : (bN c = 1) = (c = true) := by cases c <;> simp [bN]
theorem bN_01 (c : Bool) : (bN c = 0 ∨ bN c = 1) = True := by cases c <;> simp [bN]
theorem bt_sh : ∀ s, s < 64 → ∀ n, n < 6 → ((((iN s >>> (iN n &&& 31)) &&& 1) = 1) ↔ bt s n = true) := by decide +kernel
theorem bt_or : ∀ s, s < 64 → ∀ n, n < 6 → iN s ||| ((1 : Int32) <<< (iN n &&& 31)) = iN (s ||| 2 ^ n) := by decide +kernel
theorem sh_1 : ∀ n, n < 7 → ((1 : Int32) <<< (iN n &&& 31)) = iN (2 ^ n) := by decide +kernel
theorem bt_or_bt : ∀ s, s < 64 → ∀ n, n < 6 → ∀ k, k < 6 → bt (s ||| 2 ^ n) k = (bt s k || n == k) := by decide +kernel
theorem or_lt : ∀ m, m < 7 → ∀ s, s < 2 ^ m → ∀ n, n < m → s ||| 2 ^ n < 2 ^ m := by decide +kernel
/-- a war: rows of numbers. 0: lanes, beasts, cities, deep, lanes told, passes, the turned as bits, how many turned; 1 who; 2 kind; 3 strong; 4 lane; 5 mood; 6 price; 7 passes and 1; 20 a beast's cell; 21 a stand's cell; 22 a city's cell -/
abbrev WD := Nat → Nat → Nat
/-- a war that can be -/
def WOK (D : WD) : Prop := (2 ≤ D 0 0 ∧ D 0 0 ≤ 6 ∧ 1 ≤ D 0 1 ∧ D 0 1 ≤ 5 ∧ D 0 2 ≤ 6 ∧ D 0 3 ≤ 5 ∧ D 0 4 ≤ 6 ∧ D 0 5 ≤ 9 ∧ D 0 6 < 2 ^ D 0 1) ∧
  (∀ l, l < D 0 0 → D 1 l ≤ 3 ∧ D 3 l ≤ 60) ∧ (∀ b, b < D 0 1 → D 2 b ≤ 3 ∧ D 4 b < D 0 0 ∧ D 5 b ≤ 100 ∧ D 6 b ≤ 99) ∧ ∀ k, k < 36 → D 7 k ≤ 100
/-- a line: 0 .. 4 lanes, 5 .. 9 wounds, 10 the dead, 11 .. 16 strong, 17 rain, 18 the seed -/
def VOK (D : WD) (B : Nat) (v : Nat → Nat) : Prop := (∀ b, b < D 0 1 → v b < D 0 0 ∧ v (5 + b) ≤ B) ∧ v 10 < 2 ^ D 0 1 ∧ (∀ l, l < D 0 0 → v (11 + l) ≤ 60) ∧ v 17 ≤ 1 ∧ v 18 < 65537
/-- the cells of a Front; what they hold -/
def FS (h : AH) (f : Nat) : Prop := gS h f = 4 ∧ gR h f 0 = some (f + 1) ∧ gR h f 1 = some (f + 2) ∧ gR h f 2 = some (f + 3) ∧ gS h (f + 1) = 101 ∧ gN h (f + 1) = 5 ∧ gS h (f + 2) = 101 ∧ gN h (f + 2) = 5 ∧ gS h (f + 3) = 101 ∧ gN h (f + 3) = 6
def FR (h : AH) (f w : Nat) (D : WD) (v : Nat → Nat) : Prop := gR h f 3 = some w ∧ gI h f 4 = iN (v 10) ∧ gI h f 5 = iN (v 18) ∧ gI h f 6 = iN (v 17) ∧ (∀ b, b < D 0 1 → gI h (f + 1) b = iN (v b)) ∧ (∀ b, b < D 0 1 → gI h (f + 2) b = iN (v (5 + b))) ∧ ∀ l, l < D 0 0 → gI h (f + 3) l = iN (v (11 + l))
/-- a War -/
def CS (h : AH) (w : Nat) : Prop := gS h w = 8 ∧ gR h w 0 = some (w + 1) ∧ gR h w 1 = some (w + 2) ∧ gR h w 2 = some (w + 3) ∧ gR h w 3 = some (w + 4) ∧ gR h w 4 = some (w + 5) ∧
  gS h (w + 1) = 107 ∧ gN h (w + 1) = 6 ∧ gS h (w + 2) = 101 ∧ gN h (w + 2) = 6 ∧ gS h (w + 3) = 101 ∧ gN h (w + 3) = 36 ∧ gS h (w + 4) = 106 ∧ gN h (w + 4) = 5 ∧ gS h (w + 5) = 108 ∧ gN h (w + 5) = 6
def CB (h : AH) (a : Nat) (D : WD) (b : Nat) : Prop := gS h a = 14 + D 2 b ∧ gI h a 0 = iN (D 4 b) ∧ gI h a 1 = iN (D 5 b) ∧ gI h a 2 = iN (D 6 b) ∧ gI h a 3 = bN (bt (D 0 6) b)
def CW (h : AH) (w : Nat) (D : WD) : Prop := CS h w ∧
  (gI h w 5 = iN (D 0 0) ∧ gI h w 6 = iN (D 0 3) ∧ gI h w 7 = iN (D 0 4) ∧ gI h w 8 = iN (D 0 1) ∧ gI h w 9 = iN (D 0 2) ∧ gI h w 10 = iN (D 0 5) ∧ gI h w 11 = iN (D 0 7)) ∧
  (∀ l, l < D 0 0 → gR h (w + 1) l = some (D 21 l) ∧ gS h (D 21 l) = 10 + D 1 l) ∧ (∀ l, l < 6 → gI h (w + 2) l = iN (D 3 l)) ∧ (∀ k, k < 36 → gI h (w + 3) k = iN (D 7 k)) ∧ (∀ b, b < D 0 1 → gR h (w + 4) b = some (D 20 b) ∧ CB h (D 20 b) D b)
/-! what is worked out -/
def fK (k : Nat) : Nat := if k = 1 then 5 else if k = 2 then 30 else if k = 3 then 25 else 20
def sF (D : WD) (v : Nat → Nat) (b : Nat) : Nat := if bt (v 10) b then 0 else fK (D 2 b) - v (5 + b)
def hK (k mood rain : Nat) : Nat := if k = 1 then mood - 20 else if k = 2 then (if mood < 80 then mood + 20 else 100) else if k = 3 then (if rain = 1 then mood / 2 else mood) else mood
def sH (D : WD) (v : Nat → Nat) (b : Nat) : Nat := hK (D 2 b) (D 5 b) (v 17)
def hF (k who s f : Nat) : Nat := if who = 1 then (if k = 2 then 10 else 0) else if who = 2 then (if s < f then s else f / 2) else if who = 3 then (if s < 8 then 15 else f - s) else 0
def hO (k who s f : Nat) : Nat := if who = 1 then (if k = 2 then 0 else f) else if who = 2 then (if s < f then 0 else f) else 0
def sFo (D : WD) (v : Nat → Nat) (b l : Nat) : Nat := if bt (v 10) b then 0 else hF (D 2 b) (D 1 l) (v (11 + l)) (sF D v b)
def sOw (D : WD) (v : Nat → Nat) (b l : Nat) : Nat := if bt (v 10) b then 0 else hO (D 2 b) (D 1 l) (v (11 + l)) (sF D v b)
def pw (a : Int) (n : Nat) : Int := fN (fun _ p => p * a) n 1
def sA (D : WD) (v : Nat → Nat) (b : Nat) : Int := if bt (v 10) b then 0 else pw (sH D v b) (D 0 3)
def sW (D : WD) : Int := pw 100 (D 0 3)
def sMF (D : WD) (v : Nat → Nat) (b l : Nat) : Int := sA D v b * sFo D v b l
def sMO (D : WD) (v : Nat → Nat) (b l : Nat) : Int := sA D v b * sOw D v b l + (sW D - sA D v b) * ((sF D v b / 2 : Nat) : Int)
def sWo (D : WD) (v : Nat → Nat) (b l : Nat) : Int := sMF D v b l - sMO D v b l
def sOp (D : WD) (v : Nat → Nat) (b : Nat) : Int := -(sW D - sA D v b) * ((sF D v b / 2 : Nat) : Int)
def sWB (D : WD) (v : Nat → Nat) (b l : Nat) (o : Bool) : Int := if o then sOp D v b else sWo D v b l
theorem fK_le (k : Nat) : fK k ≤ 30 := by unfold fK; (repeat' split) <;> omega
theorem sF_le (D : WD) (v : Nat → Nat) (b : Nat) : sF D v b ≤ 30 := by
  unfold sF
  have := fK_le (D 2 b)
  split <;> omega
theorem hK_le {k mood rain : Nat} (h : mood ≤ 100) : hK k mood rain ≤ 100 := by unfold hK; (repeat' split) <;> omega
theorem hF_le {k who s f : Nat} (h : s ≤ 60) (hf : f ≤ 30) : hF k who s f ≤ 60 := by unfold hF; (repeat' split) <;> omega
theorem hO_le {k who s f : Nat} (hf : f ≤ 30) : hO k who s f ≤ 30 := by unfold hO; (repeat' split) <;> omega
/-! the component's small functions -/
theorem c_has {s n : Nat} (hs : s < 64) (hn : n < 6) (h : AH) : fX1_has (iN s) (iN n) h = some (bN (bt s n)) := by
  unfold fX1_has
  have := bt_sh s hs n hn
  by_cases hb : bt s n = true
  · rw [if_neg (by simp [this, hb]), hb]; rfl
  · rw [if_pos (by simp [this, hb]), Bool.eq_false_iff.mpr hb]; rfl
theorem lt64 {n k : Nat} (hk : k ≤ 5) (h : n < 2 ^ k) : n < 64 := Nat.lt_of_lt_of_le h (Nat.le_trans (Nat.pow_le_pow_right (by decide) hk) (by decide))
section
variable {h : AH} {f w b l : Nat} {D : WD} {v : Nat → Nat} {B : Nat}
theorem VOK.d (hv : VOK D B v) (hw : WOK D) : v 10 < 64 := lt64 hw.1.2.2.2.1 hv.2.1
theorem c_isDead (hs : FS h f) (hr : FR h f w D v) (hw : WOK D) (hv : VOK D B v) (hb : b < D 0 1) : fX4_isDead f (iN b) h = some (bN (bt (v 10) b)) := by
  unfold fX4_isDead
  have h1 := hw.1.2.2.2.1
  rw [if_pos hs.1, hr.2.1, c_has (hv.d hw) (by omega)]
  simp only [bnd_some, bN_01, if_true]
theorem c_vforce (hk : D 2 b ≤ 3) (hc : CB h (D 20 b) D b) : fV_X14_force (D 20 b) h = some (iN (fK (D 2 b))) := by
  unfold fV_X14_force fX14_force fX16_force fX17_force fX18_force fX14_force
  have h0 := hc.1
  rcases (show D 2 b = 0 ∨ D 2 b = 1 ∨ D 2 b = 2 ∨ D 2 b = 3 by omega) with e | e | e | e <;> rw [e] at h0 ⊢ <;> simp [h0, bnd_some] <;> rfl
theorem c_force (hs : FS h f) (hr : FR h f w D v) (hc : CW h w D) (hw : WOK D) (hv : VOK D B v) (hB : B < 2 ^ 31) (hb : b < D 0 1) : fX4_force f (iN b) h = some (iN (sF D v b)) := by
  unfold fX4_force
  obtain ⟨⟨cs1, cs2, cs3, cs4, cs5, cs6, cs7, cs8, cs9, cs10, cs11, cs12, cs13, cs14, cs15, cs16⟩, -, -, -, -, cb⟩ := hc
  obtain ⟨s1, s2, s3, s4, s5, s6, s7, s8, s9, s10⟩ := id hs
  obtain ⟨r1, r2, r3, r4, r5, r6, r7⟩ := id hr
  have h1 := hw.1.2.2.2.1
  have hx : ix (iN b) = b := ix_N (by omega)
  have hv1 := (hv.1 b hb).2
  have hk := fK_le (D 2 b)
  rw [if_pos s1, c_isDead hs hr hw hv hb]
  simp only [bnd_some, bN_0, r1, cs1, cs5, cs13, cs14, s3, s7, s8, hx, (cb b hb).1, c_vforce (hw.2.2.1 b hb).1 (cb b hb).2, inb_T (show b < 5 by omega) (show b < 2 ^ 31 by omega), if_true, r6 b hb, imax_sub (show fK (D 2 b) < 2 ^ 31 by omega) (show v (5 + b) < 2 ^ 31 by omega)]
  unfold sF
  cases bt (v 10) b <;> rfl
theorem c_vhold (hk : D 2 b ≤ 3) (hm : D 5 b ≤ 100) (hc : CB h (D 20 b) D b) {r : Nat} (hr : r ≤ 1) : fV_X14_hold (D 20 b) (iN r) h = some (iN (hK (D 2 b) (D 5 b) r)) := by
  unfold fV_X14_hold fX14_hold fX16_hold fX17_hold fX18_hold fX14_hold
  obtain ⟨h0, h1, h2, -⟩ := hc
  have g2 : iN r = 0 ↔ r = 0 := by rw [show (0 : Int32) = iN 0 from rfl, iN_eq (by omega) (by decide)]
  rcases (show D 2 b = 0 ∨ D 2 b = 1 ∨ D 2 b = 2 ∨ D 2 b = 3 by omega) with e | e | e | e <;> rw [e] at h0 ⊢ <;> simp [h0, bnd_some, h2, hK]
  · exact imax_sub (b := 20) (by omega) (by decide)
  · unfold imin
    simp only [show (20 : Int32) = iN 20 from rfl, show (100 : Int32) = iN 100 from rfl, iN_add, iN_lt (show D 5 b + 20 < 2 ^ 31 by omega) (show 100 < 2 ^ 31 by decide)]
    by_cases hq : D 5 b < 80
    · rw [if_pos hq, if_pos (by omega)]
    · by_cases h3 : D 5 b = 80
      · rw [h3]; rfl
      · rw [if_neg hq, if_neg (by omega)]
  · rcases (show r = 0 ∨ r = 1 by omega) with rfl | rfl
    · rw [if_pos (show iN 0 = 0 from rfl), if_neg (by decide)]
    · rw [if_neg (by decide), if_pos rfl, show (2 : Int32) = iN 2 from rfl, iN_div (by omega) (by decide)]
theorem c_hold (hs : FS h f) (hr : FR h f w D v) (hc : CW h w D) (hw : WOK D) (hv : VOK D B v) (hb : b < D 0 1) : fX4_hold f (iN b) h = some (iN (sH D v b)) := by
  unfold fX4_hold
  obtain ⟨⟨cs1, cs2, cs3, cs4, cs5, cs6, cs7, cs8, cs9, cs10, cs11, cs12, cs13, cs14, cs15, cs16⟩, -, -, -, -, cb⟩ := hc
  obtain ⟨s1, s2, s3, s4, s5, s6, s7, s8, s9, s10⟩ := id hs
  obtain ⟨r1, r2, r3, r4, r5, r6, r7⟩ := id hr
  have h1 := hw.1.2.2.2.1
  have hx : ix (iN b) = b := ix_N (by omega)
  obtain ⟨k1, k2, k3, k4⟩ := hw.2.2.1 b hb
  simp only [s1, bnd_some, r1, r4, cs1, cs5, cs13, cs14, hx, (cb b hb).1, inb_T (show b < 5 by omega) (show b < 2 ^ 31 by omega), if_true, c_vhold k1 k3 (cb b hb).2 hv.2.2.2.1]
  rfl
end
