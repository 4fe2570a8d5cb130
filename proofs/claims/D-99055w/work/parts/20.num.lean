/-! THE PURE LAYER: numbers and loops -/
/-- a whole as an int, a number as a long -/
def iN (n : Nat) : Int32 := Int32.ofNat n
def jZ (z : Int) : Int64 := Int64.ofInt z
theorem ix_N {n : Nat} (h : n < 2 ^ 31) : ix (iN n) = n := Int32.toNatClampNeg_ofNat_of_lt h
theorem iN_nn {n : Nat} (h : n < 2 ^ 31) : ¬ iN n < 0 := fun z => by
  have := Int32.zero_le_ofNat_of_lt h
  exact absurd z (Int32.not_lt.mpr this)
theorem inb_N {n k : Nat} (h : n < k) (hk : n < 2 ^ 31) : inb (iN n) k := fun z => by
  rcases z with z | z
  · exact iN_nn hk z
  · rw [show (iN n).toNatClampNeg = n from ix_N hk] at z; omega
theorem inb_T {n k : Nat} (h : n < k) (hk : n < 2 ^ 31) : inb (iN n) k = True := eq_true (inb_N h hk)
theorem iN_lt {a b : Nat} (ha : a < 2 ^ 31) (hb : b < 2 ^ 31) : (iN a < iN b) = (a < b) := propext (Int32.ofNat_lt_iff_lt ha hb)
theorem iN_le {a b : Nat} (ha : a < 2 ^ 31) (hb : b < 2 ^ 31) : (iN a ≤ iN b) = (a ≤ b) := propext (Int32.ofNat_le_iff_le ha hb)
theorem iN_eq {a b : Nat} (ha : a < 2 ^ 31) (hb : b < 2 ^ 31) : (iN a = iN b) = (a = b) := propext ⟨fun h => by rw [← ix_N ha, ← ix_N hb, h], fun h => by rw [h]⟩
theorem iN_add (a b : Nat) : iN a + iN b = iN (a + b) := (Int32.ofNat_add a b).symm
theorem iN_mul (a b : Nat) : iN a * iN b = iN (a * b) := (Int32.ofNat_mul a b).symm
theorem iN_sub {a b : Nat} (h : b ≤ a) : iN a - iN b = iN (a - b) := (Int32.ofNat_sub a b h).symm
theorem iN_div {a b : Nat} (ha : a < 2 ^ 31) (hb : b < 2 ^ 31) : iN a / iN b = iN (a / b) := (Int32.ofNat_div ha hb).symm
theorem iN_s (k : Nat) : iN k + 1 = iN (k + 1) := iN_add k 1
theorem iN_int (a : Nat) (h : a < 2 ^ 31) : (iN a).toInt = a := Int32.toInt_ofNat_of_lt h
theorem iN_of {x : Int32} (h : ¬ x < 0) : x = iN (ix x) := (Int32.ofNat_toNatClampNeg x (Int32.not_lt.mp h)).symm
theorem ix_lt (x : Int32) : ix x < 2 ^ 31 := Int32.toNatClampNeg_lt x
theorem iN_subi (a b : Nat) : iN a - iN b = Int32.ofInt ((a : Int) - b) := by
  rw [Int32.ofInt_sub, Int32.ofInt_eq_ofNat, Int32.ofInt_eq_ofNat]; rfl
theorem imax_sub {a b : Nat} (ha : a < 2 ^ 31) (hb : b < 2 ^ 31) : imax 0 (iN a - iN b) = iN (a - b) := by
  unfold imax
  by_cases h : b < a
  · rw [iN_sub (Nat.le_of_lt h), if_pos]
    show iN 0 < iN (a - b)
    rw [iN_lt (by decide) (by omega)]; omega
  · rw [if_neg, show a - b = 0 by omega]; rfl
    rw [iN_subi, Int32.lt_iff_toInt_lt, Int32.toInt_ofInt_of_le (by omega) (by omega)]
    show ¬ (0 : Int) < _
    omega
theorem jZ_add (a b : Int) : jZ a + jZ b = jZ (a + b) := (Int64.ofInt_add a b).symm
theorem jZ_sub (a b : Int) : jZ a - jZ b = jZ (a - b) := (Int64.ofInt_sub a b).symm
theorem jZ_mul (a b : Int) : jZ a * jZ b = jZ (a * b) := (Int64.ofInt_mul a b).symm
theorem jZ_neg (a : Int) : - jZ a = jZ (-a) := (Int64.ofInt_neg a).symm
def jB (a : Int) : Prop := -2 ^ 63 ≤ a ∧ a < 2 ^ 63
theorem jZ_int {a : Int} (h : jB a) : (jZ a).toInt = a := Int64.toInt_ofInt_of_le h.1 h.2
theorem jZ_lt {a b : Int} (ha : jB a) (hb : jB b) : (jZ a < jZ b) = (a < b) := by rw [Int64.lt_iff_toInt_lt, jZ_int ha, jZ_int hb]
theorem jZ_le {a b : Int} (ha : jB a) (hb : jB b) : (jZ a ≤ jZ b) = (a ≤ b) := by rw [Int64.le_iff_toInt_le, jZ_int ha, jZ_int hb]
theorem jZ_eq {a b : Int} (ha : jB a) (hb : jB b) : (jZ a = jZ b) = (a = b) := propext ⟨fun h => by rw [← jZ_int ha, ← jZ_int hb, h], fun h => by rw [h]⟩
theorem iN_long {n : Nat} (h : n < 2 ^ 31) : (iN n).toInt64 = jZ n := Int64.toInt_inj.mp (by rw [Int32.toInt_toInt64, iN_int n h, jZ_int ⟨by omega, by omega⟩])
theorem i32_long (x : Int32) : x.toInt64 = jZ x.toInt := Int64.toInt_inj.mp (by
  have h1 := Int32.toInt_lt x
  have h2 := Int32.le_toInt x
  rw [Int32.toInt_toInt64, jZ_int ⟨by omega, by omega⟩])
/-! combinators -/
theorem bnd_some {α β : Type} (a : α) (f : α → Option β) : bnd (some a) f = f a := rfl
theorem lt_eq {β : Type} (v : AH) (f : AH → Option β) : lt v f = f v := rfl
theorem ons_some {β : Type} (x : Nat) (a : Option β) (f : Nat → Option β) : ons (some x) a f = f x := rfl
theorem ons_none {β : Type} (a : Option β) (f : Nat → Option β) : ons none a f = a := rfl
theorem bnx_l {α β : Type} (a : α) (t : Nat × AH → Option β) (f : α → Option β) : bnx (some (.inl a)) t f = f a := rfl
theorem bnx_r {α β : Type} (q : Nat × AH) (t : Nat × AH → Option β) (f : α → Option β) : bnx (some (.inr q)) t f = t q := rfl
/-- a fold over 0 .. n - 1 -/
def fN {α : Type} (f : Nat → α → α) : Nat → α → α
  | 0, a => a
  | k + 1, a => f k (fN f k a)
theorem iter_at {σ ρ : Type} {step : σ → Option (σ ⊕ ρ)} (S : Nat → σ) (n : Nat) (r : ρ) (h : ∀ k, k < n → step (S k) = some (.inl (S (k + 1)))) (he : step (S n) = some (.inr r)) : ∀ (j k f : Nat), k + j = n → j < f → iter step f (S k) = some r := by
  intro j
  induction j with
  | zero =>
    intro k f hk hf
    cases f with
    | zero => omega
    | succ f =>
      rw [show k = n by omega]
      simp only [iter, he]
  | succ j ih =>
    intro k f hk hf
    cases f with
    | zero => omega
    | succ f =>
      simp only [iter, h k (by omega)]
      exact ih (k + 1) f (by omega) (by omega)
/-- a loop as its states tell: n steps, then the end -/
theorem iter_for {σ ρ : Type} {step : σ → Option (σ ⊕ ρ)} {s0 : σ} {r : ρ} (S : Nat → σ) (n : Nat) (hn : n < 1000000) (h0 : S 0 = s0) (h : ∀ k, k < n → step (S k) = some (.inl (S (k + 1)))) (he : step (S n) = some (.inr r)) : iter step FU s0 = some r := by
  rw [← h0]
  exact iter_at S n r h he n 0 FU (by omega) hn
/-- a loop with an invariant over its number of steps -/
theorem iter_inv {σ ρ : Type} {step : σ → Option (σ ⊕ ρ)} {s0 : σ} (P : Nat → σ → Prop) (E : ρ → Prop) (n : Nat) (hn : n < 1000000) (h0 : P 0 s0) (h : ∀ k s, k < n → P k s → (∃ s', step s = some (.inl s') ∧ P (k + 1) s') ∨ ∃ r, step s = some (.inr r) ∧ E r) (he : ∀ s, P n s → ∃ r, step s = some (.inr r) ∧ E r) : ∃ r, iter step FU s0 = some r ∧ E r := by
  have key : ∀ (j k f : Nat) (s : σ), k + j = n → j < f → P k s → ∃ r, iter step f s = some r ∧ E r := by
    intro j
    induction j with
    | zero =>
      intro k f s hk hf hp
      cases f with
      | zero => omega
      | succ f =>
        obtain ⟨r, h1, h2⟩ := he s (by rw [← (show k = n by omega)]; exact hp)
        exact ⟨r, by simp only [iter, h1], h2⟩
    | succ j ih =>
      intro k f s hk hf hp
      cases f with
      | zero => omega
      | succ f =>
        rcases h k s (by omega) hp with ⟨s', h1, h2⟩ | ⟨r, h1, h2⟩
        · obtain ⟨r, h3, h4⟩ := ih (k + 1) f s' (by omega) (by omega) h2
          exact ⟨r, by simp only [iter, h1]; exact h3, h4⟩
        · exact ⟨r, by simp only [iter, h1], h2⟩
  exact key n 0 FU s0 (by omega) hn h0
