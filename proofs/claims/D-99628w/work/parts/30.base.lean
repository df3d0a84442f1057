set_option maxRecDepth 100000
/-! ===== PURE: numbers ===== -/
abbrev i32 (z : Int) : Int32 := Int32.ofInt z
theorem i_add (a b : Int) : i32 a + i32 b = i32 (a + b) := (Int32.ofInt_add a b).symm
theorem i_sub (a b : Int) : i32 a - i32 b = i32 (a - b) := (Int32.ofInt_sub a b).symm
theorem i_mul (a b : Int) : i32 a * i32 b = i32 (a * b) := (Int32.ofInt_mul a b).symm
theorem i_neg (a : Int) : -(i32 a) = i32 (-a) := (Int32.ofInt_neg a).symm
theorem i_toInt {a : Int} (h : -2147483648 ≤ a ∧ a < 2147483648) : (i32 a).toInt = a := Int32.toInt_ofInt_of_le (by simpa using h.1) (by simpa using h.2)
theorem i_eq {a b : Int} (h : (-2147483648 ≤ a ∧ a < 2147483648) ∧ -2147483648 ≤ b ∧ b < 2147483648) : (i32 a = i32 b) ↔ a = b := by
  rw [← Int32.toInt_inj, i_toInt h.1, i_toInt h.2]
theorem i_le {a b : Int} (h : (-2147483648 ≤ a ∧ a < 2147483648) ∧ -2147483648 ≤ b ∧ b < 2147483648) : (i32 a ≤ i32 b) ↔ a ≤ b := by
  rw [Int32.le_iff_toInt_le, i_toInt h.1, i_toInt h.2]
theorem i_lt {a b : Int} (h : (-2147483648 ≤ a ∧ a < 2147483648) ∧ -2147483648 ≤ b ∧ b < 2147483648) : (i32 a < i32 b) ↔ a < b := by
  rw [Int32.lt_iff_toInt_lt, i_toInt h.1, i_toInt h.2]
theorem i_self (x : Int32) : i32 x.toInt = x := Int32.ofInt_toInt x
theorem i_in {a : Int} {n : Nat} (h : -2147483648 ≤ a ∧ a < 2147483648) : (g_in (i32 a) n = true) ↔ (0 ≤ a ∧ a < n) := by
  unfold g_in
  rw [i_toInt h, decide_eq_true_iff]
theorem i_nat {a : Int} (h : 0 ≤ a ∧ a < 2147483648) : (i32 a).toNatClampNeg = a.toNat := by
  show (i32 a).toInt.toNat = a.toNat
  rw [i_toInt (by omega)]
theorem i_div {a b : Int} (h : (0 ≤ a ∧ a < 2147483648) ∧ 0 < b ∧ b < 2147483648) : i32 a / i32 b = i32 (a / b) := by
  apply Int32.toInt_inj.mp
  have h1 : (0 : Int) ≤ a / b := Int.ediv_nonneg h.1.1 (by omega)
  have h2 : a / b ≤ a := Int.ediv_le_self _ h.1.1
  rw [Int32.toInt_div, i_toInt (by omega), i_toInt (by omega), i_toInt (by omega), Int.tdiv_eq_ediv_of_nonneg h.1.1, Int.bmod_eq_of_le (by omega) (by omega)]
theorem i_rem {a b : Int} (h : (0 ≤ a ∧ a < 2147483648) ∧ 0 < b ∧ b < 2147483648) : g_rem (i32 a) (i32 b) = i32 (a % b) := by
  show i32 a - i32 a / i32 b * i32 b = _
  rw [i_div h, i_mul, i_sub, Int.emod_def, Int.mul_comm]
theorem i_abs {a : Int} (h : -2147483648 < a ∧ a < 2147483648) : g_abs (i32 a) = i32 a.natAbs := by
  show (if (0 : Int32) ≤ i32 a then i32 a else 0 - i32 a) = _
  rw [show (0 : Int32) = i32 0 from rfl, i_sub]
  by_cases h0 : 0 ≤ a
  · rw [if_pos ((i_le (by omega)).mpr h0)]; congr 1; omega
  · rw [if_neg (fun z => h0 ((i_le (by omega)).mp z))]; congr 1; omega
theorem i_max {a b : Int} (h : (-2147483648 ≤ a ∧ a < 2147483648) ∧ -2147483648 ≤ b ∧ b < 2147483648) : g_max (i32 a) (i32 b) = i32 (max a b) := by
  show (if i32 a < i32 b then i32 b else i32 a) = _
  by_cases h0 : a < b
  · rw [if_pos ((i_lt h).mpr h0)]; congr 1; omega
  · rw [if_neg (fun z => h0 ((i_lt h).mp z))]; congr 1; omega
theorem i_min {a b : Int} (h : (-2147483648 ≤ a ∧ a < 2147483648) ∧ -2147483648 ≤ b ∧ b < 2147483648) : g_min (i32 a) (i32 b) = i32 (min a b) := by
  show (if i32 b < i32 a then i32 b else i32 a) = _
  by_cases h0 : b < a
  · rw [if_pos ((i_lt (by omega)).mpr h0)]; congr 1; omega
  · rw [if_neg (fun z => h0 ((i_lt (by omega)).mp z))]; congr 1; omega
/-- loops: the state after k turns is st k, the loop ends after N -/
theorem g_lpN {V E : Type} {f : V → Option (V ⊕ E)} (st : Nat → V) {e : E} (N : Nat) (hs : ∀ k, k < N → f (st k) = some (.inl (st (k + 1)))) (he : f (st N) = some (.inr e)) : ∀ (fuel i : Nat), i ≤ N → N - i < fuel → g_lp f fuel (st i) = some e := by
  intro fuel
  induction fuel with
  | zero => intro i _ h; omega
  | succ n ih =>
    intro i hi hf
    rcases Nat.lt_or_ge i N with h | h
    · simp only [g_lp, hs i h]
      exact ih (i + 1) (by omega) (by omega)
    · have : i = N := by omega
      subst this
      simp only [g_lp, he]
theorem g_lpF {V E : Type} {f : V → Option (V ⊕ E)} (st : Nat → V) {v0 : V} {e : E} (N : Nat) (h0 : v0 = st 0) (hN : N < 1000000) (hs : ∀ k, k < N → f (st k) = some (.inl (st (k + 1)))) (he : f (st N) = some (.inr e)) : g_lp f g_fu v0 = some e := by
  subst h0
  exact g_lpN st N hs he g_fu 0 (Nat.zero_le _) (by unfold g_fu; omega)
