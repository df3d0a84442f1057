/-! ===== the tables at the start ===== -/
theorem g_K0 {s : State} {args : Array Value} (hta : ∀ w ∈ lw_all, w.before args s = true) (htb : ∀ w ∈ lw_tbl, w.before args s = true) : ∃ (D : va_G) (dA : Nat → ClassId), va_K D gCl (g_tys dA) s := by
  obtain ⟨c0, i0, h0⟩ := u_known (C := RX1) (T := TX1) (N := 31) (n := 31) hta in_X1 (hta _ q137)
  obtain ⟨c1, i1, h1⟩ := u_known (C := RX2) (T := TX2) (N := 1) (n := 1) hta in_X2 (hta _ q145)
  obtain ⟨c2, i2, h2⟩ := u_known (C := RX3) (T := TX3) (N := 3) (n := 3) hta in_X3 (hta _ q155)
  obtain ⟨c3, i3, h3⟩ := u_known (C := RX4) (T := TX4) (N := 3) (n := 3) hta in_X4 (hta _ q169)
  obtain ⟨c4, i4, h4⟩ := u_known (C := RX5) (T := TX5) (N := 6) (n := 6) hta in_X5 (hta _ q183)
  obtain ⟨c5, i5, h5⟩ := u_known (C := RX6) (T := TX6) (N := 49) (n := 49) hta in_X6 (hta _ q1283)
  obtain ⟨c6, i6, h6⟩ := u_known (C := RX7) (T := TX7) (N := 4) (n := 4) hta in_X7 (hta _ q352)
  obtain ⟨c7, i7, h7⟩ := u_known (C := RX9) (T := TX9) (N := 8) (n := 8) hta in_X9 (hta _ q526)
  obtain ⟨c8, i8, h8⟩ := u_known (C := RX10) (T := TX10) (N := 9) (n := 9) hta in_X10 (hta _ q925)
  obtain ⟨c9, i9, h9⟩ := u_known (C := RX11) (T := TX11) (N := 3) (n := 3) hta in_X11 (hta _ q1209)
  obtain ⟨c10, i10, h10⟩ := u_known (C := RX8) (T := TX8a) (N := 1) (n := 7) hta in_X8a (hta _ q404)
  obtain ⟨c11, i11, h11⟩ := u_known (C := RJ10) (T := TJ10) (N := 6) (n := 6) hta in_J10 (hta _ q1246)
  obtain ⟨c12, i12, h12⟩ := u_known (C := RJ11) (T := TJ11) (N := 6) (n := 6) hta in_J11 (hta _ q702)
  obtain ⟨a0, k0, m0, f0, g0, e0⟩ := Cond.arrayClass_spec (hta _ q221)
  obtain ⟨a1, k1, m1, f1, g1, e1⟩ := Cond.arrayClass_spec (hta _ q330)
  obtain ⟨a2, k2, m2, f2, g2, e2⟩ := Cond.arrayClass_spec (hta _ q1436)
  obtain ⟨a3, k3, m3, f3, g3, e3⟩ := Cond.arrayClass_spec (hta _ q329)
  obtain ⟨a4, k4, m4, f4, g4, e4⟩ := Cond.arrayClass_spec (hta _ q743)
  obtain ⟨a5, k5, m5, f5, g5, e5⟩ := Cond.arrayClass_spec (hta _ q954)
  obtain ⟨m6, a6, k6, f6, -, g6, e6, l6⟩ := Cond.arrayOver_spec (htb _ q222)
  obtain ⟨m7, a7, k7, f7, g7, e7, l7⟩ := Cond.arrayOver_specA (htb _ q224)
  obtain ⟨m8, a8, k8, f8, -, g8, e8, l8⟩ := Cond.arrayOver_spec (htb _ q226)
  refine ⟨(fun k => match k with | 0 => c0 | 1 => c1 | 2 => c2 | 3 => c3 | 4 => c4 | 5 => c5 | 6 => c6 | 7 => c7 | 8 => c8 | 9 => c9 | 10 => c10 | 11 => c11 | _ => c12, fun k => match k with | 0 => i0 | 1 => i1 | 2 => i2 | 3 => i3 | 4 => i4 | 5 => i5 | 6 => i6 | 7 => i7 | 8 => i8 | 9 => i9 | 10 => i10 | 11 => i11 | _ => i12), fun k => match k with | 0 => a0 | 1 => a1 | 2 => a2 | 3 => a3 | 4 => a4 | 5 => a5 | 6 => a6 | 7 => a7 | _ => a8, ?_, ?_⟩
  · intro k q hq
    match k, hq with
    | 0, hq => cases hq; exact h0
    | 1, hq => cases hq; exact h1
    | 2, hq => cases hq; exact h2
    | 3, hq => cases hq; exact h3
    | 4, hq => cases hq; exact h4
    | 5, hq => cases hq; exact h5
    | 6, hq => cases hq; exact h6
    | 7, hq => cases hq; exact h7
    | 8, hq => cases hq; exact h8
    | 9, hq => cases hq; exact h9
    | 10, hq => cases hq; exact h10
    | 11, hq => cases hq; exact h11
    | 12, hq => cases hq; exact h12
    | k + 13, hq => exact absurd hq (by simp [gCl])
  · intro k q hq
    match k, hq with
    | 0, hq => cases hq; exact ⟨fun N z => ⟨fun k h => (by cases h), k0, g0, m0, e0⟩, f0⟩
    | 1, hq => cases hq; exact ⟨fun N z => ⟨fun k h => (by cases h), k1, g1, m1, e1⟩, f1⟩
    | 2, hq => cases hq; exact ⟨fun N z => ⟨fun k h => (by cases h), k2, g2, m2, e2⟩, f2⟩
    | 3, hq => cases hq; exact ⟨fun N z => ⟨fun k h => (by cases h), k3, g3, m3, e3⟩, f3⟩
    | 4, hq => cases hq; exact ⟨fun N z => ⟨fun k h => (by cases h), k4, g4, m4, e4⟩, f4⟩
    | 5, hq => cases hq; exact ⟨fun N z => ⟨fun k h => (by cases h), k5, g5, m5, e5⟩, f5⟩
    | 6, hq => cases hq; exact ⟨fun N z => ⟨fun k h => (by cases h), k6, g6, m6, e6⟩, ⟨k6, m6, g6, e6, f6, l6⟩⟩
    | 7, hq => cases hq; exact ⟨fun N z => ⟨fun k h => (by cases h), k7, g7, m7, e7⟩, l7⟩
    | 8, hq => cases hq; exact ⟨fun N z => ⟨fun k h => (by cases h), k8, g8, m8, e8⟩, ⟨k8, m8, g8, e8, f8, l8⟩⟩
    | k + 9, hq => exact absurd hq (by simp [g_tys])
