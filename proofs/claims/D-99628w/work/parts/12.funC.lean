set_option maxRecDepth 100000
/-! the component, extracted -/
noncomputable def mF_C1_common (rc : Int64 → Int64 → Option Int64) (v0 : Int64) (v2 : Int64) : Option Int64 :=
  if (lg_cmp v2 (0 : Int64)) = 0 then
    some v0
  else
    if ¬ v2 = 0 then
    (rc v2 (g_remL v0 v2)).bind fun x1 =>
    some x1
  else none
noncomputable def mR_C1_common : Nat → Int64 → Int64 → Option Int64
  | 0 => fun _ _ => none
  | n + 1 => mF_C1_common (mR_C1_common n)
noncomputable def mC_C1_common (a b : Int64) : Option Int64 := mR_C1_common 100 a b
noncomputable def mF_C7_here_k26 (σ : g_S) (u9 : Nat) : Option Int32 :=
  if ¬ (σ.2.2 26 u9 200) = 0 then
    if ¬ (σ.2.2 26 u9 200) = 0 then
    if (σ.1 26 u9 2) ≤ (σ.1 26 u9 3) then
    some (-1 : Int32)
  else
    if g_set (σ.2.2 26 u9 200) 1 then
    if ¬ (σ.2.2 26 u9 200) = 0 then
    if g_in (σ.1 26 u9 3) 80 = true ∧ ¬ (σ.2.2 27 u9 200) = 0 then
    some ((σ.1 27 u9 (σ.1 26 u9 3).toNatClampNeg) &&& (255 : Int32))
  else none
  else none
  else none
  else none
  else none
noncomputable def mF_C7_passes_k26 (σ : g_S) (u9 : Nat) (v1 : Int32) : Option (Int32 × g_S) :=
  if ¬ (σ.2.2 26 u9 200) = 0 then
    (mF_C7_here_k26 σ u9).bind fun x1 =>
    if x1 = v1 then
    if ¬ (σ.2.2 26 u9 200) = 0 then
    if ¬ (σ.2.2 26 u9 200) = 0 then
    g_let (g_sI σ 26 u9 3 ((σ.1 26 u9 3) + (1 : Int32))) fun σ2 =>
    some ((1 : Int32), σ2)
  else none
  else none
  else
    some ((0 : Int32), σ)
  else none
noncomputable def mF_C1_in (v0 : Int64) (v2 : Int64) (v4 : Int64) : Option Int32 :=
  if (lg_cmp v0 v2) < 0 then
    some (0 : Int32)
  else
    if 0 < (lg_cmp v0 v4) then
    some (0 : Int32)
  else
    some (1 : Int32)
noncomputable def mF_C7_need_k26 (σ : g_S) (u9 : Nat) (v1 : Int32) : Option g_S :=
  if v1 = 0 then
    none
  else
    some σ
noncomputable def mF_C1_has (v0 : Int64) (v2 : Int32) : Option Int32 :=
  if (lg_cmp ((v0 >>> (v2.toInt64 &&& 63)) &&& (1 : Int64)) (1 : Int64)) = 0 then
    some (1 : Int32)
  else
    some (0 : Int32)
noncomputable def mB_C1_peopleOn_6 (σ : g_S) (u0 : Nat) (v2 : Int64) (v4 : Int32) (v5 : Int32) : Option ((Int32 × Int32) ⊕ Int32) :=
  if (σ.1 0 0 5) ≤ v5 then
    some (.inr v4)
  else
    if g_in v5 8 then
    (mF_C1_has v2 (σ.1 5 u0 v5.toNatClampNeg)).bind fun x1 =>
    if x1 = 0 then
    g_let (v4 ||| (0 : Int32)) fun x2 =>
    g_let (v5 + (1 : Int32)) fun x3 =>
    some (.inl (x2, x3))
  else
    g_let (v4 ||| ((1 : Int32) <<< (v5 &&& 31))) fun x4 =>
    g_let (v5 + (1 : Int32)) fun x5 =>
    some (.inl (x4, x5))
  else none
noncomputable def mF_C1_peopleOn (σ : g_S) (u0 : Nat) (v2 : Int64) : Option Int32 :=
  (g_lp (fun v => mB_C1_peopleOn_6 σ u0 v2 v.1 v.2) g_fu ((0 : Int32), (0 : Int32))).bind fun e6 =>
    some e6
noncomputable def mF_C1_lightOf (σ : g_S) (v1 : Int32) : Option Int32 :=
  if (σ.2.2 0 0 14) < 2 then
    if (σ.2.2 0 0 14) < 2 then
    if ¬ (σ.2.2 11 (σ.2.2 0 0 14) 0) = 0 then
    if ¬ (Int32.ofNat (σ.2.2 11 (σ.2.2 0 0 14) 0)) = 0 then
    if g_in (g_rem v1 (Int32.ofNat (σ.2.2 11 (σ.2.2 0 0 14) 0))) (σ.2.2 11 (σ.2.2 0 0 14) 0) then
    some (σ.1 11 (σ.2.2 0 0 14) (g_rem v1 (Int32.ofNat (σ.2.2 11 (σ.2.2 0 0 14) 0))).toNatClampNeg)
  else none
  else none
  else none
  else none
  else none
noncomputable def mJ_C9_value_k26_186 (σ : g_S) (u9 : Nat) : Option Int32 :=
  if g_set (σ.2.2 26 u9 200) 0 then
    if ¬ (σ.2.2 26 u9 200) = 0 then
    if (σ.2.2 26 u9 4) = 0 then
    if ¬ (σ.2.2 26 u9 200) = 0 then
    if (σ.2.2 26 u9 4) = 0 then
    none
  else
    if ((σ.2.2 26 u9 4) - 1) < 18 then
    if ¬ (σ.2.2 26 u9 200) = 0 then
    if g_in (σ.1 26 u9 5) 8 then
    none
  else none
  else none
  else none
  else none
  else
    if ((σ.2.2 26 u9 4) - 1) < 18 then
    if ¬ (σ.2.2 26 u9 200) = 0 then
    if (σ.2.2 26 u9 4) = 0 then
    none
  else
    if ((σ.2.2 26 u9 4) - 1) < 18 then
    if ¬ (σ.2.2 26 u9 200) = 0 then
    if g_in (σ.1 26 u9 5) 8 then
    (mF_C1_peopleOn σ ((σ.2.2 26 u9 4) - 1) ((1 : Int64) <<< ((σ.1 5 ((σ.2.2 26 u9 4) - 1) (σ.1 26 u9 5).toNatClampNeg).toInt64 &&& 63))).bind fun x5 =>
    (mF_J8_bitCount x5).bind fun x6 =>
    some x6
  else none
  else none
  else none
  else none
  else none
  else none
  else none
noncomputable def mF_C9_value_k26 (σ : g_S) (u9 : Nat) (v1 : Int32) : Option Int32 :=
  if v1 = (98 : Int32) then
    if ¬ (σ.2.2 26 u9 200) = 0 then
    some (σ.1 26 u9 6)
  else none
  else if v1 = (99 : Int32) then
    if ¬ (σ.2.2 26 u9 200) = 0 then
    if (σ.2.2 26 u9 4) = 0 then
    none
  else
    if ((σ.2.2 26 u9 4) - 1) < 18 then
    if ¬ (σ.2.2 26 u9 200) = 0 then
    if g_in (σ.1 26 u9 5) 8 then
    if g_set (σ.2.2 26 u9 200) 0 then
    if ¬ (σ.1 0 0 4) = 0 then
    some (g_rem (σ.1 5 ((σ.2.2 26 u9 4) - 1) (σ.1 26 u9 5).toNatClampNeg) (σ.1 0 0 4))
  else none
  else none
  else none
  else none
  else none
  else none
  else if v1 = (100 : Int32) then
    (mJ_C9_value_k26_186 σ u9)
  else if v1 = (101 : Int32) then
    (mJ_C9_value_k26_186 σ u9)
  else if v1 = (102 : Int32) then
    if ¬ (σ.2.2 26 u9 200) = 0 then
    if (σ.2.2 26 u9 4) = 0 then
    none
  else
    if ((σ.2.2 26 u9 4) - 1) < 18 then
    if ¬ (σ.2.2 26 u9 200) = 0 then
    if g_in (σ.1 26 u9 5) 8 then
    some (σ.1 6 ((σ.2.2 26 u9 4) - 1) (σ.1 26 u9 5).toNatClampNeg)
  else none
  else none
  else none
  else none
  else if v1 = (103 : Int32) then
    (mJ_C9_value_k26_186 σ u9)
  else if v1 = (104 : Int32) then
    (mJ_C9_value_k26_186 σ u9)
  else if v1 = (105 : Int32) then
    (mJ_C9_value_k26_186 σ u9)
  else if v1 = (106 : Int32) then
    (mJ_C9_value_k26_186 σ u9)
  else if v1 = (107 : Int32) then
    if ¬ (σ.2.2 26 u9 200) = 0 then
    if (σ.2.2 26 u9 4) = 0 then
    none
  else
    if ((σ.2.2 26 u9 4) - 1) < 18 then
    if ¬ (σ.2.2 26 u9 200) = 0 then
    if g_in (σ.1 26 u9 5) 8 then
    (mF_J8_bitCount (σ.1 8 ((σ.2.2 26 u9 4) - 1) (σ.1 26 u9 5).toNatClampNeg)).bind fun x9 =>
    some x9
  else none
  else none
  else none
  else none
  else if v1 = (108 : Int32) then
    if g_set (σ.2.2 26 u9 200) 0 then
    if ¬ (σ.2.2 26 u9 200) = 0 then
    if (σ.2.2 26 u9 4) = 0 then
    none
  else
    if ((σ.2.2 26 u9 4) - 1) < 18 then
    (mF_C1_lightOf σ (σ.1 4 ((σ.2.2 26 u9 4) - 1) 5)).bind fun x11 =>
    some x11
  else none
  else none
  else none
  else if v1 = (109 : Int32) then
    (mJ_C9_value_k26_186 σ u9)
  else if v1 = (110 : Int32) then
    if ¬ (σ.2.2 26 u9 200) = 0 then
    if (σ.2.2 26 u9 4) = 0 then
    none
  else
    if ((σ.2.2 26 u9 4) - 1) < 18 then
    some (g_rem (σ.1 4 ((σ.2.2 26 u9 4) - 1) 5) (7 : Int32))
  else none
  else none
  else if v1 = (111 : Int32) then
    (mJ_C9_value_k26_186 σ u9)
  else if v1 = (112 : Int32) then
    (mJ_C9_value_k26_186 σ u9)
  else if v1 = (113 : Int32) then
    (mJ_C9_value_k26_186 σ u9)
  else if v1 = (114 : Int32) then
    if ¬ (σ.2.2 26 u9 200) = 0 then
    if (σ.2.2 26 u9 4) = 0 then
    none
  else
    if ((σ.2.2 26 u9 4) - 1) < 18 then
    if ¬ (σ.2.2 26 u9 200) = 0 then
    if g_in (σ.1 26 u9 5) 8 then
    if g_set (σ.2.2 26 u9 200) 0 then
    if ¬ (σ.1 0 0 4) = 0 then
    some ((σ.1 5 ((σ.2.2 26 u9 4) - 1) (σ.1 26 u9 5).toNatClampNeg) / (σ.1 0 0 4))
  else none
  else none
  else none
  else none
  else none
  else none
  else (mJ_C9_value_k26_186 σ u9)
noncomputable def mF_C7_one_k26 (σ : g_S) (u9 : Nat) (v1 : Int32) (v2 : Int32) : Option (Int32 × g_S) :=
  if ¬ (σ.2.2 26 u9 200) = 0 then
    (mF_C7_here_k26 σ u9).bind fun x1 =>
    (mF_C1_in (x1.toInt64) (v1.toInt64) (((v1 + v2) - (1 : Int32)).toInt64)).bind fun x2 =>
    if ¬ (σ.2.2 26 u9 200) = 0 then
    (mF_C7_need_k26 σ u9 x2).bind fun σ3 =>
    if ¬ (σ3.2.2 26 u9 200) = 0 then
    if ¬ (σ3.2.2 26 u9 200) = 0 then
    g_let (g_sI σ3 26 u9 3 ((σ3.1 26 u9 3) + (1 : Int32))) fun σ4 =>
    if g_set (σ4.2.2 26 u9 200) 1 then
    if ¬ (σ4.2.2 26 u9 200) = 0 then
    if g_in ((σ4.1 26 u9 3) - (1 : Int32)) 80 = true ∧ ¬ (σ4.2.2 27 u9 200) = 0 then
    some (((σ4.1 27 u9 ((σ4.1 26 u9 3) - (1 : Int32)).toNatClampNeg) - v1), σ4)
  else none
  else none
  else none
  else none
  else none
  else none
  else none
noncomputable def mB_C7_number_k26_11 (σ : g_S) (u9 : Nat) (v1 : Int32) (v2 : Int32) (v3 : Int32) : Option ((Int32 × Int32 × g_S) ⊕ (Int32 × g_S)) :=
  if v1 ≤ v3 then
    some (.inr (v2, σ))
  else
    if ¬ (σ.2.2 26 u9 200) = 0 then
    (mF_C7_here_k26 σ u9).bind fun x3 =>
    (mF_C1_in (x3.toInt64) (48 : Int64) (57 : Int64)).bind fun x4 =>
    if x4 = 0 then
    some (.inr (v2, σ))
  else
    if ¬ (σ.2.2 26 u9 200) = 0 then
    g_b2 (mF_C7_one_k26 σ u9 (48 : Int32) (10 : Int32)) fun x6 σ5 =>
    g_let (((10 : Int32) * v2) + x6) fun x7 =>
    g_let (v3 + (1 : Int32)) fun x8 =>
    some (.inl (x7, x8, σ5))
  else none
  else none
noncomputable def mF_C7_number_k26 (σ : g_S) (u9 : Nat) (v1 : Int32) : Option (Int32 × g_S) :=
  if ¬ (σ.2.2 26 u9 200) = 0 then
    g_b2 (mF_C7_one_k26 σ u9 (48 : Int32) (10 : Int32)) fun x2 σ1 =>
    (g_lp (fun v => mB_C7_number_k26_11 v.2.2 u9 v1 v.1 v.2.1) g_fu (x2, (1 : Int32), σ1)).bind fun e9 =>
    some (e9.1, e9.2)
  else none
noncomputable def mF_C9_held_k26 (σ : g_S) (rc : ((g_S → Nat → Int32 → Option (Int32 × g_S)) × (g_S → Nat → Int32 → Option (Int32 × g_S)) × (g_S → Nat → Int32 → Option (Int32 × g_S)) × (g_S → Nat → Int32 → Option (Int32 × g_S)))) (u9 : Nat) (v1 : Int32) : Option (Int32 × g_S) :=
  if ¬ (σ.2.2 26 u9 200) = 0 then
    g_b2 (rc.2.1 σ u9 v1) fun x2 σ1 =>
    if ¬ (σ1.2.2 26 u9 200) = 0 then
    g_b2 (mF_C7_passes_k26 σ1 u9 (60 : Int32)) fun x4 σ3 =>
    if x4 = 0 then
    if ¬ (σ3.2.2 26 u9 200) = 0 then
    g_b2 (mF_C7_passes_k26 σ3 u9 (62 : Int32)) fun x6 σ5 =>
    if x6 = 0 then
    if ¬ (σ5.2.2 26 u9 200) = 0 then
    g_b2 (mF_C7_passes_k26 σ5 u9 (61 : Int32)) fun x8 σ7 =>
    if x8 = 0 then
    some (x2, σ7)
  else
    if ¬ (σ7.2.2 26 u9 200) = 0 then
    g_b2 (rc.2.1 σ7 u9 v1) fun x10 σ9 =>
    if x2 = x10 then
    some ((1 : Int32), σ9)
  else
    some ((0 : Int32), σ9)
  else none
  else none
  else
    if ¬ (σ5.2.2 26 u9 200) = 0 then
    g_b2 (rc.2.1 σ5 u9 v1) fun x12 σ11 =>
    if x2 ≤ x12 then
    some ((0 : Int32), σ11)
  else
    some ((1 : Int32), σ11)
  else none
  else none
  else
    if ¬ (σ3.2.2 26 u9 200) = 0 then
    g_b2 (rc.2.1 σ3 u9 v1) fun x14 σ13 =>
    if x14 ≤ x2 then
    some ((0 : Int32), σ13)
  else
    some ((1 : Int32), σ13)
  else none
  else none
  else none
noncomputable def mJ_C9_sum_k26_38 (σ : g_S) (rc : ((g_S → Nat → Int32 → Option (Int32 × g_S)) × (g_S → Nat → Int32 → Option (Int32 × g_S)) × (g_S → Nat → Int32 → Option (Int32 × g_S)) × (g_S → Nat → Int32 → Option (Int32 × g_S)))) (u9 : Nat) (v1 : Int32) (v2 : Int32) (s0 : Int32) : Option ((Int32 × g_S) ⊕ (Int32 × g_S)) :=
  if ¬ (σ.2.2 26 u9 200) = 0 then
    if ¬ (σ.2.2 26 u9 200) = 0 then
    g_let (g_sI σ 26 u9 3 ((σ.1 26 u9 3) + (1 : Int32))) fun σ5 =>
    if ¬ (σ5.2.2 26 u9 200) = 0 then
    g_b2 (rc.2.2.1 σ5 u9 v1) fun x7 σ6 =>
    if s0 = 0 then
    g_let (v2 - x7) fun x8 =>
    some (.inl (x8, σ6))
  else
    g_let (v2 + x7) fun x9 =>
    some (.inl (x9, σ6))
  else none
  else none
  else none
noncomputable def mJ_C9_sum_k26_24 (σ : g_S) (rc : ((g_S → Nat → Int32 → Option (Int32 × g_S)) × (g_S → Nat → Int32 → Option (Int32 × g_S)) × (g_S → Nat → Int32 → Option (Int32 × g_S)) × (g_S → Nat → Int32 → Option (Int32 × g_S)))) (u9 : Nat) (v1 : Int32) (v2 : Int32) : Option ((Int32 × g_S) ⊕ (Int32 × g_S)) :=
  if ¬ (σ.2.2 26 u9 200) = 0 then
    (mF_C7_here_k26 σ u9).bind fun x4 =>
    if x4 = (43 : Int32) then
    (mJ_C9_sum_k26_38 σ rc u9 v1 v2 (1 : Int32))
  else
    (mJ_C9_sum_k26_38 σ rc u9 v1 v2 (0 : Int32))
  else none
noncomputable def mB_C9_sum_k26_6 (σ : g_S) (rc : ((g_S → Nat → Int32 → Option (Int32 × g_S)) × (g_S → Nat → Int32 → Option (Int32 × g_S)) × (g_S → Nat → Int32 → Option (Int32 × g_S)) × (g_S → Nat → Int32 → Option (Int32 × g_S)))) (u9 : Nat) (v1 : Int32) (v2 : Int32) : Option ((Int32 × g_S) ⊕ (Int32 × g_S)) :=
  if ¬ (σ.2.2 26 u9 200) = 0 then
    (mF_C7_here_k26 σ u9).bind fun x3 =>
    if x3 = (43 : Int32) then
    (mJ_C9_sum_k26_24 σ rc u9 v1 v2)
  else
    if ¬ (σ.2.2 26 u9 200) = 0 then
    (mF_C7_here_k26 σ u9).bind fun x10 =>
    if x10 = (45 : Int32) then
    (mJ_C9_sum_k26_24 σ rc u9 v1 v2)
  else
    some (.inr (v2, σ))
  else none
  else none
noncomputable def mF_C9_sum_k26 (σ : g_S) (rc : ((g_S → Nat → Int32 → Option (Int32 × g_S)) × (g_S → Nat → Int32 → Option (Int32 × g_S)) × (g_S → Nat → Int32 → Option (Int32 × g_S)) × (g_S → Nat → Int32 → Option (Int32 × g_S)))) (u9 : Nat) (v1 : Int32) : Option (Int32 × g_S) :=
  if ¬ (σ.2.2 26 u9 200) = 0 then
    g_b2 (rc.2.2.1 σ u9 v1) fun x2 σ1 =>
    (g_lp (fun v => mB_C9_sum_k26_6 v.2 rc u9 v1 v.1) g_fu (x2, σ1)).bind fun e11 =>
    some (e11.1, e11.2)
  else none
noncomputable def mJ_C9_product_k26_38 (σ : g_S) (rc : ((g_S → Nat → Int32 → Option (Int32 × g_S)) × (g_S → Nat → Int32 → Option (Int32 × g_S)) × (g_S → Nat → Int32 → Option (Int32 × g_S)) × (g_S → Nat → Int32 → Option (Int32 × g_S)))) (u9 : Nat) (v1 : Int32) (v2 : Int32) (s0 : Int32) : Option ((Int32 × g_S) ⊕ (Int32 × g_S)) :=
  if ¬ (σ.2.2 26 u9 200) = 0 then
    if ¬ (σ.2.2 26 u9 200) = 0 then
    g_let (g_sI σ 26 u9 3 ((σ.1 26 u9 3) + (1 : Int32))) fun σ5 =>
    if ¬ (σ5.2.2 26 u9 200) = 0 then
    g_b2 (rc.2.2.2 σ5 u9 v1) fun x7 σ6 =>
    if s0 = 0 then
    if x7 = 0 then
    some (.inl ((0 : Int32), σ6))
  else
    if ¬ x7 = 0 then
    g_let (v2 / x7) fun x8 =>
    some (.inl (x8, σ6))
  else none
  else
    g_let (v2 * x7) fun x9 =>
    some (.inl (x9, σ6))
  else none
  else none
  else none
noncomputable def mJ_C9_product_k26_24 (σ : g_S) (rc : ((g_S → Nat → Int32 → Option (Int32 × g_S)) × (g_S → Nat → Int32 → Option (Int32 × g_S)) × (g_S → Nat → Int32 → Option (Int32 × g_S)) × (g_S → Nat → Int32 → Option (Int32 × g_S)))) (u9 : Nat) (v1 : Int32) (v2 : Int32) : Option ((Int32 × g_S) ⊕ (Int32 × g_S)) :=
  if ¬ (σ.2.2 26 u9 200) = 0 then
    (mF_C7_here_k26 σ u9).bind fun x4 =>
    if x4 = (42 : Int32) then
    (mJ_C9_product_k26_38 σ rc u9 v1 v2 (1 : Int32))
  else
    (mJ_C9_product_k26_38 σ rc u9 v1 v2 (0 : Int32))
  else none
noncomputable def mB_C9_product_k26_6 (σ : g_S) (rc : ((g_S → Nat → Int32 → Option (Int32 × g_S)) × (g_S → Nat → Int32 → Option (Int32 × g_S)) × (g_S → Nat → Int32 → Option (Int32 × g_S)) × (g_S → Nat → Int32 → Option (Int32 × g_S)))) (u9 : Nat) (v1 : Int32) (v2 : Int32) : Option ((Int32 × g_S) ⊕ (Int32 × g_S)) :=
  if ¬ (σ.2.2 26 u9 200) = 0 then
    (mF_C7_here_k26 σ u9).bind fun x3 =>
    if x3 = (42 : Int32) then
    (mJ_C9_product_k26_24 σ rc u9 v1 v2)
  else
    if ¬ (σ.2.2 26 u9 200) = 0 then
    (mF_C7_here_k26 σ u9).bind fun x10 =>
    if x10 = (47 : Int32) then
    (mJ_C9_product_k26_24 σ rc u9 v1 v2)
  else
    some (.inr (v2, σ))
  else none
  else none
noncomputable def mF_C9_product_k26 (σ : g_S) (rc : ((g_S → Nat → Int32 → Option (Int32 × g_S)) × (g_S → Nat → Int32 → Option (Int32 × g_S)) × (g_S → Nat → Int32 → Option (Int32 × g_S)) × (g_S → Nat → Int32 → Option (Int32 × g_S)))) (u9 : Nat) (v1 : Int32) : Option (Int32 × g_S) :=
  if ¬ (σ.2.2 26 u9 200) = 0 then
    g_b2 (rc.2.2.2 σ u9 v1) fun x2 σ1 =>
    (g_lp (fun v => mB_C9_product_k26_6 v.2 rc u9 v1 v.1) g_fu (x2, σ1)).bind fun e11 =>
    some (e11.1, e11.2)
  else none
noncomputable def mJ_C9_thing_k26_117 (σ : g_S) (rc : ((g_S → Nat → Int32 → Option (Int32 × g_S)) × (g_S → Nat → Int32 → Option (Int32 × g_S)) × (g_S → Nat → Int32 → Option (Int32 × g_S)) × (g_S → Nat → Int32 → Option (Int32 × g_S)))) (u9 : Nat) (v2 : Int32) (s1 : Int32) : Option (Int32 × g_S) :=
  if ¬ (σ.2.2 26 u9 200) = 0 then
    (mF_C7_need_k26 σ u9 s1).bind fun σ7 =>
    if ¬ (σ7.2.2 26 u9 200) = 0 then
    if ¬ (σ7.2.2 26 u9 200) = 0 then
    g_let (g_sI σ7 26 u9 3 ((σ7.1 26 u9 3) + (1 : Int32))) fun σ8 =>
    if ¬ (σ8.2.2 26 u9 200) = 0 then
    if (σ8.2.2 26 u9 4) = 0 then
    some ((0 : Int32), σ8)
  else
    if ((σ8.2.2 26 u9 4) - 1) < 18 then
    if ¬ (σ8.2.2 26 u9 200) = 0 then
    (mF_C9_value_k26 σ8 u9 v2).bind fun x10 =>
    some (x10, σ8)
  else none
  else none
  else none
  else none
  else none
  else none
noncomputable def mJ_C9_thing_k26_116 (σ : g_S) (rc : ((g_S → Nat → Int32 → Option (Int32 × g_S)) × (g_S → Nat → Int32 → Option (Int32 × g_S)) × (g_S → Nat → Int32 → Option (Int32 × g_S)) × (g_S → Nat → Int32 → Option (Int32 × g_S)))) (u9 : Nat) (v2 : Int32) : Option (Int32 × g_S) :=
  (mJ_C9_thing_k26_117 σ rc u9 v2 (0 : Int32))
noncomputable def mJ_C9_thing_k26_36 (σ : g_S) (rc : ((g_S → Nat → Int32 → Option (Int32 × g_S)) × (g_S → Nat → Int32 → Option (Int32 × g_S)) × (g_S → Nat → Int32 → Option (Int32 × g_S)) × (g_S → Nat → Int32 → Option (Int32 × g_S)))) (u9 : Nat) (v1 : Int32) (s1 : Int32) : Option (Int32 × g_S) :=
  if ¬ (σ.2.2 26 u9 200) = 0 then
    (mF_C7_need_k26 σ u9 s1).bind fun σ14 =>
    if ¬ (σ14.2.2 26 u9 200) = 0 then
    if ¬ (σ14.2.2 26 u9 200) = 0 then
    g_let (g_sI σ14 26 u9 3 ((σ14.1 26 u9 3) + (1 : Int32))) fun σ15 =>
    if ¬ (σ15.2.2 26 u9 200) = 0 then
    g_b2 (rc.1 σ15 u9 (v1 + (1 : Int32))) fun x17 σ16 =>
    if ¬ (σ16.2.2 26 u9 200) = 0 then
    g_b2 (mF_C7_passes_k26 σ16 u9 (41 : Int32)) fun x19 σ18 =>
    if ¬ (σ18.2.2 26 u9 200) = 0 then
    (mF_C7_need_k26 σ18 u9 x19).bind fun σ20 =>
    some (x17, σ20)
  else none
  else none
  else none
  else none
  else none
  else none
noncomputable def mF_C9_thing_k26 (σ : g_S) (rc : ((g_S → Nat → Int32 → Option (Int32 × g_S)) × (g_S → Nat → Int32 → Option (Int32 × g_S)) × (g_S → Nat → Int32 → Option (Int32 × g_S)) × (g_S → Nat → Int32 → Option (Int32 × g_S)))) (u9 : Nat) (v1 : Int32) : Option (Int32 × g_S) :=
  if ¬ (σ.2.2 26 u9 200) = 0 then
    g_b2 (mF_C7_passes_k26 σ u9 (45 : Int32)) fun x2 σ1 =>
    if x2 = 0 then
    if ¬ (σ1.2.2 26 u9 200) = 0 then
    (mF_C7_here_k26 σ1 u9).bind fun x3 =>
    if x3 = (40 : Int32) then
    if (4 : Int32) ≤ v1 then
    (mJ_C9_thing_k26_36 σ1 rc u9 v1 (0 : Int32))
  else
    (mJ_C9_thing_k26_36 σ1 rc u9 v1 (1 : Int32))
  else
    if ¬ (σ1.2.2 26 u9 200) = 0 then
    (mF_C7_here_k26 σ1 u9).bind fun x4 =>
    (mF_C1_in (x4.toInt64) (48 : Int64) (57 : Int64)).bind fun x5 =>
    if x5 = 0 then
    if ¬ (σ1.2.2 26 u9 200) = 0 then
    (mF_C7_here_k26 σ1 u9).bind fun x6 =>
    if x6 = (-1 : Int32) then
    (mJ_C9_thing_k26_116 σ1 rc u9 x6)
  else
    (mF_J3_indexOf 1 x6).bind fun x11 =>
    if x11 < 0 then
    (mJ_C9_thing_k26_116 σ1 rc u9 x6)
  else
    (mJ_C9_thing_k26_117 σ1 rc u9 x6 (1 : Int32))
  else none
  else
    if ¬ (σ1.2.2 26 u9 200) = 0 then
    g_b2 (mF_C7_number_k26 σ1 u9 (3 : Int32)) fun x13 σ12 =>
    some (x13, σ12)
  else none
  else none
  else none
  else
    if ¬ (σ1.2.2 26 u9 200) = 0 then
    g_b2 (rc.2.2.2 σ1 u9 v1) fun x22 σ21 =>
    some ((-x22), σ21)
  else none
  else none
noncomputable def mR_rule_k26 : Nat → ((g_S → Nat → Int32 → Option (Int32 × g_S)) × (g_S → Nat → Int32 → Option (Int32 × g_S)) × (g_S → Nat → Int32 → Option (Int32 × g_S)) × (g_S → Nat → Int32 → Option (Int32 × g_S)))
  | 0 => (fun _ _ _ => none, fun _ _ _ => none, fun _ _ _ => none, fun _ _ _ => none)
  | n + 1 => (fun σ u v => mF_C9_held_k26 σ (mR_rule_k26 n) u v, fun σ u v => mF_C9_sum_k26 σ (mR_rule_k26 n) u v, fun σ u v => mF_C9_product_k26 σ (mR_rule_k26 n) u v, fun σ u v => mF_C9_thing_k26 σ (mR_rule_k26 n) u v)
noncomputable def mC_held_k26 (σ : g_S) (u : Nat) (v : Int32) : Option (Int32 × g_S) := (mR_rule_k26 100).1 σ u v
noncomputable def mF_C9_of_k26_4 (σ : g_S) (u9 : Nat) (u0 : Nat) (v2 : Int32) (v3 : Int32) : Option (Int32 × g_S) :=
  if ¬ (σ.2.2 26 u9 200) = 0 then
    g_let (g_sR σ 26 u9 4 (u0 + 1)) fun σ1 =>
    if ¬ (σ1.2.2 26 u9 200) = 0 then
    g_let (g_sI σ1 26 u9 5 v2) fun σ2 =>
    if ¬ (σ2.2.2 26 u9 200) = 0 then
    g_let (g_sI σ2 26 u9 6 v3) fun σ3 =>
    if ¬ (σ3.2.2 26 u9 200) = 0 then
    g_let (g_sI σ3 26 u9 3 (0 : Int32)) fun σ4 =>
    if ¬ (σ4.2.2 26 u9 200) = 0 then
    g_b2 (mC_held_k26 σ4 u9 (0 : Int32)) fun x6 σ5 =>
    if ¬ (σ5.2.2 26 u9 200) = 0 then
    g_let (g_sR σ5 26 u9 4 0) fun σ7 =>
    some (x6, σ7)
  else none
  else none
  else none
  else none
  else none
  else none
noncomputable def mJ_C1_reachBy_30 (σ : g_S) (u0 : Nat) (s0 : Int32) : Option (Int32 × g_S) :=
  some ((g_max (0 : Int32) (g_min (9 : Int32) s0)), σ)
noncomputable def mF_C1_reachBy (σ : g_S) (u0 : Nat) (v2 : Int32) (v3 : Int32) : Option (Int32 × g_S) :=
  if (σ.2.2 0 0 19) = 0 then
    (mF_C1_lightOf σ (σ.1 4 u0 5)).bind fun x1 =>
    (mJ_C1_reachBy_30 σ u0 (x1 - v3))
  else
    if ((σ.2.2 0 0 19) - 1) < 2 then
    if (σ.2.2 0 0 19) = 0 then
    none
  else
    if ((σ.2.2 0 0 19) - 1) < 2 then
    if ¬ (σ.2.2 26 ((σ.2.2 0 0 19) - 1) 200) = 0 then
    g_b2 (mF_C9_of_k26_4 σ ((σ.2.2 0 0 19) - 1) u0 v2 v3) fun x5 σ4 =>
    (mJ_C1_reachBy_30 σ4 u0 x5)
  else none
  else none
  else none
/-- alike but in what the working of a rule leaves in it -/
def g_agC (σ0 σ : g_S) : Prop := σ0.2.1 = σ.2.1 ∧ ∀ k u j, ¬ (k = 26 ∧ 3 ≤ j ∧ j ≤ 6) → σ0.1 k u j = σ.1 k u j ∧ σ0.2.2 k u j = σ.2.2 k u j
/-- what reachBy answers, whatever a rule's working left in it -/
noncomputable def mR_C_reachBy (σ : g_S) (u0 : Nat) (v2 v3 : Int32) : Option Int32 := @dite _ (∃ r, ∀ σ0, g_agC σ0 σ → ∃ σ1, g_agC σ1 σ ∧ mF_C1_reachBy σ0 u0 v2 v3 = some (r, σ1)) (Classical.propDecidable _) (fun h => some (Classical.choose h)) (fun _ => none)

noncomputable def mF_C7_here_k53 (σ : g_S) : Option Int32 :=
  if ¬ (σ.2.2 53 0 200) = 0 then
    if ¬ (σ.2.2 53 0 200) = 0 then
    if (σ.1 53 0 2) ≤ (σ.1 53 0 3) then
    some (-1 : Int32)
  else
    if g_set (σ.2.2 53 0 200) 1 then
    if (σ.2.2 53 0 201) < 2 then
    if ¬ (σ.2.2 53 0 200) = 0 then
    if g_in (σ.1 53 0 3) 80 = true ∧ ¬ (σ.2.2 27 (σ.2.2 53 0 201) 200) = 0 then
    some ((σ.1 27 (σ.2.2 53 0 201) (σ.1 53 0 3).toNatClampNeg) &&& (255 : Int32))
  else none
  else none
  else none
  else none
  else none
  else none
noncomputable def mF_C7_passes_k53 (σ : g_S) (v1 : Int32) : Option (Int32 × g_S) :=
  if ¬ (σ.2.2 53 0 200) = 0 then
    (mF_C7_here_k53 σ).bind fun x1 =>
    if x1 = v1 then
    if ¬ (σ.2.2 53 0 200) = 0 then
    if ¬ (σ.2.2 53 0 200) = 0 then
    g_let (g_sI σ 53 0 3 ((σ.1 53 0 3) + (1 : Int32))) fun σ2 =>
    some ((1 : Int32), σ2)
  else none
  else none
  else
    some ((0 : Int32), σ)
  else none
noncomputable def mF_C7_need_k53 (σ : g_S) (v1 : Int32) : Option (g_S ⊕ g_S) :=
  if v1 = 0 then
    if ¬ (σ.2.2 53 0 200) = 0 then
    g_let (σ.1 53 0 3) fun x2 =>
    g_let (g_f1 σ x2) fun σ1 =>
    some (.inl σ1)
  else none
  else
    some (.inr σ)
noncomputable def mJ_C9_value_k53_186 (σ : g_S) : Option Int32 :=
  if g_set (σ.2.2 53 0 200) 0 then
    if ¬ (σ.2.2 53 0 200) = 0 then
    if (σ.2.2 53 0 4) = 0 then
    if ¬ (σ.2.2 53 0 200) = 0 then
    if (σ.2.2 53 0 4) = 0 then
    none
  else
    if ((σ.2.2 53 0 4) - 1) < 18 then
    if ¬ (σ.2.2 53 0 200) = 0 then
    if g_in (σ.1 53 0 5) 8 then
    none
  else none
  else none
  else none
  else none
  else
    if ((σ.2.2 53 0 4) - 1) < 18 then
    if ¬ (σ.2.2 53 0 200) = 0 then
    if (σ.2.2 53 0 4) = 0 then
    none
  else
    if ((σ.2.2 53 0 4) - 1) < 18 then
    if ¬ (σ.2.2 53 0 200) = 0 then
    if g_in (σ.1 53 0 5) 8 then
    (mF_C1_peopleOn σ ((σ.2.2 53 0 4) - 1) ((1 : Int64) <<< ((σ.1 5 ((σ.2.2 53 0 4) - 1) (σ.1 53 0 5).toNatClampNeg).toInt64 &&& 63))).bind fun x5 =>
    (mF_J8_bitCount x5).bind fun x6 =>
    some x6
  else none
  else none
  else none
  else none
  else none
  else none
  else none
noncomputable def mF_C9_value_k53 (σ : g_S) (v1 : Int32) : Option Int32 :=
  if v1 = (98 : Int32) then
    if ¬ (σ.2.2 53 0 200) = 0 then
    some (σ.1 53 0 6)
  else none
  else if v1 = (99 : Int32) then
    if ¬ (σ.2.2 53 0 200) = 0 then
    if (σ.2.2 53 0 4) = 0 then
    none
  else
    if ((σ.2.2 53 0 4) - 1) < 18 then
    if ¬ (σ.2.2 53 0 200) = 0 then
    if g_in (σ.1 53 0 5) 8 then
    if g_set (σ.2.2 53 0 200) 0 then
    if ¬ (σ.1 0 0 4) = 0 then
    some (g_rem (σ.1 5 ((σ.2.2 53 0 4) - 1) (σ.1 53 0 5).toNatClampNeg) (σ.1 0 0 4))
  else none
  else none
  else none
  else none
  else none
  else none
  else if v1 = (100 : Int32) then
    (mJ_C9_value_k53_186 σ)
  else if v1 = (101 : Int32) then
    (mJ_C9_value_k53_186 σ)
  else if v1 = (102 : Int32) then
    if ¬ (σ.2.2 53 0 200) = 0 then
    if (σ.2.2 53 0 4) = 0 then
    none
  else
    if ((σ.2.2 53 0 4) - 1) < 18 then
    if ¬ (σ.2.2 53 0 200) = 0 then
    if g_in (σ.1 53 0 5) 8 then
    some (σ.1 6 ((σ.2.2 53 0 4) - 1) (σ.1 53 0 5).toNatClampNeg)
  else none
  else none
  else none
  else none
  else if v1 = (103 : Int32) then
    (mJ_C9_value_k53_186 σ)
  else if v1 = (104 : Int32) then
    (mJ_C9_value_k53_186 σ)
  else if v1 = (105 : Int32) then
    (mJ_C9_value_k53_186 σ)
  else if v1 = (106 : Int32) then
    (mJ_C9_value_k53_186 σ)
  else if v1 = (107 : Int32) then
    if ¬ (σ.2.2 53 0 200) = 0 then
    if (σ.2.2 53 0 4) = 0 then
    none
  else
    if ((σ.2.2 53 0 4) - 1) < 18 then
    if ¬ (σ.2.2 53 0 200) = 0 then
    if g_in (σ.1 53 0 5) 8 then
    (mF_J8_bitCount (σ.1 8 ((σ.2.2 53 0 4) - 1) (σ.1 53 0 5).toNatClampNeg)).bind fun x9 =>
    some x9
  else none
  else none
  else none
  else none
  else if v1 = (108 : Int32) then
    if g_set (σ.2.2 53 0 200) 0 then
    if ¬ (σ.2.2 53 0 200) = 0 then
    if (σ.2.2 53 0 4) = 0 then
    none
  else
    if ((σ.2.2 53 0 4) - 1) < 18 then
    (mF_C1_lightOf σ (σ.1 4 ((σ.2.2 53 0 4) - 1) 5)).bind fun x11 =>
    some x11
  else none
  else none
  else none
  else if v1 = (109 : Int32) then
    (mJ_C9_value_k53_186 σ)
  else if v1 = (110 : Int32) then
    if ¬ (σ.2.2 53 0 200) = 0 then
    if (σ.2.2 53 0 4) = 0 then
    none
  else
    if ((σ.2.2 53 0 4) - 1) < 18 then
    some (g_rem (σ.1 4 ((σ.2.2 53 0 4) - 1) 5) (7 : Int32))
  else none
  else none
  else if v1 = (111 : Int32) then
    (mJ_C9_value_k53_186 σ)
  else if v1 = (112 : Int32) then
    (mJ_C9_value_k53_186 σ)
  else if v1 = (113 : Int32) then
    (mJ_C9_value_k53_186 σ)
  else if v1 = (114 : Int32) then
    if ¬ (σ.2.2 53 0 200) = 0 then
    if (σ.2.2 53 0 4) = 0 then
    none
  else
    if ((σ.2.2 53 0 4) - 1) < 18 then
    if ¬ (σ.2.2 53 0 200) = 0 then
    if g_in (σ.1 53 0 5) 8 then
    if g_set (σ.2.2 53 0 200) 0 then
    if ¬ (σ.1 0 0 4) = 0 then
    some ((σ.1 5 ((σ.2.2 53 0 4) - 1) (σ.1 53 0 5).toNatClampNeg) / (σ.1 0 0 4))
  else none
  else none
  else none
  else none
  else none
  else none
  else (mJ_C9_value_k53_186 σ)
noncomputable def mF_C7_one_k53 (σ : g_S) (v1 : Int32) (v2 : Int32) : Option (g_S ⊕ (Int32 × g_S)) :=
  if ¬ (σ.2.2 53 0 200) = 0 then
    (mF_C7_here_k53 σ).bind fun x1 =>
    (mF_C1_in (x1.toInt64) (v1.toInt64) (((v1 + v2) - (1 : Int32)).toInt64)).bind fun x2 =>
    if ¬ (σ.2.2 53 0 200) = 0 then
    g_tx (mF_C7_need_k53 σ x2) (fun z4 =>
    some (.inl z4)) fun σ3 =>
    if ¬ (σ3.2.2 53 0 200) = 0 then
    if ¬ (σ3.2.2 53 0 200) = 0 then
    g_let (g_sI σ3 53 0 3 ((σ3.1 53 0 3) + (1 : Int32))) fun σ5 =>
    if g_set (σ5.2.2 53 0 200) 1 then
    if (σ5.2.2 53 0 201) < 2 then
    if ¬ (σ5.2.2 53 0 200) = 0 then
    if g_in ((σ5.1 53 0 3) - (1 : Int32)) 80 = true ∧ ¬ (σ5.2.2 27 (σ5.2.2 53 0 201) 200) = 0 then
    some (.inr (((σ5.1 27 (σ5.2.2 53 0 201) ((σ5.1 53 0 3) - (1 : Int32)).toNatClampNeg) - v1), σ5))
  else none
  else none
  else none
  else none
  else none
  else none
  else none
  else none
noncomputable def mB_C7_number_k53_11 (σ : g_S) (v1 : Int32) (v2 : Int32) (v3 : Int32) : Option ((Int32 × Int32 × g_S) ⊕ (g_S ⊕ (Int32 × g_S))) :=
  if v1 ≤ v3 then
    some (.inr (.inr (v2, σ)))
  else
    if ¬ (σ.2.2 53 0 200) = 0 then
    (mF_C7_here_k53 σ).bind fun x4 =>
    (mF_C1_in (x4.toInt64) (48 : Int64) (57 : Int64)).bind fun x5 =>
    if x5 = 0 then
    some (.inr (.inr (v2, σ)))
  else
    if ¬ (σ.2.2 53 0 200) = 0 then
    g_t2 (mF_C7_one_k53 σ (48 : Int32) (10 : Int32)) (fun z8 =>
    some (.inr (.inl z8))) fun x7 σ6 =>
    g_let (((10 : Int32) * v2) + x7) fun x9 =>
    g_let (v3 + (1 : Int32)) fun x10 =>
    some (.inl (x9, x10, σ6))
  else none
  else none
noncomputable def mF_C7_number_k53 (σ : g_S) (v1 : Int32) : Option (g_S ⊕ (Int32 × g_S)) :=
  if ¬ (σ.2.2 53 0 200) = 0 then
    g_t2 (mF_C7_one_k53 σ (48 : Int32) (10 : Int32)) (fun z3 =>
    some (.inl z3)) fun x2 σ1 =>
    (g_lp (fun v => mB_C7_number_k53_11 v.2.2 v1 v.1 v.2.1) g_fu (x2, (1 : Int32), σ1)).bind fun e11 => (match e11 with
    | .inl y12 => some (.inl y12)
    | .inr y13 => some (.inr (y13.1, y13.2)))
  else none
noncomputable def mF_C9_held_k53 (σ : g_S) (rc : ((g_S → Int32 → Option (g_S ⊕ Int32 × g_S)) × (g_S → Int32 → Option (g_S ⊕ Int32 × g_S)) × (g_S → Int32 → Option (g_S ⊕ Int32 × g_S)) × (g_S → Int32 → Option (g_S ⊕ Int32 × g_S)))) (v1 : Int32) : Option (g_S ⊕ (Int32 × g_S)) :=
  if ¬ (σ.2.2 53 0 200) = 0 then
    g_t2 (rc.2.1 σ v1) (fun z3 =>
    some (.inl z3)) fun x2 σ1 =>
    if ¬ (σ1.2.2 53 0 200) = 0 then
    g_b2 (mF_C7_passes_k53 σ1 (60 : Int32)) fun x5 σ4 =>
    if x5 = 0 then
    if ¬ (σ4.2.2 53 0 200) = 0 then
    g_b2 (mF_C7_passes_k53 σ4 (62 : Int32)) fun x7 σ6 =>
    if x7 = 0 then
    if ¬ (σ6.2.2 53 0 200) = 0 then
    g_b2 (mF_C7_passes_k53 σ6 (61 : Int32)) fun x9 σ8 =>
    if x9 = 0 then
    some (.inr (x2, σ8))
  else
    if ¬ (σ8.2.2 53 0 200) = 0 then
    g_t2 (rc.2.1 σ8 v1) (fun z12 =>
    some (.inl z12)) fun x11 σ10 =>
    if x2 = x11 then
    some (.inr ((1 : Int32), σ10))
  else
    some (.inr ((0 : Int32), σ10))
  else none
  else none
  else
    if ¬ (σ6.2.2 53 0 200) = 0 then
    g_t2 (rc.2.1 σ6 v1) (fun z15 =>
    some (.inl z15)) fun x14 σ13 =>
    if x2 ≤ x14 then
    some (.inr ((0 : Int32), σ13))
  else
    some (.inr ((1 : Int32), σ13))
  else none
  else none
  else
    if ¬ (σ4.2.2 53 0 200) = 0 then
    g_t2 (rc.2.1 σ4 v1) (fun z18 =>
    some (.inl z18)) fun x17 σ16 =>
    if x17 ≤ x2 then
    some (.inr ((0 : Int32), σ16))
  else
    some (.inr ((1 : Int32), σ16))
  else none
  else none
  else none
noncomputable def mJ_C9_sum_k53_38 (σ : g_S) (rc : ((g_S → Int32 → Option (g_S ⊕ Int32 × g_S)) × (g_S → Int32 → Option (g_S ⊕ Int32 × g_S)) × (g_S → Int32 → Option (g_S ⊕ Int32 × g_S)) × (g_S → Int32 → Option (g_S ⊕ Int32 × g_S)))) (v1 : Int32) (v2 : Int32) (s0 : Int32) : Option ((Int32 × g_S) ⊕ (g_S ⊕ (Int32 × g_S))) :=
  if ¬ (σ.2.2 53 0 200) = 0 then
    if ¬ (σ.2.2 53 0 200) = 0 then
    g_let (g_sI σ 53 0 3 ((σ.1 53 0 3) + (1 : Int32))) fun σ6 =>
    if ¬ (σ6.2.2 53 0 200) = 0 then
    g_t2 (rc.2.2.1 σ6 v1) (fun z9 =>
    some (.inr (.inl z9))) fun x8 σ7 =>
    if s0 = 0 then
    g_let (v2 - x8) fun x10 =>
    some (.inl (x10, σ7))
  else
    g_let (v2 + x8) fun x11 =>
    some (.inl (x11, σ7))
  else none
  else none
  else none
noncomputable def mJ_C9_sum_k53_24 (σ : g_S) (rc : ((g_S → Int32 → Option (g_S ⊕ Int32 × g_S)) × (g_S → Int32 → Option (g_S ⊕ Int32 × g_S)) × (g_S → Int32 → Option (g_S ⊕ Int32 × g_S)) × (g_S → Int32 → Option (g_S ⊕ Int32 × g_S)))) (v1 : Int32) (v2 : Int32) : Option ((Int32 × g_S) ⊕ (g_S ⊕ (Int32 × g_S))) :=
  if ¬ (σ.2.2 53 0 200) = 0 then
    (mF_C7_here_k53 σ).bind fun x5 =>
    if x5 = (43 : Int32) then
    (mJ_C9_sum_k53_38 σ rc v1 v2 (1 : Int32))
  else
    (mJ_C9_sum_k53_38 σ rc v1 v2 (0 : Int32))
  else none
noncomputable def mB_C9_sum_k53_6 (σ : g_S) (rc : ((g_S → Int32 → Option (g_S ⊕ Int32 × g_S)) × (g_S → Int32 → Option (g_S ⊕ Int32 × g_S)) × (g_S → Int32 → Option (g_S ⊕ Int32 × g_S)) × (g_S → Int32 → Option (g_S ⊕ Int32 × g_S)))) (v1 : Int32) (v2 : Int32) : Option ((Int32 × g_S) ⊕ (g_S ⊕ (Int32 × g_S))) :=
  if ¬ (σ.2.2 53 0 200) = 0 then
    (mF_C7_here_k53 σ).bind fun x4 =>
    if x4 = (43 : Int32) then
    (mJ_C9_sum_k53_24 σ rc v1 v2)
  else
    if ¬ (σ.2.2 53 0 200) = 0 then
    (mF_C7_here_k53 σ).bind fun x12 =>
    if x12 = (45 : Int32) then
    (mJ_C9_sum_k53_24 σ rc v1 v2)
  else
    some (.inr (.inr (v2, σ)))
  else none
  else none
noncomputable def mF_C9_sum_k53 (σ : g_S) (rc : ((g_S → Int32 → Option (g_S ⊕ Int32 × g_S)) × (g_S → Int32 → Option (g_S ⊕ Int32 × g_S)) × (g_S → Int32 → Option (g_S ⊕ Int32 × g_S)) × (g_S → Int32 → Option (g_S ⊕ Int32 × g_S)))) (v1 : Int32) : Option (g_S ⊕ (Int32 × g_S)) :=
  if ¬ (σ.2.2 53 0 200) = 0 then
    g_t2 (rc.2.2.1 σ v1) (fun z3 =>
    some (.inl z3)) fun x2 σ1 =>
    (g_lp (fun v => mB_C9_sum_k53_6 v.2 rc v1 v.1) g_fu (x2, σ1)).bind fun e13 => (match e13 with
    | .inl y14 => some (.inl y14)
    | .inr y15 => some (.inr (y15.1, y15.2)))
  else none
noncomputable def mJ_C9_product_k53_38 (σ : g_S) (rc : ((g_S → Int32 → Option (g_S ⊕ Int32 × g_S)) × (g_S → Int32 → Option (g_S ⊕ Int32 × g_S)) × (g_S → Int32 → Option (g_S ⊕ Int32 × g_S)) × (g_S → Int32 → Option (g_S ⊕ Int32 × g_S)))) (v1 : Int32) (v2 : Int32) (s0 : Int32) : Option ((Int32 × g_S) ⊕ (g_S ⊕ (Int32 × g_S))) :=
  if ¬ (σ.2.2 53 0 200) = 0 then
    if ¬ (σ.2.2 53 0 200) = 0 then
    g_let (g_sI σ 53 0 3 ((σ.1 53 0 3) + (1 : Int32))) fun σ6 =>
    if ¬ (σ6.2.2 53 0 200) = 0 then
    g_t2 (rc.2.2.2 σ6 v1) (fun z9 =>
    some (.inr (.inl z9))) fun x8 σ7 =>
    if s0 = 0 then
    if x8 = 0 then
    some (.inl ((0 : Int32), σ7))
  else
    if ¬ x8 = 0 then
    g_let (v2 / x8) fun x10 =>
    some (.inl (x10, σ7))
  else none
  else
    g_let (v2 * x8) fun x11 =>
    some (.inl (x11, σ7))
  else none
  else none
  else none
noncomputable def mJ_C9_product_k53_24 (σ : g_S) (rc : ((g_S → Int32 → Option (g_S ⊕ Int32 × g_S)) × (g_S → Int32 → Option (g_S ⊕ Int32 × g_S)) × (g_S → Int32 → Option (g_S ⊕ Int32 × g_S)) × (g_S → Int32 → Option (g_S ⊕ Int32 × g_S)))) (v1 : Int32) (v2 : Int32) : Option ((Int32 × g_S) ⊕ (g_S ⊕ (Int32 × g_S))) :=
  if ¬ (σ.2.2 53 0 200) = 0 then
    (mF_C7_here_k53 σ).bind fun x5 =>
    if x5 = (42 : Int32) then
    (mJ_C9_product_k53_38 σ rc v1 v2 (1 : Int32))
  else
    (mJ_C9_product_k53_38 σ rc v1 v2 (0 : Int32))
  else none
noncomputable def mB_C9_product_k53_6 (σ : g_S) (rc : ((g_S → Int32 → Option (g_S ⊕ Int32 × g_S)) × (g_S → Int32 → Option (g_S ⊕ Int32 × g_S)) × (g_S → Int32 → Option (g_S ⊕ Int32 × g_S)) × (g_S → Int32 → Option (g_S ⊕ Int32 × g_S)))) (v1 : Int32) (v2 : Int32) : Option ((Int32 × g_S) ⊕ (g_S ⊕ (Int32 × g_S))) :=
  if ¬ (σ.2.2 53 0 200) = 0 then
    (mF_C7_here_k53 σ).bind fun x4 =>
    if x4 = (42 : Int32) then
    (mJ_C9_product_k53_24 σ rc v1 v2)
  else
    if ¬ (σ.2.2 53 0 200) = 0 then
    (mF_C7_here_k53 σ).bind fun x12 =>
    if x12 = (47 : Int32) then
    (mJ_C9_product_k53_24 σ rc v1 v2)
  else
    some (.inr (.inr (v2, σ)))
  else none
  else none
noncomputable def mF_C9_product_k53 (σ : g_S) (rc : ((g_S → Int32 → Option (g_S ⊕ Int32 × g_S)) × (g_S → Int32 → Option (g_S ⊕ Int32 × g_S)) × (g_S → Int32 → Option (g_S ⊕ Int32 × g_S)) × (g_S → Int32 → Option (g_S ⊕ Int32 × g_S)))) (v1 : Int32) : Option (g_S ⊕ (Int32 × g_S)) :=
  if ¬ (σ.2.2 53 0 200) = 0 then
    g_t2 (rc.2.2.2 σ v1) (fun z3 =>
    some (.inl z3)) fun x2 σ1 =>
    (g_lp (fun v => mB_C9_product_k53_6 v.2 rc v1 v.1) g_fu (x2, σ1)).bind fun e13 => (match e13 with
    | .inl y14 => some (.inl y14)
    | .inr y15 => some (.inr (y15.1, y15.2)))
  else none
noncomputable def mJ_C9_thing_k53_117 (σ : g_S) (rc : ((g_S → Int32 → Option (g_S ⊕ Int32 × g_S)) × (g_S → Int32 → Option (g_S ⊕ Int32 × g_S)) × (g_S → Int32 → Option (g_S ⊕ Int32 × g_S)) × (g_S → Int32 → Option (g_S ⊕ Int32 × g_S)))) (v2 : Int32) (s1 : Int32) : Option (g_S ⊕ (Int32 × g_S)) :=
  if ¬ (σ.2.2 53 0 200) = 0 then
    g_tx (mF_C7_need_k53 σ s1) (fun z8 =>
    some (.inl z8)) fun σ7 =>
    if ¬ (σ7.2.2 53 0 200) = 0 then
    if ¬ (σ7.2.2 53 0 200) = 0 then
    g_let (g_sI σ7 53 0 3 ((σ7.1 53 0 3) + (1 : Int32))) fun σ9 =>
    if ¬ (σ9.2.2 53 0 200) = 0 then
    if (σ9.2.2 53 0 4) = 0 then
    some (.inr ((0 : Int32), σ9))
  else
    if ((σ9.2.2 53 0 4) - 1) < 18 then
    if ¬ (σ9.2.2 53 0 200) = 0 then
    (mF_C9_value_k53 σ9 v2).bind fun x11 =>
    some (.inr (x11, σ9))
  else none
  else none
  else none
  else none
  else none
  else none
noncomputable def mJ_C9_thing_k53_116 (σ : g_S) (rc : ((g_S → Int32 → Option (g_S ⊕ Int32 × g_S)) × (g_S → Int32 → Option (g_S ⊕ Int32 × g_S)) × (g_S → Int32 → Option (g_S ⊕ Int32 × g_S)) × (g_S → Int32 → Option (g_S ⊕ Int32 × g_S)))) (v2 : Int32) : Option (g_S ⊕ (Int32 × g_S)) :=
  (mJ_C9_thing_k53_117 σ rc v2 (0 : Int32))
noncomputable def mJ_C9_thing_k53_36 (σ : g_S) (rc : ((g_S → Int32 → Option (g_S ⊕ Int32 × g_S)) × (g_S → Int32 → Option (g_S ⊕ Int32 × g_S)) × (g_S → Int32 → Option (g_S ⊕ Int32 × g_S)) × (g_S → Int32 → Option (g_S ⊕ Int32 × g_S)))) (v1 : Int32) (s1 : Int32) : Option (g_S ⊕ (Int32 × g_S)) :=
  if ¬ (σ.2.2 53 0 200) = 0 then
    g_tx (mF_C7_need_k53 σ s1) (fun z17 =>
    some (.inl z17)) fun σ16 =>
    if ¬ (σ16.2.2 53 0 200) = 0 then
    if ¬ (σ16.2.2 53 0 200) = 0 then
    g_let (g_sI σ16 53 0 3 ((σ16.1 53 0 3) + (1 : Int32))) fun σ18 =>
    if ¬ (σ18.2.2 53 0 200) = 0 then
    g_t2 (rc.1 σ18 (v1 + (1 : Int32))) (fun z21 =>
    some (.inl z21)) fun x20 σ19 =>
    if ¬ (σ19.2.2 53 0 200) = 0 then
    g_b2 (mF_C7_passes_k53 σ19 (41 : Int32)) fun x23 σ22 =>
    if ¬ (σ22.2.2 53 0 200) = 0 then
    g_tx (mF_C7_need_k53 σ22 x23) (fun z25 =>
    some (.inl z25)) fun σ24 =>
    some (.inr (x20, σ24))
  else none
  else none
  else none
  else none
  else none
  else none
noncomputable def mF_C9_thing_k53 (σ : g_S) (rc : ((g_S → Int32 → Option (g_S ⊕ Int32 × g_S)) × (g_S → Int32 → Option (g_S ⊕ Int32 × g_S)) × (g_S → Int32 → Option (g_S ⊕ Int32 × g_S)) × (g_S → Int32 → Option (g_S ⊕ Int32 × g_S)))) (v1 : Int32) : Option (g_S ⊕ (Int32 × g_S)) :=
  if ¬ (σ.2.2 53 0 200) = 0 then
    g_b2 (mF_C7_passes_k53 σ (45 : Int32)) fun x2 σ1 =>
    if x2 = 0 then
    if ¬ (σ1.2.2 53 0 200) = 0 then
    (mF_C7_here_k53 σ1).bind fun x3 =>
    if x3 = (40 : Int32) then
    if (4 : Int32) ≤ v1 then
    (mJ_C9_thing_k53_36 σ1 rc v1 (0 : Int32))
  else
    (mJ_C9_thing_k53_36 σ1 rc v1 (1 : Int32))
  else
    if ¬ (σ1.2.2 53 0 200) = 0 then
    (mF_C7_here_k53 σ1).bind fun x4 =>
    (mF_C1_in (x4.toInt64) (48 : Int64) (57 : Int64)).bind fun x5 =>
    if x5 = 0 then
    if ¬ (σ1.2.2 53 0 200) = 0 then
    (mF_C7_here_k53 σ1).bind fun x6 =>
    if x6 = (-1 : Int32) then
    (mJ_C9_thing_k53_116 σ1 rc x6)
  else
    (mF_J3_indexOf 1 x6).bind fun x12 =>
    if x12 < 0 then
    (mJ_C9_thing_k53_116 σ1 rc x6)
  else
    (mJ_C9_thing_k53_117 σ1 rc x6 (1 : Int32))
  else none
  else
    if ¬ (σ1.2.2 53 0 200) = 0 then
    g_t2 (mF_C7_number_k53 σ1 (3 : Int32)) (fun z15 =>
    some (.inl z15)) fun x14 σ13 =>
    some (.inr (x14, σ13))
  else none
  else none
  else none
  else
    if ¬ (σ1.2.2 53 0 200) = 0 then
    g_t2 (rc.2.2.2 σ1 v1) (fun z28 =>
    some (.inl z28)) fun x27 σ26 =>
    some (.inr ((-x27), σ26))
  else none
  else none
noncomputable def mR_rule_k53 : Nat → ((g_S → Int32 → Option (g_S ⊕ Int32 × g_S)) × (g_S → Int32 → Option (g_S ⊕ Int32 × g_S)) × (g_S → Int32 → Option (g_S ⊕ Int32 × g_S)) × (g_S → Int32 → Option (g_S ⊕ Int32 × g_S)))
  | 0 => (fun _ _ => none, fun _ _ => none, fun _ _ => none, fun _ _ => none)
  | n + 1 => (fun σ v => mF_C9_held_k53 σ (mR_rule_k53 n) v, fun σ v => mF_C9_sum_k53 σ (mR_rule_k53 n) v, fun σ v => mF_C9_product_k53 σ (mR_rule_k53 n) v, fun σ v => mF_C9_thing_k53 σ (mR_rule_k53 n) v)
noncomputable def mC_held_k53 (σ : g_S) (v : Int32) : Option (g_S ⊕ Int32 × g_S) := (mR_rule_k53 100).1 σ v
noncomputable def mB_C1_sign_16 (σ : g_S) (v1 : Int32) (v2 : Int32) : Option ((Int32 × g_S) ⊕ g_S) :=
  if v2 < 0 then
    some (.inr σ)
  else
    if g_in (σ.1 0 0 16) 80 then
    g_let (g_sI σ 12 0 (σ.1 0 0 16).toNatClampNeg (vp_nar .byte ((v1 >>> (v2 &&& 31)).toInt8.toInt32))) fun σ1 =>
    g_let (g_sI σ1 0 0 16 ((σ1.1 0 0 16) + (1 : Int32))) fun σ2 =>
    g_let (v2 + (-8 : Int32)) fun x3 =>
    some (.inl (x3, σ2))
  else none
noncomputable def mF_C1_sign (σ : g_S) (v1 : Int32) : Option (Int32 × g_S) :=
  if ((σ.1 0 0 16) + (4 : Int32)) ≤ (80 : Int32) then
    (g_lp (fun v => mB_C1_sign_16 v.2 v1 v.1) g_fu ((24 : Int32), σ)).bind fun e4 =>
    some ((e4.1 0 0 16), e4)
  else
    some ((-1 : Int32), σ)
noncomputable def mF_C1_end (σ : g_S) (v1 : Int32) : Option (Int32 × g_S) :=
  (mF_C1_in (v1.toInt64) (0 : Int64) ((σ.1 0 0 16).toInt64)).bind fun x1 =>
    if x1 = 0 then
    some ((0 : Int32), σ)
  else
    g_let (g_sI σ 0 0 16 v1) fun σ2 =>
    some ((1 : Int32), σ2)
noncomputable def mF_C7_init_k40_12 (σ : g_S) (v2 : Int32) (v3 : Int32) : Option g_S :=
  if (σ.2.2 40 0 200) = 2 then
    g_let (g_sR σ 40 0 200 1) fun σ1 =>
    if ¬ (σ1.2.2 40 0 200) = 0 then
    g_let (g_sI σ1 40 0 1 v2) fun σ2 =>
    if ¬ (σ2.2.2 40 0 200) = 0 then
    g_let (g_sI σ2 40 0 2 (g_min v2 v3)) fun σ3 =>
    some σ3
  else none
  else none
  else none
noncomputable def mF_C1_words (σ : g_S) (v1 : Int32) : Option g_S :=
  g_let (g_nw σ 40 0 2) fun σ1 =>
    (mF_C7_init_k40_12 σ1 (σ1.1 0 0 16) v1).bind fun σ3 =>
    g_let (g_sI σ3 0 0 16 (0 : Int32)) fun σ4 =>
    some σ4
noncomputable def mF_C7_here_k40 (σ : g_S) : Option Int32 :=
  if ¬ (σ.2.2 40 0 200) = 0 then
    if ¬ (σ.2.2 40 0 200) = 0 then
    if (σ.1 40 0 2) ≤ (σ.1 40 0 3) then
    some (-1 : Int32)
  else
    if g_set (σ.2.2 40 0 200) 0 then
    if ¬ (σ.2.2 40 0 200) = 0 then
    if g_in (σ.1 40 0 3) 80 then
    some ((σ.1 12 0 (σ.1 40 0 3).toNatClampNeg) &&& (255 : Int32))
  else none
  else none
  else none
  else none
  else none
noncomputable def mF_C7_need_k40 (σ : g_S) (v1 : Int32) : Option (g_S ⊕ g_S) :=
  if v1 = 0 then
    if ¬ (σ.2.2 40 0 200) = 0 then
    g_let (σ.1 40 0 3) fun x2 =>
    g_let (g_f1 σ x2) fun σ1 =>
    some (.inl σ1)
  else none
  else
    some (.inr σ)
noncomputable def mF_C7_one_k40 (σ : g_S) (v1 : Int32) (v2 : Int32) : Option (g_S ⊕ (Int32 × g_S)) :=
  if ¬ (σ.2.2 40 0 200) = 0 then
    (mF_C7_here_k40 σ).bind fun x1 =>
    (mF_C1_in (x1.toInt64) (v1.toInt64) (((v1 + v2) - (1 : Int32)).toInt64)).bind fun x2 =>
    if ¬ (σ.2.2 40 0 200) = 0 then
    g_tx (mF_C7_need_k40 σ x2) (fun z4 =>
    some (.inl z4)) fun σ3 =>
    if ¬ (σ3.2.2 40 0 200) = 0 then
    if ¬ (σ3.2.2 40 0 200) = 0 then
    g_let (g_sI σ3 40 0 3 ((σ3.1 40 0 3) + (1 : Int32))) fun σ5 =>
    if g_set (σ5.2.2 40 0 200) 0 then
    if ¬ (σ5.2.2 40 0 200) = 0 then
    if g_in ((σ5.1 40 0 3) - (1 : Int32)) 80 then
    some (.inr (((σ5.1 12 0 ((σ5.1 40 0 3) - (1 : Int32)).toNatClampNeg) - v1), σ5))
  else none
  else none
  else none
  else none
  else none
  else none
  else none
noncomputable def mF_C7_passes_k40 (σ : g_S) (v1 : Int32) : Option (Int32 × g_S) :=
  if ¬ (σ.2.2 40 0 200) = 0 then
    (mF_C7_here_k40 σ).bind fun x1 =>
    if x1 = v1 then
    if ¬ (σ.2.2 40 0 200) = 0 then
    if ¬ (σ.2.2 40 0 200) = 0 then
    g_let (g_sI σ 40 0 3 ((σ.1 40 0 3) + (1 : Int32))) fun σ2 =>
    some ((1 : Int32), σ2)
  else none
  else none
  else
    some ((0 : Int32), σ)
  else none
noncomputable def mJ_C7_needEnd_k40_17 (σ : g_S) (s1 : Int32) : Option (g_S ⊕ g_S) :=
  if ¬ (σ.2.2 40 0 200) = 0 then
    g_tx (mF_C7_need_k40 σ s1) (fun z2 =>
    some (.inl z2)) fun σ1 =>
    some (.inr σ1)
  else none
noncomputable def mF_C7_needEnd_k40 (σ : g_S) : Option (g_S ⊕ g_S) :=
  if ¬ (σ.2.2 40 0 200) = 0 then
    if ¬ (σ.2.2 40 0 200) = 0 then
    if (σ.1 40 0 3) = (σ.1 40 0 1) then
    (mJ_C7_needEnd_k40_17 σ (1 : Int32))
  else
    (mJ_C7_needEnd_k40_17 σ (0 : Int32))
  else none
  else none
noncomputable def mF_C1_comes (σ : g_S) : Option g_S :=
  g_let (g_sI σ 0 0 8 (0 : Int32)) fun σ1 =>
    g_let (g_sI σ1 0 0 7 ((σ1.1 0 0 7) + (1 : Int32))) fun σ2 =>
    some σ2
noncomputable def mJ_C1_valley_85 (σ : g_S) : Option (Int32 × g_S) :=
  if ¬ (σ.2.2 52 0 200) = 0 then
    some (((-1 : Int32) - (σ.1 52 0 0)), σ)
  else none
noncomputable def mB_C1_valley_33 (σ : g_S) (v2 : Int32) (v3 : Int32) (v4 : Int64) (v6 : Int32) : Option ((Int64 × Int32 × g_S) ⊕ ((Int64 × g_S) ⊕ g_S)) :=
  if (v2 * v3) ≤ v6 then
    some (.inr (.inl (v4, σ)))
  else
    if ¬ (σ.2.2 40 0 200) = 0 then
    g_b2 (mF_C7_passes_k40 σ (35 : Int32)) fun x12 σ11 =>
    if x12 = 0 then
    if ¬ (σ11.2.2 40 0 200) = 0 then
    g_b2 (mF_C7_passes_k40 σ11 (46 : Int32)) fun x14 σ13 =>
    if ¬ (σ13.2.2 40 0 200) = 0 then
    g_tx (mF_C7_need_k40 σ13 x14) (fun z16 =>
    some (.inr (.inr z16))) fun σ15 =>
    g_let (v6 + (1 : Int32)) fun x17 =>
    some (.inl (v4, x17, σ15))
  else none
  else none
  else
    g_let (v4 ||| ((1 : Int64) <<< (v6.toInt64 &&& 63))) fun x18 =>
    g_let (v6 + (1 : Int32)) fun x19 =>
    some (.inl (x18, x19, σ11))
  else none
noncomputable def mF_C1_valley (σ : g_S) : Option (Int32 × g_S) :=
  (mF_C1_words σ (51 : Int32)).bind fun σ1 =>
    if ¬ (σ1.2.2 40 0 200) = 0 then
    g_t2 (mF_C7_one_k40 σ1 (51 : Int32) (5 : Int32)) (fun z5 =>
    (mJ_C1_valley_85 z5)) fun x4 σ3 =>
    g_let (x4 + (3 : Int32)) fun x6 =>
    if ¬ (σ3.2.2 40 0 200) = 0 then
    g_t2 (mF_C7_one_k40 σ3 (51 : Int32) (5 : Int32)) (fun z9 =>
    (mJ_C1_valley_85 z9)) fun x8 σ7 =>
    g_let (x8 + (3 : Int32)) fun x10 =>
    (g_lp (fun v => mB_C1_valley_33 v.2.2 x6 x10 v.1 v.2.1) g_fu ((0 : Int64), (0 : Int32), σ7)).bind fun e20 => (match e20 with
    | .inl y21 => if ¬ (y21.2.2.2 40 0 200) = 0 then
    g_tx (mF_C7_needEnd_k40 y21.2) (fun z23 =>
    (mJ_C1_valley_85 z23)) fun σ22 =>
    g_let (g_sI σ22 0 0 3 x6) fun σ24 =>
    g_let (g_sI σ24 0 0 4 x10) fun σ25 =>
    g_let (g_sL σ25 0 0 9 y21.1) fun σ26 =>
    g_let (g_sI σ26 0 0 5 (0 : Int32)) fun σ27 =>
    g_let (g_sI σ27 0 0 6 (0 : Int32)) fun σ28 =>
    g_let (g_sI σ28 0 0 26 (0 : Int32)) fun σ29 =>
    g_let (g_sI σ29 4 0 5 (0 : Int32)) fun σ30 =>
    (mF_C1_comes σ30).bind fun σ31 =>
    some ((x6 * x10), σ31)
  else none
    | .inr y32 => (mJ_C1_valley_85 y32))
  else none
  else none
noncomputable def mF_C1_field (σ : g_S) : Option (g_S ⊕ (Int32 × g_S)) :=
  if ¬ (σ.2.2 40 0 200) = 0 then
    g_t2 (mF_C7_one_k40 σ (48 : Int32) (σ.1 0 0 3)) (fun z3 =>
    some (.inl z3)) fun x2 σ1 =>
    if ¬ (σ1.2.2 40 0 200) = 0 then
    g_t2 (mF_C7_one_k40 σ1 (48 : Int32) (σ1.1 0 0 4)) (fun z6 =>
    some (.inl z6)) fun x5 σ4 =>
    some (.inr ((((σ1.1 0 0 4) * x2) + x5), σ4))
  else none
  else none
noncomputable def mF_C1_isRock (σ : g_S) (v1 : Int32) : Option Int32 :=
  (mF_C1_has (σ.2.1 0 0 9) v1).bind fun x1 =>
    if x1 = 0 ∨ x1 = 1 then some x1 else none
noncomputable def mJ_C1_people_43 (σ : g_S) (v3 : Int32) (s1 : Int32) : Option ((Int32 × g_S) ⊕ (g_S ⊕ ((Int32 × g_S) ⊕ g_S))) :=
  if ¬ (σ.2.2 40 0 200) = 0 then
    g_tx (mF_C7_need_k40 σ s1) (fun z6 =>
    some (.inr (.inr (.inr z6)))) fun σ5 =>
    if g_in v3 8 = true ∧ ¬ (σ5.2.2 41 0 200) = 0 then
    g_t2 (mF_C1_field σ5) (fun z10 =>
    some (.inr (.inr (.inr z10)))) fun x9 σ8 =>
    if g_in (0 : Int32) 3 = true ∧ ¬ (σ8.2.2 42 v3.toNatClampNeg 200) = 0 then
    g_let (g_sI σ8 42 v3.toNatClampNeg (0 : Int32).toNatClampNeg x9) fun σ11 =>
    if g_in v3 8 = true ∧ ¬ (σ11.2.2 41 0 200) = 0 then
    if g_in (0 : Int32) 3 = true ∧ ¬ (σ11.2.2 42 v3.toNatClampNeg 200) = 0 then
    (mF_C1_isRock σ11 (σ11.1 42 v3.toNatClampNeg (0 : Int32).toNatClampNeg)).bind fun x13 =>
    if x13 = 0 then
    if g_in v3 8 = true ∧ ¬ (σ11.2.2 41 0 200) = 0 then
    if ¬ (σ11.2.2 40 0 200) = 0 then
    g_t2 (mF_C7_one_k40 σ11 (48 : Int32) (8 : Int32)) (fun z17 =>
    some (.inr (.inr (.inr z17)))) fun x16 σ15 =>
    if g_in (1 : Int32) 3 = true ∧ ¬ (σ15.2.2 42 v3.toNatClampNeg 200) = 0 then
    g_let (g_sI σ15 42 v3.toNatClampNeg (1 : Int32).toNatClampNeg x16) fun σ18 =>
    if g_in v3 8 = true ∧ ¬ (σ18.2.2 41 0 200) = 0 then
    if ¬ (σ18.2.2 40 0 200) = 0 then
    g_t2 (mF_C7_one_k40 σ18 (48 : Int32) (5 : Int32)) (fun z22 =>
    some (.inr (.inr (.inr z22)))) fun x21 σ20 =>
    if g_in (2 : Int32) 3 = true ∧ ¬ (σ20.2.2 42 v3.toNatClampNeg 200) = 0 then
    g_let (g_sI σ20 42 v3.toNatClampNeg (2 : Int32).toNatClampNeg x21) fun σ23 =>
    g_let (v3 + (1 : Int32)) fun x24 =>
    if ¬ (σ23.2.2 40 0 200) = 0 then
    g_b2 (mF_C7_passes_k40 σ23 (59 : Int32)) fun x26 σ25 =>
    if x26 = 0 then
    some (.inr (.inr (.inl (x24, σ25))))
  else
    some (.inl (x24, σ25))
  else none
  else none
  else none
  else none
  else none
  else none
  else none
  else
    some (.inr (.inl σ11))
  else none
  else none
  else none
  else none
  else none
noncomputable def mB_C1_people_26 (σ : g_S) (v3 : Int32) : Option ((Int32 × g_S) ⊕ (g_S ⊕ ((Int32 × g_S) ⊕ g_S))) :=
  if (8 : Int32) ≤ ((σ.1 0 0 5) + v3) then
    (mJ_C1_people_43 σ v3 (0 : Int32))
  else
    (mJ_C1_people_43 σ v3 (1 : Int32))
noncomputable def mJ_C1_people_126 (σ : g_S) : Option (Int32 × g_S) :=
  if ¬ (σ.2.2 52 0 200) = 0 then
    some (((-1 : Int32) - (σ.1 52 0 0)), σ)
  else none
noncomputable def mB_C1_people_139 (σ : g_S) (v3 : Int32) (v4 : Int32) : Option ((Int32 × g_S) ⊕ g_S) :=
  if v3 ≤ v4 then
    some (.inr σ)
  else
    if g_in v4 8 = true ∧ ¬ (σ.2.2 41 0 200) = 0 then
    if g_in (0 : Int32) 3 = true ∧ ¬ (σ.2.2 42 v4.toNatClampNeg 200) = 0 then
    if g_in (σ.1 0 0 5) 8 then
    g_let (g_sI σ 5 0 (σ.1 0 0 5).toNatClampNeg (σ.1 42 v4.toNatClampNeg (0 : Int32).toNatClampNeg)) fun σ35 =>
    if g_in v4 8 = true ∧ ¬ (σ35.2.2 41 0 200) = 0 then
    if g_in (1 : Int32) 3 = true ∧ ¬ (σ35.2.2 42 v4.toNatClampNeg 200) = 0 then
    if g_in (σ35.1 0 0 5) 8 then
    g_let (g_sI σ35 6 0 (σ35.1 0 0 5).toNatClampNeg (σ35.1 42 v4.toNatClampNeg (1 : Int32).toNatClampNeg)) fun σ37 =>
    if g_in v4 8 = true ∧ ¬ (σ37.2.2 41 0 200) = 0 then
    if g_in (2 : Int32) 3 = true ∧ ¬ (σ37.2.2 42 v4.toNatClampNeg 200) = 0 then
    if g_in (σ37.1 0 0 5) 8 then
    g_let (g_sI σ37 7 0 (σ37.1 0 0 5).toNatClampNeg (σ37.1 42 v4.toNatClampNeg (2 : Int32).toNatClampNeg)) fun σ39 =>
    if g_in (σ39.1 0 0 5) 8 then
    g_let (g_sI σ39 8 0 (σ39.1 0 0 5).toNatClampNeg (0 : Int32)) fun σ40 =>
    g_let (v4 + (1 : Int32)) fun x41 =>
    g_let (g_sI σ40 0 0 5 ((σ40.1 0 0 5) + (1 : Int32))) fun σ42 =>
    some (.inl (x41, σ42))
  else none
  else none
  else none
  else none
  else none
  else none
  else none
  else none
  else none
  else none
noncomputable def mF_C1_people (σ : g_S) : Option (Int32 × g_S) :=
  (mF_C1_words σ (39 : Int32)).bind fun σ1 =>
    if ¬ (σ1.2.2 40 0 200) = 0 then
    if (σ1.1 40 0 1) = 0 then
    some ((0 : Int32), σ1)
  else
    g_let (g_mt σ1) fun σ3 =>
    (g_lp (fun v => mB_C1_people_26 v.2 v.1) g_fu ((0 : Int32), σ3)).bind fun e27 => (match e27 with
    | .inl y28 => if ¬ (y28.2.2 40 0 200) = 0 then
    g_let ((y28.1 40 0 3) - (1 : Int32)) fun x30 =>
    g_let (g_f1 y28 x30) fun σ29 =>
    (mJ_C1_people_126 σ29)
  else none
    | .inr (.inl y31) => if ¬ (y31.2.2.2 40 0 200) = 0 then
    g_tx (mF_C7_needEnd_k40 y31.2) (fun z33 =>
    (mJ_C1_people_126 z33)) fun σ32 =>
    (g_lp (fun v => mB_C1_people_139 v.2 y31.1 v.1) g_fu ((0 : Int32), σ32)).bind fun e43 =>
    (mF_C1_comes e43).bind fun σ44 =>
    some (y31.1, σ44)
  else none
    | .inr (.inr y45) => (mJ_C1_people_126 y45))
  else none
noncomputable def mJ_C1_things_40 (σ : g_S) (v3 : Int32) (s1 : Int32) : Option ((Int32 × g_S) ⊕ ((Int32 × g_S) ⊕ g_S)) :=
  if ¬ (σ.2.2 40 0 200) = 0 then
    g_tx (mF_C7_need_k40 σ s1) (fun z6 =>
    some (.inr (.inr z6))) fun σ5 =>
    g_t2 (mF_C1_field σ5) (fun z9 =>
    some (.inr (.inr z9))) fun x8 σ7 =>
    if g_in v3 8 = true ∧ ¬ (σ7.2.2 43 0 200) = 0 then
    g_let (g_sI σ7 43 0 v3.toNatClampNeg x8) fun σ10 =>
    g_let (v3 + (1 : Int32)) fun x11 =>
    if ¬ (σ10.2.2 40 0 200) = 0 then
    g_b2 (mF_C7_passes_k40 σ10 (59 : Int32)) fun x13 σ12 =>
    if x13 = 0 then
    some (.inr (.inl (x11, σ12)))
  else
    some (.inl (x11, σ12))
  else none
  else none
  else none
noncomputable def mB_C1_things_23 (σ : g_S) (v3 : Int32) : Option ((Int32 × g_S) ⊕ ((Int32 × g_S) ⊕ g_S)) :=
  if (8 : Int32) ≤ ((σ.1 0 0 6) + v3) then
    (mJ_C1_things_40 σ v3 (0 : Int32))
  else
    (mJ_C1_things_40 σ v3 (1 : Int32))
noncomputable def mJ_C1_things_70 (σ : g_S) : Option (Int32 × g_S) :=
  if ¬ (σ.2.2 52 0 200) = 0 then
    some (((-1 : Int32) - (σ.1 52 0 0)), σ)
  else none
noncomputable def mB_C1_things_83 (σ : g_S) (v3 : Int32) (v4 : Int32) : Option ((Int32 × g_S) ⊕ g_S) :=
  if v3 ≤ v4 then
    some (.inr σ)
  else
    if g_in v4 8 = true ∧ ¬ (σ.2.2 43 0 200) = 0 then
    if g_in (σ.1 0 0 6) 8 then
    g_let (g_sI σ 9 0 (σ.1 0 0 6).toNatClampNeg (σ.1 43 0 v4.toNatClampNeg)) fun σ18 =>
    g_let (v4 + (1 : Int32)) fun x19 =>
    g_let (g_sI σ18 0 0 6 ((σ18.1 0 0 6) + (1 : Int32))) fun σ20 =>
    some (.inl (x19, σ20))
  else none
  else none
noncomputable def mF_C1_things (σ : g_S) : Option (Int32 × g_S) :=
  (mF_C1_words σ (23 : Int32)).bind fun σ1 =>
    if ¬ (σ1.2.2 40 0 200) = 0 then
    if (σ1.1 40 0 1) = 0 then
    some ((0 : Int32), σ1)
  else
    g_let (g_nw σ1 43 0 1) fun σ3 =>
    (g_lp (fun v => mB_C1_things_23 v.2 v.1) g_fu ((0 : Int32), σ3)).bind fun e14 => (match e14 with
    | .inl y15 => if ¬ (y15.2.2.2 40 0 200) = 0 then
    g_tx (mF_C7_needEnd_k40 y15.2) (fun z17 =>
    (mJ_C1_things_70 z17)) fun σ16 =>
    (g_lp (fun v => mB_C1_things_83 v.2 y15.1 v.1) g_fu ((0 : Int32), σ16)).bind fun e21 =>
    (mF_C1_comes e21).bind fun σ22 =>
    some (y15.1, σ22)
  else none
    | .inr y23 => (mJ_C1_things_70 y23))
  else none
noncomputable def mB_C1_light_23 (σ : g_S) (s1 : Nat) : Option (g_S ⊕ (g_S ⊕ g_S)) :=
  if ¬ (σ.2.2 40 0 200) = 0 then
    if ¬ (σ.2.2 40 0 200) = 0 then
    g_t2 (mF_C7_one_k40 σ (48 : Int32) (10 : Int32)) (fun z7 =>
    some (.inr (.inr z7))) fun x6 σ5 =>
    if g_in (σ.1 40 0 3) (σ5.2.2 11 s1 0) then
    g_let (g_sI σ5 11 s1 (σ.1 40 0 3).toNatClampNeg (vp_nar .byte (x6.toInt8.toInt32))) fun σ8 =>
    if ¬ (σ8.2.2 40 0 200) = 0 then
    (mF_C7_here_k40 σ8).bind fun x9 =>
    if x9 = (-1 : Int32) then
    some (.inr (.inl σ8))
  else
    some (.inl σ8)
  else none
  else none
  else none
  else none
noncomputable def mJ_C1_light_53 (σ : g_S) (s1 : Nat) : Option (Int32 × g_S) :=
  if ¬ (σ.2.2 52 0 200) = 0 then
    some (((-1 : Int32) - (σ.1 52 0 0)), σ)
  else none
noncomputable def mF_C1_light (σ : g_S) (s1 : Nat) : Option (Int32 × g_S) :=
  (mF_C1_words σ (20 : Int32)).bind fun σ1 =>
    if ¬ (σ1.2.2 40 0 200) = 0 then
    if ¬ (g_max (1 : Int32) (g_min (20 : Int32) (σ1.1 40 0 1))) < 0 ∧ ¬ (g_max (1 : Int32) (g_min (20 : Int32) (σ1.1 40 0 1))).toNatClampNeg = 0 ∧ (g_max (1 : Int32) (g_min (20 : Int32) (σ1.1 40 0 1))).toNatClampNeg ≤ 20 ∧ ¬ (σ1.2.2 0 0 14) = s1 then
    g_let (g_na σ1 11 s1 (g_max (1 : Int32) (g_min (20 : Int32) (σ1.1 40 0 1))).toNatClampNeg 0) fun σ3 =>
    (g_lp (fun v => mB_C1_light_23 v s1) g_fu σ3).bind fun e10 => (match e10 with
    | .inl y11 => if ¬ (y11.2.2 40 0 200) = 0 then
    g_tx (mF_C7_needEnd_k40 y11) (fun z13 =>
    (mJ_C1_light_53 z13 s1)) fun σ12 =>
    g_let (g_sR σ12 0 0 14 s1) fun σ14 =>
    if (σ14.2.2 0 0 14) < 2 then
    if ¬ (σ14.2.2 11 (σ14.2.2 0 0 14) 0) = 0 then
    some ((Int32.ofNat (σ14.2.2 11 (σ14.2.2 0 0 14) 0)), σ14)
  else none
  else none
  else none
    | .inr y16 => (mJ_C1_light_53 y16 s1))
  else none
  else none
noncomputable def mF_C7_init_k53_27 (σ : g_S) (u0 : Nat) (v2 : Int32) (v3 : Int32) : Option g_S :=
  if (σ.2.2 53 0 200) = 3 ∧ (σ.2.2 53 0 201) = u0 then
    g_let (g_sR σ 53 0 200 1) fun σ1 =>
    if ¬ (σ1.2.2 53 0 200) = 0 then
    g_let (g_sI σ1 53 0 1 v2) fun σ2 =>
    if ¬ (σ2.2.2 53 0 200) = 0 then
    g_let (g_sI σ2 53 0 2 (g_min v2 v3)) fun σ3 =>
    some σ3
  else none
  else none
  else none
noncomputable def mF_C9_init_k53_0_27 (σ : g_S) (u1 : Nat) (v3 : Int32) : Option g_S :=
  if (σ.2.2 53 0 200) = 2 then
    g_let (g_sR σ 53 0 200 3) fun σ1 =>
    (mF_C7_init_k53_27 σ1 u1 v3 (40 : Int32)).bind fun σ2 =>
    some σ2
  else none
noncomputable def mJ_C7_needEnd_k53_17 (σ : g_S) (s1 : Int32) : Option (g_S ⊕ g_S) :=
  if ¬ (σ.2.2 53 0 200) = 0 then
    g_tx (mF_C7_need_k53 σ s1) (fun z2 =>
    some (.inl z2)) fun σ1 =>
    some (.inr σ1)
  else none
noncomputable def mF_C7_needEnd_k53 (σ : g_S) : Option (g_S ⊕ g_S) :=
  if ¬ (σ.2.2 53 0 200) = 0 then
    if ¬ (σ.2.2 53 0 200) = 0 then
    if (σ.1 53 0 3) = (σ.1 53 0 1) then
    (mJ_C7_needEnd_k53_17 σ (1 : Int32))
  else
    (mJ_C7_needEnd_k53_17 σ (0 : Int32))
  else none
  else none
noncomputable def mF_C9_read_k53 (σ : g_S) : Option (g_S ⊕ g_S) :=
  if ¬ (σ.2.2 53 0 200) = 0 then
    g_t2 (mC_held_k53 σ (0 : Int32)) (fun z3 =>
    some (.inl z3)) fun x2 σ1 =>
    if ¬ (σ1.2.2 53 0 200) = 0 then
    g_tx (mF_C7_needEnd_k53 σ1) (fun z5 =>
    some (.inl z5)) fun σ4 =>
    some (.inr σ4)
  else none
  else none
noncomputable def mF_C1_rule (σ : g_S) (s1 : Nat) : Option (Int32 × g_S) :=
  g_let (g_sR σ 26 s1 200 0) fun σ1 =>
    g_let (g_sR σ1 53 0 200 0) fun σ2 =>
    if (σ2.2.2 26 s1 200) = 0 ∧ (σ2.2.2 53 0 200) = 0 ∧ g_fb (σ2.1 12 0) 80 = true then
    g_let (g_cl σ2 s1) fun σ3 =>
    if ¬ (σ3.2.2 27 s1 200) = 0 then
    g_let (σ3.1 0 0 16) fun x5 =>
    g_let (g_sI σ3 0 0 16 (0 : Int32)) fun σ6 =>
    if x5 = 0 then
    g_let (g_sR σ6 0 0 19 0) fun σ14 =>
    some ((0 : Int32), σ14)
  else
    g_let (g_nr σ6 s1) fun σ7 =>
    (mF_C9_init_k53_0_27 σ7 s1 x5).bind fun σ9 =>
    if ¬ (σ9.2.2 53 0 200) = 0 then
    g_tx (mF_C9_read_k53 σ9) (fun z11 =>
    if ¬ (z11.2.2 52 0 200) = 0 then
    some (((-1 : Int32) - (z11.1 52 0 0)), z11)
  else none) fun σ10 =>
    if s1 < 2 ∧ (σ10.2.2 0 0 19) ≠ s1 + 1 ∧ (σ10.2.2 53 0 200) = 1 ∧ (σ10.2.2 53 0 201) = s1 then
    g_let (g_mv σ10 s1) fun σ12 =>
    g_let (g_sR σ12 0 0 19 (s1 + 1)) fun σ13 =>
    some ((0 : Int32), σ13)
  else none
  else none
  else none
  else none
noncomputable def mF_C5_be_k4_4 (σ : g_S) (u9 : Nat) (u0 : Nat) : Option g_S :=
  if g_cp (0 : Int32) (0 : Int32) (8 : Int32) 8 8 then
    g_let (g_sA σ 5 u9 (va_cpy (σ.1 5 u0) (σ.1 5 u9) (0 : Int32).toNatClampNeg (0 : Int32).toNatClampNeg (8 : Int32).toNatClampNeg)) fun σ1 =>
    if g_cp (0 : Int32) (0 : Int32) (8 : Int32) 8 8 then
    g_let (g_sA σ1 6 u9 (va_cpy (σ1.1 6 u0) (σ1.1 6 u9) (0 : Int32).toNatClampNeg (0 : Int32).toNatClampNeg (8 : Int32).toNatClampNeg)) fun σ2 =>
    if g_cp (0 : Int32) (0 : Int32) (8 : Int32) 8 8 then
    g_let (g_sA σ2 7 u9 (va_cpy (σ2.1 7 u0) (σ2.1 7 u9) (0 : Int32).toNatClampNeg (0 : Int32).toNatClampNeg (8 : Int32).toNatClampNeg)) fun σ3 =>
    if g_cp (0 : Int32) (0 : Int32) (8 : Int32) 8 8 then
    g_let (g_sA σ3 8 u9 (va_cpy (σ3.1 8 u0) (σ3.1 8 u9) (0 : Int32).toNatClampNeg (0 : Int32).toNatClampNeg (8 : Int32).toNatClampNeg)) fun σ4 =>
    if g_cp (0 : Int32) (0 : Int32) (8 : Int32) 8 8 then
    g_let (g_sA σ4 9 u9 (va_cpy (σ4.1 9 u0) (σ4.1 9 u9) (0 : Int32).toNatClampNeg (0 : Int32).toNatClampNeg (8 : Int32).toNatClampNeg)) fun σ5 =>
    g_let (g_sI σ5 4 u9 5 (σ5.1 4 u0 5)) fun σ6 =>
    some σ6
  else none
  else none
  else none
  else none
  else none
noncomputable def mJ_C1_remember_49 (σ : g_S) (u0 : Nat) : Option g_S :=
  if g_in (σ.1 0 0 8) 15 then
    if (σ.2.2 10 0 (σ.1 0 0 8).toNatClampNeg) < 18 then
    (mF_C5_be_k4_4 σ (σ.2.2 10 0 (σ.1 0 0 8).toNatClampNeg) u0).bind fun σ3 =>
    g_let (g_sI σ3 0 0 8 ((σ3.1 0 0 8) + (1 : Int32))) fun σ4 =>
    some σ4
  else none
  else none
noncomputable def mF_C1_remember (σ : g_S) (u0 : Nat) : Option g_S :=
  if (σ.1 0 0 8) = (15 : Int32) then
    if g_in (0 : Int32) 15 then
    if (σ.2.2 10 0 (0 : Int32).toNatClampNeg) < 18 then
    if g_cp (1 : Int32) (0 : Int32) (14 : Int32) 15 15 ∧ g_ah σ then
    g_let (g_sC σ 10 0 (va_cpy (σ.2.2 10 0) (σ.2.2 10 0) (1 : Int32).toNatClampNeg (0 : Int32).toNatClampNeg (14 : Int32).toNatClampNeg)) fun σ7 =>
    if g_in (14 : Int32) 15 then
    g_let (g_sR σ7 10 0 (14 : Int32).toNatClampNeg (σ.2.2 10 0 (0 : Int32).toNatClampNeg)) fun σ8 =>
    g_let (g_sI σ8 0 0 8 ((σ8.1 0 0 8) - (1 : Int32))) fun σ9 =>
    (mJ_C1_remember_49 σ9 u0)
  else none
  else none
  else none
  else none
  else
    (mJ_C1_remember_49 σ u0)
noncomputable def mB_C1_known_4 (σ : g_S) (u0 : Nat) (v2 : Int32) (v3 : Int32) : Option ((Int32 × Int32) ⊕ Int32) :=
  if (σ.1 0 0 5) ≤ v3 then
    some (.inr v2)
  else
    if g_in v3 8 then
    (mF_J8_bitCount (σ.1 8 u0 v3.toNatClampNeg)).bind fun x1 =>
    g_let (v2 + x1) fun x2 =>
    g_let (v3 + (1 : Int32)) fun x3 =>
    some (.inl (x2, x3))
  else none
noncomputable def mF_C1_known (σ : g_S) (u0 : Nat) : Option Int32 :=
  (g_lp (fun v => mB_C1_known_4 σ u0 v.1 v.2) g_fu ((0 : Int32), (0 : Int32))).bind fun e4 =>
    some e4
noncomputable def mF_C2_reach_k1_4 (σ : g_S) (u0 : Nat) (v2 : Int32) : Option Int32 :=
  if g_in v2 8 then
    (mR_C_reachBy σ u0 v2 (σ.1 7 u0 v2.toNatClampNeg)).bind fun x1 =>
    some x1
  else none
noncomputable def mF_C2_facing_k1_4 (σ : g_S) (u0 : Nat) (v2 : Int32) : Option Int32 :=
  if g_in v2 8 then
    some (σ.1 6 u0 v2.toNatClampNeg)
  else none
noncomputable def mF_C1_wayOf (v0 : Int32) (v1 : Int32) : Option Int32 :=
  g_let (g_abs v0) fun x1 =>
    g_let (g_abs v1) fun x2 =>
    if x1 ≤ ((2 : Int32) * x2) then
    if x2 ≤ ((2 : Int32) * x1) then
    if 0 ≤ v0 then
    if v1 ≤ 0 then
    some (5 : Int32)
  else
    some (3 : Int32)
  else
    if v1 ≤ 0 then
    some (7 : Int32)
  else
    some (1 : Int32)
  else
    if v1 ≤ 0 then
    some (6 : Int32)
  else
    some (2 : Int32)
  else
    if 0 ≤ v0 then
    some (4 : Int32)
  else
    some (0 : Int32)
noncomputable def mF_C1_offBy (v0 : Int32) (v1 : Int32) : Option Int32 :=
  g_let (g_abs (v0 - v1)) fun x1 =>
    some (g_min x1 ((8 : Int32) - x1))
noncomputable def mF_C2_brim_k1_4 (σ : g_S) (u0 : Nat) (v2 : Int32) : Option Int32 :=
  if g_in v2 8 then
    some (σ.1 7 u0 v2.toNatClampNeg)
  else none
noncomputable def mB_C1_isClear_15 (σ : g_S) (v2 : Int32) (v3 : Int32) (v4 : Int32) : Option ((Int32 × Int32) ⊕ (Unit ⊕ Unit)) :=
  if ¬ (σ.1 0 0 4) = 0 then
    (mF_J8_signum ((v2 / (σ.1 0 0 4)) - v3)).bind fun x3 =>
    g_let (v3 + x3) fun x4 =>
    if ¬ (σ.1 0 0 4) = 0 then
    (mF_J8_signum ((g_rem v2 (σ.1 0 0 4)) - v4)).bind fun x5 =>
    g_let (v4 + x5) fun x6 =>
    g_let (((σ.1 0 0 4) * x4) + x6) fun x7 =>
    if x7 = v2 then
    some (.inr (.inl ()))
  else
    (mF_C1_has (σ.2.1 0 0 9) x7).bind fun x8 =>
    if x8 = 0 then
    some (.inl (x4, x6))
  else
    some (.inr (.inr ()))
  else none
  else none
noncomputable def mF_C1_isClear (σ : g_S) (v1 : Int32) (v2 : Int32) : Option Int32 :=
  if ¬ (σ.1 0 0 4) = 0 then
    g_let (v1 / (σ.1 0 0 4)) fun x1 =>
    if ¬ (σ.1 0 0 4) = 0 then
    g_let (g_rem v1 (σ.1 0 0 4)) fun x2 =>
    (g_lp (fun v => mB_C1_isClear_15 σ v2 v.1 v.2) g_fu (x1, x2)).bind fun e9 => (match e9 with
    | .inl y10 => some (1 : Int32)
    | .inr y11 => some (0 : Int32))
  else none
  else none
noncomputable def mF_C2_sees_k1_4 (σ : g_S) (u0 : Nat) (v2 : Int32) (v3 : Int32) : Option Int32 :=
  if g_in v2 8 then
    if v3 = (σ.1 5 u0 v2.toNatClampNeg) then
    some (1 : Int32)
  else
    if ¬ (σ.1 0 0 4) = 0 then
    if g_in v2 8 then
    if ¬ (σ.1 0 0 4) = 0 then
    g_let ((v3 / (σ.1 0 0 4)) - ((σ.1 5 u0 v2.toNatClampNeg) / (σ.1 0 0 4))) fun x1 =>
    if ¬ (σ.1 0 0 4) = 0 then
    if g_in v2 8 then
    if ¬ (σ.1 0 0 4) = 0 then
    g_let ((g_rem v3 (σ.1 0 0 4)) - (g_rem (σ.1 5 u0 v2.toNatClampNeg) (σ.1 0 0 4))) fun x2 =>
    (mF_C2_reach_k1_4 σ u0 v2).bind fun x3 =>
    if (g_max (g_abs x1) (g_abs x2)) ≤ x3 then
    (mF_C2_facing_k1_4 σ u0 v2).bind fun x4 =>
    (mF_C1_wayOf x1 x2).bind fun x5 =>
    (mF_C1_offBy x4 x5).bind fun x6 =>
    (mF_C2_brim_k1_4 σ u0 v2).bind fun x7 =>
    if ((4 : Int32) - x7) < x6 then
    some (0 : Int32)
  else
    if g_in v2 8 then
    (mF_C1_isClear σ (σ.1 5 u0 v2.toNatClampNeg) v3).bind fun x8 =>
    if x8 = 0 then
    some (0 : Int32)
  else
    some (1 : Int32)
  else none
  else
    some (0 : Int32)
  else none
  else none
  else none
  else none
  else none
  else none
  else none
noncomputable def mB_C2_things_k1_4_5 (σ : g_S) (u0 : Nat) (v2 : Int32) (v3 : Int32) (v4 : Int32) : Option ((Int32 × Int32) ⊕ Int32) :=
  if (σ.1 0 0 6) ≤ v4 then
    some (.inr v3)
  else
    if g_in v4 8 then
    (mF_C2_sees_k1_4 σ u0 v2 (σ.1 9 u0 v4.toNatClampNeg)).bind fun x1 =>
    if x1 = 0 then
    g_let (v3 ||| (0 : Int32)) fun x2 =>
    g_let (v4 + (1 : Int32)) fun x3 =>
    some (.inl (x2, x3))
  else
    g_let (v3 ||| ((1 : Int32) <<< (v4 &&& 31))) fun x4 =>
    g_let (v4 + (1 : Int32)) fun x5 =>
    some (.inl (x4, x5))
  else none
noncomputable def mF_C2_things_k1_4 (σ : g_S) (u0 : Nat) (v2 : Int32) : Option Int32 :=
  (g_lp (fun v => mB_C2_things_k1_4_5 σ u0 v2 v.1 v.2) g_fu ((0 : Int32), (0 : Int32))).bind fun e6 =>
    some e6
noncomputable def mF_C1_areNear (σ : g_S) (v1 : Int32) (v2 : Int32) : Option Int32 :=
  if ¬ (σ.1 0 0 4) = 0 then
    if ¬ (σ.1 0 0 4) = 0 then
    if (1 : Int32) < (g_abs ((v1 / (σ.1 0 0 4)) - (v2 / (σ.1 0 0 4)))) then
    some (0 : Int32)
  else
    if ¬ (σ.1 0 0 4) = 0 then
    if ¬ (σ.1 0 0 4) = 0 then
    if (1 : Int32) < (g_abs ((g_rem v1 (σ.1 0 0 4)) - (g_rem v2 (σ.1 0 0 4)))) then
    some (0 : Int32)
  else
    some (1 : Int32)
  else none
  else none
  else none
  else none
noncomputable def mF_C1_meet (σ : g_S) (u0 : Nat) (v2 : Int32) (v3 : Int32) : Option Int32 :=
  if g_in v3 8 then
    (mF_C2_sees_k1_4 σ u0 v2 (σ.1 5 u0 v3.toNatClampNeg)).bind fun x1 =>
    if x1 = 0 then
    some (0 : Int32)
  else
    if g_in v2 8 then
    (mF_C2_sees_k1_4 σ u0 v3 (σ.1 5 u0 v2.toNatClampNeg)).bind fun x2 =>
    if x2 = 0 then
    some (0 : Int32)
  else
    some (1 : Int32)
  else none
  else none
noncomputable def mF_C1_tell (σ : g_S) (u0 : Nat) (v2 : Int32) (v3 : Int32) : Option Int32 :=
  if v2 = v3 then
    some (0 : Int32)
  else
    if g_in v2 8 then
    if g_in v3 8 then
    (mF_C1_areNear σ (σ.1 5 u0 v2.toNatClampNeg) (σ.1 5 u0 v3.toNatClampNeg)).bind fun x1 =>
    if x1 = 0 then
    some (0 : Int32)
  else
    (mF_C1_meet σ u0 v2 v3).bind fun x2 =>
    if x2 = 0 then
    some (0 : Int32)
  else
    some (1 : Int32)
  else none
  else none
noncomputable def mB_C1_goHour_34 (σ : g_S) (u0 : Nat) (v2 : Int32) (v3 : Int32) : Option ((Int32 × g_S) ⊕ g_S) :=
  if (σ.1 0 0 5) ≤ v3 then
    some (.inr σ)
  else
    (mF_C1_tell σ u0 v2 v3).bind fun x3 =>
    if x3 = 0 then
    g_let (v3 + (1 : Int32)) fun x4 =>
    some (.inl (x4, σ))
  else
    if g_in v2 8 then
    if g_in v3 8 then
    if g_in v2 8 then
    g_let (g_sI σ 14 0 v2.toNatClampNeg ((σ.1 14 0 v2.toNatClampNeg) ||| (σ.1 8 u0 v3.toNatClampNeg))) fun σ5 =>
    g_let (v3 + (1 : Int32)) fun x6 =>
    some (.inl (x6, σ5))
  else none
  else none
  else none
noncomputable def mB_C1_goHour_2 (σ : g_S) (u0 : Nat) (v2 : Int32) : Option ((Int32 × g_S) ⊕ g_S) :=
  if (σ.1 0 0 5) ≤ v2 then
    some (.inr σ)
  else
    if g_in v2 8 then
    (mF_C2_things_k1_4 σ u0 v2).bind fun x1 =>
    if g_in v2 8 then
    g_let (g_sI σ 14 0 v2.toNatClampNeg ((σ.1 8 u0 v2.toNatClampNeg) ||| x1)) fun σ2 =>
    (g_lp (fun v => mB_C1_goHour_34 v.2 u0 v2 v.1) g_fu ((0 : Int32), σ2)).bind fun e7 =>
    g_let (v2 + (1 : Int32)) fun x8 =>
    some (.inl (x8, e7))
  else none
  else none
noncomputable def mF_C1_goHour (σ : g_S) (u0 : Nat) : Option g_S :=
  (g_lp (fun v => mB_C1_goHour_2 v.2 u0 v.1) g_fu ((0 : Int32), σ)).bind fun e9 =>
    if g_cp (0 : Int32) (0 : Int32) (e9.1 0 0 5) 8 8 then
    g_let (g_sA e9 8 u0 (va_cpy (e9.1 14 0) (e9.1 8 u0) (0 : Int32).toNatClampNeg (0 : Int32).toNatClampNeg (e9.1 0 0 5).toNatClampNeg)) fun σ10 =>
    g_let (g_sI σ10 4 u0 5 ((σ10.1 4 u0 5) + (1 : Int32))) fun σ11 =>
    some σ11
  else none
noncomputable def mB_C1_goHours_2 (σ : g_S) (u0 : Nat) (v2 : Int32) (v3 : Int32) : Option ((Int32 × g_S) ⊕ g_S) :=
  if v2 ≤ v3 then
    some (.inr σ)
  else
    (mF_C1_goHour σ u0).bind fun σ1 =>
    g_let (v3 + (1 : Int32)) fun x2 =>
    some (.inl (x2, σ1))
noncomputable def mF_C1_goHours (σ : g_S) (u0 : Nat) (v2 : Int32) : Option g_S :=
  (g_lp (fun v => mB_C1_goHours_2 v.2 u0 v2 v.1) g_fu ((0 : Int32), σ)).bind fun e3 =>
    some e3
noncomputable def mF_C1_tell_2 (σ : g_S) (v1 : Int64) : Option g_S :=
  if g_in (σ.1 0 0 18) 64 then
    g_let (g_sL σ 13 0 (σ.1 0 0 18).toNatClampNeg v1) fun σ1 =>
    g_let (g_sI σ1 0 0 18 ((σ1.1 0 0 18) + (1 : Int32))) fun σ2 =>
    some σ2
  else none
noncomputable def mB_C1_hours_45 (σ : g_S) (v2 : Int32) (v3 : Int32) (v4 : Int32) : Option ((Int32 × Int32) ⊕ Int32) :=
  if (σ.1 0 0 5) ≤ v4 then
    some (.inr v3)
  else
    if g_in v4 8 then
    g_let (v3 ||| (σ.1 8 0 v4.toNatClampNeg)) fun x5 =>
    g_let (v4 + (1 : Int32)) fun x6 =>
    some (.inl (x5, x6))
  else none
noncomputable def mF_C1_hours (σ : g_S) (v1 : Int32) : Option (Int32 × g_S) :=
  (mF_C1_in (v1.toInt64) (0 : Int64) (60 : Int64)).bind fun x1 =>
    if x1 = 0 then
    some ((-1 : Int32), σ)
  else
    (mF_C1_remember σ 0).bind fun σ2 =>
    (mF_C1_known σ2 0).bind fun x3 =>
    (mF_C1_goHours σ2 0 v1).bind fun σ4 =>
    (g_lp (fun v => mB_C1_hours_45 σ4 x3 v.1 v.2) g_fu ((0 : Int32), (0 : Int32))).bind fun e7 =>
    g_let (g_sI σ4 0 0 18 (0 : Int32)) fun σ8 =>
    (mF_C1_known σ8 0).bind fun x9 =>
    (mF_C1_tell_2 σ8 ((x9 - x3).toInt64)).bind fun σ10 =>
    (mF_C1_tell_2 σ10 (e7.toInt64)).bind fun σ11 =>
    (mF_C1_known σ11 0).bind fun x12 =>
    some (x12, σ11)
noncomputable def mF_C1_isMan (σ : g_S) (v1 : Int32) : Option Int32 :=
  (mF_C1_in (v1.toInt64) (0 : Int64) (((σ.1 0 0 5) - (1 : Int32)).toInt64)).bind fun x1 =>
    if x1 = 0 ∨ x1 = 1 then some x1 else none
noncomputable def mF_C1_canFace (σ : g_S) (v1 : Int32) (v2 : Int32) : Option Int32 :=
  (mF_C1_isMan σ v1).bind fun x1 =>
    if x1 = 0 then
    some (0 : Int32)
  else
    (mF_C1_in (v2.toInt64) (0 : Int64) (7 : Int64)).bind fun x2 =>
    if x2 = 0 then
    some (0 : Int32)
  else
    some (1 : Int32)
noncomputable def mF_C1_faces (σ : g_S) (v1 : Int32) (v2 : Int32) : Option (Int32 × g_S) :=
  (mF_C1_canFace σ v1 v2).bind fun x1 =>
    if x1 = 0 then
    some ((-1 : Int32), σ)
  else
    (mF_C1_remember σ 0).bind fun σ2 =>
    if g_in v1 8 then
    (mF_C1_offBy (σ2.1 6 0 v1.toNatClampNeg) v2).bind fun x3 =>
    if g_in v1 8 then
    g_let (g_sI σ2 6 0 v1.toNatClampNeg v2) fun σ4 =>
    some (x3, σ4)
  else none
  else none
noncomputable def mF_C1_stepOf (σ : g_S) (v1 : Int32) (v2 : Int32) : Option Int32 :=
  if ¬ (σ.1 0 0 4) = 0 then
    if g_in v2 8 then
    g_let ((v1 / (σ.1 0 0 4)) + ((gTbl 0).getD v2.toNatClampNeg 0)) fun x1 =>
    if ¬ (σ.1 0 0 4) = 0 then
    if g_in v2 8 then
    g_let ((g_rem v1 (σ.1 0 0 4)) + ((gTbl 1).getD v2.toNatClampNeg 0)) fun x2 =>
    (mF_C1_in (x1.toInt64) (0 : Int64) (((σ.1 0 0 3) - (1 : Int32)).toInt64)).bind fun x3 =>
    if x3 = 0 then
    some (-1 : Int32)
  else
    (mF_C1_in (x2.toInt64) (0 : Int64) (((σ.1 0 0 4) - (1 : Int32)).toInt64)).bind fun x4 =>
    if x4 = 0 then
    some (-1 : Int32)
  else
    (mF_C1_isRock σ (((σ.1 0 0 4) * x1) + x2)).bind fun x5 =>
    if x5 = 0 then
    some (((σ.1 0 0 4) * x1) + x2)
  else
    some (-1 : Int32)
  else none
  else none
  else none
  else none
noncomputable def mF_C1_refusesStep (σ : g_S) (u0 : Nat) (v2 : Int32) (v3 : Int32) : Option Int32 :=
  (mF_C1_canFace σ v2 v3).bind fun x1 =>
    if x1 = 0 then
    some (-1 : Int32)
  else
    if g_in v2 8 then
    (mF_C1_stepOf σ (σ.1 5 u0 v2.toNatClampNeg) v3).bind fun x2 =>
    if x2 = (-1 : Int32) then
    some (-2 : Int32)
  else
    some (0 : Int32)
  else none
noncomputable def mF_C1_steps (σ : g_S) (v1 : Int32) (v2 : Int32) : Option (Int32 × g_S) :=
  (mF_C1_refusesStep σ 0 v1 v2).bind fun x1 =>
    if 0 ≤ x1 then
    (mF_C1_remember σ 0).bind fun σ2 =>
    if g_in v1 8 then
    (mF_C1_stepOf σ2 (σ2.1 5 0 v1.toNatClampNeg) v2).bind fun x3 =>
    if g_in v1 8 then
    g_let (g_sI σ2 5 0 v1.toNatClampNeg x3) fun σ4 =>
    if g_in v1 8 then
    some ((σ4.1 5 0 v1.toNatClampNeg), σ4)
  else none
  else none
  else none
  else
    some (x1, σ)
noncomputable def mF_C1_canTrim (σ : g_S) (v1 : Int32) (v2 : Int32) : Option Int32 :=
  (mF_C1_isMan σ v1).bind fun x1 =>
    if x1 = 0 then
    some (0 : Int32)
  else
    (mF_C1_in (v2.toInt64) (0 : Int64) (4 : Int64)).bind fun x2 =>
    if x2 = 0 then
    some (0 : Int32)
  else
    some (1 : Int32)
noncomputable def mF_C1_trims (σ : g_S) (v1 : Int32) (v2 : Int32) : Option (Int32 × g_S) :=
  (mF_C1_canTrim σ v1 v2).bind fun x1 =>
    if x1 = 0 then
    some ((-1 : Int32), σ)
  else
    (mF_C1_remember σ 0).bind fun σ2 =>
    if g_in v1 8 then
    g_let (σ2.1 7 0 v1.toNatClampNeg) fun x3 =>
    if g_in v1 8 then
    g_let (g_sI σ2 7 0 v1.toNatClampNeg v2) fun σ4 =>
    some (x3, σ4)
  else none
  else none
noncomputable def mF_C1_isThing (σ : g_S) (v1 : Int32) : Option Int32 :=
  (mF_C1_in (v1.toInt64) (0 : Int64) (((σ.1 0 0 6) - (1 : Int32)).toInt64)).bind fun x1 =>
    if x1 = 0 ∨ x1 = 1 then some x1 else none
noncomputable def mF_C1_fields (σ : g_S) : Option Int32 :=
  some ((σ.1 0 0 3) * (σ.1 0 0 4))
noncomputable def mF_C1_isField (σ : g_S) (v1 : Int32) : Option Int32 :=
  (mF_C1_fields σ).bind fun x1 =>
    (mF_C1_in (v1.toInt64) (0 : Int64) ((x1 - (1 : Int32)).toInt64)).bind fun x2 =>
    if x2 = 0 ∨ x2 = 1 then some x2 else none
noncomputable def mF_C1_refusesPut (σ : g_S) (v1 : Int32) (v2 : Int32) : Option Int32 :=
  (mF_C1_isThing σ v1).bind fun x1 =>
    if x1 = 0 then
    some (-1 : Int32)
  else
    (mF_C1_isField σ v2).bind fun x2 =>
    if x2 = 0 then
    some (-1 : Int32)
  else
    if g_in v1 8 then
    if (σ.1 9 0 v1.toNatClampNeg) = v2 then
    some (-2 : Int32)
  else
    some (0 : Int32)
  else none
noncomputable def mF_C1_puts (σ : g_S) (v1 : Int32) (v2 : Int32) : Option (Int32 × g_S) :=
  (mF_C1_refusesPut σ v1 v2).bind fun x1 =>
    if 0 ≤ x1 then
    (mF_C1_remember σ 0).bind fun σ2 =>
    if g_in v1 8 then
    g_let (σ2.1 9 0 v1.toNatClampNeg) fun x3 =>
    if g_in v1 8 then
    g_let (g_sI σ2 9 0 v1.toNatClampNeg v2) fun σ4 =>
    some (x3, σ4)
  else none
  else none
  else
    some (x1, σ)
noncomputable def mF_C7_init_k44_12 (σ : g_S) (v2 : Int32) (v3 : Int32) : Option g_S :=
  if (σ.2.2 44 0 200) = 3 then
    g_let (g_sR σ 44 0 200 4) fun σ1 =>
    if ¬ (σ1.2.2 44 0 200) = 0 then
    g_let (g_sI σ1 44 0 1 v2) fun σ2 =>
    if ¬ (σ2.2.2 44 0 200) = 0 then
    g_let (g_sI σ2 44 0 2 (g_min v2 v3)) fun σ3 =>
    some σ3
  else none
  else none
  else none
noncomputable def mF_C10_init (σ : g_S) (v3 : Int32) : Option g_S :=
  if (σ.2.2 44 0 200) = 2 then
    g_let (g_sR σ 44 0 200 3) fun σ1 =>
    (mF_C7_init_k44_12 σ1 v3 (60 : Int32)).bind fun σ2 =>
    if (σ2.2.2 44 0 200) = 4 then
    g_let (g_nw σ2 45 0 1) fun σ3 =>
    if (σ3.2.2 44 0 200) = 4 then
    g_let (g_sR σ3 44 0 200 5) fun σ5 =>
    if (σ5.2.2 44 0 200) = 5 then
    g_let (g_nw σ5 46 0 1) fun σ6 =>
    if (σ6.2.2 44 0 200) = 5 then
    g_let (g_sR σ6 44 0 200 6) fun σ8 =>
    if (σ8.2.2 44 0 200) = 6 then
    g_let (g_nw σ8 47 0 1) fun σ9 =>
    if (σ9.2.2 44 0 200) = 6 then
    g_let (g_sR σ9 44 0 200 1) fun σ11 =>
    some σ11
  else none
  else none
  else none
  else none
  else none
  else none
  else none
noncomputable def mF_C7_here_k44 (σ : g_S) : Option Int32 :=
  if ¬ (σ.2.2 44 0 200) = 0 then
    if ¬ (σ.2.2 44 0 200) = 0 then
    if (σ.1 44 0 2) ≤ (σ.1 44 0 3) then
    some (-1 : Int32)
  else
    if g_set (σ.2.2 44 0 200) 1 then
    if ¬ (σ.2.2 44 0 200) = 0 then
    if g_in (σ.1 44 0 3) 80 then
    some ((σ.1 12 0 (σ.1 44 0 3).toNatClampNeg) &&& (255 : Int32))
  else none
  else none
  else none
  else none
  else none
noncomputable def mF_C7_need_k44 (σ : g_S) (v1 : Int32) : Option (g_S ⊕ g_S) :=
  if v1 = 0 then
    if ¬ (σ.2.2 44 0 200) = 0 then
    g_let (σ.1 44 0 3) fun x2 =>
    g_let (g_f1 σ x2) fun σ1 =>
    some (.inl σ1)
  else none
  else
    some (.inr σ)
noncomputable def mF_C7_one_k44 (σ : g_S) (v1 : Int32) (v2 : Int32) : Option (g_S ⊕ (Int32 × g_S)) :=
  if ¬ (σ.2.2 44 0 200) = 0 then
    (mF_C7_here_k44 σ).bind fun x1 =>
    (mF_C1_in (x1.toInt64) (v1.toInt64) (((v1 + v2) - (1 : Int32)).toInt64)).bind fun x2 =>
    if ¬ (σ.2.2 44 0 200) = 0 then
    g_tx (mF_C7_need_k44 σ x2) (fun z4 =>
    some (.inl z4)) fun σ3 =>
    if ¬ (σ3.2.2 44 0 200) = 0 then
    if ¬ (σ3.2.2 44 0 200) = 0 then
    g_let (g_sI σ3 44 0 3 ((σ3.1 44 0 3) + (1 : Int32))) fun σ5 =>
    if g_set (σ5.2.2 44 0 200) 1 then
    if ¬ (σ5.2.2 44 0 200) = 0 then
    if g_in ((σ5.1 44 0 3) - (1 : Int32)) 80 then
    some (.inr (((σ5.1 12 0 ((σ5.1 44 0 3) - (1 : Int32)).toNatClampNeg) - v1), σ5))
  else none
  else none
  else none
  else none
  else none
  else none
  else none
noncomputable def mJ_C10_act_167 (σ : g_S) (s1 : Int32) (s2 : Int32) : Option (g_S ⊕ g_S) :=
  if g_in s1 60 = true ∧ ¬ (σ.2.2 47 0 200) = 0 then
    g_let (g_sI σ 47 0 s1.toNatClampNeg s2) fun σ17 =>
    some (.inr σ17)
  else none
noncomputable def mJ_C10_act_166 (σ : g_S) (s1 : Int32) : Option (g_S ⊕ g_S) :=
  (mJ_C10_act_167 σ s1 (-1 : Int32))
noncomputable def mJ_C10_act_25 (σ : g_S) (v1 : Int32) (s1 : Int32) : Option (g_S ⊕ g_S) :=
  if ¬ (σ.2.2 44 0 200) = 0 then
    g_tx (mF_C7_need_k44 σ s1) (fun z3 =>
    some (.inl z3)) fun σ2 =>
    if ¬ (σ2.2.2 44 0 200) = 0 then
    if ¬ (σ2.2.2 44 0 200) = 0 then
    g_let (g_sI σ2 44 0 3 ((σ2.1 44 0 3) + (1 : Int32))) fun σ4 =>
    if g_set (σ4.2.2 44 0 200) 2 then
    if ¬ (σ4.2.2 44 0 200) = 0 then
    if g_in (σ4.1 44 0 7) 60 = true ∧ ¬ (σ4.2.2 45 0 200) = 0 then
    g_let (g_sI σ4 45 0 (σ4.1 44 0 7).toNatClampNeg (vp_nar .char ((v1.toUInt32 % 65536).toInt32))) fun σ5 =>
    if g_set (σ5.2.2 44 0 200) 3 then
    if ¬ (σ5.2.2 44 0 200) = 0 then
    if ¬ (σ5.2.2 44 0 200) = 0 then
    g_t2 (mF_C7_one_k44 σ5 (48 : Int32) (10 : Int32)) (fun z8 =>
    some (.inl z8)) fun x7 σ6 =>
    if g_in (σ5.1 44 0 7) 60 = true ∧ ¬ (σ6.2.2 46 0 200) = 0 then
    g_let (g_sI σ6 46 0 (σ5.1 44 0 7).toNatClampNeg x7) fun σ9 =>
    if v1 = (110 : Int32) then
    some (.inr σ9)
  else
    if g_set (σ9.2.2 44 0 200) 4 then
    if ¬ (σ9.2.2 44 0 200) = 0 then
    if ¬ (σ9.2.2 44 0 200) = 0 then
    g_t2 (mF_C7_one_k44 σ9 (48 : Int32) (10 : Int32)) (fun z12 =>
    some (.inl z12)) fun x11 σ10 =>
    if g_in (σ9.1 44 0 7) 60 = true ∧ ¬ (σ10.2.2 47 0 200) = 0 then
    g_let (g_sI σ10 47 0 (σ9.1 44 0 7).toNatClampNeg x11) fun σ13 =>
    if v1 = (112 : Int32) then
    if ¬ (σ13.2.2 44 0 200) = 0 then
    g_t2 (mF_C7_one_k44 σ13 (48 : Int32) (10 : Int32)) (fun z16 =>
    some (.inl z16)) fun x15 σ14 =>
    if g_set (σ14.2.2 44 0 200) 4 then
    if ¬ (σ14.2.2 44 0 200) = 0 then
    if g_set (σ14.2.2 44 0 200) 4 then
    if ¬ (σ14.2.2 44 0 200) = 0 then
    if g_in (σ14.1 44 0 7) 60 = true ∧ ¬ (σ14.2.2 47 0 200) = 0 then
    if g_set (σ14.2.2 44 0 200) 0 then
    if (σ14.1 0 0 3) ≤ (σ14.1 47 0 (σ14.1 44 0 7).toNatClampNeg) then
    (mJ_C10_act_166 σ14 (σ14.1 44 0 7))
  else
    if g_set (σ14.2.2 44 0 200) 0 then
    if (σ14.1 0 0 4) ≤ x15 then
    (mJ_C10_act_166 σ14 (σ14.1 44 0 7))
  else
    if g_set (σ14.2.2 44 0 200) 0 then
    if g_set (σ14.2.2 44 0 200) 4 then
    if ¬ (σ14.2.2 44 0 200) = 0 then
    if g_in (σ14.1 44 0 7) 60 = true ∧ ¬ (σ14.2.2 47 0 200) = 0 then
    (mJ_C10_act_167 σ14 (σ14.1 44 0 7) (((σ14.1 0 0 4) * (σ14.1 47 0 (σ14.1 44 0 7).toNatClampNeg)) + x15))
  else none
  else none
  else none
  else none
  else none
  else none
  else none
  else none
  else none
  else none
  else none
  else none
  else
    some (.inr σ13)
  else none
  else none
  else none
  else none
  else none
  else none
  else none
  else none
  else none
  else none
  else none
  else none
  else none
  else none
noncomputable def mJ_C10_act_24 (σ : g_S) (v1 : Int32) : Option (g_S ⊕ g_S) :=
  (mJ_C10_act_25 σ v1 (0 : Int32))
noncomputable def mF_C10_act (σ : g_S) : Option (g_S ⊕ g_S) :=
  if ¬ (σ.2.2 44 0 200) = 0 then
    (mF_C7_here_k44 σ).bind fun x1 =>
    if x1 = (-1 : Int32) then
    (mJ_C10_act_24 σ x1)
  else
    (mF_J3_indexOf 5 x1).bind fun x18 =>
    if x18 < 0 then
    (mJ_C10_act_24 σ x1)
  else
    (mJ_C10_act_25 σ x1 (1 : Int32))
  else none
noncomputable def mJ_C7_needEnd_k44_17 (σ : g_S) (s1 : Int32) : Option (g_S ⊕ g_S) :=
  if ¬ (σ.2.2 44 0 200) = 0 then
    g_tx (mF_C7_need_k44 σ s1) (fun z2 =>
    some (.inl z2)) fun σ1 =>
    some (.inr σ1)
  else none
noncomputable def mF_C7_needEnd_k44 (σ : g_S) : Option (g_S ⊕ g_S) :=
  if ¬ (σ.2.2 44 0 200) = 0 then
    if ¬ (σ.2.2 44 0 200) = 0 then
    if (σ.1 44 0 3) = (σ.1 44 0 1) then
    (mJ_C7_needEnd_k44_17 σ (1 : Int32))
  else
    (mJ_C7_needEnd_k44_17 σ (0 : Int32))
  else none
  else none
noncomputable def mB_C10_read_0 (σ : g_S) : Option (g_S ⊕ (g_S ⊕ g_S)) :=
  if ¬ (σ.2.2 44 0 200) = 0 then
    if ¬ (σ.2.2 44 0 200) = 0 then
    if (σ.1 44 0 2) ≤ (σ.1 44 0 3) then
    some (.inr (.inr σ))
  else
    if ¬ (σ.2.2 44 0 200) = 0 then
    g_tx (mF_C10_act σ) (fun z2 =>
    some (.inr (.inl z2))) fun σ1 =>
    if ¬ (σ1.2.2 44 0 200) = 0 then
    if ¬ (σ1.2.2 44 0 200) = 0 then
    g_let (g_sI σ1 44 0 7 ((σ1.1 44 0 7) + (1 : Int32))) fun σ3 =>
    some (.inl σ3)
  else none
  else none
  else none
  else none
  else none
noncomputable def mF_C10_read (σ : g_S) : Option (g_S ⊕ g_S) :=
  (g_lp (fun v => mB_C10_read_0 v) g_fu σ).bind fun e4 => (match e4 with
    | .inl y5 => some (.inl y5)
    | .inr y6 => if ¬ (y6.2.2 44 0 200) = 0 then
    g_tx (mF_C7_needEnd_k44 y6) (fun z8 =>
    some (.inl z8)) fun σ7 =>
    some (.inr σ7)
  else none)
noncomputable def mF_C1_act (σ : g_S) (v1 : Int32) (v2 : Int32) (v3 : Int32) : Option (Int32 × g_S) :=
  if v1 = (98 : Int32) then
    (mF_C1_canTrim σ v2 v3).bind fun x1 =>
    if x1 = 0 then
    some ((0 : Int32), σ)
  else
    if g_in v2 8 then
    g_let (g_sI σ 7 0 v2.toNatClampNeg v3) fun σ2 =>
    some ((1 : Int32), σ2)
  else none
  else if v1 = (102 : Int32) then
    (mF_C1_canFace σ v2 v3).bind fun x3 =>
    if x3 = 0 then
    some ((0 : Int32), σ)
  else
    if g_in v2 8 then
    g_let (g_sI σ 6 0 v2.toNatClampNeg v3) fun σ4 =>
    some ((1 : Int32), σ4)
  else none
  else if v1 = (103 : Int32) then
    (mF_C1_refusesStep σ 0 v2 v3).bind fun x5 =>
    if 0 ≤ x5 then
    if g_in v2 8 then
    (mF_C1_stepOf σ (σ.1 5 0 v2.toNatClampNeg) v3).bind fun x6 =>
    if g_in v2 8 then
    g_let (g_sI σ 5 0 v2.toNatClampNeg x6) fun σ7 =>
    some ((1 : Int32), σ7)
  else none
  else none
  else
    some ((0 : Int32), σ)
  else if v1 = (110 : Int32) then
    (mF_C1_goHours σ 0 v2).bind fun σ8 =>
    some ((1 : Int32), σ8)
  else (mF_C1_refusesPut σ v2 v3).bind fun x9 =>
    if 0 ≤ x9 then
    if g_in v2 8 then
    g_let (g_sI σ 9 0 v2.toNatClampNeg v3) fun σ10 =>
    some ((1 : Int32), σ10)
  else none
  else
    some ((0 : Int32), σ)
noncomputable def mB_C1_day_50 (σ : g_S) (v2 : Int32) : Option ((Int32 × g_S) ⊕ (Int32 × g_S)) :=
  if ¬ (σ.2.2 44 0 200) = 0 then
    if (σ.1 44 0 7) ≤ v2 then
    some (.inr (v2, σ))
  else
    if g_set (σ.2.2 44 0 200) 2 then
    if g_in v2 60 = true ∧ ¬ (σ.2.2 45 0 200) = 0 then
    if g_set (σ.2.2 44 0 200) 3 then
    if g_in v2 60 = true ∧ ¬ (σ.2.2 46 0 200) = 0 then
    if g_set (σ.2.2 44 0 200) 4 then
    if g_in v2 60 = true ∧ ¬ (σ.2.2 47 0 200) = 0 then
    g_b2 (mF_C1_act σ (σ.1 45 0 v2.toNatClampNeg) (σ.1 46 0 v2.toNatClampNeg) (σ.1 47 0 v2.toNatClampNeg)) fun x12 σ11 =>
    if x12 = 0 then
    some (.inr (v2, σ11))
  else
    g_let (v2 + (1 : Int32)) fun x13 =>
    some (.inl (x13, σ11))
  else none
  else none
  else none
  else none
  else none
  else none
  else none
noncomputable def mJ_C1_day_120 (σ : g_S) (v2 : Int32) (s1 : Int64) : Option (Int32 × g_S) :=
  (mF_C1_tell_2 σ s1).bind fun σ16 =>
    (mF_C1_tell_2 σ16 ((σ16.1 4 0 5).toInt64)).bind fun σ17 =>
    some (v2, σ17)
noncomputable def mJ_C1_day_101 (σ : g_S) (v2 : Int32) : Option (Int32 × g_S) :=
  g_let (g_sI σ 0 0 18 (0 : Int32)) fun σ15 =>
    if ¬ (σ15.2.2 44 0 200) = 0 then
    if (σ15.1 44 0 7) ≤ v2 then
    (mJ_C1_day_120 σ15 v2 (0 : Int64))
  else
    (mJ_C1_day_120 σ15 v2 (1 : Int64))
  else none
noncomputable def mF_C1_day (σ : g_S) : Option (Int32 × g_S) :=
  g_let (g_nw σ 44 0 2) fun σ1 =>
    (mF_C10_init σ1 (σ1.1 0 0 16)).bind fun σ3 =>
    g_let (g_sI σ3 0 0 16 (0 : Int32)) fun σ7 =>
    if ¬ (σ7.2.2 44 0 200) = 0 then
    g_tx (mF_C10_read σ7) (fun z9 =>
    if ¬ (z9.2.2 52 0 200) = 0 then
    some (((-1 : Int32) - (z9.1 52 0 0)), z9)
  else none) fun σ8 =>
    (mF_C5_be_k4_4 σ8 1 0).bind fun σ10 =>
    (g_lp (fun v => mB_C1_day_50 v.2 v.1) g_fu ((0 : Int32), σ10)).bind fun e14 =>
    if e14.1 ≤ 0 then
    (mJ_C1_day_101 e14.2 e14.1)
  else
    (mF_C1_remember e14.2 1).bind fun σ18 =>
    (mJ_C1_day_101 σ18 e14.1)
  else none
noncomputable def mF_C1_undo (σ : g_S) : Option (Int32 × g_S) :=
  if (σ.1 0 0 8) = 0 then
    some ((-1 : Int32), σ)
  else
    g_let (g_sI σ 0 0 8 ((σ.1 0 0 8) - (1 : Int32))) fun σ1 =>
    if g_in (σ1.1 0 0 8) 15 then
    if (σ1.2.2 10 0 (σ1.1 0 0 8).toNatClampNeg) < 18 then
    (mF_C5_be_k4_4 σ1 0 (σ1.2.2 10 0 (σ1.1 0 0 8).toNatClampNeg)).bind fun σ4 =>
    some ((σ4.1 0 0 8), σ4)
  else none
  else none
noncomputable def mF_C2_all_k1 (σ : g_S) : Option Int32 :=
  some ((σ.1 0 0 3) * (σ.1 0 0 4))
noncomputable def mB_C2_fields_k1_4_5 (σ : g_S) (u0 : Nat) (v2 : Int32) (v3 : Int64) (v5 : Int32) : Option ((Int64 × Int32) ⊕ Int64) :=
  (mF_C2_all_k1 σ).bind fun x1 =>
    if x1 ≤ v5 then
    some (.inr v3)
  else
    (mF_C2_sees_k1_4 σ u0 v2 v5).bind fun x2 =>
    if x2 = 0 then
    g_let (v3 ||| (0 : Int64)) fun x3 =>
    g_let (v5 + (1 : Int32)) fun x4 =>
    some (.inl (x3, x4))
  else
    g_let (v3 ||| ((1 : Int64) <<< (v5.toInt64 &&& 63))) fun x5 =>
    g_let (v5 + (1 : Int32)) fun x6 =>
    some (.inl (x5, x6))
noncomputable def mF_C2_fields_k1_4 (σ : g_S) (u0 : Nat) (v2 : Int32) : Option Int64 :=
  (g_lp (fun v => mB_C2_fields_k1_4_5 σ u0 v2 v.1 v.2) g_fu ((0 : Int64), (0 : Int32))).bind fun e7 =>
    some e7
noncomputable def mF_C1_sees (σ : g_S) (v1 : Int32) : Option (Int64 × g_S) :=
  (mF_C1_isMan σ v1).bind fun x1 =>
    if x1 = 0 then
    some ((-1 : Int64), σ)
  else
    (mF_C2_fields_k1_4 σ 0 v1).bind fun x2 =>
    g_let (g_sI σ 0 0 18 (0 : Int32)) fun σ3 =>
    (mF_J12_bitCount x2).bind fun x4 =>
    (mF_C1_tell_2 σ3 (x4.toInt64)).bind fun σ5 =>
    (mF_C1_peopleOn σ5 0 x2).bind fun x6 =>
    (mF_C1_tell_2 σ5 ((x6 &&& (((1 : Int32) <<< (v1 &&& 31)) ^^^ (-1 : Int32))).toInt64)).bind fun σ7 =>
    some (x2, σ7)
noncomputable def mB_C1_seersOf_5 (σ : g_S) (u0 : Nat) (v2 : Int32) (v3 : Int32) (v4 : Int32) : Option ((Int32 × Int32) ⊕ Int32) :=
  if (σ.1 0 0 5) ≤ v4 then
    some (.inr v3)
  else
    (mF_C2_sees_k1_4 σ u0 v4 v2).bind fun x1 =>
    if x1 = 0 then
    g_let (v3 ||| (0 : Int32)) fun x2 =>
    g_let (v4 + (1 : Int32)) fun x3 =>
    some (.inl (x2, x3))
  else
    g_let (v3 ||| ((1 : Int32) <<< (v4 &&& 31))) fun x4 =>
    g_let (v4 + (1 : Int32)) fun x5 =>
    some (.inl (x4, x5))
noncomputable def mF_C1_seersOf (σ : g_S) (u0 : Nat) (v2 : Int32) : Option Int32 :=
  (g_lp (fun v => mB_C1_seersOf_5 σ u0 v2 v.1 v.2) g_fu ((0 : Int32), (0 : Int32))).bind fun e6 =>
    some e6
noncomputable def mB_C1_thingsOn_5 (σ : g_S) (v1 : Int64) (v3 : Int32) (v4 : Int32) : Option ((Int32 × Int32) ⊕ Int32) :=
  if (σ.1 0 0 6) ≤ v4 then
    some (.inr v3)
  else
    if g_in v4 8 then
    (mF_C1_has v1 (σ.1 9 0 v4.toNatClampNeg)).bind fun x1 =>
    if x1 = 0 then
    g_let (v3 ||| (0 : Int32)) fun x2 =>
    g_let (v4 + (1 : Int32)) fun x3 =>
    some (.inl (x2, x3))
  else
    g_let (v3 ||| ((1 : Int32) <<< (v4 &&& 31))) fun x4 =>
    g_let (v4 + (1 : Int32)) fun x5 =>
    some (.inl (x4, x5))
  else none
noncomputable def mF_C1_thingsOn (σ : g_S) (v1 : Int64) : Option Int32 :=
  (g_lp (fun v => mB_C1_thingsOn_5 σ v1 v.1 v.2) g_fu ((0 : Int32), (0 : Int32))).bind fun e6 =>
    some e6
noncomputable def mF_C1_seers (σ : g_S) (v1 : Int32) : Option (Int32 × g_S) :=
  (mF_C1_isField σ v1).bind fun x1 =>
    if x1 = 0 then
    some ((-1 : Int32), σ)
  else
    (mF_C1_seersOf σ 0 v1).bind fun x2 =>
    g_let (g_sI σ 0 0 18 (0 : Int32)) fun σ3 =>
    (mF_J8_bitCount x2).bind fun x4 =>
    (mF_C1_tell_2 σ3 (x4.toInt64)).bind fun σ5 =>
    (mF_C1_thingsOn σ5 ((1 : Int64) <<< (v1.toInt64 &&& 63))).bind fun x6 =>
    (mF_C1_tell_2 σ5 (x6.toInt64)).bind fun σ7 =>
    some (x2, σ7)
noncomputable def mF_C1_open (σ : g_S) : Option Int64 :=
  (mF_C1_fields σ).bind fun x1 =>
    some ((((1 : Int64) <<< (x1.toInt64 &&& 63)) - (1 : Int64)) &&& ((σ.2.1 0 0 9) ^^^ (-1 : Int64)))
noncomputable def mB_C1_seen_5 (σ : g_S) (u0 : Nat) (v2 : Int64) (v4 : Int32) : Option ((Int64 × Int32) ⊕ Int64) :=
  if (σ.1 0 0 5) ≤ v4 then
    some (.inr v2)
  else
    (mF_C2_fields_k1_4 σ u0 v4).bind fun x1 =>
    g_let (v2 ||| x1) fun x2 =>
    g_let (v4 + (1 : Int32)) fun x3 =>
    some (.inl (x2, x3))
noncomputable def mF_C1_seen (σ : g_S) (u0 : Nat) : Option Int64 :=
  (g_lp (fun v => mB_C1_seen_5 σ u0 v.1 v.2) g_fu ((0 : Int64), (0 : Int32))).bind fun e4 =>
    some e4
noncomputable def mF_C1_hidden (σ : g_S) : Option (Int64 × g_S) :=
  (mF_C1_open σ).bind fun x1 =>
    (mF_C1_seen σ 0).bind fun x2 =>
    g_let (x1 &&& (x2 ^^^ (-1 : Int64))) fun x3 =>
    g_let (g_sI σ 0 0 18 (0 : Int32)) fun σ4 =>
    (mF_J12_bitCount x3).bind fun x5 =>
    (mF_C1_tell_2 σ4 (x5.toInt64)).bind fun σ6 =>
    (mF_C1_thingsOn σ6 x3).bind fun x7 =>
    (mF_C1_tell_2 σ6 (x7.toInt64)).bind fun σ8 =>
    some (x3, σ8)
noncomputable def mJ_C1_pairs_79 (σ : g_S) (v1 : Int32) (v5 : Int32) (v6 : Int32) (s0 : Int32) (s1 : Int32) : Option ((Int32 × Int32 × Int32 × Int32 × Int32) ⊕ (Int32 × Int32 × Int32 × Int32)) :=
  g_let (s0 + s1) fun x6 =>
    g_let (v6 + (-1 : Int32)) fun x7 =>
    some (.inl (v1, x6, v5, v6, x7))
noncomputable def mB_C1_pairs_30 (σ : g_S) (v5 : Int32) (v1 : Int32) (v2 : Int32) (v3 : Int32) (v4 : Int32) (v6 : Int32) : Option ((Int32 × Int32 × Int32 × Int32 × Int32) ⊕ (Int32 × Int32 × Int32 × Int32)) :=
  if v6 ≤ v5 then
    some (.inr (v1, v2, v3, v4))
  else
    (mF_C1_meet σ 0 v5 v6).bind fun x3 =>
    if x3 = 0 then
    g_let (v6 + (-1 : Int32)) fun x8 =>
    some (.inl (v1, v2, v3, v4, x8))
  else
    g_let (v1 + (1 : Int32)) fun x4 =>
    (mF_C1_tell σ 0 v5 v6).bind fun x5 =>
    if x5 = 0 then
    (mJ_C1_pairs_79 σ x4 v5 v6 v2 (0 : Int32))
  else
    (mJ_C1_pairs_79 σ x4 v5 v6 v2 (1 : Int32))
noncomputable def mB_C1_pairs_17 (σ : g_S) (v1 : Int32) (v2 : Int32) (v3 : Int32) (v4 : Int32) (v5 : Int32) : Option ((Int32 × Int32 × Int32 × Int32 × Int32) ⊕ (Int32 × Int32 × Int32 × Int32)) :=
  if v5 < 0 then
    some (.inr (v1, v2, v3, v4))
  else
    g_let ((σ.1 0 0 5) - (1 : Int32)) fun x2 =>
    (g_lp (fun v => mB_C1_pairs_30 σ v5 v.1 v.2.1 v.2.2.1 v.2.2.2.1 v.2.2.2.2) g_fu (v1, v2, v3, v4, x2)).bind fun e9 =>
    g_let (v5 + (-1 : Int32)) fun x10 =>
    some (.inl (e9.1, e9.2.1, e9.2.2.1, e9.2.2.2, x10))
noncomputable def mF_C1_pairs (σ : g_S) : Option (Int32 × g_S) :=
  g_let ((σ.1 0 0 5) - (1 : Int32)) fun x1 =>
    (g_lp (fun v => mB_C1_pairs_17 σ v.1 v.2.1 v.2.2.1 v.2.2.2.1 v.2.2.2.2) g_fu ((0 : Int32), (0 : Int32), (-1 : Int32), (-1 : Int32), x1)).bind fun e11 =>
    g_let (g_sI σ 0 0 18 (0 : Int32)) fun σ12 =>
    (mF_C1_tell_2 σ12 (e11.2.1.toInt64)).bind fun σ13 =>
    if e11.1 ≤ 0 then
    some (e11.1, σ13)
  else
    (mF_C1_tell_2 σ13 (e11.2.2.1.toInt64)).bind fun σ14 =>
    (mF_C1_tell_2 σ14 (e11.2.2.2.toInt64)).bind fun σ15 =>
    some (e11.1, σ15)
noncomputable def mB_C1_behind_14 (σ : g_S) (v1 : Int32) (v2 : Int32) (v3 : Int32) : Option ((Int32 × Int32) ⊕ Int32) :=
  if (σ.1 0 0 5) ≤ v3 then
    some (.inr v2)
  else
    if v3 = v1 then
    g_let (v2 ||| (0 : Int32)) fun x2 =>
    g_let (v3 + (1 : Int32)) fun x3 =>
    some (.inl (x2, x3))
  else
    if g_in v1 8 then
    (mF_C2_sees_k1_4 σ 0 v3 (σ.1 5 0 v1.toNatClampNeg)).bind fun x4 =>
    if x4 = 0 then
    g_let (v2 ||| (0 : Int32)) fun x5 =>
    g_let (v3 + (1 : Int32)) fun x6 =>
    some (.inl (x5, x6))
  else
    if g_in v3 8 then
    (mF_C2_sees_k1_4 σ 0 v1 (σ.1 5 0 v3.toNatClampNeg)).bind fun x7 =>
    if x7 = 0 then
    g_let (v2 ||| ((1 : Int32) <<< (v3 &&& 31))) fun x10 =>
    g_let (v3 + (1 : Int32)) fun x11 =>
    some (.inl (x10, x11))
  else
    g_let (v2 ||| (0 : Int32)) fun x8 =>
    g_let (v3 + (1 : Int32)) fun x9 =>
    some (.inl (x8, x9))
  else none
  else none
noncomputable def mF_C1_behind (σ : g_S) (v1 : Int32) : Option (Int32 × g_S) :=
  (mF_C1_isMan σ v1).bind fun x1 =>
    if x1 = 0 then
    some ((-1 : Int32), σ)
  else
    (g_lp (fun v => mB_C1_behind_14 σ v1 v.1 v.2) g_fu ((0 : Int32), (0 : Int32))).bind fun e12 =>
    g_let (g_sI σ 0 0 18 (0 : Int32)) fun σ13 =>
    (mF_J8_bitCount e12).bind fun x14 =>
    (mF_C1_tell_2 σ13 (x14.toInt64)).bind fun σ15 =>
    some (e12, σ15)
noncomputable def mF_C1_wide (σ : g_S) (v1 : Int32) : Option Int32 :=
  (mF_C2_fields_k1_4 σ 0 v1).bind fun x1 =>
    (mF_J12_bitCount x1).bind fun x2 =>
    some x2
noncomputable def mJ_C1_widest_42 (σ : g_S) (v2 : Int32) (v3 : Int32) (s0 : Int32) : Option ((Int32 × Int32 × Int32) ⊕ (Int32 × Int32)) :=
  (mF_C1_wide σ v3).bind fun x3 =>
    (mF_C1_wide σ v2).bind fun x4 =>
    if x4 ≤ x3 then
    g_let (v3 + (1 : Int32)) fun x5 =>
    some (.inl (s0, v2, x5))
  else
    g_let (v3 + (1 : Int32)) fun x6 =>
    some (.inl (s0, v3, x6))
noncomputable def mB_C1_widest_16 (σ : g_S) (v1 : Int32) (v2 : Int32) (v3 : Int32) : Option ((Int32 × Int32 × Int32) ⊕ (Int32 × Int32)) :=
  if (σ.1 0 0 5) ≤ v3 then
    some (.inr (v1, v2))
  else
    (mF_C1_wide σ v3).bind fun x1 =>
    (mF_C1_wide σ v1).bind fun x2 =>
    if x1 ≤ x2 then
    (mJ_C1_widest_42 σ v2 v3 v1)
  else
    (mJ_C1_widest_42 σ v2 v3 v3)
noncomputable def mF_C1_widest (σ : g_S) : Option (Int32 × g_S) :=
  if (σ.1 0 0 5) = 0 then
    some ((-2 : Int32), σ)
  else
    (g_lp (fun v => mB_C1_widest_16 σ v.1 v.2.1 v.2.2) g_fu ((0 : Int32), (0 : Int32), (1 : Int32))).bind fun e7 =>
    g_let (g_sI σ 0 0 18 (0 : Int32)) fun σ8 =>
    (mF_C1_wide σ8 e7.1).bind fun x9 =>
    (mF_C1_tell_2 σ8 (x9.toInt64)).bind fun σ10 =>
    (mF_C1_tell_2 σ10 (e7.2.toInt64)).bind fun σ11 =>
    (mF_C1_wide σ11 e7.2).bind fun x12 =>
    (mF_C1_tell_2 σ11 (x12.toInt64)).bind fun σ13 =>
    some (e7.1, σ13)
noncomputable def mF_C1_allMen (σ : g_S) : Option Int32 :=
  some (((1 : Int32) <<< ((σ.1 0 0 5) &&& 31)) - (1 : Int32))
noncomputable def mB_C1_watch_4 (σ : g_S) (v1 : Int64) (v3 : Int32) : Option ((Int64 × Int32 × g_S) ⊕ (Int64 × g_S)) :=
  if (σ.1 0 0 5) ≤ v3 then
    some (.inr (v1, σ))
  else
    (mF_C2_fields_k1_4 σ 0 v3).bind fun x1 =>
    if g_in v3 8 then
    g_let (g_sL σ 15 0 v3.toNatClampNeg x1) fun σ2 =>
    if g_in v3 8 then
    g_let (v1 ||| (σ2.2.1 15 0 v3.toNatClampNeg)) fun x3 =>
    g_let (v3 + (1 : Int32)) fun x4 =>
    some (.inl (x3, x4, σ2))
  else none
  else none
noncomputable def mB_C1_watch_82 (σ : g_S) (v1 : Int64) (v3 : Int32) (v4 : Int32) (v5 : Int64) (v7 : Int32) : Option ((Int64 × Int32) ⊕ Int64) :=
  if (σ.1 0 0 5) ≤ v7 then
    some (.inr v5)
  else
    (mF_C1_has (v4.toInt64) v7).bind fun x10 =>
    if x10 = 0 then
    g_let (v5 ||| (0 : Int64)) fun x11 =>
    g_let (v7 + (1 : Int32)) fun x12 =>
    some (.inl (x11, x12))
  else
    if g_in v7 8 then
    g_let (v5 ||| (σ.2.1 15 0 v7.toNatClampNeg)) fun x13 =>
    g_let (v7 + (1 : Int32)) fun x14 =>
    some (.inl (x13, x14))
  else none
noncomputable def mB_C1_watch_56 (σ : g_S) (v1 : Int64) (v3 : Int32) (v4 : Int32) : Option ((Int32 × Int32) ⊕ Int32) :=
  if v4 < 0 then
    some (.inr v3)
  else
    (mF_J8_bitCount v4).bind fun x8 =>
    (mF_J8_bitCount v3).bind fun x9 =>
    if x8 ≤ x9 then
    (g_lp (fun v => mB_C1_watch_82 σ v1 v3 v4 v.1 v.2) g_fu ((0 : Int64), (0 : Int32))).bind fun e15 =>
    if (lg_cmp e15 v1) = 0 then
    g_let (v4 + (-1 : Int32)) fun x17 =>
    some (.inl (v4, x17))
  else
    g_let (v4 + (-1 : Int32)) fun x16 =>
    some (.inl (v3, x16))
  else
    g_let (v4 + (-1 : Int32)) fun x18 =>
    some (.inl (v3, x18))
noncomputable def mF_C1_watch (σ : g_S) : Option (Int32 × g_S) :=
  (g_lp (fun v => mB_C1_watch_4 v.2.2 v.1 v.2.1) g_fu ((0 : Int64), (0 : Int32), σ)).bind fun e5 =>
    (mF_C1_allMen e5.2).bind fun x6 =>
    (mF_C1_allMen e5.2).bind fun x7 =>
    (g_lp (fun v => mB_C1_watch_56 e5.2 e5.1 v.1 v.2) g_fu (x6, x7)).bind fun e19 =>
    g_let (g_sI e5.2 0 0 18 (0 : Int32)) fun σ20 =>
    (mF_C1_tell_2 σ20 (e19.toInt64)).bind fun σ21 =>
    (mF_J8_bitCount e19).bind fun x22 =>
    some (x22, σ21)
noncomputable def mB_C1_knowersOf_5 (σ : g_S) (u0 : Nat) (v2 : Int32) (v3 : Int32) (v4 : Int32) : Option ((Int32 × Int32) ⊕ Int32) :=
  if (σ.1 0 0 5) ≤ v4 then
    some (.inr v3)
  else
    if g_in v4 8 then
    (mF_C1_has ((σ.1 8 u0 v4.toNatClampNeg).toInt64) v2).bind fun x1 =>
    if x1 = 0 then
    g_let (v3 ||| (0 : Int32)) fun x2 =>
    g_let (v4 + (1 : Int32)) fun x3 =>
    some (.inl (x2, x3))
  else
    g_let (v3 ||| ((1 : Int32) <<< (v4 &&& 31))) fun x4 =>
    g_let (v4 + (1 : Int32)) fun x5 =>
    some (.inl (x4, x5))
  else none
noncomputable def mF_C1_knowersOf (σ : g_S) (u0 : Nat) (v2 : Int32) : Option Int32 :=
  (g_lp (fun v => mB_C1_knowersOf_5 σ u0 v2 v.1 v.2) g_fu ((0 : Int32), (0 : Int32))).bind fun e6 =>
    some e6
noncomputable def mB_C1_learns_31 (σ : g_S) (v1 : Int32) (v2 : Int32) (v3 : Int32) : Option ((Int32 × g_S) ⊕ ((Int32 × g_S) ⊕ g_S)) :=
  if (99 : Int32) < v3 then
    some (.inr (.inr σ))
  else
    if g_in v1 8 then
    (mF_C1_has ((σ.1 8 2 v1.toNatClampNeg).toInt64) v2).bind fun x4 =>
    if x4 = 0 then
    (mF_C1_goHour σ 2).bind fun σ5 =>
    g_let (v3 + (1 : Int32)) fun x6 =>
    some (.inl (x6, σ5))
  else
    some (.inr (.inl (v3, σ)))
  else none
noncomputable def mF_C1_learns (σ : g_S) (v1 : Int32) (v2 : Int32) : Option (Int32 × g_S) :=
  (mF_C1_isMan σ v1).bind fun x1 =>
    if x1 = 0 then
    some ((-1 : Int32), σ)
  else
    (mF_C1_isThing σ v2).bind fun x2 =>
    if x2 = 0 then
    some ((-1 : Int32), σ)
  else
    (mF_C5_be_k4_4 σ 2 0).bind fun σ3 =>
    (g_lp (fun v => mB_C1_learns_31 v.2 v1 v2 v.1) g_fu ((0 : Int32), σ3)).bind fun e7 => (match e7 with
    | .inl y8 => g_let (g_sI y8.2 0 0 18 (0 : Int32)) fun σ9 =>
    (mF_C1_knowersOf σ9 2 v2).bind fun x10 =>
    (mF_J8_bitCount x10).bind fun x11 =>
    (mF_C1_tell_2 σ9 (x11.toInt64)).bind fun σ12 =>
    some (y8.1, σ12)
    | .inr y13 => some ((-2 : Int32), y13))
noncomputable def mF_C1_allThings (σ : g_S) : Option Int32 :=
  some (((1 : Int32) <<< ((σ.1 0 0 6) &&& 31)) - (1 : Int32))
noncomputable def mB_C1_lacking_2 (σ : g_S) (u0 : Nat) (v2 : Int32) : Option (Int32 ⊕ (Int32 ⊕ Unit)) :=
  if (σ.1 0 0 5) ≤ v2 then
    some (.inr (.inr ()))
  else
    if g_in v2 8 then
    (mF_C1_allThings σ).bind fun x1 =>
    if (σ.1 8 u0 v2.toNatClampNeg) = x1 then
    g_let (v2 + (1 : Int32)) fun x2 =>
    some (.inl x2)
  else
    some (.inr (.inl v2))
  else none
noncomputable def mF_C1_lacking (σ : g_S) (u0 : Nat) : Option Int32 :=
  (g_lp (fun v => mB_C1_lacking_2 σ u0 v) g_fu (0 : Int32)).bind fun e3 => (match e3 with
    | .inl y4 => some y4
    | .inr y5 => some (-1 : Int32))
noncomputable def mB_C1_all_15 (σ : g_S) (v1 : Int32) (v2 : Int32) : Option ((Int32 × Int32 × g_S) ⊕ ((Int32 × Int32 × g_S) ⊕ g_S)) :=
  if (99 : Int32) < v2 then
    some (.inr (.inr σ))
  else
    (mF_C1_lacking σ 2).bind fun x2 =>
    if x2 = (-1 : Int32) then
    some (.inr (.inl (v1, v2, σ)))
  else
    (mF_C1_goHour σ 2).bind fun σ3 =>
    g_let (v2 + (1 : Int32)) fun x4 =>
    some (.inl (x2, x4, σ3))
noncomputable def mF_C1_all (σ : g_S) : Option (Int32 × g_S) :=
  (mF_C5_be_k4_4 σ 2 0).bind fun σ1 =>
    (g_lp (fun v => mB_C1_all_15 v.2.2 v.1 v.2.1) g_fu ((-1 : Int32), (0 : Int32), σ1)).bind fun e5 => (match e5 with
    | .inl y6 => g_let (g_sI y6.2.2 0 0 18 (0 : Int32)) fun σ7 =>
    (mF_C1_tell_2 σ7 (y6.1.toInt64)).bind fun σ8 =>
    some (y6.2.1, σ8)
    | .inr y9 => some ((-2 : Int32), y9))
noncomputable def mB_C1_ahead_41 (σ : g_S) (v2 : Int32) : Option ((Int32 × g_S) ⊕ g_S) :=
  if (σ.1 0 0 5) ≤ v2 then
    some (.inr σ)
  else
    if g_in v2 8 then
    (mF_C1_tell_2 σ ((σ.1 8 2 v2.toNatClampNeg).toInt64)).bind fun σ5 =>
    g_let (v2 + (1 : Int32)) fun x6 =>
    some (.inl (x6, σ5))
  else none
noncomputable def mF_C1_ahead (σ : g_S) (v1 : Int32) : Option (Int32 × g_S) :=
  (mF_C1_in (v1.toInt64) (0 : Int64) (99 : Int64)).bind fun x1 =>
    if x1 = 0 then
    some ((-1 : Int32), σ)
  else
    (mF_C5_be_k4_4 σ 2 0).bind fun σ2 =>
    (mF_C1_goHours σ2 2 v1).bind fun σ3 =>
    g_let (g_sI σ3 0 0 18 (0 : Int32)) fun σ4 =>
    (g_lp (fun v => mB_C1_ahead_41 v.2 v.1) g_fu ((0 : Int32), σ4)).bind fun e7 =>
    (mF_C1_known e7 2).bind fun x8 =>
    some (x8, e7)
noncomputable def mB_C1_gossip_34 (σ : g_S) (v2 : Int32) (v3 : Int32) (v5 : Int32) (v4 : Int32) (v6 : Int32) : Option ((Int32 × Int32) ⊕ Int32) :=
  if (σ.1 0 0 5) ≤ v6 then
    some (.inr v4)
  else
    (mF_C1_has (v2.toInt64) v5).bind fun x3 =>
    if x3 = 0 then
    g_let (v4 ||| (0 : Int32)) fun x4 =>
    g_let (v6 + (1 : Int32)) fun x5 =>
    some (.inl (x4, x5))
  else
    (mF_C1_tell σ 0 v5 v6).bind fun x6 =>
    if x6 = 0 then
    g_let (v4 ||| (0 : Int32)) fun x7 =>
    g_let (v6 + (1 : Int32)) fun x8 =>
    some (.inl (x7, x8))
  else
    g_let (v4 ||| ((1 : Int32) <<< (v6 &&& 31))) fun x9 =>
    g_let (v6 + (1 : Int32)) fun x10 =>
    some (.inl (x9, x10))
noncomputable def mB_C1_gossip_22 (σ : g_S) (v2 : Int32) (v3 : Int32) (v4 : Int32) (v5 : Int32) : Option ((Int32 × Int32) ⊕ Int32) :=
  if (σ.1 0 0 5) ≤ v5 then
    some (.inr v4)
  else
    (g_lp (fun v => mB_C1_gossip_34 σ v2 v3 v5 v.1 v.2) g_fu (v4, (0 : Int32))).bind fun e11 =>
    g_let (v5 + (1 : Int32)) fun x12 =>
    some (.inl (e11, x12))
noncomputable def mB_C1_gossip_16 (σ : g_S) (v2 : Int32) (v3 : Int32) : Option ((Int32 × Int32) ⊕ (Int32 × Int32)) :=
  (g_lp (fun v => mB_C1_gossip_22 σ v2 v3 v.1 v.2) g_fu (v2, (0 : Int32))).bind fun e13 =>
    if e13 = v2 then
    some (.inr (v2, v3))
  else
    g_let (v3 + (1 : Int32)) fun x14 =>
    some (.inl (e13, x14))
noncomputable def mF_C1_gossip (σ : g_S) (v1 : Int32) : Option (Int32 × g_S) :=
  (mF_C1_isMan σ v1).bind fun x1 =>
    if x1 = 0 then
    some ((-1 : Int32), σ)
  else
    g_let ((1 : Int32) <<< (v1 &&& 31)) fun x2 =>
    (g_lp (fun v => mB_C1_gossip_16 σ v.1 v.2) g_fu (x2, (0 : Int32))).bind fun e15 =>
    g_let (g_sI σ 0 0 18 (0 : Int32)) fun σ16 =>
    (mF_C1_tell_2 σ16 (e15.2.toInt64)).bind fun σ17 =>
    some (e15.1, σ17)
noncomputable def mF_C3_to (σ : g_S) (v1 : Int32) : Option g_S :=
  g_let (g_sI σ 2 0 1 v1) fun σ1 =>
    some σ1
noncomputable def mF_C2_reach_k2_4 (σ : g_S) (u0 : Nat) (v2 : Int32) : Option Int32 :=
  if g_in v2 8 then
    (mR_C_reachBy σ u0 v2 (σ.1 7 u0 v2.toNatClampNeg)).bind fun x1 =>
    some x1
  else none
noncomputable def mF_C3_facing (σ : g_S) (u0 : Nat) (v2 : Int32) : Option Int32 :=
  some (σ.1 2 0 1)
noncomputable def mF_C2_brim_k2_4 (σ : g_S) (u0 : Nat) (v2 : Int32) : Option Int32 :=
  if g_in v2 8 then
    some (σ.1 7 u0 v2.toNatClampNeg)
  else none
noncomputable def mF_C2_sees_k2_4 (σ : g_S) (u0 : Nat) (v2 : Int32) (v3 : Int32) : Option Int32 :=
  if g_in v2 8 then
    if v3 = (σ.1 5 u0 v2.toNatClampNeg) then
    some (1 : Int32)
  else
    if ¬ (σ.1 0 0 4) = 0 then
    if g_in v2 8 then
    if ¬ (σ.1 0 0 4) = 0 then
    g_let ((v3 / (σ.1 0 0 4)) - ((σ.1 5 u0 v2.toNatClampNeg) / (σ.1 0 0 4))) fun x1 =>
    if ¬ (σ.1 0 0 4) = 0 then
    if g_in v2 8 then
    if ¬ (σ.1 0 0 4) = 0 then
    g_let ((g_rem v3 (σ.1 0 0 4)) - (g_rem (σ.1 5 u0 v2.toNatClampNeg) (σ.1 0 0 4))) fun x2 =>
    (mF_C2_reach_k2_4 σ u0 v2).bind fun x3 =>
    if (g_max (g_abs x1) (g_abs x2)) ≤ x3 then
    (mF_C3_facing σ u0 v2).bind fun x4 =>
    (mF_C1_wayOf x1 x2).bind fun x5 =>
    (mF_C1_offBy x4 x5).bind fun x6 =>
    (mF_C2_brim_k2_4 σ u0 v2).bind fun x7 =>
    if ((4 : Int32) - x7) < x6 then
    some (0 : Int32)
  else
    if g_in v2 8 then
    (mF_C1_isClear σ (σ.1 5 u0 v2.toNatClampNeg) v3).bind fun x8 =>
    if x8 = 0 then
    some (0 : Int32)
  else
    some (1 : Int32)
  else none
  else
    some (0 : Int32)
  else none
  else none
  else none
  else none
  else none
  else none
  else none
noncomputable def mB_C1_eighths_23 (σ : g_S) (v1 : Int32) (v2 : Int32) (v3 : Int32) (v4 : Int32) : Option ((Int32 × Int32 × g_S) ⊕ (Int32 × g_S)) :=
  if (8 : Int32) ≤ v4 then
    some (.inr (v3, σ))
  else
    (mF_C3_to σ v4).bind fun σ3 =>
    (mF_C2_sees_k2_4 σ3 0 v1 v2).bind fun x4 =>
    if x4 = 0 then
    g_let (v4 + (1 : Int32)) fun x10 =>
    some (.inl (v3, x10, σ3))
  else
    if v3 = (-1 : Int32) then
    g_let (v4 + (1 : Int32)) fun x5 =>
    some (.inl (v4, x5, σ3))
  else
    if g_in v1 8 then
    (mF_C1_offBy (σ3.1 6 0 v1.toNatClampNeg) v4).bind fun x6 =>
    if g_in v1 8 then
    (mF_C1_offBy (σ3.1 6 0 v1.toNatClampNeg) v3).bind fun x7 =>
    if x7 ≤ x6 then
    g_let (v4 + (1 : Int32)) fun x8 =>
    some (.inl (v3, x8, σ3))
  else
    g_let (v4 + (1 : Int32)) fun x9 =>
    some (.inl (v4, x9, σ3))
  else none
  else none
noncomputable def mF_C1_eighths (σ : g_S) (v1 : Int32) (v2 : Int32) : Option (Int32 × g_S) :=
  (mF_C1_isMan σ v1).bind fun x1 =>
    if x1 = 0 then
    some ((-1 : Int32), σ)
  else
    (mF_C1_isField σ v2).bind fun x2 =>
    if x2 = 0 then
    some ((-1 : Int32), σ)
  else
    (g_lp (fun v => mB_C1_eighths_23 v.2.2 v1 v2 v.1 v.2.1) g_fu ((-1 : Int32), (0 : Int32), σ)).bind fun e11 =>
    if e11.1 = (-1 : Int32) then
    some ((-2 : Int32), e11.2)
  else
    g_let (g_sI e11.2 0 0 18 (0 : Int32)) fun σ12 =>
    (mF_C1_tell_2 σ12 (e11.1.toInt64)).bind fun σ13 =>
    if g_in v1 8 then
    (mF_C1_offBy (σ13.1 6 0 v1.toNatClampNeg) e11.1).bind fun x14 =>
    some (x14, σ13)
  else none
noncomputable def mB_C2_things_k2_4_5 (σ : g_S) (u0 : Nat) (v2 : Int32) (v3 : Int32) (v4 : Int32) : Option ((Int32 × Int32) ⊕ Int32) :=
  if (σ.1 0 0 6) ≤ v4 then
    some (.inr v3)
  else
    if g_in v4 8 then
    (mF_C2_sees_k2_4 σ u0 v2 (σ.1 9 u0 v4.toNatClampNeg)).bind fun x1 =>
    if x1 = 0 then
    g_let (v3 ||| (0 : Int32)) fun x2 =>
    g_let (v4 + (1 : Int32)) fun x3 =>
    some (.inl (x2, x3))
  else
    g_let (v3 ||| ((1 : Int32) <<< (v4 &&& 31))) fun x4 =>
    g_let (v4 + (1 : Int32)) fun x5 =>
    some (.inl (x4, x5))
  else none
noncomputable def mF_C2_things_k2_4 (σ : g_S) (u0 : Nat) (v2 : Int32) : Option Int32 :=
  (g_lp (fun v => mB_C2_things_k2_4_5 σ u0 v2 v.1 v.2) g_fu ((0 : Int32), (0 : Int32))).bind fun e6 =>
    some e6
noncomputable def mF_C1_cost (σ : g_S) (v1 : Int32) (v2 : Int32) : Option Int32 :=
  if g_in v1 8 then
    if v2 = (σ.1 6 0 v1.toNatClampNeg) then
    some (0 : Int32)
  else
    some (1 : Int32)
  else none
noncomputable def mB_C1_turned_12 (σ : g_S) (v1 : Int32) (v2 : Int32) : Option ((Int32 × g_S) ⊕ g_S) :=
  if (8 : Int32) ≤ v2 then
    some (.inr σ)
  else
    if g_in v1 8 then
    (mF_C3_to σ v2).bind fun σ2 =>
    (mF_C2_things_k2_4 σ2 0 v1).bind fun x3 =>
    if g_in v2 8 then
    g_let (g_sI σ2 17 v1.toNatClampNeg v2.toNatClampNeg x3) fun σ4 =>
    g_let (v2 + (1 : Int32)) fun x5 =>
    some (.inl (x5, σ4))
  else none
  else none
noncomputable def mB_C1_turned_2 (σ : g_S) (v1 : Int32) : Option ((Int32 × g_S) ⊕ g_S) :=
  if (σ.1 0 0 5) ≤ v1 then
    some (.inr σ)
  else
    (g_lp (fun v => mB_C1_turned_12 v.2 v1 v.1) g_fu ((0 : Int32), σ)).bind fun e6 =>
    g_let (v1 + (1 : Int32)) fun x7 =>
    some (.inl (x7, e6))
noncomputable def mJ_C1_turned_89 (σ : g_S) (v1 : Int32) (s0 : Nat) (s1 : Int32) (s2 : Int32) : Option ((Int32 × g_S) ⊕ g_S) :=
  if s0 < 9 then
    if g_in s1 256 then
    g_let (g_sI σ 19 s0 s1.toNatClampNeg s2) fun σ12 =>
    g_let (v1 + (1 : Int32)) fun x13 =>
    some (.inl (x13, σ12))
  else none
  else none
noncomputable def mB_C1_turned_56 (σ : g_S) (v1 : Int32) : Option ((Int32 × g_S) ⊕ g_S) :=
  (mF_C1_allThings σ).bind fun x9 =>
    if x9 < v1 then
    some (.inr σ)
  else
    if g_in (σ.1 0 0 5) 9 then
    (mF_C1_allThings σ).bind fun x11 =>
    if v1 = x11 then
    (mJ_C1_turned_89 σ v1 (σ.1 0 0 5).toNatClampNeg v1 (0 : Int32))
  else
    (mJ_C1_turned_89 σ v1 (σ.1 0 0 5).toNatClampNeg v1 (1000000 : Int32))
  else none
noncomputable def mB_C1_turned_130 (σ : g_S) (v1 : Int32) (v2 : Int32) (v3 : Int32) : Option ((Int32 × g_S) ⊕ g_S) :=
  if (8 : Int32) ≤ v3 then
    some (.inr σ)
  else
    if g_in v1 9 then
    if g_in v1 9 then
    if g_in v2 256 then
    (mF_C1_cost σ v1 v3).bind fun x21 =>
    if g_in (v1 + (1 : Int32)) 9 then
    if g_in v1 8 then
    if g_in v3 8 then
    if g_in (v2 ||| (σ.1 17 v1.toNatClampNeg v3.toNatClampNeg)) 256 then
    if g_in v2 256 then
    g_let (g_sI σ 19 v1.toNatClampNeg v2.toNatClampNeg (g_min (σ.1 19 v1.toNatClampNeg v2.toNatClampNeg) (x21 + (σ.1 19 (v1 + (1 : Int32)).toNatClampNeg (v2 ||| (σ.1 17 v1.toNatClampNeg v3.toNatClampNeg)).toNatClampNeg)))) fun σ24 =>
    g_let (v3 + (1 : Int32)) fun x25 =>
    some (.inl (x25, σ24))
  else none
  else none
  else none
  else none
  else none
  else none
  else none
  else none
noncomputable def mB_C1_turned_109 (σ : g_S) (v1 : Int32) (v2 : Int32) : Option ((Int32 × g_S) ⊕ g_S) :=
  (mF_C1_allThings σ).bind fun x16 =>
    if x16 < v2 then
    some (.inr σ)
  else
    if g_in v1 9 then
    if g_in v2 256 then
    g_let (g_sI σ 19 v1.toNatClampNeg v2.toNatClampNeg (1000000 : Int32)) fun σ18 =>
    (g_lp (fun v => mB_C1_turned_130 v.2 v1 v2 v.1) g_fu ((0 : Int32), σ18)).bind fun e26 =>
    g_let (v2 + (1 : Int32)) fun x27 =>
    some (.inl (x27, e26))
  else none
  else none
noncomputable def mB_C1_turned_103 (σ : g_S) (v1 : Int32) : Option ((Int32 × g_S) ⊕ g_S) :=
  if v1 < 0 then
    some (.inr σ)
  else
    (g_lp (fun v => mB_C1_turned_109 v.2 v1 v.1) g_fu ((0 : Int32), σ)).bind fun e28 =>
    g_let (v1 + (-1 : Int32)) fun x29 =>
    some (.inl (x29, e28))
noncomputable def mB_C1_turned_235 (σ : g_S) (v1 : Int32) (v2 : Int32) (v3 : Int32) : Option (Int32 ⊕ Int32) :=
  (mF_C1_cost σ v2 v3).bind fun x33 =>
    if g_in (v2 + (1 : Int32)) 9 then
    if g_in v2 8 then
    if g_in v3 8 then
    if g_in (v1 ||| (σ.1 17 v2.toNatClampNeg v3.toNatClampNeg)) 256 then
    if g_in v2 9 then
    if g_in v1 256 then
    if (x33 + (σ.1 19 (v2 + (1 : Int32)).toNatClampNeg (v1 ||| (σ.1 17 v2.toNatClampNeg v3.toNatClampNeg)).toNatClampNeg)) = (σ.1 19 v2.toNatClampNeg v1.toNatClampNeg) then
    some (.inr v3)
  else
    g_let (v3 + (1 : Int32)) fun x37 =>
    some (.inl x37)
  else none
  else none
  else none
  else none
  else none
  else none
noncomputable def mB_C1_turned_225 (σ : g_S) (v1 : Int32) (v2 : Int32) : Option ((Int32 × Int32 × g_S) ⊕ g_S) :=
  if (σ.1 0 0 5) ≤ v2 then
    some (.inr σ)
  else
    (g_lp (fun v => mB_C1_turned_235 σ v1 v2 v) g_fu (0 : Int32)).bind fun e38 =>
    (mF_C1_tell_2 σ (e38.toInt64)).bind fun σ39 =>
    if g_in v2 8 then
    if g_in e38 8 then
    g_let (v1 ||| (σ39.1 17 v2.toNatClampNeg e38.toNatClampNeg)) fun x41 =>
    g_let (v2 + (1 : Int32)) fun x42 =>
    some (.inl (x41, x42, σ39))
  else none
  else none
noncomputable def mF_C1_turned (σ : g_S) : Option (Int32 × g_S) :=
  (g_lp (fun v => mB_C1_turned_2 v.2 v.1) g_fu ((0 : Int32), σ)).bind fun e8 =>
    (g_lp (fun v => mB_C1_turned_56 v.2 v.1) g_fu ((0 : Int32), e8)).bind fun e14 =>
    g_let ((e14.1 0 0 5) - (1 : Int32)) fun x15 =>
    (g_lp (fun v => mB_C1_turned_103 v.2 v.1) g_fu (x15, e14)).bind fun e30 =>
    if g_in (0 : Int32) 9 then
    if g_in (0 : Int32) 256 then
    if (e30.1 19 (0 : Int32).toNatClampNeg (0 : Int32).toNatClampNeg) < (1000000 : Int32) then
    g_let (g_sI e30 0 0 18 (0 : Int32)) fun σ32 =>
    (g_lp (fun v => mB_C1_turned_225 v.2.2 v.1 v.2.1) g_fu ((0 : Int32), (0 : Int32), σ32)).bind fun e43 =>
    if g_in (0 : Int32) 9 then
    if g_in (0 : Int32) 256 then
    some ((e43.1 19 (0 : Int32).toNatClampNeg (0 : Int32).toNatClampNeg), e43)
  else none
  else none
  else
    some ((-2 : Int32), e30)
  else none
  else none
noncomputable def mB_C1_best_32 (σ : g_S) (v1 : Int32) (v2 : Int32) (v3 : Int32) (v4 : Int32) : Option ((Int32 × Int32 × Int32 × g_S) ⊕ (Int32 × Int32 × g_S)) :=
  if (8 : Int32) ≤ v4 then
    some (.inr (v2, v3, σ))
  else
    (mF_C3_to σ v4).bind fun σ4 =>
    (mF_C2_things_k2_4 σ4 0 v1).bind fun x5 =>
    (mF_J8_bitCount x5).bind fun x6 =>
    (mF_J8_bitCount v3).bind fun x7 =>
    if x7 < x6 then
    g_let (v4 + (1 : Int32)) fun x8 =>
    some (.inl (v4, x5, x8, σ4))
  else
    g_let (v4 + (1 : Int32)) fun x9 =>
    some (.inl (v2, v3, x9, σ4))
noncomputable def mF_C1_best (σ : g_S) (v1 : Int32) : Option (Int32 × g_S) :=
  (mF_C1_isMan σ v1).bind fun x1 =>
    if x1 = 0 then
    some ((-1 : Int32), σ)
  else
    (mF_C3_to σ (0 : Int32)).bind fun σ2 =>
    (mF_C2_things_k2_4 σ2 0 v1).bind fun x3 =>
    (g_lp (fun v => mB_C1_best_32 v.2.2.2 v1 v.1 v.2.1 v.2.2.1) g_fu ((0 : Int32), x3, (1 : Int32), σ2)).bind fun e10 =>
    g_let (g_sI e10.2.2 0 0 18 (0 : Int32)) fun σ11 =>
    (mF_C1_tell_2 σ11 (e10.2.1.toInt64)).bind fun σ12 =>
    some (e10.1, σ12)
noncomputable def mF_C4_to (σ : g_S) (v1 : Int32) : Option g_S :=
  g_let (g_sI σ 3 0 1 v1) fun σ1 =>
    some σ1
noncomputable def mF_C4_reach (σ : g_S) (u0 : Nat) (v2 : Int32) : Option Int32 :=
  (mR_C_reachBy σ u0 v2 (σ.1 3 0 1)).bind fun x1 =>
    some x1
noncomputable def mF_C2_facing_k3_4 (σ : g_S) (u0 : Nat) (v2 : Int32) : Option Int32 :=
  if g_in v2 8 then
    some (σ.1 6 u0 v2.toNatClampNeg)
  else none
noncomputable def mF_C4_brim (σ : g_S) (u0 : Nat) (v2 : Int32) : Option Int32 :=
  some (σ.1 3 0 1)
noncomputable def mF_C2_sees_k3_4 (σ : g_S) (u0 : Nat) (v2 : Int32) (v3 : Int32) : Option Int32 :=
  if g_in v2 8 then
    if v3 = (σ.1 5 u0 v2.toNatClampNeg) then
    some (1 : Int32)
  else
    if ¬ (σ.1 0 0 4) = 0 then
    if g_in v2 8 then
    if ¬ (σ.1 0 0 4) = 0 then
    g_let ((v3 / (σ.1 0 0 4)) - ((σ.1 5 u0 v2.toNatClampNeg) / (σ.1 0 0 4))) fun x1 =>
    if ¬ (σ.1 0 0 4) = 0 then
    if g_in v2 8 then
    if ¬ (σ.1 0 0 4) = 0 then
    g_let ((g_rem v3 (σ.1 0 0 4)) - (g_rem (σ.1 5 u0 v2.toNatClampNeg) (σ.1 0 0 4))) fun x2 =>
    (mF_C4_reach σ u0 v2).bind fun x3 =>
    if (g_max (g_abs x1) (g_abs x2)) ≤ x3 then
    (mF_C2_facing_k3_4 σ u0 v2).bind fun x4 =>
    (mF_C1_wayOf x1 x2).bind fun x5 =>
    (mF_C1_offBy x4 x5).bind fun x6 =>
    (mF_C4_brim σ u0 v2).bind fun x7 =>
    if ((4 : Int32) - x7) < x6 then
    some (0 : Int32)
  else
    if g_in v2 8 then
    (mF_C1_isClear σ (σ.1 5 u0 v2.toNatClampNeg) v3).bind fun x8 =>
    if x8 = 0 then
    some (0 : Int32)
  else
    some (1 : Int32)
  else none
  else
    some (0 : Int32)
  else none
  else none
  else none
  else none
  else none
  else none
  else none
noncomputable def mB_C1_bears_20 (σ : g_S) (v1 : Int32) (v2 : Int32) (v3 : Int32) : Option ((Int32 × g_S) ⊕ ((Int32 × g_S) ⊕ g_S)) :=
  if v3 < 0 then
    some (.inr (.inr σ))
  else
    (mF_C4_to σ v3).bind fun σ3 =>
    (mF_C2_sees_k3_4 σ3 0 v1 v2).bind fun x4 =>
    if x4 = 0 then
    g_let (v3 + (-1 : Int32)) fun x5 =>
    some (.inl (x5, σ3))
  else
    some (.inr (.inl (v3, σ3)))
noncomputable def mF_C1_bears (σ : g_S) (v1 : Int32) (v2 : Int32) : Option (Int32 × g_S) :=
  (mF_C1_isMan σ v1).bind fun x1 =>
    if x1 = 0 then
    some ((-1 : Int32), σ)
  else
    (mF_C1_isField σ v2).bind fun x2 =>
    if x2 = 0 then
    some ((-1 : Int32), σ)
  else
    (g_lp (fun v => mB_C1_bears_20 v.2 v1 v2 v.1) g_fu ((4 : Int32), σ)).bind fun e6 => (match e6 with
    | .inl y7 => g_let (g_sI y7.2 0 0 18 (0 : Int32)) fun σ8 =>
    (mR_C_reachBy σ8 0 v1 y7.1).bind fun x9 =>
    (mF_C1_tell_2 σ8 (x9.toInt64)).bind fun σ10 =>
    some (y7.1, σ10)
    | .inr y11 => some ((-2 : Int32), y11))
noncomputable def mB_C13_fill_5 (σ : g_S) (v1 : Int32) (v3 : Int32) (v2 : Int32) : Option ((Int32 × g_S) ⊕ g_S) :=
  if v3 ≤ v2 then
    some (.inr σ)
  else
    if g_in v2 49 then
    g_let (g_sI σ 20 0 v2.toNatClampNeg v1) fun σ1 =>
    g_let (v2 + (1 : Int32)) fun x2 =>
    some (.inl (x2, σ1))
  else none
noncomputable def mF_C13_fill (σ : g_S) (v1 : Int32) : Option g_S :=
  (g_lp (fun v => mB_C13_fill_5 v.2 v1 (49 : Int32) v.1) g_fu ((0 : Int32), σ)).bind fun e3 =>
    some e3
noncomputable def mB_C1_lay_71 (σ : g_S) (v1 : Int32) (v3 : Int64) (v5 : Int32) (v6 : Int32) (v7 : Int32) : Option ((Int32 × g_S) ⊕ g_S) :=
  if (8 : Int32) ≤ v7 then
    some (.inr σ)
  else
    (mF_C1_stepOf σ v6 v7).bind fun x7 =>
    if x7 = (-1 : Int32) then
    g_let (v7 + (1 : Int32)) fun x8 =>
    some (.inl (x8, σ))
  else
    if g_in v6 49 then
    (mF_C1_stepOf σ v6 v7).bind fun x9 =>
    if g_in x9 49 then
    if g_in v6 49 then
    g_let (g_sI σ 20 0 v6.toNatClampNeg (g_min (σ.1 20 0 v6.toNatClampNeg) ((σ.1 20 0 x9.toNatClampNeg) + (1 : Int32)))) fun σ10 =>
    g_let (v7 + (1 : Int32)) fun x11 =>
    some (.inl (x11, σ10))
  else none
  else none
  else none
noncomputable def mJ_C1_lay_68 (σ : g_S) (v1 : Int32) (v3 : Int64) (v5 : Int32) (v6 : Int32) : Option ((Int32 × g_S) ⊕ g_S) :=
  (g_lp (fun v => mB_C1_lay_71 v.2 v1 v3 v5 v6 v.1) g_fu ((0 : Int32), σ)).bind fun e12 =>
    g_let (v6 + (1 : Int32)) fun x13 =>
    some (.inl (x13, e12))
noncomputable def mB_C1_lay_32 (σ : g_S) (v1 : Int32) (v3 : Int64) (v5 : Int32) (v6 : Int32) : Option ((Int32 × g_S) ⊕ g_S) :=
  (mF_C1_fields σ).bind fun x4 =>
    if x4 ≤ v6 then
    some (.inr σ)
  else
    (mF_C1_isRock σ v6).bind fun x5 =>
    if x5 = 0 then
    if v6 = v1 then
    (mJ_C1_lay_68 σ v1 v3 v5 v6)
  else
    (mF_C1_has v3 v6).bind fun x14 =>
    if x14 = 0 then
    g_let (v6 + (1 : Int32)) fun x15 =>
    some (.inl (x15, σ))
  else
    (mJ_C1_lay_68 σ v1 v3 v5 v6)
  else
    g_let (v6 + (1 : Int32)) fun x6 =>
    some (.inl (x6, σ))
noncomputable def mB_C1_lay_20 (σ : g_S) (v1 : Int32) (v3 : Int64) (v5 : Int32) : Option ((Int32 × g_S) ⊕ g_S) :=
  (mF_C1_fields σ).bind fun x3 =>
    if x3 ≤ v5 then
    some (.inr σ)
  else
    (g_lp (fun v => mB_C1_lay_32 v.2 v1 v3 v5 v.1) g_fu ((0 : Int32), σ)).bind fun e16 =>
    g_let (v5 + (1 : Int32)) fun x17 =>
    some (.inl (x17, e16))
noncomputable def mF_C1_lay (σ : g_S) (v1 : Int32) (v2 : Int32) (v3 : Int64) : Option g_S :=
  (mF_C13_fill σ (1000000 : Int32)).bind fun σ1 =>
    if g_in v2 49 then
    g_let (g_sI σ1 20 0 v2.toNatClampNeg (0 : Int32)) fun σ2 =>
    (g_lp (fun v => mB_C1_lay_20 v.2 v1 v3 v.1) g_fu ((0 : Int32), σ2)).bind fun e18 =>
    some e18
  else none
noncomputable def mB_C1_tellWay_26 (σ : g_S) (v2 : Int32) (v3 : Int32) (v4 : Int32) (v5 : Int32) : Option ((Int32 × Int32) ⊕ Int32) :=
  if (8 : Int32) ≤ v5 then
    some (.inr v4)
  else
    (mF_C1_stepOf σ v3 v5).bind fun x3 =>
    if x3 = (-1 : Int32) then
    g_let (v5 + (1 : Int32)) fun x4 =>
    some (.inl (v4, x4))
  else
    if g_in x3 49 then
    if g_in v3 49 then
    if (σ.1 20 0 x3.toNatClampNeg) = ((σ.1 20 0 v3.toNatClampNeg) - (1 : Int32)) then
    g_let (g_min v4 x3) fun x6 =>
    g_let (v5 + (1 : Int32)) fun x7 =>
    some (.inl (x6, x7))
  else
    g_let (v5 + (1 : Int32)) fun x5 =>
    some (.inl (v4, x5))
  else none
  else none
noncomputable def mB_C1_tellWay_13 (σ : g_S) (v2 : Int32) (v3 : Int32) : Option ((Int32 × g_S) ⊕ g_S) :=
  if v3 = v2 then
    some (.inr σ)
  else
    (g_lp (fun v => mB_C1_tellWay_26 σ v2 v3 v.1 v.2) g_fu ((1000000 : Int32), (0 : Int32))).bind fun e8 =>
    (mF_C1_tell_2 σ (e8.toInt64)).bind fun σ9 =>
    some (.inl (e8, σ9))
noncomputable def mF_C1_tellWay (σ : g_S) (v1 : Int32) (v2 : Int32) : Option g_S :=
  g_let (g_sI σ 0 0 18 (0 : Int32)) fun σ1 =>
    (mF_C1_tell_2 σ1 (v1.toInt64)).bind fun σ2 =>
    (g_lp (fun v => mB_C1_tellWay_13 v.2 v2 v.1) g_fu (v1, σ2)).bind fun e10 =>
    some e10
noncomputable def mF_C1_back (σ : g_S) (v1 : Int32) (v2 : Int32) : Option (Int32 × g_S) :=
  (mF_C1_isField σ v1).bind fun x1 =>
    if x1 = 0 then
    some ((-1 : Int32), σ)
  else
    (mF_C1_isField σ v2).bind fun x2 =>
    if x2 = 0 then
    some ((-1 : Int32), σ)
  else
    (mF_C1_isRock σ v1).bind fun x3 =>
    if x3 = 0 then
    (mF_C1_isRock σ v2).bind fun x4 =>
    if x4 = 0 then
    (mF_C1_open σ).bind fun x5 =>
    (mF_C1_seen σ 0).bind fun x6 =>
    (mF_C1_lay σ v1 v2 (x5 &&& (x6 ^^^ (-1 : Int64)))).bind fun σ7 =>
    if g_in v1 49 then
    if (σ7.1 20 0 v1.toNatClampNeg) < (1000000 : Int32) then
    (mF_C1_tellWay σ7 v1 v2).bind fun σ8 =>
    if g_in v1 49 then
    some ((σ8.1 20 0 v1.toNatClampNeg), σ8)
  else none
  else
    some ((-2 : Int32), σ7)
  else none
  else
    some ((-2 : Int32), σ)
  else
    some ((-2 : Int32), σ)
noncomputable def mB_C1_open_2_83 (σ : g_S) (v1 : Int32) (v3 : Int64) (v5 : Int32) (v6 : Int32) : Option ((Int32 × Int32) ⊕ Int32) :=
  if (σ.1 0 0 18) ≤ v6 then
    some (.inr v5)
  else
    if g_in v6 64 then
    (mF_C1_has v3 ((σ.2.1 13 0 v6.toNatClampNeg).toInt32)).bind fun x9 =>
    if x9 = 0 then
    g_let (v5 + (0 : Int32)) fun x10 =>
    g_let (v6 + (1 : Int32)) fun x11 =>
    some (.inl (x10, x11))
  else
    g_let (v5 + (1 : Int32)) fun x12 =>
    g_let (v6 + (1 : Int32)) fun x13 =>
    some (.inl (x12, x13))
  else none
noncomputable def mF_C1_open_2 (σ : g_S) (v1 : Int32) (v2 : Int32) : Option (Int32 × g_S) :=
  (mF_C1_isField σ v1).bind fun x1 =>
    if x1 = 0 then
    some ((-1 : Int32), σ)
  else
    (mF_C1_isField σ v2).bind fun x2 =>
    if x2 = 0 then
    some ((-1 : Int32), σ)
  else
    (mF_C1_isRock σ v1).bind fun x3 =>
    if x3 = 0 then
    (mF_C1_isRock σ v2).bind fun x4 =>
    if x4 = 0 then
    (mF_C1_open σ).bind fun x5 =>
    (mF_C1_lay σ v1 v2 x5).bind fun σ6 =>
    if g_in v1 49 then
    if (σ6.1 20 0 v1.toNatClampNeg) < (1000000 : Int32) then
    (mF_C1_tellWay σ6 v1 v2).bind fun σ7 =>
    (mF_C1_seen σ7 0).bind fun x8 =>
    (g_lp (fun v => mB_C1_open_2_83 σ7 v1 x8 v.1 v.2) g_fu ((0 : Int32), (0 : Int32))).bind fun e14 =>
    g_let (g_sI σ7 0 0 18 (0 : Int32)) fun σ15 =>
    (mF_C1_tell_2 σ15 (e14.toInt64)).bind fun σ16 =>
    if g_in v1 49 then
    some ((σ16.1 20 0 v1.toNatClampNeg), σ16)
  else none
  else
    some ((-2 : Int32), σ6)
  else none
  else
    some ((-2 : Int32), σ)
  else
    some ((-2 : Int32), σ)
noncomputable def mF_C1_heard (σ : g_S) (v1 : Int32) (v2 : Int32) : Option (Int32 × g_S) :=
  (mF_C1_isMan σ v1).bind fun x1 =>
    if x1 = 0 then
    some ((-1 : Int32), σ)
  else
    (mF_C1_in (v2.toInt64) (0 : Int64) (1 : Int64)).bind fun x2 =>
    if x2 = 0 then
    some ((-1 : Int32), σ)
  else
    if (σ.1 0 0 26) = (10 : Int32) then
    some ((-1 : Int32), σ)
  else
    if g_in (σ.1 0 0 26) 10 then
    g_let (g_sI σ 23 0 (σ.1 0 0 26).toNatClampNeg v1) fun σ3 =>
    g_let (g_sI σ3 0 0 27 (((σ3.1 0 0 27) &&& (((1 : Int32) <<< ((σ3.1 0 0 26) &&& 31)) ^^^ (-1 : Int32))) ||| (v2 <<< ((σ3.1 0 0 26) &&& 31)))) fun σ4 =>
    g_let (g_sI σ4 0 0 26 ((σ4.1 0 0 26) + (1 : Int32))) fun σ5 =>
    some ((σ5.1 0 0 26), σ5)
  else none
noncomputable def mF_C1_forget (σ : g_S) : Option (Int32 × g_S) :=
  g_let (σ.1 0 0 26) fun x1 =>
    g_let (g_sI σ 0 0 26 (0 : Int32)) fun σ2 =>
    some (x1, σ2)
noncomputable def mB_C1_lostAt_7 (σ : g_S) (v1 : Int64) (v3 : Int32) : Option ((Int64 × Int32) ⊕ Int64) :=
  if (σ.1 0 0 26) ≤ v3 then
    some (.inr v1)
  else
    if g_in v3 10 then
    (mF_C2_fields_k1_4 σ 0 (σ.1 23 0 v3.toNatClampNeg)).bind fun x2 =>
    (mF_C1_has ((σ.1 0 0 27).toInt64) v3).bind fun x3 =>
    if x3 = 0 then
    g_let (v1 &&& (x2 ^^^ (-1 : Int64))) fun x4 =>
    g_let (v3 + (1 : Int32)) fun x5 =>
    some (.inl (x4, x5))
  else
    g_let (v1 &&& x2) fun x6 =>
    g_let (v3 + (1 : Int32)) fun x7 =>
    some (.inl (x6, x7))
  else none
noncomputable def mF_C1_lostAt (σ : g_S) : Option Int64 :=
  (mF_C1_open σ).bind fun x1 =>
    (g_lp (fun v => mB_C1_lostAt_7 σ v.1 v.2) g_fu (x1, (0 : Int32))).bind fun e8 =>
    some e8
noncomputable def mF_C1_lost (σ : g_S) : Option (Int64 × g_S) :=
  (mF_C1_lostAt σ).bind fun x1 =>
    g_let (g_sI σ 0 0 18 (0 : Int32)) fun σ2 =>
    (mF_J12_bitCount x1).bind fun x3 =>
    (mF_C1_tell_2 σ2 (x3.toInt64)).bind fun σ4 =>
    some (x1, σ4)
noncomputable def mB_C1_asks_31 (σ : g_S) (v1 : Int64) (v3 : Int32) (v4 : Int32) (v5 : Int32) : Option ((Int32 × Int32 × Int32) ⊕ (Int32 × Int32)) :=
  if (σ.1 0 0 5) ≤ v5 then
    some (.inr (v3, v4))
  else
    (mF_C2_fields_k1_4 σ 0 v5).bind fun x2 =>
    (mF_J12_bitCount (v1 &&& x2)).bind fun x3 =>
    (mF_J12_bitCount v1).bind fun x4 =>
    g_let (g_max x3 (x4 - x3)) fun x5 =>
    if x5 < v4 then
    g_let (v5 + (1 : Int32)) fun x6 =>
    some (.inl (v5, x5, x6))
  else
    g_let (v5 + (1 : Int32)) fun x7 =>
    some (.inl (v3, v4, x7))
noncomputable def mF_C1_asks (σ : g_S) : Option (Int32 × g_S) :=
  (mF_C1_lostAt σ).bind fun x1 =>
    if (lg_cmp x1 (0 : Int64)) = 0 then
    some ((-2 : Int32), σ)
  else
    if (σ.1 0 0 5) = 0 then
    some ((-2 : Int32), σ)
  else
    (g_lp (fun v => mB_C1_asks_31 σ x1 v.1 v.2.1 v.2.2) g_fu ((-1 : Int32), (1000000 : Int32), (0 : Int32))).bind fun e8 =>
    g_let (g_sI σ 0 0 18 (0 : Int32)) fun σ9 =>
    (mF_C1_tell_2 σ9 (e8.2.toInt64)).bind fun σ10 =>
    some (e8.1, σ10)
noncomputable def mJ_C1_storm_161 (σ : g_S) (v1 : Int32) (v2 : Int32) (v3 : Int32) (v5 : Int64) (v7 : Int32) (v8 : Int32) (v9 : Int32) (s1 : Int32) (s2 : Int64) (s3 : Int64) : Option ((Int32 × g_S) ⊕ g_S) :=
  if g_in s1 10 = true ∧ ¬ (σ.2.2 51 0 200) = 0 then
    g_let (g_sL σ 51 0 s1.toNatClampNeg (s2 + s3)) fun σ12 =>
    g_let (v9 + (-1 : Int32)) fun x13 =>
    some (.inl (x13, σ12))
  else none
noncomputable def mB_C1_storm_120 (σ : g_S) (v1 : Int32) (v2 : Int32) (v3 : Int32) (v5 : Int64) (v7 : Int32) (v8 : Int32) (v9 : Int32) : Option ((Int32 × g_S) ⊕ g_S) :=
  if v9 < 0 then
    some (.inr σ)
  else
    if g_in v9 10 = true ∧ ¬ (σ.2.2 51 0 200) = 0 then
    if v9 ≤ 0 then
    (mJ_C1_storm_161 σ v1 v2 v3 v5 v7 v8 v9 v9 ((σ.2.1 51 0 v9.toNatClampNeg) * (((10 : Int32) - v8).toInt64)) (0 : Int64))
  else
    if g_in (v9 - (1 : Int32)) 10 = true ∧ ¬ (σ.2.2 51 0 200) = 0 then
    (mJ_C1_storm_161 σ v1 v2 v3 v5 v7 v8 v9 v9 ((σ.2.1 51 0 v9.toNatClampNeg) * (((10 : Int32) - v8).toInt64)) ((σ.2.1 51 0 (v9 - (1 : Int32)).toNatClampNeg) * (v8.toInt64)))
  else none
  else none
noncomputable def mJ_C1_storm_111 (σ : g_S) (v1 : Int32) (v2 : Int32) (v3 : Int32) (v5 : Int64) (v7 : Int32) (s0 : Int32) (s1 : Int32) : Option ((Int64 × Int32 × g_S) ⊕ (Int64 × g_S)) :=
  g_let (s0 + s1) fun x10 =>
    g_let (v7 + (1 : Int32)) fun x11 =>
    (g_lp (fun v => mB_C1_storm_120 v.2 v1 v2 v3 v5 v7 x10 v.1) g_fu (x11, σ)).bind fun e14 =>
    g_let (v5 * (10 : Int64)) fun x15 =>
    g_let (v7 + (1 : Int32)) fun x16 =>
    some (.inl (x15, x16, e14))
noncomputable def mJ_C1_storm_85 (σ : g_S) (v1 : Int32) (v2 : Int32) (v3 : Int32) (v5 : Int64) (v7 : Int32) (s0 : Int32) : Option ((Int64 × Int32 × g_S) ⊕ (Int64 × g_S)) :=
  (mF_C4_to σ (0 : Int32)).bind fun σ8 =>
    (mF_C2_sees_k3_4 σ8 0 v7 v1).bind fun x9 =>
    if x9 = 0 then
    (mJ_C1_storm_111 σ8 v1 v2 v3 v5 v7 s0 (0 : Int32))
  else
    (mJ_C1_storm_111 σ8 v1 v2 v3 v5 v7 s0 v3)
noncomputable def mB_C1_storm_51 (σ : g_S) (v1 : Int32) (v2 : Int32) (v3 : Int32) (v5 : Int64) (v7 : Int32) : Option ((Int64 × Int32 × g_S) ⊕ (Int64 × g_S)) :=
  if (σ.1 0 0 5) ≤ v7 then
    some (.inr (v5, σ))
  else
    (mF_C2_sees_k1_4 σ 0 v7 v1).bind fun x7 =>
    if x7 = 0 then
    (mJ_C1_storm_85 σ v1 v2 v3 v5 v7 (0 : Int32))
  else
    (mJ_C1_storm_85 σ v1 v2 v3 v5 v7 ((10 : Int32) - v3))
noncomputable def mB_C1_storm_189 (σ : g_S) (v5 : Int64) (v7 : Int64) (v9 : Int32) : Option ((Int64 × Int32) ⊕ Int64) :=
  if (8 : Int32) < v9 then
    some (.inr v7)
  else
    if g_in v9 10 = true ∧ ¬ (σ.2.2 51 0 200) = 0 then
    g_let (v7 + (σ.2.1 51 0 v9.toNatClampNeg)) fun x18 =>
    g_let (v9 + (1 : Int32)) fun x19 =>
    some (.inl (x18, x19))
  else none
noncomputable def mF_C1_storm (σ : g_S) (v1 : Int32) (v2 : Int32) (v3 : Int32) : Option (Int32 × g_S) :=
  (mF_C1_isField σ v1).bind fun x1 =>
    if x1 = 0 then
    some ((-1 : Int32), σ)
  else
    (mF_C1_in (v2.toInt64) (0 : Int64) (8 : Int64)).bind fun x2 =>
    if x2 = 0 then
    some ((-1 : Int32), σ)
  else
    (mF_C1_in (v3.toInt64) (0 : Int64) (10 : Int64)).bind fun x3 =>
    if x3 = 0 then
    some ((-1 : Int32), σ)
  else
    g_let (g_nw σ 51 0 1) fun σ4 =>
    if g_in (0 : Int32) 10 = true ∧ ¬ (σ4.2.2 51 0 200) = 0 then
    g_let (g_sL σ4 51 0 (0 : Int32).toNatClampNeg (1 : Int64)) fun σ6 =>
    (g_lp (fun v => mB_C1_storm_51 v.2.2 v1 v2 v3 v.1 v.2.1) g_fu ((1 : Int64), (0 : Int32), σ6)).bind fun e17 =>
    (g_lp (fun v => mB_C1_storm_189 e17.2 e17.1 v.1 v.2) g_fu ((0 : Int64), v2)).bind fun e20 =>
    (mC_C1_common e20 e17.1).bind fun x21 =>
    g_let (g_sI e17.2 0 0 18 (0 : Int32)) fun σ22 =>
    if ¬ x21 = 0 then
    (mF_C1_tell_2 σ22 (e20 / x21)).bind fun σ23 =>
    if ¬ x21 = 0 then
    (mF_C1_tell_2 σ23 (e17.1 / x21)).bind fun σ24 =>
    some ((0 : Int32), σ24)
  else none
  else none
  else none
noncomputable def mB_C1_cock_48 (σ : g_S) (v1 : Int32) (v2 : Int32) (v3 : Int32) (v4 : Int32) (v5 : Int32) : Option (Int32 ⊕ Int32) :=
  if (g_min v2 v3) < v5 then
    some (.inr v5)
  else
    if v5 = v4 then
    g_let (v5 + (1 : Int32)) fun x3 =>
    some (.inl x3)
  else
    if v3 ≤ v5 then
    some (.inr v5)
  else
    if g_in (v3 - v5) 61 then
    if g_in v5 10 then
    if (σ.1 22 (v3 - v5).toNatClampNeg v5.toNatClampNeg) = 0 then
    some (.inr v5)
  else
    g_let (v5 + (1 : Int32)) fun x5 =>
    some (.inl x5)
  else none
  else none
noncomputable def mJ_C1_cock_116 (σ : g_S) (v1 : Int32) (v2 : Int32) (v3 : Int32) (v4 : Int32) (s0 : Nat) (s1 : Int32) (s2 : Int32) : Option ((Int32 × g_S) ⊕ g_S) :=
  if s0 < 61 then
    if g_in s1 10 then
    g_let (g_sI σ 22 s0 s1.toNatClampNeg s2) fun σ8 =>
    g_let (v4 + (1 : Int32)) fun x9 =>
    some (.inl (x9, σ8))
  else none
  else none
noncomputable def mB_C1_cock_38 (σ : g_S) (v1 : Int32) (v2 : Int32) (v3 : Int32) (v4 : Int32) : Option ((Int32 × g_S) ⊕ g_S) :=
  if (9 : Int32) < v4 then
    some (.inr σ)
  else
    (g_lp (fun v => mB_C1_cock_48 σ v1 v2 v3 v4 v) g_fu (1 : Int32)).bind fun e6 =>
    if g_in v3 61 then
    if (g_min v2 v3) < e6 then
    (mJ_C1_cock_116 σ v1 v2 v3 v4 v3.toNatClampNeg v4 (0 : Int32))
  else
    (mJ_C1_cock_116 σ v1 v2 v3 v4 v3.toNatClampNeg v4 e6)
  else none
noncomputable def mB_C1_cock_30 (σ : g_S) (v1 : Int32) (v2 : Int32) (v3 : Int32) : Option ((Int32 × g_S) ⊕ g_S) :=
  if v1 < v3 then
    some (.inr σ)
  else
    (g_lp (fun v => mB_C1_cock_38 v.2 v1 v2 v3 v.1) g_fu ((0 : Int32), σ)).bind fun e10 =>
    g_let (v3 + (1 : Int32)) fun x11 =>
    some (.inl (x11, e10))
noncomputable def mF_C1_cock (σ : g_S) (v1 : Int32) (v2 : Int32) : Option (Int32 × g_S) :=
  (mF_C1_in (v1.toInt64) (0 : Int64) (60 : Int64)).bind fun x1 =>
    if x1 = 0 then
    some ((-1 : Int32), σ)
  else
    (mF_C1_in (v2.toInt64) (2 : Int64) (9 : Int64)).bind fun x2 =>
    if x2 = 0 then
    some ((-1 : Int32), σ)
  else
    (g_lp (fun v => mB_C1_cock_30 v.2 v1 v2 v.1) g_fu ((0 : Int32), σ)).bind fun e12 =>
    if g_in v1 61 then
    if g_in (0 : Int32) 10 then
    some ((e12.1 22 v1.toNatClampNeg (0 : Int32).toNatClampNeg), e12)
  else none
  else none
noncomputable def mF_C1_law (σ : g_S) (s1 : Nat) : Option (Int32 × g_S) :=
  if (σ.2.2 0 0 19) = 0 then
    g_let (g_sR σ 26 s1 200 0) fun σ1 =>
    g_let (g_sR σ1 53 0 200 0) fun σ2 =>
    if (σ2.2.2 26 s1 200) = 0 ∧ (σ2.2.2 53 0 200) = 0 ∧ g_fb (σ2.1 12 0) 80 = true then
    g_let (g_cl σ2 s1) fun σ3 =>
    if ¬ (σ3.2.2 27 s1 200) = 0 then
    g_let (σ3.1 0 0 16) fun x5 =>
    g_let (g_sI σ3 0 0 16 (0 : Int32)) fun σ6 =>
    (mF_C1_seen σ6 0).bind fun x7 =>
    (mF_J12_bitCount x7).bind fun x8 =>
    if x5 = 0 then
    g_let (g_sR σ6 0 0 19 0) fun σ24 =>
    (mF_C1_seen σ24 0).bind fun x25 =>
    (mF_J12_bitCount x25).bind fun x26 =>
    g_let (g_sR σ24 0 0 19 0) fun σ27 =>
    g_let (g_sI σ27 0 0 18 (0 : Int32)) fun σ28 =>
    (mF_C1_tell_2 σ28 (x26.toInt64)).bind fun σ29 =>
    (mF_C1_tell_2 σ29 (x8.toInt64)).bind fun σ30 =>
    some ((x26 - x8), σ30)
  else
    g_let (g_nr σ6 s1) fun σ9 =>
    (mF_C9_init_k53_0_27 σ9 s1 x5).bind fun σ11 =>
    if ¬ (σ11.2.2 53 0 200) = 0 then
    g_tx (mF_C9_read_k53 σ11) (fun z13 =>
    if ¬ (z13.2.2 52 0 200) = 0 then
    g_let ((-10000 : Int32) - (z13.1 52 0 0)) fun x14 =>
    g_let (g_sR z13 0 0 19 0) fun σ15 =>
    some (x14, σ15)
  else none) fun σ12 =>
    if s1 < 2 ∧ (σ12.2.2 0 0 19) ≠ s1 + 1 ∧ (σ12.2.2 53 0 200) = 1 ∧ (σ12.2.2 53 0 201) = s1 then
    g_let (g_mv σ12 s1) fun σ16 =>
    g_let (g_sR σ16 0 0 19 (s1 + 1)) fun σ17 =>
    (mF_C1_seen σ17 0).bind fun x18 =>
    (mF_J12_bitCount x18).bind fun x19 =>
    g_let (g_sR σ17 0 0 19 0) fun σ20 =>
    g_let (g_sI σ20 0 0 18 (0 : Int32)) fun σ21 =>
    (mF_C1_tell_2 σ21 (x19.toInt64)).bind fun σ22 =>
    (mF_C1_tell_2 σ22 (x8.toInt64)).bind fun σ23 =>
    some ((x19 - x8), σ23)
  else none
  else none
  else none
  else none
  else
    if ((σ.2.2 0 0 19) - 1) < 2 then
    g_let (g_sR σ 26 s1 200 0) fun σ32 =>
    g_let (g_sR σ32 53 0 200 0) fun σ33 =>
    if (σ33.2.2 26 s1 200) = 0 ∧ (σ33.2.2 53 0 200) = 0 ∧ g_fb (σ33.1 12 0) 80 = true then
    g_let (g_cl σ33 s1) fun σ34 =>
    if ¬ (σ34.2.2 27 s1 200) = 0 then
    g_let (σ34.1 0 0 16) fun x36 =>
    g_let (g_sI σ34 0 0 16 (0 : Int32)) fun σ37 =>
    (mF_C1_seen σ37 0).bind fun x38 =>
    (mF_J12_bitCount x38).bind fun x39 =>
    if x36 = 0 then
    g_let (g_sR σ37 0 0 19 0) fun σ55 =>
    (mF_C1_seen σ55 0).bind fun x56 =>
    (mF_J12_bitCount x56).bind fun x57 =>
    g_let (g_sR σ55 0 0 19 (((σ.2.2 0 0 19) - 1) + 1)) fun σ58 =>
    g_let (g_sI σ58 0 0 18 (0 : Int32)) fun σ59 =>
    (mF_C1_tell_2 σ59 (x57.toInt64)).bind fun σ60 =>
    (mF_C1_tell_2 σ60 (x39.toInt64)).bind fun σ61 =>
    some ((x57 - x39), σ61)
  else
    g_let (g_nr σ37 s1) fun σ40 =>
    (mF_C9_init_k53_0_27 σ40 s1 x36).bind fun σ42 =>
    if ¬ (σ42.2.2 53 0 200) = 0 then
    g_tx (mF_C9_read_k53 σ42) (fun z44 =>
    if ¬ (z44.2.2 52 0 200) = 0 then
    g_let ((-10000 : Int32) - (z44.1 52 0 0)) fun x45 =>
    g_let (g_sR z44 0 0 19 (((σ.2.2 0 0 19) - 1) + 1)) fun σ46 =>
    some (x45, σ46)
  else none) fun σ43 =>
    if s1 < 2 ∧ (σ43.2.2 0 0 19) ≠ s1 + 1 ∧ (σ43.2.2 53 0 200) = 1 ∧ (σ43.2.2 53 0 201) = s1 then
    if ¬ ((σ.2.2 0 0 19) - 1) = s1 then
    g_let (g_mv σ43 s1) fun σ47 =>
    g_let (g_sR σ47 0 0 19 (s1 + 1)) fun σ48 =>
    (mF_C1_seen σ48 0).bind fun x49 =>
    (mF_J12_bitCount x49).bind fun x50 =>
    g_let (g_sR σ48 0 0 19 (((σ.2.2 0 0 19) - 1) + 1)) fun σ51 =>
    g_let (g_sI σ51 0 0 18 (0 : Int32)) fun σ52 =>
    (mF_C1_tell_2 σ52 (x50.toInt64)).bind fun σ53 =>
    (mF_C1_tell_2 σ53 (x39.toInt64)).bind fun σ54 =>
    some ((x50 - x39), σ54)
  else none
  else none
  else none
  else none
  else none
  else none
noncomputable def mF_C1_gets (v0 : Int32) (v1 : Int32) (v2 : Int32) : Option Int32 :=
  some ((((v2 * (g_min v0 v1)) / (4 : Int32)) - v0) - (g_max (0 : Int32) (v0 - (4 : Int32))))
noncomputable def mB_C1_isBest_2 (v0 : Int32) (v1 : Int32) (v2 : Int32) (v3 : Int32) : Option (Int32 ⊕ (Unit ⊕ Unit)) :=
  if (9 : Int32) < v3 then
    some (.inr (.inr ()))
  else
    (mF_C1_gets v3 v1 v2).bind fun x1 =>
    (mF_C1_gets v0 v1 v2).bind fun x2 =>
    if x1 ≤ x2 then
    g_let (v3 + (1 : Int32)) fun x3 =>
    some (.inl x3)
  else
    some (.inr (.inl ()))
noncomputable def mF_C1_isBest (v0 : Int32) (v1 : Int32) (v2 : Int32) : Option Int32 :=
  (g_lp (fun v => mB_C1_isBest_2 v0 v1 v2 v) g_fu (0 : Int32)).bind fun e4 => (match e4 with
    | .inl y5 => some (0 : Int32)
    | .inr y6 => some (1 : Int32))
noncomputable def mB_C1_rests_32 (σ : g_S) (v1 : Int32) (v3 : Int32) (v2 : Int32) (v4 : Int32) : Option ((Int32 × Int32 × g_S) ⊕ (Int32 × g_S)) :=
  if (9 : Int32) < v4 then
    some (.inr (v2, σ))
  else
    (mF_C1_isBest v3 v4 v1).bind fun x3 =>
    if x3 = 0 then
    g_let (v4 + (1 : Int32)) fun x4 =>
    some (.inl (v2, x4, σ))
  else
    (mF_C1_isBest v4 v3 v1).bind fun x5 =>
    if x5 = 0 then
    g_let (v4 + (1 : Int32)) fun x12 =>
    some (.inl (v2, x12, σ))
  else
    if v2 = 0 then
    (mF_C1_tell_2 σ (v3.toInt64)).bind fun σ8 =>
    (mF_C1_tell_2 σ8 (v4.toInt64)).bind fun σ9 =>
    g_let (v2 + (1 : Int32)) fun x10 =>
    g_let (v4 + (1 : Int32)) fun x11 =>
    some (.inl (x10, x11, σ9))
  else
    g_let (v2 + (1 : Int32)) fun x6 =>
    g_let (v4 + (1 : Int32)) fun x7 =>
    some (.inl (x6, x7, σ))
noncomputable def mB_C1_rests_23 (σ : g_S) (v1 : Int32) (v2 : Int32) (v3 : Int32) : Option ((Int32 × Int32 × g_S) ⊕ (Int32 × g_S)) :=
  if (9 : Int32) < v3 then
    some (.inr (v2, σ))
  else
    (g_lp (fun v => mB_C1_rests_32 v.2.2 v1 v3 v.1 v.2.1) g_fu (v2, (0 : Int32), σ)).bind fun e13 =>
    g_let (v3 + (1 : Int32)) fun x14 =>
    some (.inl (e13.1, x14, e13.2))
noncomputable def mF_C1_rests (σ : g_S) (v1 : Int32) : Option (Int32 × g_S) :=
  (mF_C1_in (v1.toInt64) (0 : Int64) (20 : Int64)).bind fun x1 =>
    if x1 = 0 then
    some ((-1 : Int32), σ)
  else
    g_let (g_sI σ 0 0 18 (0 : Int32)) fun σ2 =>
    (g_lp (fun v => mB_C1_rests_23 v.2.2 v1 v.1 v.2.1) g_fu ((0 : Int32), (0 : Int32), σ2)).bind fun e15 =>
    some (e15.1, e15.2)
noncomputable def mF_C1_draw (σ : g_S) (v1 : Int32) : Option (Int32 × g_S) :=
  g_let (g_sI σ 0 0 29 (((σ.1 0 0 29) * (1103515245 : Int32)) + (12345 : Int32))) fun σ1 =>
    if ¬ v1 = 0 then
    some ((g_rem (((σ1.1 0 0 29).toUInt32 >>> ((16 : Int32).toUInt32 &&& Int32.toUInt32 31)).toInt32) v1), σ1)
  else none
noncomputable def mB_C1_brims_4 (σ : g_S) (u0 : Nat) (v2 : Int32) (v3 : Int32) : Option ((Int32 × Int32) ⊕ Int32) :=
  if (σ.1 0 0 5) ≤ v3 then
    some (.inr v2)
  else
    if g_in v3 8 then
    g_let (v2 + (σ.1 7 u0 v3.toNatClampNeg)) fun x1 =>
    g_let (v3 + (1 : Int32)) fun x2 =>
    some (.inl (x1, x2))
  else none
noncomputable def mF_C1_brims (σ : g_S) (u0 : Nat) : Option Int32 :=
  (g_lp (fun v => mB_C1_brims_4 σ u0 v.1 v.2) g_fu ((0 : Int32), (0 : Int32))).bind fun e3 =>
    some e3
noncomputable def mJ_C1_years_58 (σ : g_S) (v2 : Int32) (v3 : Int32) (v4 : Int32) : Option ((Int32 × g_S) ⊕ g_S) :=
  if v4 < (2 : Int32) then
    g_let (v3 + (1 : Int32)) fun x6 =>
    some (.inl (x6, σ))
  else
    if (σ.1 0 0 5) = 0 then
    g_let (v3 + (1 : Int32)) fun x18 =>
    some (.inl (x18, σ))
  else
    g_b2 (mF_C1_draw σ (σ.1 0 0 5)) fun x8 σ7 =>
    g_b2 (mF_C1_draw σ7 (8 : Int32)) fun x10 σ9 =>
    if v4 = (2 : Int32) then
    if g_in x8 8 then
    g_let (g_sI σ9 6 2 x8.toNatClampNeg x10) fun σ16 =>
    g_let (v3 + (1 : Int32)) fun x17 =>
    some (.inl (x17, σ16))
  else none
  else
    (mF_C1_refusesStep σ9 2 x8 x10).bind fun x11 =>
    if x11 = 0 then
    if g_in x8 8 then
    (mF_C1_stepOf σ9 (σ9.1 5 2 x8.toNatClampNeg) x10).bind fun x13 =>
    if g_in x8 8 then
    g_let (g_sI σ9 5 2 x8.toNatClampNeg x13) fun σ14 =>
    g_let (v3 + (1 : Int32)) fun x15 =>
    some (.inl (x15, σ14))
  else none
  else none
  else
    g_let (v3 + (1 : Int32)) fun x12 =>
    some (.inl (x12, σ9))
noncomputable def mB_C1_years_32 (σ : g_S) (v2 : Int32) (v3 : Int32) : Option ((Int32 × g_S) ⊕ g_S) :=
  if v2 ≤ v3 then
    some (.inr σ)
  else
    g_b2 (mF_C1_draw σ (4 : Int32)) fun x5 σ4 =>
    if (2 : Int32) ≤ x5 then
    (mJ_C1_years_58 σ4 v2 v3 x5)
  else
    (mF_C1_goHour σ4 2).bind fun σ19 =>
    (mJ_C1_years_58 σ19 v2 v3 x5)
noncomputable def mF_C1_years (σ : g_S) (v1 : Int32) (v2 : Int32) : Option (Int32 × g_S) :=
  (mF_C1_in (v2.toInt64) (1 : Int64) (60 : Int64)).bind fun x1 =>
    if x1 = 0 then
    some ((-1 : Int32), σ)
  else
    g_let (g_sI σ 0 0 29 v1) fun σ2 =>
    (mF_C5_be_k4_4 σ2 2 0).bind fun σ3 =>
    (g_lp (fun v => mB_C1_years_32 v.2 v2 v.1) g_fu ((0 : Int32), σ3)).bind fun e20 =>
    g_let (g_sI e20 0 0 18 (0 : Int32)) fun σ21 =>
    (mF_C1_seen σ21 2).bind fun x22 =>
    (mF_J12_bitCount x22).bind fun x23 =>
    (mF_C1_tell_2 σ21 (x23.toInt64)).bind fun σ24 =>
    (mF_C1_brims σ24 2).bind fun x25 =>
    (mF_C1_tell_2 σ24 (x25.toInt64)).bind fun σ26 =>
    (mF_C1_known σ26 2).bind fun x27 =>
    some (x27, σ26)
noncomputable def mF_C5_init_k34 (σ : g_S) (u9 : Nat) : Option g_S :=
  if (σ.2.2 34 u9 200) = 2 then
    g_let (g_nw σ 35 u9 1) fun σ1 =>
    if (σ1.2.2 34 u9 200) = 2 then
    g_let (g_sR σ1 34 u9 200 3) fun σ3 =>
    if (σ3.2.2 34 u9 200) = 3 then
    g_let (g_nw σ3 36 u9 1) fun σ4 =>
    if (σ4.2.2 34 u9 200) = 3 then
    g_let (g_sR σ4 34 u9 200 4) fun σ6 =>
    if (σ6.2.2 34 u9 200) = 4 then
    g_let (g_nw σ6 37 u9 1) fun σ7 =>
    if (σ7.2.2 34 u9 200) = 4 then
    g_let (g_sR σ7 34 u9 200 5) fun σ9 =>
    if (σ9.2.2 34 u9 200) = 5 then
    g_let (g_nw σ9 38 u9 1) fun σ10 =>
    if (σ10.2.2 34 u9 200) = 5 then
    g_let (g_sR σ10 34 u9 200 6) fun σ12 =>
    if (σ12.2.2 34 u9 200) = 6 then
    g_let (g_nw σ12 39 u9 1) fun σ13 =>
    if (σ13.2.2 34 u9 200) = 6 then
    g_let (g_sR σ13 34 u9 200 1) fun σ15 =>
    some σ15
  else none
  else none
  else none
  else none
  else none
  else none
  else none
  else none
  else none
  else none
noncomputable def mF_C5_be_k34_4 (σ : g_S) (u9 : Nat) (u0 : Nat) : Option g_S :=
  if g_set (σ.2.2 34 u9 200) 0 then
    if g_cp (0 : Int32) (0 : Int32) (8 : Int32) 8 8 ∧ ¬ (σ.2.2 35 u9 200) = 0 then
    g_let (g_sA σ 35 u9 (va_cpy (σ.1 5 u0) (σ.1 35 u9) (0 : Int32).toNatClampNeg (0 : Int32).toNatClampNeg (8 : Int32).toNatClampNeg)) fun σ1 =>
    if g_set (σ1.2.2 34 u9 200) 1 then
    if g_cp (0 : Int32) (0 : Int32) (8 : Int32) 8 8 ∧ ¬ (σ1.2.2 36 u9 200) = 0 then
    g_let (g_sA σ1 36 u9 (va_cpy (σ1.1 6 u0) (σ1.1 36 u9) (0 : Int32).toNatClampNeg (0 : Int32).toNatClampNeg (8 : Int32).toNatClampNeg)) fun σ2 =>
    if g_set (σ2.2.2 34 u9 200) 2 then
    if g_cp (0 : Int32) (0 : Int32) (8 : Int32) 8 8 ∧ ¬ (σ2.2.2 37 u9 200) = 0 then
    g_let (g_sA σ2 37 u9 (va_cpy (σ2.1 7 u0) (σ2.1 37 u9) (0 : Int32).toNatClampNeg (0 : Int32).toNatClampNeg (8 : Int32).toNatClampNeg)) fun σ3 =>
    if g_set (σ3.2.2 34 u9 200) 3 then
    if g_cp (0 : Int32) (0 : Int32) (8 : Int32) 8 8 ∧ ¬ (σ3.2.2 38 u9 200) = 0 then
    g_let (g_sA σ3 38 u9 (va_cpy (σ3.1 8 u0) (σ3.1 38 u9) (0 : Int32).toNatClampNeg (0 : Int32).toNatClampNeg (8 : Int32).toNatClampNeg)) fun σ4 =>
    if g_set (σ4.2.2 34 u9 200) 4 then
    if g_cp (0 : Int32) (0 : Int32) (8 : Int32) 8 8 ∧ ¬ (σ4.2.2 39 u9 200) = 0 then
    g_let (g_sA σ4 39 u9 (va_cpy (σ4.1 9 u0) (σ4.1 39 u9) (0 : Int32).toNatClampNeg (0 : Int32).toNatClampNeg (8 : Int32).toNatClampNeg)) fun σ5 =>
    if ¬ (σ5.2.2 34 u9 200) = 0 then
    g_let (g_sI σ5 34 u9 5 (σ5.1 4 u0 5)) fun σ6 =>
    some σ6
  else none
  else none
  else none
  else none
  else none
  else none
  else none
  else none
  else none
  else none
  else none
noncomputable def mF_C11_init (σ : g_S) (u9 : Nat) : Option g_S :=
  if (σ.2.2 25 u9 200) = 2 then
    g_let (g_sR σ 25 u9 200 3) fun σ1 =>
    if (σ1.2.2 25 u9 200) = 3 then
    g_let (g_nw σ1 34 u9 2) fun σ2 =>
    (mF_C5_init_k34 σ2 u9).bind fun σ4 =>
    if (σ4.2.2 25 u9 200) = 3 then
    g_let (g_sR σ4 25 u9 200 1) fun σ10 =>
    if g_set (σ10.2.2 25 u9 200) 0 then
    if ¬ (σ10.2.2 25 u9 200) = 0 then
    g_let (g_sI σ10 25 u9 1 (σ10.1 0 0 7)) fun σ11 =>
    if g_set (σ11.2.2 25 u9 200) 1 then
    if ¬ (σ11.2.2 34 u9 200) = 0 then
    (mF_C5_be_k34_4 σ11 u9 0).bind fun σ12 =>
    some σ12
  else none
  else none
  else none
  else none
  else none
  else none
  else none
noncomputable def mF_C1_keep (σ : g_S) (s1 : Nat) (v1 : Int32) : Option (Int32 × g_S) :=
  (mF_C1_in (v1.toInt64) (0 : Int64) (2 : Int64)).bind fun x1 =>
    if x1 = 0 then
    some ((0 : Int32), σ)
  else
    if ∀ j < 3, (σ.2.2 24 0 j) ≠ s1 + 1 then
    g_let (g_nw σ 25 s1 2) fun σ2 =>
    (mF_C11_init σ2 s1).bind fun σ4 =>
    if g_in v1 3 = true ∧ ¬ (σ4.2.2 25 s1 200) = 0 then
    g_let (g_sR σ4 24 0 v1.toNatClampNeg (s1 + 1)) fun σ11 =>
    some ((1 : Int32), σ11)
  else none
  else none
noncomputable def mF_C5_be_k4_34 (σ : g_S) (u9 : Nat) (u0 : Nat) : Option g_S :=
  if g_set (σ.2.2 34 u0 200) 0 then
    if g_cp (0 : Int32) (0 : Int32) (8 : Int32) 8 8 ∧ ¬ (σ.2.2 35 u0 200) = 0 then
    g_let (g_sA σ 5 u9 (va_cpy (σ.1 35 u0) (σ.1 5 u9) (0 : Int32).toNatClampNeg (0 : Int32).toNatClampNeg (8 : Int32).toNatClampNeg)) fun σ1 =>
    if g_set (σ1.2.2 34 u0 200) 1 then
    if g_cp (0 : Int32) (0 : Int32) (8 : Int32) 8 8 ∧ ¬ (σ1.2.2 36 u0 200) = 0 then
    g_let (g_sA σ1 6 u9 (va_cpy (σ1.1 36 u0) (σ1.1 6 u9) (0 : Int32).toNatClampNeg (0 : Int32).toNatClampNeg (8 : Int32).toNatClampNeg)) fun σ2 =>
    if g_set (σ2.2.2 34 u0 200) 2 then
    if g_cp (0 : Int32) (0 : Int32) (8 : Int32) 8 8 ∧ ¬ (σ2.2.2 37 u0 200) = 0 then
    g_let (g_sA σ2 7 u9 (va_cpy (σ2.1 37 u0) (σ2.1 7 u9) (0 : Int32).toNatClampNeg (0 : Int32).toNatClampNeg (8 : Int32).toNatClampNeg)) fun σ3 =>
    if g_set (σ3.2.2 34 u0 200) 3 then
    if g_cp (0 : Int32) (0 : Int32) (8 : Int32) 8 8 ∧ ¬ (σ3.2.2 38 u0 200) = 0 then
    g_let (g_sA σ3 8 u9 (va_cpy (σ3.1 38 u0) (σ3.1 8 u9) (0 : Int32).toNatClampNeg (0 : Int32).toNatClampNeg (8 : Int32).toNatClampNeg)) fun σ4 =>
    if g_set (σ4.2.2 34 u0 200) 4 then
    if g_cp (0 : Int32) (0 : Int32) (8 : Int32) 8 8 ∧ ¬ (σ4.2.2 39 u0 200) = 0 then
    g_let (g_sA σ4 9 u9 (va_cpy (σ4.1 39 u0) (σ4.1 9 u9) (0 : Int32).toNatClampNeg (0 : Int32).toNatClampNeg (8 : Int32).toNatClampNeg)) fun σ5 =>
    if ¬ (σ5.2.2 34 u0 200) = 0 then
    g_let (g_sI σ5 4 u9 5 (σ5.1 34 u0 5)) fun σ6 =>
    some σ6
  else none
  else none
  else none
  else none
  else none
  else none
  else none
  else none
  else none
  else none
  else none
noncomputable def mF_C1_again (σ : g_S) (v1 : Int32) : Option (Int32 × g_S) :=
  (mF_C1_in (v1.toInt64) (0 : Int64) (2 : Int64)).bind fun x1 =>
    if x1 = 0 then
    some ((0 : Int32), σ)
  else
    if g_in v1 3 then
    if (σ.2.2 24 0 v1.toNatClampNeg) = 0 then
    some ((0 : Int32), σ)
  else
    if (σ.2.2 24 0 v1.toNatClampNeg) - 1 < 4 then
    if g_in v1 3 then
    if (σ.2.2 24 0 v1.toNatClampNeg) = 0 then
    none
  else
    if (σ.2.2 24 0 v1.toNatClampNeg) - 1 < 4 then
    if ¬ (σ.2.2 25 ((σ.2.2 24 0 v1.toNatClampNeg) - 1) 200) = 0 then
    if (σ.1 25 ((σ.2.2 24 0 v1.toNatClampNeg) - 1) 1) = (σ.1 0 0 7) then
    if g_in v1 3 then
    if (σ.2.2 24 0 v1.toNatClampNeg) = 0 then
    none
  else
    if (σ.2.2 24 0 v1.toNatClampNeg) - 1 < 4 then
    if g_set (σ.2.2 25 ((σ.2.2 24 0 v1.toNatClampNeg) - 1) 200) 1 then
    (mF_C5_be_k4_34 σ 0 ((σ.2.2 24 0 v1.toNatClampNeg) - 1)).bind fun σ8 =>
    g_let (g_sI σ8 0 0 8 (0 : Int32)) fun σ9 =>
    some ((1 : Int32), σ9)
  else none
  else none
  else none
  else
    some ((0 : Int32), σ)
  else none
  else none
  else none
  else none
  else none
noncomputable def mF_C1_count (σ : g_S) (v1 : Int32) : Option Int32 :=
  if v1 = (0 : Int32) then
    some (σ.1 0 0 3)
  else if v1 = (1 : Int32) then
    some (σ.1 0 0 4)
  else if v1 = (2 : Int32) then
    some (σ.1 0 0 5)
  else if v1 = (3 : Int32) then
    some (σ.1 0 0 6)
  else if v1 = (4 : Int32) then
    some (σ.1 4 0 5)
  else if v1 = (5 : Int32) then
    (mF_C1_lightOf σ (σ.1 4 0 5)).bind fun x1 =>
    some x1
  else if v1 = (6 : Int32) then
    (mF_C1_known σ 0).bind fun x2 =>
    some x2
  else if v1 = (7 : Int32) then
    (mF_J12_bitCount (σ.2.1 0 0 9)).bind fun x3 =>
    some x3
  else if v1 = (8 : Int32) then
    (mF_C1_seen σ 0).bind fun x4 =>
    (mF_J12_bitCount x4).bind fun x5 =>
    some x5
  else if v1 = (9 : Int32) then
    some (σ.1 0 0 26)
  else if v1 = (10 : Int32) then
    some (σ.1 0 0 8)
  else if v1 = (11 : Int32) then
    some (σ.1 0 0 18)
  else if v1 = (12 : Int32) then
    some (σ.1 0 0 16)
  else some (-100 : Int32)
noncomputable def mF_C1_person (σ : g_S) (v1 : Int32) (v2 : Int32) : Option (Unit ⊕ Int32) :=
  (mF_C1_isMan σ v1).bind fun x1 =>
    if x1 = 0 then
    some (.inl ())
  else
    if v2 = (0 : Int32) then
    if g_in v1 8 then
    some (.inr (σ.1 5 0 v1.toNatClampNeg))
  else none
  else if v2 = (1 : Int32) then
    if g_in v1 8 then
    some (.inr (σ.1 6 0 v1.toNatClampNeg))
  else none
  else if v2 = (2 : Int32) then
    if g_in v1 8 then
    some (.inr (σ.1 7 0 v1.toNatClampNeg))
  else none
  else if v2 = (3 : Int32) then
    if g_in v1 8 then
    some (.inr (σ.1 8 0 v1.toNatClampNeg))
  else none
  else if v2 = (4 : Int32) then
    (mF_C2_reach_k1_4 σ 0 v1).bind fun x2 =>
    some (.inr x2)
  else if v2 = (5 : Int32) then
    (mF_C2_things_k1_4 σ 0 v1).bind fun x3 =>
    some (.inr x3)
  else some (.inl ())
noncomputable def mJ_C1_thing_20 (σ : g_S) : Option (Unit ⊕ Int32) :=
  some (.inl ())
noncomputable def mF_C1_thing (σ : g_S) (v1 : Int32) (v2 : Int32) : Option (Unit ⊕ Int32) :=
  (mF_C1_isThing σ v1).bind fun x1 =>
    if x1 = 0 then
    (mJ_C1_thing_20 σ)
  else
    (mF_C1_in (v2.toInt64) (0 : Int64) (2 : Int64)).bind fun x2 =>
    if x2 = 0 then
    (mJ_C1_thing_20 σ)
  else
    if v2 = 0 then
    if g_in v1 8 then
    some (.inr (σ.1 9 0 v1.toNatClampNeg))
  else none
  else
    if v2 = (1 : Int32) then
    (mF_C1_knowersOf σ 0 v1).bind fun x4 =>
    some (.inr x4)
  else
    if g_in v1 8 then
    (mF_C1_seersOf σ 0 (σ.1 9 0 v1.toNatClampNeg)).bind fun x3 =>
    some (.inr x3)
  else none
noncomputable def mF_C1_row (σ : g_S) (v1 : Int32) : Option (Unit ⊕ Int64) :=
  (mF_C1_in (v1.toInt64) (0 : Int64) (((σ.1 0 0 18) - (1 : Int32)).toInt64)).bind fun x1 =>
    if x1 = 0 then
    some (.inl ())
  else
    if g_in v1 64 then
    some (.inr (σ.2.1 13 0 v1.toNatClampNeg))
  else none
noncomputable def mB_C1_rowOf_94 (σ : g_S) (v1 : Int32) (v3 : Int32) (v4 : Int32) (v6 : Int32) : Option ((Int32 × Int32 × g_S) ⊕ g_S) :=
  if v1 ≤ v6 then
    some (.inr σ)
  else
    if g_in v6 (σ.2.2 48 0 0) = true ∧ ¬ (σ.2.2 48 0 200) = 0 ∧ (σ.2.2 48 0 1) = 0 then
    g_let (g_sI σ 48 0 v6.toNatClampNeg v4) fun σ3 =>
    g_let (v6 + (1 : Int32)) fun x4 =>
    g_let (v4 + v3) fun x5 =>
    some (.inl (x5, x4, σ3))
  else none
noncomputable def mB_C1_rowOf_57 (σ : g_S) (v1 : Int32) (v3 : Int32) (v4 : Int32) (v6 : Int32) : Option ((Int32 × Int32 × g_S) ⊕ g_S) :=
  if v1 ≤ v6 then
    some (.inr σ)
  else
    if g_in v6 (σ.2.2 48 0 0) = true ∧ ¬ (σ.2.2 48 0 200) = 0 ∧ (σ.2.2 48 0 1) = 2 then
    g_let (g_sI σ 48 0 v6.toNatClampNeg (vp_nar .short (v4.toInt16.toInt32))) fun σ9 =>
    g_let (v6 + (1 : Int32)) fun x10 =>
    g_let (v4 + v3) fun x11 =>
    some (.inl (x11, x10, σ9))
  else none
noncomputable def mB_C1_rowOf_15 (σ : g_S) (v1 : Int32) (v3 : Int32) (v4 : Int32) (v6 : Int32) : Option ((Int32 × Int32 × g_S) ⊕ g_S) :=
  if v1 ≤ v6 then
    some (.inr σ)
  else
    if g_in v6 (σ.2.2 48 0 0) = true ∧ ¬ (σ.2.2 48 0 200) = 0 ∧ (σ.2.2 48 0 1) = 1 then
    g_let (g_sI σ 48 0 v6.toNatClampNeg (vp_nar .byte (v4.toInt8.toInt32))) fun σ15 =>
    g_let (v6 + (1 : Int32)) fun x16 =>
    g_let (v4 + v3) fun x17 =>
    some (.inl (x17, x16, σ15))
  else none
noncomputable def mF_C1_rowOf (σ : g_S) (v0 : Int32) (v1 : Int32) (v2 : Int32) (v3 : Int32) : Option g_S :=
  if v0 = 0 then
    if ¬ v1 < 0 ∧ v1.toNatClampNeg ≤ 8 then
    g_let (g_na σ 48 0 v1.toNatClampNeg 1) fun σ13 =>
    (g_lp (fun v => mB_C1_rowOf_15 v.2.2 v1 v3 v.1 v.2.1) g_fu (v2, (0 : Int32), σ13)).bind fun e18 =>
    some e18
  else none
  else
    if v0 = (1 : Int32) then
    if ¬ v1 < 0 ∧ v1.toNatClampNeg ≤ 8 then
    g_let (g_na σ 48 0 v1.toNatClampNeg 2) fun σ7 =>
    (g_lp (fun v => mB_C1_rowOf_57 v.2.2 v1 v3 v.1 v.2.1) g_fu (v2, (0 : Int32), σ7)).bind fun e12 =>
    some e12
  else none
  else
    if ¬ v1 < 0 ∧ v1.toNatClampNeg ≤ 8 then
    g_let (g_na σ 48 0 v1.toNatClampNeg 0) fun σ1 =>
    (g_lp (fun v => mB_C1_rowOf_94 v.2.2 v1 v3 v.1 v.2.1) g_fu (v2, (0 : Int32), σ1)).bind fun e6 =>
    some e6
  else none
noncomputable def mJ_C1_sheet_n_97 (σ : g_S) (v2 : Int32) (v6 : Int32) (s1 : Int32) (s2 : Int32) : Option ((Int32 × g_S) ⊕ g_S) :=
  if g_in s1 8 then
    g_let (g_sI σ 7 0 s1.toNatClampNeg s2) fun σ2 =>
    g_let (v6 + (1 : Int32)) fun x3 =>
    some (.inl (x3, σ2))
  else none
noncomputable def mJ_C1_sheet_n_78 (σ : g_S) (v2 : Int32) (v6 : Int32) (s1 : Int32) : Option ((Int32 × g_S) ⊕ g_S) :=
  (mJ_C1_sheet_n_97 σ v2 v6 s1 (0 : Int32))
noncomputable def mB_C1_sheet_n_49 (σ : g_S) (v2 : Int32) (v6 : Int32) : Option ((Int32 × g_S) ⊕ g_S) :=
  if (σ.1 0 0 5) ≤ v6 then
    some (.inr σ)
  else
    (mJ_C1_sheet_n_78 σ v2 v6 v6)
noncomputable def mF_C1_sheet_n (σ : g_S) (v1 : Int32) (v2 : Int32) (v3 : Int32) (v4 : Int32) : Option (Int32 × g_S) :=
  (mF_C1_in (v1.toInt64) (0 : Int64) (3 : Int64)).bind fun x1 =>
    if x1 = 0 then
    some ((-1 : Int32), σ)
  else
    if v2 ≤ (8 : Int32) then
    if (3 : Int32) ≤ v1 then
    (g_lp (fun v => mB_C1_sheet_n_49 v.2 v2 v.1) g_fu ((0 : Int32), σ)).bind fun e4 =>
    some ((-3 : Int32), e4)
  else
    none
  else
    some ((-1 : Int32), σ)
noncomputable def mF_C1_entry (σ : g_S) (v1 : Int32) : Option Int32 :=
  if ¬ (σ.2.2 48 0 200) = 0 ∧ (σ.2.2 48 0 1) = 1 then
    if ¬ (σ.2.2 48 0 200) = 0 ∧ (σ.2.2 48 0 1) = 1 then
    if g_in v1 (σ.2.2 48 0 0) = true ∧ ¬ (σ.2.2 48 0 200) = 0 ∧ (σ.2.2 48 0 1) = 1 then
    some (σ.1 48 0 v1.toNatClampNeg)
  else none
  else none
  else if ¬ (σ.2.2 48 0 200) = 0 ∧ (σ.2.2 48 0 1) = 2 then
    if ¬ (σ.2.2 48 0 200) = 0 ∧ (σ.2.2 48 0 1) = 1 then
    if ¬ (σ.2.2 48 0 200) = 0 ∧ (σ.2.2 48 0 1) = 0 then
    if g_in v1 (σ.2.2 48 0 0) = true ∧ ¬ (σ.2.2 48 0 200) = 0 ∧ (σ.2.2 48 0 1) = 0 then
    some (σ.1 48 0 v1.toNatClampNeg)
  else none
  else none
  else if ¬ (σ.2.2 48 0 200) = 0 ∧ (σ.2.2 48 0 1) = 2 then
    if ¬ (σ.2.2 48 0 200) = 0 ∧ (σ.2.2 48 0 1) = 2 then
    if g_in v1 (σ.2.2 48 0 0) = true ∧ ¬ (σ.2.2 48 0 200) = 0 ∧ (σ.2.2 48 0 1) = 2 then
    some (σ.1 48 0 v1.toNatClampNeg)
  else none
  else none
  else if ¬ (σ.2.2 48 0 200) = 0 ∧ (σ.2.2 48 0 1) = 0 then
    if ¬ (σ.2.2 48 0 200) = 0 ∧ (σ.2.2 48 0 1) = 0 then
    if g_in v1 (σ.2.2 48 0 0) = true ∧ ¬ (σ.2.2 48 0 200) = 0 ∧ (σ.2.2 48 0 1) = 0 then
    some (σ.1 48 0 v1.toNatClampNeg)
  else none
  else none
  else none
  else if ¬ (σ.2.2 48 0 200) = 0 ∧ (σ.2.2 48 0 1) = 0 then
    if ¬ (σ.2.2 48 0 200) = 0 ∧ (σ.2.2 48 0 1) = 1 then
    if ¬ (σ.2.2 48 0 200) = 0 ∧ (σ.2.2 48 0 1) = 0 then
    if g_in v1 (σ.2.2 48 0 0) = true ∧ ¬ (σ.2.2 48 0 200) = 0 ∧ (σ.2.2 48 0 1) = 0 then
    some (σ.1 48 0 v1.toNatClampNeg)
  else none
  else none
  else if ¬ (σ.2.2 48 0 200) = 0 ∧ (σ.2.2 48 0 1) = 2 then
    if ¬ (σ.2.2 48 0 200) = 0 ∧ (σ.2.2 48 0 1) = 2 then
    if g_in v1 (σ.2.2 48 0 0) = true ∧ ¬ (σ.2.2 48 0 200) = 0 ∧ (σ.2.2 48 0 1) = 2 then
    some (σ.1 48 0 v1.toNatClampNeg)
  else none
  else none
  else if ¬ (σ.2.2 48 0 200) = 0 ∧ (σ.2.2 48 0 1) = 0 then
    if ¬ (σ.2.2 48 0 200) = 0 ∧ (σ.2.2 48 0 1) = 0 then
    if g_in v1 (σ.2.2 48 0 0) = true ∧ ¬ (σ.2.2 48 0 200) = 0 ∧ (σ.2.2 48 0 1) = 0 then
    some (σ.1 48 0 v1.toNatClampNeg)
  else none
  else none
  else none
  else none
noncomputable def mJ_C1_sheet_r_97 (σ : g_S) (v2 : Int32) (v6 : Int32) (s1 : Int32) (s2 : Int32) : Option ((Int32 × g_S) ⊕ g_S) :=
  if g_in s1 8 then
    g_let (g_sI σ 7 0 s1.toNatClampNeg s2) fun σ5 =>
    g_let (v6 + (1 : Int32)) fun x6 =>
    some (.inl (x6, σ5))
  else none
noncomputable def mJ_C1_sheet_r_78 (σ : g_S) (v2 : Int32) (v6 : Int32) (s1 : Int32) : Option ((Int32 × g_S) ⊕ g_S) :=
  (mJ_C1_sheet_r_97 σ v2 v6 s1 (0 : Int32))
noncomputable def mB_C1_sheet_r_49 (σ : g_S) (v2 : Int32) (v6 : Int32) : Option ((Int32 × g_S) ⊕ g_S) :=
  if (σ.1 0 0 5) ≤ v6 then
    some (.inr σ)
  else
    if v6 < v2 then
    (mF_C1_entry σ v6).bind fun x4 =>
    (mJ_C1_sheet_r_97 σ v2 v6 v6 (g_max (0 : Int32) (g_min (4 : Int32) x4)))
  else
    (mJ_C1_sheet_r_78 σ v2 v6 v6)
noncomputable def mF_C1_sheet_r (σ : g_S) (v1 : Int32) (v2 : Int32) (v3 : Int32) (v4 : Int32) : Option (Int32 × g_S) :=
  (mF_C1_in (v1.toInt64) (0 : Int64) (3 : Int64)).bind fun x1 =>
    if x1 = 0 then
    some ((-1 : Int32), σ)
  else
    if v2 ≤ (8 : Int32) then
    if (3 : Int32) ≤ v1 then
    none
  else
    (mF_C1_rowOf σ v1 v2 v3 v4).bind fun σ2 =>
    (g_lp (fun v => mB_C1_sheet_r_49 v.2 v2 v.1) g_fu ((0 : Int32), σ2)).bind fun e7 =>
    (mF_C1_brims e7 0).bind fun x8 =>
    some (x8, e7)
  else
    some ((-1 : Int32), σ)
noncomputable def mF_C1_sheet_x (σ : g_S) (v1 : Int32) (v2 : Int32) (v3 : Int32) (v4 : Int32) : Option (Int32 × g_S) :=
  (mF_C1_in (v1.toInt64) (0 : Int64) (3 : Int64)).bind fun x1 =>
    if x1 = 0 then
    some ((-1 : Int32), σ)
  else
    if v2 ≤ (8 : Int32) then
    if (3 : Int32) ≤ v1 then
    none
  else
    if v2 < 0 then
    some ((-2 : Int32), σ)
  else none
  else
    some ((-1 : Int32), σ)
