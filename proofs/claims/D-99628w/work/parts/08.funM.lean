set_option maxRecDepth 100000
/-! the model, extracted -/
noncomputable def mF_M_thrown (σ : g_S) : Option Int32 :=
  some (σ.1 0 0 0)
noncomputable def mB_M_sign_18 (σ : g_S) (v1 : Int32) (v2 : Int32) : Option ((Int32 × g_S) ⊕ g_S) :=
  if (4 : Int32) ≤ v2 then
    some (.inr σ)
  else
    if g_in ((σ.1 0 0 14) + v2) 80 then
    g_let (g_sI σ 5 0 ((σ.1 0 0 14) + v2).toNatClampNeg ((v1 >>> (((24 : Int32) - ((8 : Int32) * v2)) &&& 31)) &&& (255 : Int32))) fun σ2 =>
    g_let (v2 + (1 : Int32)) fun x3 =>
    some (.inl (x3, σ2))
  else none
noncomputable def mF_M_sign (σ : g_S) (v1 : Int32) : Option (Int32 × g_S) :=
  g_let (g_sI σ 0 0 0 (0 : Int32)) fun σ1 =>
    if (σ1.1 0 0 14) ≤ (76 : Int32) then
    (g_lp (fun v => mB_M_sign_18 v.2 v1 v.1) g_fu ((0 : Int32), σ1)).bind fun e4 =>
    g_let (g_sI e4 0 0 14 ((e4.1 0 0 14) + (4 : Int32))) fun σ5 =>
    some ((σ5.1 0 0 14), σ5)
  else
    some ((-1 : Int32), σ1)
noncomputable def mF_M_in (v0 : Int64) (v2 : Int64) (v4 : Int64) : Option Int32 :=
  if (lg_cmp v0 v2) < 0 then
    some (0 : Int32)
  else
    if 0 < (lg_cmp v0 v4) then
    some (0 : Int32)
  else
    some (1 : Int32)
noncomputable def mF_M_end (σ : g_S) (v1 : Int32) : Option (Int32 × g_S) :=
  g_let (g_sI σ 0 0 0 (0 : Int32)) fun σ1 =>
    (mF_M_in (v1.toInt64) (0 : Int64) ((σ1.1 0 0 14).toInt64)).bind fun x2 =>
    if x2 = 0 then
    some ((0 : Int32), σ1)
  else
    g_let (g_sI σ1 0 0 14 v1) fun σ3 =>
    some ((1 : Int32), σ3)
noncomputable def mF_M_begins (σ : g_S) (v1 : Int32) : Option (Int32 × g_S) :=
  g_let (σ.1 0 0 14) fun x1 =>
    g_let (g_sI σ 0 0 14 (0 : Int32)) fun σ2 =>
    g_let (g_sI σ2 0 0 15 (0 : Int32)) fun σ3 =>
    g_let (g_sI σ3 0 0 17 (0 : Int32)) fun σ4 =>
    g_let (g_sI σ4 0 0 16 (g_min x1 v1)) fun σ5 =>
    some (x1, σ5)
noncomputable def mF_M_digitIn (σ : g_S) (v1 : Int32) (v2 : Int32) : Option (Int32 × g_S) :=
  if (σ.1 0 0 16) ≤ (σ.1 0 0 15) then
    some ((-1 : Int32), σ)
  else
    if g_in (σ.1 0 0 15) 80 then
    (mF_M_in (((σ.1 5 0 (σ.1 0 0 15).toNatClampNeg) - (48 : Int32)).toInt64) (v1.toInt64) (v2.toInt64)).bind fun x1 =>
    if x1 = 0 then
    some ((-1 : Int32), σ)
  else
    g_let (g_sI σ 0 0 15 ((σ.1 0 0 15) + (1 : Int32))) fun σ2 =>
    if g_in ((σ2.1 0 0 15) - (1 : Int32)) 80 then
    some (((σ2.1 5 0 ((σ2.1 0 0 15) - (1 : Int32)).toNatClampNeg) - (48 : Int32)), σ2)
  else none
  else none
noncomputable def mB_M_takesOf_2 (σ : g_S) (t0 : Nat) (v2 : Int32) : Option (Int32 ⊕ (Int32 ⊕ Unit)) :=
  (mF_J3_length t0).bind fun x1 =>
    if x1 ≤ v2 then
    some (.inr (.inr ()))
  else
    if (σ.1 0 0 16) ≤ (σ.1 0 0 15) then
    some (.inr (.inr ()))
  else
    (mF_J3_charAt t0 v2).bind fun x2 =>
    if g_in (σ.1 0 0 15) 80 then
    if x2 = (σ.1 5 0 (σ.1 0 0 15).toNatClampNeg) then
    some (.inr (.inl v2))
  else
    g_let (v2 + (1 : Int32)) fun x3 =>
    some (.inl x3)
  else none
noncomputable def mF_M_takesOf (σ : g_S) (t0 : Nat) : Option (Int32 × g_S) :=
  (g_lp (fun v => mB_M_takesOf_2 σ t0 v) g_fu (0 : Int32)).bind fun e4 => (match e4 with
    | .inl y5 => g_let (g_sI σ 0 0 15 ((σ.1 0 0 15) + (1 : Int32))) fun σ6 =>
    some (y5, σ6)
    | .inr y7 => some ((-1 : Int32), σ))
noncomputable def mF_M_fields (σ : g_S) : Option Int32 :=
  some ((σ.1 0 0 3) * (σ.1 0 0 4))
noncomputable def mJ_M_valley_86 (σ : g_S) (v1 : Int32) (v2 : Int32) (v4 : Int32) (v5 : Int32) (s1 : Int32) (s2 : Int32) : Option ((Int32 × Int32 × g_S) ⊕ (Int32 × g_S)) :=
  if g_in s1 49 then
    g_let (g_sI σ 6 0 s1.toNatClampNeg (vp_nar .boolean s2)) fun σ10 =>
    if v5 < 0 then
    g_let (v4 + (1 : Int32)) fun x11 =>
    some (.inl ((0 : Int32), x11, σ10))
  else
    g_let (v4 + (1 : Int32)) fun x12 =>
    some (.inl ((1 : Int32), x12, σ10))
  else none
noncomputable def mB_M_valley_49 (σ : g_S) (v1 : Int32) (v2 : Int32) (v3 : Int32) (v4 : Int32) : Option ((Int32 × Int32 × g_S) ⊕ (Int32 × g_S)) :=
  if v3 = 0 then
    some (.inr (v3, σ))
  else
    if (v1 * v2) ≤ v4 then
    some (.inr (v3, σ))
  else
    g_b2 (mF_M_takesOf σ 0) fun x9 σ8 =>
    if x9 = (1 : Int32) then
    (mJ_M_valley_86 σ8 v1 v2 v4 x9 v4 (1 : Int32))
  else
    (mJ_M_valley_86 σ8 v1 v2 v4 x9 v4 (0 : Int32))
noncomputable def mJ_M_valley_119 (σ : g_S) : Option (Int32 × g_S) :=
  some (((-1 : Int32) - (σ.1 0 0 15)), σ)
noncomputable def mB_M_valley_139 (σ : g_S) (v4 : Int32) : Option ((Int32 × g_S) ⊕ g_S) :=
  (mF_M_fields σ).bind fun x16 =>
    if x16 ≤ v4 then
    some (.inr σ)
  else
    if g_in v4 49 then
    if g_in v4 49 then
    g_let (g_sI σ 3 0 v4.toNatClampNeg (vp_nar .boolean (σ.1 6 0 v4.toNatClampNeg))) fun σ17 =>
    g_let (v4 + (1 : Int32)) fun x18 =>
    some (.inl (x18, σ17))
  else none
  else none
noncomputable def mJ_M_valley_45 (σ : g_S) (v1 : Int32) (v2 : Int32) (s0 : Int32) : Option (Int32 × g_S) :=
  (g_lp (fun v => mB_M_valley_49 v.2.2 v1 v2 v.1 v.2.1) g_fu (s0, (0 : Int32), σ)).bind fun e13 =>
    if e13.1 = 0 then
    (mJ_M_valley_119 e13.2)
  else
    if (e13.2.1 0 0 16) ≤ (e13.2.1 0 0 15) then
    g_let (g_sI e13.2 0 0 3 v1) fun σ14 =>
    g_let (g_sI σ14 0 0 4 v2) fun σ15 =>
    (g_lp (fun v => mB_M_valley_139 v.2 v.1) g_fu ((0 : Int32), σ15)).bind fun e19 =>
    g_let (g_sI e19 0 0 5 (0 : Int32)) fun σ20 =>
    g_let (g_sI σ20 0 0 6 (0 : Int32)) fun σ21 =>
    if g_in (40 : Int32) 41 then
    g_let (g_sI σ21 1 0 (40 : Int32).toNatClampNeg (0 : Int32)) fun σ22 =>
    g_let (g_sI σ22 0 0 27 (0 : Int32)) fun σ23 =>
    g_let (g_sI σ23 0 0 7 ((σ23.1 0 0 7) + (1 : Int32))) fun σ24 =>
    g_let (g_sI σ24 0 0 39 (0 : Int32)) fun σ25 =>
    (mF_M_fields σ25).bind fun x26 =>
    some (x26, σ25)
  else none
  else
    (mJ_M_valley_119 e13.2)
noncomputable def mJ_M_valley_35 (σ : g_S) (v1 : Int32) (s0 : Int32) : Option (Int32 × g_S) :=
  if s0 ≤ 0 then
    (mJ_M_valley_45 σ v1 s0 (0 : Int32))
  else
    (mJ_M_valley_45 σ v1 s0 (1 : Int32))
noncomputable def mF_M_valley (σ : g_S) : Option (Int32 × g_S) :=
  g_let (g_sI σ 0 0 0 (0 : Int32)) fun σ1 =>
    g_b2 (mF_M_begins σ1 (80 : Int32)) fun x3 σ2 =>
    g_b2 (mF_M_digitIn σ2 (3 : Int32) (7 : Int32)) fun x5 σ4 =>
    if 0 ≤ x5 then
    g_b2 (mF_M_digitIn σ4 (3 : Int32) (7 : Int32)) fun x7 σ6 =>
    (mJ_M_valley_35 σ6 x5 x7)
  else
    (mJ_M_valley_35 σ4 x5 (-1 : Int32))
noncomputable def mJ_M_readsField_31 (σ : g_S) (v1 : Int32) (s0 : Int32) : Option (Int32 × g_S) :=
  if 0 ≤ s0 then
    some ((((σ.1 0 0 4) * v1) + s0), σ)
  else
    some ((-1 : Int32), σ)
noncomputable def mF_M_readsField (σ : g_S) : Option (Int32 × g_S) :=
  g_b2 (mF_M_digitIn σ (0 : Int32) ((σ.1 0 0 3) - (1 : Int32))) fun x2 σ1 =>
    if 0 ≤ x2 then
    g_b2 (mF_M_digitIn σ1 (0 : Int32) ((σ1.1 0 0 4) - (1 : Int32))) fun x4 σ3 =>
    (mJ_M_readsField_31 σ3 x2 x4)
  else
    (mJ_M_readsField_31 σ1 x2 (-1 : Int32))
noncomputable def mJ_M_readsPerson_129 (σ : g_S) (v1 : Int32) (s1 : Int32) (s2 : Int32) : Option (Int32 × g_S) :=
  if g_in s1 24 then
    g_let (g_sI σ 7 0 s1.toNatClampNeg s2) fun σ10 =>
    g_let (g_sI σ10 0 0 20 ((σ10.1 0 0 20) + (1 : Int32))) fun σ11 =>
    if g_in (v1 + (2 : Int32)) 24 then
    if (σ11.1 7 0 (v1 + (2 : Int32)).toNatClampNeg) < 0 then
    some ((0 : Int32), σ11)
  else
    some ((1 : Int32), σ11)
  else none
  else none
noncomputable def mJ_M_readsPerson_100 (σ : g_S) (v1 : Int32) (s1 : Int32) (s2 : Int32) : Option (Int32 × g_S) :=
  if g_in s1 24 then
    g_let (g_sI σ 7 0 s1.toNatClampNeg s2) fun σ7 =>
    if g_in (v1 + (1 : Int32)) 24 then
    if 0 ≤ (σ7.1 7 0 (v1 + (1 : Int32)).toNatClampNeg) then
    g_b2 (mF_M_digitIn σ7 (0 : Int32) (4 : Int32)) fun x9 σ8 =>
    (mJ_M_readsPerson_129 σ8 v1 (v1 + (2 : Int32)) x9)
  else
    (mJ_M_readsPerson_129 σ7 v1 (v1 + (2 : Int32)) (-1 : Int32))
  else none
  else none
noncomputable def mJ_M_readsPerson_73 (σ : g_S) (v1 : Int32) : Option (Int32 × g_S) :=
  if g_in v1 24 then
    if 0 ≤ (σ.1 7 0 v1.toNatClampNeg) then
    g_b2 (mF_M_digitIn σ (0 : Int32) (7 : Int32)) fun x6 σ5 =>
    (mJ_M_readsPerson_100 σ5 v1 (v1 + (1 : Int32)) x6)
  else
    (mJ_M_readsPerson_100 σ v1 (v1 + (1 : Int32)) (-1 : Int32))
  else none
noncomputable def mF_M_readsPerson (σ : g_S) : Option (Int32 × g_S) :=
  if ((σ.1 0 0 5) + (σ.1 0 0 20)) = (8 : Int32) then
    some ((0 : Int32), σ)
  else
    g_let ((3 : Int32) * (σ.1 0 0 20)) fun x1 =>
    g_b2 (mF_M_readsField σ) fun x3 σ2 =>
    if g_in x1 24 then
    g_let (g_sI σ2 7 0 x1.toNatClampNeg x3) fun σ4 =>
    if g_in x1 24 then
    if (σ4.1 7 0 x1.toNatClampNeg) < 0 then
    (mJ_M_readsPerson_73 σ4 x1)
  else
    if g_in x1 24 then
    if g_in (σ4.1 7 0 x1.toNatClampNeg) 49 then
    if (σ4.1 3 0 (σ4.1 7 0 x1.toNatClampNeg).toNatClampNeg) = 0 then
    (mJ_M_readsPerson_73 σ4 x1)
  else
    g_let (g_sI σ4 0 0 15 ((σ4.1 0 0 15) - (1 : Int32))) fun σ12 =>
    if g_in x1 24 then
    g_let (g_sI σ12 7 0 x1.toNatClampNeg (-1 : Int32)) fun σ13 =>
    (mJ_M_readsPerson_73 σ13 x1)
  else none
  else none
  else none
  else none
  else none
noncomputable def mF_M_readsThing (σ : g_S) : Option (Int32 × g_S) :=
  if ((σ.1 0 0 6) + (σ.1 0 0 20)) = (8 : Int32) then
    some ((0 : Int32), σ)
  else
    g_b2 (mF_M_readsField σ) fun x2 σ1 =>
    if g_in (σ.1 0 0 20) 24 then
    g_let (g_sI σ1 7 0 (σ.1 0 0 20).toNatClampNeg x2) fun σ3 =>
    g_let (g_sI σ3 0 0 20 ((σ3.1 0 0 20) + (1 : Int32))) fun σ4 =>
    if g_in ((σ4.1 0 0 20) - (1 : Int32)) 24 then
    if (σ4.1 7 0 ((σ4.1 0 0 20) - (1 : Int32)).toNatClampNeg) < 0 then
    some ((0 : Int32), σ4)
  else
    some ((1 : Int32), σ4)
  else none
  else none
noncomputable def mF_M_flag (v0 : Int32) : Option Int32 :=
  if v0 = 0 then
    some (0 : Int32)
  else
    some (1 : Int32)
noncomputable def mJ_M_takes_29 (σ : g_S) (s0 : Int32) : Option (Int32 × g_S) :=
  (mF_M_flag s0).bind fun x1 =>
    g_let (g_sI σ 0 0 15 ((σ.1 0 0 15) + x1)) fun σ2 =>
    if s0 = 0 ∨ s0 = 1 then some (s0, σ2) else none
noncomputable def mJ_M_takes_28 (σ : g_S) : Option (Int32 × g_S) :=
  (mJ_M_takes_29 σ (0 : Int32))
noncomputable def mF_M_takes (σ : g_S) (v1 : Int32) : Option (Int32 × g_S) :=
  if (σ.1 0 0 16) ≤ (σ.1 0 0 15) then
    (mJ_M_takes_28 σ)
  else
    if g_in (σ.1 0 0 15) 80 then
    if (σ.1 5 0 (σ.1 0 0 15).toNatClampNeg) = v1 then
    (mJ_M_takes_29 σ (1 : Int32))
  else
    (mJ_M_takes_28 σ)
  else none
noncomputable def mJ_M_faultOf_44 (σ : g_S) (v4 : Int32) : Option Int32 :=
  if v4 = 0 then
    some ((-1 : Int32) - (σ.1 0 0 15))
  else
    some (0 : Int32)
noncomputable def mJ_M_faultOf_20 (σ : g_S) (v1 : Int32) (v2 : Int32) (s0 : Int32) : Option Int32 :=
  if v1 ≤ v2 then
    (mJ_M_faultOf_44 σ s0)
  else
    if s0 = 0 then
    if (σ.1 0 0 15) < v2 then
    (mJ_M_faultOf_44 σ s0)
  else
    some ((-1 : Int32) - v2)
  else
    some ((-1 : Int32) - v2)
noncomputable def mJ_M_faultOf_19 (σ : g_S) (v1 : Int32) (v2 : Int32) : Option Int32 :=
  (mJ_M_faultOf_20 σ v1 v2 (0 : Int32))
noncomputable def mF_M_faultOf (σ : g_S) (v1 : Int32) (v2 : Int32) (v3 : Int32) : Option Int32 :=
  if v3 = 0 then
    (mJ_M_faultOf_19 σ v1 v2)
  else
    if (σ.1 0 0 15) = (σ.1 0 0 16) then
    (mJ_M_faultOf_20 σ v1 v2 (1 : Int32))
  else
    (mJ_M_faultOf_19 σ v1 v2)
noncomputable def mJ_M_readsLines_45 (σ : g_S) (v1 : Int32) (v2 : Int32) (v3 : Int32) (s0 : Int32) : Option ((Int32 × Int32 × g_S) ⊕ (Int32 × g_S)) :=
  if s0 = 0 then
    some (.inl (s0, (0 : Int32), σ))
  else
    g_b2 (mF_M_takes σ (59 : Int32)) fun x7 σ6 =>
    if x7 = 0 then
    some (.inl (s0, (0 : Int32), σ6))
  else
    some (.inl (s0, (1 : Int32), σ6))
noncomputable def mB_M_readsLines_25 (σ : g_S) (v1 : Int32) (v2 : Int32) (v3 : Int32) (v4 : Int32) (v5 : Int32) : Option ((Int32 × Int32 × g_S) ⊕ (Int32 × g_S)) :=
  if v5 = 0 then
    some (.inr (v4, σ))
  else
    if v1 = 0 then
    g_b2 (mF_M_readsThing σ) fun x5 σ4 =>
    (mJ_M_readsLines_45 σ4 v1 v2 v3 x5)
  else
    g_b2 (mF_M_readsPerson σ) fun x9 σ8 =>
    (mJ_M_readsLines_45 σ8 v1 v2 v3 x9)
noncomputable def mJ_M_readsLines_23 (σ : g_S) (v1 : Int32) (v2 : Int32) (v3 : Int32) (v4 : Int32) (s0 : Int32) : Option (Int32 × g_S) :=
  (g_lp (fun v => mB_M_readsLines_25 v.2.2 v1 v2 v3 v.1 v.2.1) g_fu (v4, s0, σ)).bind fun e10 =>
    (mF_M_faultOf e10.2 v3 v2 e10.1).bind fun x11 =>
    some (x11, e10.2)
noncomputable def mF_M_readsLines (σ : g_S) (v1 : Int32) (v2 : Int32) : Option (Int32 × g_S) :=
  g_b2 (mF_M_begins σ v2) fun x2 σ1 =>
    g_let (g_sI σ1 0 0 20 (0 : Int32)) fun σ3 =>
    if x2 ≤ 0 then
    (mJ_M_readsLines_23 σ3 v1 v2 x2 (1 : Int32) (0 : Int32))
  else
    (mJ_M_readsLines_23 σ3 v1 v2 x2 (1 : Int32) (1 : Int32))
noncomputable def mJ_M_isNew_36 (σ : g_S) (s1 : Int32) (s2 : Int32) : Option (Int32 × g_S) :=
  (mF_M_flag s2).bind fun x2 =>
    g_let (g_sI σ 0 0 7 (s1 + x2)) fun σ3 =>
    some ((σ3.1 0 0 20), σ3)
noncomputable def mJ_M_isNew_16 (σ : g_S) (s1 : Int32) : Option (Int32 × g_S) :=
  g_let (g_sI σ 0 0 27 s1) fun σ1 =>
    if (σ1.1 0 0 20) ≤ 0 then
    (mJ_M_isNew_36 σ1 (σ1.1 0 0 7) (0 : Int32))
  else
    (mJ_M_isNew_36 σ1 (σ1.1 0 0 7) (1 : Int32))
noncomputable def mF_M_isNew (σ : g_S) : Option (Int32 × g_S) :=
  if (σ.1 0 0 20) ≤ 0 then
    (mJ_M_isNew_16 σ (σ.1 0 0 27))
  else
    (mJ_M_isNew_16 σ (0 : Int32))
noncomputable def mB_M_people_21 (σ : g_S) (v2 : Int32) : Option ((Int32 × g_S) ⊕ g_S) :=
  if (σ.1 0 0 20) ≤ v2 then
    some (.inr σ)
  else
    if g_in ((3 : Int32) * v2) 24 then
    if g_in (σ.1 0 0 5) 41 then
    g_let (g_sI σ 1 0 (σ.1 0 0 5).toNatClampNeg (σ.1 7 0 ((3 : Int32) * v2).toNatClampNeg)) fun σ4 =>
    if g_in (((3 : Int32) * v2) + (1 : Int32)) 24 then
    if g_in ((8 : Int32) + (σ4.1 0 0 5)) 41 then
    g_let (g_sI σ4 1 0 ((8 : Int32) + (σ4.1 0 0 5)).toNatClampNeg (σ4.1 7 0 (((3 : Int32) * v2) + (1 : Int32)).toNatClampNeg)) fun σ5 =>
    if g_in (((3 : Int32) * v2) + (2 : Int32)) 24 then
    if g_in ((16 : Int32) + (σ5.1 0 0 5)) 41 then
    g_let (g_sI σ5 1 0 ((16 : Int32) + (σ5.1 0 0 5)).toNatClampNeg (σ5.1 7 0 (((3 : Int32) * v2) + (2 : Int32)).toNatClampNeg)) fun σ6 =>
    if g_in ((24 : Int32) + (σ6.1 0 0 5)) 41 then
    g_let (g_sI σ6 1 0 ((24 : Int32) + (σ6.1 0 0 5)).toNatClampNeg (0 : Int32)) fun σ7 =>
    g_let (g_sI σ7 0 0 5 ((σ7.1 0 0 5) + (1 : Int32))) fun σ8 =>
    g_let (v2 + (1 : Int32)) fun x9 =>
    some (.inl (x9, σ8))
  else none
  else none
  else none
  else none
  else none
  else none
  else none
noncomputable def mF_M_people (σ : g_S) : Option (Int32 × g_S) :=
  g_let (g_sI σ 0 0 0 (0 : Int32)) fun σ1 =>
    g_b2 (mF_M_readsLines σ1 (1 : Int32) (39 : Int32)) fun x3 σ2 =>
    if 0 ≤ x3 then
    (g_lp (fun v => mB_M_people_21 v.2 v.1) g_fu ((0 : Int32), σ2)).bind fun e10 =>
    g_b2 (mF_M_isNew e10) fun x12 σ11 =>
    some (x12, σ11)
  else
    some (x3, σ2)
noncomputable def mB_M_things_21 (σ : g_S) (v2 : Int32) : Option ((Int32 × g_S) ⊕ g_S) :=
  if (σ.1 0 0 20) ≤ v2 then
    some (.inr σ)
  else
    if g_in v2 24 then
    if g_in ((32 : Int32) + (σ.1 0 0 6)) 41 then
    g_let (g_sI σ 1 0 ((32 : Int32) + (σ.1 0 0 6)).toNatClampNeg (σ.1 7 0 v2.toNatClampNeg)) fun σ4 =>
    g_let (g_sI σ4 0 0 6 ((σ4.1 0 0 6) + (1 : Int32))) fun σ5 =>
    g_let (v2 + (1 : Int32)) fun x6 =>
    some (.inl (x6, σ5))
  else none
  else none
noncomputable def mF_M_things (σ : g_S) : Option (Int32 × g_S) :=
  g_let (g_sI σ 0 0 0 (0 : Int32)) fun σ1 =>
    g_b2 (mF_M_readsLines σ1 (0 : Int32) (23 : Int32)) fun x3 σ2 =>
    if 0 ≤ x3 then
    (g_lp (fun v => mB_M_things_21 v.2 v.1) g_fu ((0 : Int32), σ2)).bind fun e7 =>
    g_b2 (mF_M_isNew e7) fun x9 σ8 =>
    some (x9, σ8)
  else
    some (x3, σ2)
noncomputable def mF_M_isDigit (σ : g_S) : Option Int32 :=
  if (σ.1 0 0 16) ≤ (σ.1 0 0 15) then
    some (0 : Int32)
  else
    if g_in (σ.1 0 0 15) 80 then
    (mF_M_in ((σ.1 5 0 (σ.1 0 0 15).toNatClampNeg).toInt64) (48 : Int64) (57 : Int64)).bind fun x1 =>
    if x1 = 0 then
    some (0 : Int32)
  else
    some (1 : Int32)
  else none
noncomputable def mB_M_number_13 (σ : g_S) (v1 : Int32) (v2 : Int32) (v3 : Int32) : Option ((Int32 × Int32 × g_S) ⊕ (Int32 × g_S)) :=
  if v1 ≤ v3 then
    some (.inr (v2, σ))
  else
    (mF_M_isDigit σ).bind fun x2 =>
    if x2 = 0 then
    some (.inr (v2, σ))
  else
    if g_in (σ.1 0 0 15) 80 then
    g_let ((((10 : Int32) * v2) + (σ.1 5 0 (σ.1 0 0 15).toNatClampNeg)) - (48 : Int32)) fun x3 =>
    g_let (g_sI σ 0 0 15 ((σ.1 0 0 15) + (1 : Int32))) fun σ4 =>
    g_let (v3 + (1 : Int32)) fun x5 =>
    some (.inl (x3, x5, σ4))
  else none
noncomputable def mF_M_number (σ : g_S) (v1 : Int32) : Option (Int32 × g_S) :=
  (mF_M_isDigit σ).bind fun x1 =>
    if x1 = 0 then
    some ((-1 : Int32), σ)
  else
    (g_lp (fun v => mB_M_number_13 v.2.2 v1 v.1 v.2.1) g_fu ((0 : Int32), (0 : Int32), σ)).bind fun e6 =>
    some (e6.1, e6.2)
noncomputable def mB_M_light_14 (σ : g_S) (v1 : Int32) : Option ((Int32 × g_S) ⊕ (Int32 × g_S)) :=
  if (20 : Int32) ≤ v1 then
    some (.inr (v1, σ))
  else
    (mF_M_isDigit σ).bind fun x4 =>
    if x4 = 0 then
    some (.inr (v1, σ))
  else
    g_b2 (mF_M_number σ (1 : Int32)) fun x6 σ5 =>
    if g_in v1 24 then
    g_let (g_sI σ5 7 0 v1.toNatClampNeg x6) fun σ7 =>
    g_let (v1 + (1 : Int32)) fun x8 =>
    some (.inl (x8, σ7))
  else none
noncomputable def mJ_M_light_59 (σ : g_S) : Option (Int32 × g_S) :=
  some (((-1 : Int32) - (σ.1 0 0 15)), σ)
noncomputable def mB_M_light_73 (σ : g_S) (v1 : Int32) (v2 : Int32) : Option ((Int32 × g_S) ⊕ g_S) :=
  if v1 ≤ v2 then
    some (.inr σ)
  else
    if g_in v2 24 then
    if g_in v2 20 then
    g_let (g_sI σ 4 0 v2.toNatClampNeg (σ.1 7 0 v2.toNatClampNeg)) fun σ11 =>
    g_let (v2 + (1 : Int32)) fun x12 =>
    some (.inl (x12, σ11))
  else none
  else none
noncomputable def mF_M_light (σ : g_S) : Option (Int32 × g_S) :=
  g_let (g_sI σ 0 0 0 (0 : Int32)) fun σ1 =>
    g_b2 (mF_M_begins σ1 (80 : Int32)) fun x3 σ2 =>
    (g_lp (fun v => mB_M_light_14 v.2 v.1) g_fu ((0 : Int32), σ2)).bind fun e9 =>
    if e9.1 = 0 then
    (mJ_M_light_59 e9.2)
  else
    if (e9.2.1 0 0 16) ≤ (e9.2.1 0 0 15) then
    g_let (g_sI e9.2 0 0 8 e9.1) fun σ10 =>
    (g_lp (fun v => mB_M_light_73 v.2 e9.1 v.1) g_fu ((0 : Int32), σ10)).bind fun e13 =>
    some (e9.1, e13)
  else
    (mJ_M_light_59 e9.2)
noncomputable def mF_M_codes (σ : g_S) (v1 : Int32) : Option g_S :=
  if g_in (σ.1 0 0 24) 80 then
    g_let (g_sI σ 8 1 (σ.1 0 0 24).toNatClampNeg v1) fun σ1 =>
    g_let (g_sI σ1 0 0 24 ((σ1.1 0 0 24) + (1 : Int32))) fun σ2 =>
    some σ2
  else none
noncomputable def mF_M_readsAsked (σ : g_S) (rc : ((g_S → Option (Int32 × g_S)) × (g_S → Int32 → Option (Int32 × g_S)))) : Option (Int32 × g_S) :=
  g_b2 (mF_M_takes σ (45 : Int32)) fun x2 σ1 =>
    if x2 = 0 then
    (mF_M_isDigit σ1).bind fun x3 =>
    if x3 = 0 then
    g_b2 (mF_M_takesOf σ1 1) fun x5 σ4 =>
    if x5 < 0 then
    if (σ4.1 0 0 17) = (4 : Int32) then
    some ((0 : Int32), σ4)
  else
    g_b2 (mF_M_takes σ4 (40 : Int32)) fun x7 σ6 =>
    if x7 = 0 then
    some ((0 : Int32), σ6)
  else
    g_let (g_sI σ6 0 0 17 ((σ6.1 0 0 17) + (1 : Int32))) fun σ8 =>
    g_b2 (rc.2 σ8 (0 : Int32)) fun x10 σ9 =>
    if x10 = 0 then
    some ((0 : Int32), σ9)
  else
    g_b2 (mF_M_takes σ9 (41 : Int32)) fun x12 σ11 =>
    if x12 = 0 then
    some ((0 : Int32), σ11)
  else
    g_let (g_sI σ11 0 0 17 ((σ11.1 0 0 17) - (1 : Int32))) fun σ13 =>
    some ((1 : Int32), σ13)
  else
    (mF_M_codes σ4 ((1000 : Int32) + x5)).bind fun σ14 =>
    some ((1 : Int32), σ14)
  else
    g_b2 (mF_M_number σ1 (3 : Int32)) fun x16 σ15 =>
    (mF_M_codes σ15 x16).bind fun σ17 =>
    some ((1 : Int32), σ17)
  else
    g_b2 (rc.1 σ1) fun x19 σ18 =>
    (mF_M_codes σ18 (3000 : Int32)).bind fun σ20 =>
    if x19 = 0 ∨ x19 = 1 then some (x19, σ20) else none
noncomputable def mJ_M_readsRank_96 (σ : g_S) (rc : ((g_S → Option (Int32 × g_S)) × (g_S → Int32 → Option (Int32 × g_S)))) (v1 : Int32) (s1 : Int32) (s2 : Int32) : Option ((Int32 × g_S) ⊕ (g_S ⊕ (g_S ⊕ g_S))) :=
  (mF_M_codes σ (s1 + s2)).bind fun σ7 =>
    if v1 ≤ 0 then
    some (.inl ((0 : Int32), σ7))
  else
    some (.inl ((1 : Int32), σ7))
noncomputable def mJ_M_readsRank_50 (σ : g_S) (rc : ((g_S → Option (Int32 × g_S)) × (g_S → Int32 → Option (Int32 × g_S)))) (v1 : Int32) (s1 : Nat) : Option ((Int32 × g_S) ⊕ (g_S ⊕ (g_S ⊕ g_S))) :=
  if s1 < 6 then
    g_b2 (mF_M_takesOf σ s1) fun x4 σ3 =>
    if 0 ≤ x4 then
    g_b2 (rc.2 σ3 (v1 + (1 : Int32))) fun x6 σ5 =>
    if x6 = 0 then
    some (.inr (.inr (.inl σ5)))
  else
    if v1 = 0 then
    (mJ_M_readsRank_96 σ5 rc v1 ((2000 : Int32) + x4) (0 : Int32))
  else
    if v1 = (1 : Int32) then
    (mJ_M_readsRank_96 σ5 rc v1 ((2000 : Int32) + x4) (3 : Int32))
  else
    (mJ_M_readsRank_96 σ5 rc v1 ((2000 : Int32) + x4) (5 : Int32))
  else
    some (.inr (.inl σ3))
  else none
noncomputable def mB_M_readsRank_24 (σ : g_S) (rc : ((g_S → Option (Int32 × g_S)) × (g_S → Int32 → Option (Int32 × g_S)))) (v1 : Int32) (v2 : Int32) : Option ((Int32 × g_S) ⊕ (g_S ⊕ (g_S ⊕ g_S))) :=
  if v2 = 0 then
    some (.inr (.inr (.inr σ)))
  else
    if v1 = 0 then
    (mJ_M_readsRank_50 σ rc v1 2)
  else
    if v1 = (1 : Int32) then
    (mJ_M_readsRank_50 σ rc v1 3)
  else
    (mJ_M_readsRank_50 σ rc v1 4)
noncomputable def mF_M_readsRank (σ : g_S) (rc : ((g_S → Option (Int32 × g_S)) × (g_S → Int32 → Option (Int32 × g_S)))) (v1 : Int32) : Option (Int32 × g_S) :=
  if v1 = (3 : Int32) then
    g_b2 (rc.1 σ) fun x13 σ12 =>
    if x13 = 0 ∨ x13 = 1 then some (x13, σ12) else none
  else
    g_b2 (rc.2 σ (v1 + (1 : Int32))) fun x2 σ1 =>
    if x2 = 0 then
    some ((0 : Int32), σ1)
  else
    (g_lp (fun v => mB_M_readsRank_24 v.2 rc v1 v.1) g_fu ((1 : Int32), σ1)).bind fun e8 => (match e8 with
    | .inl y9 => some ((1 : Int32), y9)
    | .inr (.inl y10) => some ((0 : Int32), y10)
    | .inr (.inr y11) => some ((1 : Int32), y11))
noncomputable def mR_M_reads : Nat → (g_S → Option (Int32 × g_S)) × (g_S → Int32 → Option (Int32 × g_S))
  | 0 => (fun _ => none, fun _ _ => none)
  | n + 1 => (fun σ => mF_M_readsAsked σ (mR_M_reads n), fun σ v => mF_M_readsRank σ (mR_M_reads n) v)
noncomputable def mC_M_readsRank (σ : g_S) (v : Int32) : Option (Int32 × g_S) := (mR_M_reads 100).2 σ v
noncomputable def mJ_M_readsRule_29 (σ : g_S) (v1 : Int32) (s0 : Int32) : Option (Int32 × g_S) :=
  (mF_M_faultOf σ v1 (40 : Int32) s0).bind fun x4 =>
    some (x4, σ)
noncomputable def mJ_M_readsRule_24 (σ : g_S) (v1 : Int32) : Option (Int32 × g_S) :=
  (mJ_M_readsRule_29 σ v1 (1 : Int32))
noncomputable def mF_M_readsRule (σ : g_S) : Option (Int32 × g_S) :=
  g_b2 (mF_M_begins σ (40 : Int32)) fun x2 σ1 =>
    g_let (g_sI σ1 0 0 24 (0 : Int32)) fun σ3 =>
    if x2 = 0 then
    (mJ_M_readsRule_24 σ3 x2)
  else
    g_b2 (mC_M_readsRank σ3 (0 : Int32)) fun x6 σ5 =>
    if x6 = 0 then
    (mJ_M_readsRule_29 σ5 x2 (0 : Int32))
  else
    (mJ_M_readsRule_24 σ5 x2)
noncomputable def mB_M_laysCode_7 (σ : g_S) (u0 : Nat) (v2 : Int32) (v3 : Int32) : Option ((Int32 × g_S) ⊕ g_S) :=
  if v2 ≤ v3 then
    some (.inr σ)
  else
    if g_in v3 80 then
    if g_in v3 80 then
    g_let (g_sI σ 8 0 v3.toNatClampNeg (σ.1 8 u0 v3.toNatClampNeg)) fun σ2 =>
    g_let (v3 + (1 : Int32)) fun x3 =>
    some (.inl (x3, σ2))
  else none
  else none
noncomputable def mF_M_laysCode (σ : g_S) (u0 : Nat) (v2 : Int32) : Option g_S :=
  g_let (g_sI σ 0 0 23 v2) fun σ1 =>
    (g_lp (fun v => mB_M_laysCode_7 v.2 u0 v2 v.1) g_fu ((0 : Int32), σ1)).bind fun e4 =>
    some e4
noncomputable def mF_M_rule (σ : g_S) : Option (Int32 × g_S) :=
  g_let (g_sI σ 0 0 0 (0 : Int32)) fun σ1 =>
    g_b2 (mF_M_readsRule σ1) fun x3 σ2 =>
    if x3 = 0 then
    (mF_M_laysCode σ2 1 (σ2.1 0 0 24)).bind fun σ4 =>
    some (x3, σ4)
  else
    some (x3, σ2)
noncomputable def mF_M_isPerson (σ : g_S) (v1 : Int32) : Option Int32 :=
  (mF_M_in (v1.toInt64) (0 : Int64) (((σ.1 0 0 5) - (1 : Int32)).toInt64)).bind fun x1 =>
    if x1 = 0 ∨ x1 = 1 then some x1 else none
noncomputable def mF_M_refuse (σ : g_S) : Option (Int32 × g_S) :=
  g_let (g_sI σ 0 0 0 (1 : Int32)) fun σ1 =>
    some ((0 : Int32), σ1)
noncomputable def mF_M_lightOn (σ : g_S) (v1 : Int32) : Option Int32 :=
  if ¬ (σ.1 0 0 8) = 0 then
    if g_in (g_rem v1 (σ.1 0 0 8)) 20 then
    some (σ.1 4 0 (g_rem v1 (σ.1 0 0 8)).toNatClampNeg)
  else none
  else none
noncomputable def mJ_M_worked_50 (s0 : Int32) : Option Int32 :=
  (mF_M_flag s0).bind fun x1 =>
    some x1
noncomputable def mJ_M_worked_64 (s0 : Int32) : Option Int32 :=
  (mF_M_flag s0).bind fun x2 =>
    some x2
noncomputable def mJ_M_worked_78 (s0 : Int32) : Option Int32 :=
  (mF_M_flag s0).bind fun x3 =>
    some x3
noncomputable def mF_M_worked (v0 : Int32) (v1 : Int32) (v2 : Int32) : Option Int32 :=
  if v0 = (0 : Int32) then
    if v2 ≤ v1 then
    (mJ_M_worked_50 (0 : Int32))
  else
    (mJ_M_worked_50 (1 : Int32))
  else if v0 = (1 : Int32) then
    if v1 ≤ v2 then
    (mJ_M_worked_64 (0 : Int32))
  else
    (mJ_M_worked_64 (1 : Int32))
  else if v0 = (2 : Int32) then
    if v1 = v2 then
    (mJ_M_worked_78 (1 : Int32))
  else
    (mJ_M_worked_78 (0 : Int32))
  else if v0 = (3 : Int32) then
    some (v1 + v2)
  else if v0 = (4 : Int32) then
    some (v1 - v2)
  else if v0 = (5 : Int32) then
    some (v1 * v2)
  else if v2 = 0 then
    some (0 : Int32)
  else
    if ¬ v2 = 0 then
    some (v1 / v2)
  else none
noncomputable def mJ_M_ruled_115 (σ : g_S) (v1 : Int32) (v2 : Int32) (s1 : Int32) (s2 : Int32) : Option ((Int32 × Int32 × g_S) ⊕ g_S) :=
  if g_in s1 80 then
    g_let (g_sI σ 9 0 s1.toNatClampNeg s2) fun σ2 =>
    g_let (v1 + (1 : Int32)) fun x3 =>
    g_let (v2 + (1 : Int32)) fun x4 =>
    some (.inl (x3, x4, σ2))
  else none
noncomputable def mB_M_ruled_4 (σ : g_S) (v1 : Int32) (v2 : Int32) : Option ((Int32 × Int32 × g_S) ⊕ g_S) :=
  if (σ.1 0 0 23) ≤ v2 then
    some (.inr σ)
  else
    if g_in v2 80 then
    g_let (σ.1 8 0 v2.toNatClampNeg) fun x1 =>
    if x1 = (3000 : Int32) then
    if g_in (v1 - (1 : Int32)) 80 then
    if g_in (v1 - (1 : Int32)) 80 then
    g_let (g_sI σ 9 0 (v1 - (1 : Int32)).toNatClampNeg (-(σ.1 9 0 (v1 - (1 : Int32)).toNatClampNeg))) fun σ9 =>
    g_let (v2 + (1 : Int32)) fun x10 =>
    some (.inl (v1, x10, σ9))
  else none
  else none
  else
    if x1 < (2000 : Int32) then
    if x1 < (1000 : Int32) then
    (mJ_M_ruled_115 σ v1 v2 v1 x1)
  else
    if g_in (x1 - (1000 : Int32)) 8 then
    (mJ_M_ruled_115 σ v1 v2 v1 (σ.1 10 0 (x1 - (1000 : Int32)).toNatClampNeg))
  else none
  else
    g_let (v1 + (-1 : Int32)) fun x5 =>
    if g_in (x5 - (1 : Int32)) 80 then
    if g_in x5 80 then
    (mF_M_worked (x1 - (2000 : Int32)) (σ.1 9 0 (x5 - (1 : Int32)).toNatClampNeg) (σ.1 9 0 x5.toNatClampNeg)).bind fun x6 =>
    if g_in (x5 - (1 : Int32)) 80 then
    g_let (g_sI σ 9 0 (x5 - (1 : Int32)).toNatClampNeg x6) fun σ7 =>
    g_let (v2 + (1 : Int32)) fun x8 =>
    some (.inl (x5, x8, σ7))
  else none
  else none
  else none
  else none
noncomputable def mF_M_ruled (σ : g_S) : Option (Int32 × g_S) :=
  (g_lp (fun v => mB_M_ruled_4 v.2.2 v.1 v.2.1) g_fu ((0 : Int32), (0 : Int32), σ)).bind fun e11 =>
    if (e11.1 0 0 23) = 0 then
    if g_in (1 : Int32) 8 then
    if g_in (0 : Int32) 8 then
    some (((e11.1 10 0 (1 : Int32).toNatClampNeg) - (e11.1 10 0 (0 : Int32).toNatClampNeg)), e11)
  else none
  else none
  else
    if g_in (0 : Int32) 80 then
    some ((e11.1 9 0 (0 : Int32).toNatClampNeg), e11)
  else none
noncomputable def mJ_M_reachBy_32 (σ : g_S) (u0 : Nat) (v2 : Int32) (v3 : Int32) (v5 : Int32) (s0 : Int32) (s1 : Int32) : Option ((Int32 × Int32) ⊕ Int32) :=
  (mF_M_flag s1).bind fun x1 =>
    g_let (s0 + x1) fun x2 =>
    g_let (v5 + (1 : Int32)) fun x3 =>
    some (.inl (x2, x3))
noncomputable def mB_M_reachBy_6 (σ : g_S) (u0 : Nat) (v2 : Int32) (v3 : Int32) (v4 : Int32) (v5 : Int32) : Option ((Int32 × Int32) ⊕ Int32) :=
  if (σ.1 0 0 5) ≤ v5 then
    some (.inr v4)
  else
    if g_in v5 41 then
    if g_in v2 41 then
    if (σ.1 1 u0 v5.toNatClampNeg) = (σ.1 1 u0 v2.toNatClampNeg) then
    (mJ_M_reachBy_32 σ u0 v2 v3 v5 v4 (1 : Int32))
  else
    (mJ_M_reachBy_32 σ u0 v2 v3 v5 v4 (0 : Int32))
  else none
  else none
noncomputable def mF_M_reachBy (σ : g_S) (u0 : Nat) (v2 : Int32) (v3 : Int32) : Option (Int32 × g_S) :=
  (g_lp (fun v => mB_M_reachBy_6 σ u0 v2 v3 v.1 v.2) g_fu ((0 : Int32), (0 : Int32))).bind fun e4 =>
    if g_in (0 : Int32) 8 then
    g_let (g_sI σ 10 0 (0 : Int32).toNatClampNeg v3) fun σ5 =>
    if g_in (40 : Int32) 41 then
    (mF_M_lightOn σ5 (σ5.1 1 u0 (40 : Int32).toNatClampNeg)).bind fun x6 =>
    if g_in (1 : Int32) 8 then
    g_let (g_sI σ5 10 0 (1 : Int32).toNatClampNeg x6) fun σ7 =>
    if g_in ((24 : Int32) + v2) 41 then
    (mF_J8_bitCount (σ7.1 1 u0 ((24 : Int32) + v2).toNatClampNeg)).bind fun x8 =>
    if g_in (2 : Int32) 8 then
    g_let (g_sI σ7 10 0 (2 : Int32).toNatClampNeg x8) fun σ9 =>
    if g_in ((8 : Int32) + v2) 41 then
    if g_in (3 : Int32) 8 then
    g_let (g_sI σ9 10 0 (3 : Int32).toNatClampNeg (σ9.1 1 u0 ((8 : Int32) + v2).toNatClampNeg)) fun σ10 =>
    if g_in v2 41 then
    if ¬ (σ10.1 0 0 4) = 0 then
    if g_in (4 : Int32) 8 then
    g_let (g_sI σ10 10 0 (4 : Int32).toNatClampNeg ((σ10.1 1 u0 v2.toNatClampNeg) / (σ10.1 0 0 4))) fun σ11 =>
    if g_in v2 41 then
    if ¬ (σ11.1 0 0 4) = 0 then
    if g_in (5 : Int32) 8 then
    g_let (g_sI σ11 10 0 (5 : Int32).toNatClampNeg (g_rem (σ11.1 1 u0 v2.toNatClampNeg) (σ11.1 0 0 4))) fun σ12 =>
    if g_in (40 : Int32) 41 then
    if g_in (6 : Int32) 8 then
    g_let (g_sI σ12 10 0 (6 : Int32).toNatClampNeg (g_rem (σ12.1 1 u0 (40 : Int32).toNatClampNeg) (7 : Int32))) fun σ13 =>
    if g_in (7 : Int32) 8 then
    g_let (g_sI σ13 10 0 (7 : Int32).toNatClampNeg e4) fun σ14 =>
    g_b2 (mF_M_ruled σ14) fun x16 σ15 =>
    some ((g_max (0 : Int32) (g_min (9 : Int32) x16)), σ15)
  else none
  else none
  else none
  else none
  else none
  else none
  else none
  else none
  else none
  else none
  else none
  else none
  else none
  else none
  else none
  else none
/-- what reachBy answers, whatever the stack and the asked were -/
noncomputable def mR_reachBy (σ : g_S) (u0 : Nat) (v2 v3 : Int32) : Option Int32 := @dite _ (∃ r, ∀ σ0, g_agM σ0 σ → ∃ σ1, g_agM σ1 σ ∧ mF_M_reachBy σ0 u0 v2 v3 = some (r, σ1)) (Classical.propDecidable _) (fun h => some (Classical.choose h)) (fun _ => none)
noncomputable def mF_M_way (v0 : Int32) (v1 : Int32) : Option Int32 :=
  if (g_abs v0) ≤ ((2 : Int32) * (g_abs v1)) then
    if (g_abs v1) ≤ ((2 : Int32) * (g_abs v0)) then
    if 0 ≤ v0 then
    if 0 ≤ v1 then
    some (3 : Int32)
  else
    some (5 : Int32)
  else
    if 0 ≤ v1 then
    some (1 : Int32)
  else
    some (7 : Int32)
  else
    if 0 ≤ v1 then
    some (2 : Int32)
  else
    some (6 : Int32)
  else
    if 0 ≤ v0 then
    some (4 : Int32)
  else
    some (0 : Int32)
noncomputable def mF_M_eighthsBetween (v0 : Int32) (v1 : Int32) : Option Int32 :=
  g_let (g_abs (v0 - v1)) fun x1 =>
    some (g_min x1 ((8 : Int32) - x1))
noncomputable def mJ_M_isClear_75 (σ : g_S) (v2 : Int32) (v3 : Int32) (v4 : Int32) (v5 : Int32) (s0 : Int32) : Option ((Int32 × Int32 × Int32 × Int32) ⊕ Int32) :=
  if v5 = 0 then
    some (.inl (v3, v4, (0 : Int32), s0))
  else
    if s0 = 0 then
    some (.inl (v3, v4, (1 : Int32), s0))
  else
    if g_in (((σ.1 0 0 4) * v3) + v4) 49 then
    if (σ.1 3 0 (((σ.1 0 0 4) * v3) + v4).toNatClampNeg) = 0 then
    some (.inl (v3, v4, (1 : Int32), s0))
  else
    some (.inl (v3, v4, (0 : Int32), s0))
  else none
noncomputable def mB_M_isClear_21 (σ : g_S) (v2 : Int32) (v3 : Int32) (v4 : Int32) (v5 : Int32) (v6 : Int32) : Option ((Int32 × Int32 × Int32 × Int32) ⊕ Int32) :=
  if v6 = 0 then
    some (.inr v5)
  else
    if ¬ (σ.1 0 0 4) = 0 then
    (mF_J8_signum ((v2 / (σ.1 0 0 4)) - v3)).bind fun x3 =>
    g_let (v3 + x3) fun x4 =>
    if ¬ (σ.1 0 0 4) = 0 then
    (mF_J8_signum ((g_rem v2 (σ.1 0 0 4)) - v4)).bind fun x5 =>
    g_let (v4 + x5) fun x6 =>
    if (((σ.1 0 0 4) * x4) + x6) = v2 then
    (mJ_M_isClear_75 σ v2 x4 x6 v5 (0 : Int32))
  else
    (mJ_M_isClear_75 σ v2 x4 x6 v5 (1 : Int32))
  else none
  else none
noncomputable def mF_M_isClear (σ : g_S) (v1 : Int32) (v2 : Int32) : Option Int32 :=
  if ¬ (σ.1 0 0 4) = 0 then
    g_let (v1 / (σ.1 0 0 4)) fun x1 =>
    if ¬ (σ.1 0 0 4) = 0 then
    g_let (g_rem v1 (σ.1 0 0 4)) fun x2 =>
    (g_lp (fun v => mB_M_isClear_21 σ v2 v.1 v.2.1 v.2.2.1 v.2.2.2) g_fu (x1, x2, (1 : Int32), (1 : Int32))).bind fun e7 =>
    if e7 = 0 ∨ e7 = 1 then some e7 else none
  else none
  else none
noncomputable def mJ_M_seesBy_60 (σ : g_S) (v1 : Int32) (v2 : Int32) (v3 : Int32) (v4 : Int32) (v6 : Int32) (v7 : Int32) (s0 : Int32) : Option Int32 :=
  if s0 = 0 then
    some (0 : Int32)
  else
    (mF_M_way v6 v7).bind fun x3 =>
    (mF_M_eighthsBetween x3 v3).bind fun x4 =>
    if ((4 : Int32) - v4) < x4 then
    some (0 : Int32)
  else
    (mF_M_isClear σ v1 v2).bind fun x5 =>
    if x5 = 0 then
    some (0 : Int32)
  else
    some (1 : Int32)
noncomputable def mF_M_seesBy (σ : g_S) (v1 : Int32) (v2 : Int32) (v3 : Int32) (v4 : Int32) (v5 : Int32) : Option Int32 :=
  if v1 = v2 then
    some (1 : Int32)
  else
    if ¬ (σ.1 0 0 4) = 0 then
    if ¬ (σ.1 0 0 4) = 0 then
    g_let ((v2 / (σ.1 0 0 4)) - (v1 / (σ.1 0 0 4))) fun x1 =>
    if ¬ (σ.1 0 0 4) = 0 then
    if ¬ (σ.1 0 0 4) = 0 then
    g_let ((g_rem v2 (σ.1 0 0 4)) - (g_rem v1 (σ.1 0 0 4))) fun x2 =>
    if v5 < (g_max (g_abs x1) (g_abs x2)) then
    (mJ_M_seesBy_60 σ v1 v2 v3 v4 x1 x2 (0 : Int32))
  else
    (mJ_M_seesBy_60 σ v1 v2 v3 v4 x1 x2 (1 : Int32))
  else none
  else none
  else none
  else none
noncomputable def mB_M_fieldsSeen_19 (σ : g_S) (u0 : Nat) (v2 : Int32) (v3 : Int32) (v4 : Int64) (v6 : Int32) : Option ((Int64 × Int32) ⊕ Int64) :=
  (mF_M_fields σ).bind fun x2 =>
    if x2 ≤ v6 then
    some (.inr v4)
  else
    if g_in v2 41 then
    if g_in ((8 : Int32) + v2) 41 then
    if g_in ((16 : Int32) + v2) 41 then
    (mF_M_seesBy σ (σ.1 1 u0 v2.toNatClampNeg) v6 (σ.1 1 u0 ((8 : Int32) + v2).toNatClampNeg) (σ.1 1 u0 ((16 : Int32) + v2).toNatClampNeg) v3).bind fun x3 =>
    if x3 = 0 then
    g_let (v4 ||| (0 : Int64)) fun x4 =>
    g_let (v6 + (1 : Int32)) fun x5 =>
    some (.inl (x4, x5))
  else
    g_let (v4 ||| ((1 : Int64) <<< (v6.toInt64 &&& 63))) fun x6 =>
    g_let (v6 + (1 : Int32)) fun x7 =>
    some (.inl (x6, x7))
  else none
  else none
  else none
noncomputable def mF_M_fieldsSeen (σ : g_S) (u0 : Nat) (v2 : Int32) : Option Int64 :=
  if g_in ((16 : Int32) + v2) 41 then
    (mR_reachBy σ u0 v2 (σ.1 1 u0 ((16 : Int32) + v2).toNatClampNeg)).bind fun x1 =>
    (g_lp (fun v => mB_M_fieldsSeen_19 σ u0 v2 x1 v.1 v.2) g_fu ((0 : Int64), (0 : Int32))).bind fun e8 =>
    some e8
  else none
noncomputable def mF_M_has (v0 : Int64) (v2 : Int32) : Option Int32 :=
  if (lg_cmp ((v0 >>> (v2.toInt64 &&& 63)) &&& (1 : Int64)) (1 : Int64)) = 0 then
    some (1 : Int32)
  else
    some (0 : Int32)
noncomputable def mB_M_thingsOn_6 (σ : g_S) (u0 : Nat) (v2 : Int64) (v4 : Int32) (v5 : Int32) : Option ((Int32 × Int32) ⊕ Int32) :=
  if (σ.1 0 0 6) ≤ v5 then
    some (.inr v4)
  else
    if g_in ((32 : Int32) + v5) 41 then
    (mF_M_has v2 (σ.1 1 u0 ((32 : Int32) + v5).toNatClampNeg)).bind fun x1 =>
    if x1 = 0 then
    g_let (v4 ||| (0 : Int32)) fun x2 =>
    g_let (v5 + (1 : Int32)) fun x3 =>
    some (.inl (x2, x3))
  else
    g_let (v4 ||| ((1 : Int32) <<< (v5 &&& 31))) fun x4 =>
    g_let (v5 + (1 : Int32)) fun x5 =>
    some (.inl (x4, x5))
  else none
noncomputable def mF_M_thingsOn (σ : g_S) (u0 : Nat) (v2 : Int64) : Option Int32 :=
  (g_lp (fun v => mB_M_thingsOn_6 σ u0 v2 v.1 v.2) g_fu ((0 : Int32), (0 : Int32))).bind fun e6 =>
    some e6
noncomputable def mJ_M_person_25 (σ : g_S) : Option (Int32 × g_S) :=
  g_b2 (mF_M_refuse σ) fun x4 σ3 =>
    some (x4, σ3)
noncomputable def mF_M_person (σ : g_S) (v1 : Int32) (v2 : Int32) : Option (Int32 × g_S) :=
  g_let (g_sI σ 0 0 0 (0 : Int32)) fun σ1 =>
    (mF_M_isPerson σ1 v1).bind fun x2 =>
    if x2 = 0 then
    (mJ_M_person_25 σ1)
  else
    (mF_M_in (v2.toInt64) (0 : Int64) (5 : Int64)).bind fun x5 =>
    if x5 = 0 then
    (mJ_M_person_25 σ1)
  else
    if v2 = (0 : Int32) then
    if g_in v1 41 then
    some ((σ1.1 1 0 v1.toNatClampNeg), σ1)
  else none
  else if v2 = (1 : Int32) then
    if g_in ((8 : Int32) + v1) 41 then
    some ((σ1.1 1 0 ((8 : Int32) + v1).toNatClampNeg), σ1)
  else none
  else if v2 = (2 : Int32) then
    if g_in ((16 : Int32) + v1) 41 then
    some ((σ1.1 1 0 ((16 : Int32) + v1).toNatClampNeg), σ1)
  else none
  else if v2 = (3 : Int32) then
    if g_in ((24 : Int32) + v1) 41 then
    some ((σ1.1 1 0 ((24 : Int32) + v1).toNatClampNeg), σ1)
  else none
  else if v2 = (4 : Int32) then
    if g_in ((16 : Int32) + v1) 41 then
    (mR_reachBy σ1 0 v1 (σ1.1 1 0 ((16 : Int32) + v1).toNatClampNeg)).bind fun x6 =>
    some (x6, σ1)
  else none
  else (mF_M_fieldsSeen σ1 0 v1).bind fun x7 =>
    (mF_M_thingsOn σ1 0 x7).bind fun x8 =>
    some (x8, σ1)
noncomputable def mF_M_isThing (σ : g_S) (v1 : Int32) : Option Int32 :=
  (mF_M_in (v1.toInt64) (0 : Int64) (((σ.1 0 0 6) - (1 : Int32)).toInt64)).bind fun x1 =>
    if x1 = 0 ∨ x1 = 1 then some x1 else none
noncomputable def mB_M_knowing_5 (σ : g_S) (u0 : Nat) (v2 : Int32) (v3 : Int32) (v4 : Int32) : Option ((Int32 × Int32) ⊕ Int32) :=
  if (σ.1 0 0 5) ≤ v4 then
    some (.inr v3)
  else
    if g_in ((24 : Int32) + v4) 41 then
    (mF_M_has ((σ.1 1 u0 ((24 : Int32) + v4).toNatClampNeg).toInt64) v2).bind fun x1 =>
    if x1 = 0 then
    g_let (v3 ||| (0 : Int32)) fun x2 =>
    g_let (v4 + (1 : Int32)) fun x3 =>
    some (.inl (x2, x3))
  else
    g_let (v3 ||| ((1 : Int32) <<< (v4 &&& 31))) fun x4 =>
    g_let (v4 + (1 : Int32)) fun x5 =>
    some (.inl (x4, x5))
  else none
noncomputable def mF_M_knowing (σ : g_S) (u0 : Nat) (v2 : Int32) : Option Int32 :=
  (g_lp (fun v => mB_M_knowing_5 σ u0 v2 v.1 v.2) g_fu ((0 : Int32), (0 : Int32))).bind fun e6 =>
    some e6
noncomputable def mF_M_doesSee (σ : g_S) (u0 : Nat) (v2 : Int32) (v3 : Int32) : Option Int32 :=
  if g_in v2 41 then
    if g_in ((8 : Int32) + v2) 41 then
    if g_in ((16 : Int32) + v2) 41 then
    if g_in ((16 : Int32) + v2) 41 then
    (mR_reachBy σ u0 v2 (σ.1 1 u0 ((16 : Int32) + v2).toNatClampNeg)).bind fun x1 =>
    (mF_M_seesBy σ (σ.1 1 u0 v2.toNatClampNeg) v3 (σ.1 1 u0 ((8 : Int32) + v2).toNatClampNeg) (σ.1 1 u0 ((16 : Int32) + v2).toNatClampNeg) x1).bind fun x2 =>
    if x2 = 0 ∨ x2 = 1 then some x2 else none
  else none
  else none
  else none
  else none
noncomputable def mB_M_whoSees_5 (σ : g_S) (u0 : Nat) (v2 : Int32) (v3 : Int32) (v4 : Int32) : Option ((Int32 × Int32) ⊕ Int32) :=
  if (σ.1 0 0 5) ≤ v4 then
    some (.inr v3)
  else
    (mF_M_doesSee σ u0 v4 v2).bind fun x1 =>
    if x1 = 0 then
    g_let (v3 ||| (0 : Int32)) fun x2 =>
    g_let (v4 + (1 : Int32)) fun x3 =>
    some (.inl (x2, x3))
  else
    g_let (v3 ||| ((1 : Int32) <<< (v4 &&& 31))) fun x4 =>
    g_let (v4 + (1 : Int32)) fun x5 =>
    some (.inl (x4, x5))
noncomputable def mF_M_whoSees (σ : g_S) (u0 : Nat) (v2 : Int32) : Option Int32 :=
  (g_lp (fun v => mB_M_whoSees_5 σ u0 v2 v.1 v.2) g_fu ((0 : Int32), (0 : Int32))).bind fun e6 =>
    some e6
noncomputable def mJ_M_thing_25 (σ : g_S) : Option (Int32 × g_S) :=
  g_b2 (mF_M_refuse σ) fun x4 σ3 =>
    some (x4, σ3)
noncomputable def mF_M_thing (σ : g_S) (v1 : Int32) (v2 : Int32) : Option (Int32 × g_S) :=
  g_let (g_sI σ 0 0 0 (0 : Int32)) fun σ1 =>
    (mF_M_isThing σ1 v1).bind fun x2 =>
    if x2 = 0 then
    (mJ_M_thing_25 σ1)
  else
    (mF_M_in (v2.toInt64) (0 : Int64) (2 : Int64)).bind fun x5 =>
    if x5 = 0 then
    (mJ_M_thing_25 σ1)
  else
    if v2 = 0 then
    if g_in ((32 : Int32) + v1) 41 then
    some ((σ1.1 1 0 ((32 : Int32) + v1).toNatClampNeg), σ1)
  else none
  else
    if v2 = (1 : Int32) then
    (mF_M_knowing σ1 0 v1).bind fun x7 =>
    some (x7, σ1)
  else
    if g_in ((32 : Int32) + v1) 41 then
    (mF_M_whoSees σ1 0 (σ1.1 1 0 ((32 : Int32) + v1).toNatClampNeg)).bind fun x6 =>
    some (x6, σ1)
  else none
noncomputable def mJ_M_sheet_114 (σ : g_S) (v1 : Int32) (v2 : Int32) (v4 : Int32) (v5 : Int32) (v6 : Int32) (v7 : Int32) (s1 : Int32) (s2 : Int32) : Option ((Int32 × Int32 × Int32 × g_S) ⊕ (Int32 × g_S)) :=
  if g_in s1 41 then
    g_let (g_sI σ 1 0 s1.toNatClampNeg s2) fun σ3 =>
    if g_in ((16 : Int32) + v7) 41 then
    g_let (v5 + (σ3.1 1 0 ((16 : Int32) + v7).toNatClampNeg)) fun x4 =>
    g_let (v6 + v4) fun x5 =>
    g_let (v7 + (1 : Int32)) fun x6 =>
    some (.inl (x4, x5, x6, σ3))
  else none
  else none
noncomputable def mJ_M_sheet_100 (σ : g_S) (v1 : Int32) (v2 : Int32) (v4 : Int32) (v5 : Int32) (v6 : Int32) (v7 : Int32) (s1 : Int32) : Option ((Int32 × Int32 × Int32 × g_S) ⊕ (Int32 × g_S)) :=
  (mJ_M_sheet_114 σ v1 v2 v4 v5 v6 v7 s1 (0 : Int32))
noncomputable def mJ_M_sheet_78 (σ : g_S) (v1 : Int32) (v2 : Int32) (v4 : Int32) (v5 : Int32) (v6 : Int32) (v7 : Int32) (s0 : Int32) : Option ((Int32 × Int32 × Int32 × g_S) ⊕ (Int32 × g_S)) :=
  if v1 = (3 : Int32) then
    (mJ_M_sheet_100 σ v1 v2 v4 v5 v6 v7 ((16 : Int32) + v7))
  else
    if v7 < v2 then
    (mJ_M_sheet_114 σ v1 v2 v4 v5 v6 v7 ((16 : Int32) + v7) (g_max (0 : Int32) (g_min (4 : Int32) s0)))
  else
    (mJ_M_sheet_100 σ v1 v2 v4 v5 v6 v7 ((16 : Int32) + v7))
noncomputable def mB_M_sheet_46 (σ : g_S) (v1 : Int32) (v2 : Int32) (v4 : Int32) (v5 : Int32) (v6 : Int32) (v7 : Int32) : Option ((Int32 × Int32 × Int32 × g_S) ⊕ (Int32 × g_S)) :=
  if (σ.1 0 0 5) ≤ v7 then
    some (.inr (v5, σ))
  else
    if v1 = 0 then
    (mJ_M_sheet_78 σ v1 v2 v4 v5 v6 v7 (v6.toInt8.toInt32))
  else
    if v1 = (1 : Int32) then
    (mJ_M_sheet_78 σ v1 v2 v4 v5 v6 v7 (v6.toInt16.toInt32))
  else
    (mJ_M_sheet_78 σ v1 v2 v4 v5 v6 v7 v6)
noncomputable def mJ_M_sheet_37 (σ : g_S) (v1 : Int32) (v2 : Int32) (v3 : Int32) (v4 : Int32) : Option (Int32 × g_S) :=
  (g_lp (fun v => mB_M_sheet_46 v.2.2.2 v1 v2 v4 v.1 v.2.1 v.2.2.1) g_fu ((0 : Int32), v3, (0 : Int32), σ)).bind fun e7 =>
    if v1 = (3 : Int32) then
    some ((-3 : Int32), e7.2)
  else
    some (e7.1, e7.2)
noncomputable def mF_M_sheet (σ : g_S) (v1 : Int32) (v2 : Int32) (v3 : Int32) (v4 : Int32) : Option (Int32 × g_S) :=
  g_let (g_sI σ 0 0 0 (0 : Int32)) fun σ1 =>
    (mF_M_in (v1.toInt64) (0 : Int64) (3 : Int64)).bind fun x2 =>
    if x2 = 0 then
    some ((-1 : Int32), σ1)
  else
    if v2 ≤ (8 : Int32) then
    if v1 = (3 : Int32) then
    (mJ_M_sheet_37 σ1 v1 v2 v3 v4)
  else
    if 0 ≤ v2 then
    (mJ_M_sheet_37 σ1 v1 v2 v3 v4)
  else
    some ((-2 : Int32), σ1)
  else
    some ((-1 : Int32), σ1)
noncomputable def mB_M_undo_26 (σ : g_S) (v1 : Int32) : Option ((Int32 × g_S) ⊕ g_S) :=
  if (41 : Int32) ≤ v1 then
    some (.inr σ)
  else
    if g_in (((41 : Int32) * (σ.1 0 0 27)) + v1) 656 then
    if g_in v1 41 then
    g_let (g_sI σ 1 0 v1.toNatClampNeg (σ.1 11 0 (((41 : Int32) * (σ.1 0 0 27)) + v1).toNatClampNeg)) fun σ3 =>
    g_let (v1 + (1 : Int32)) fun x4 =>
    some (.inl (x4, σ3))
  else none
  else none
noncomputable def mF_M_undo (σ : g_S) : Option (Int32 × g_S) :=
  g_let (g_sI σ 0 0 0 (0 : Int32)) fun σ1 =>
    if (σ1.1 0 0 27) = 0 then
    some ((-1 : Int32), σ1)
  else
    g_let (g_sI σ1 0 0 27 ((σ1.1 0 0 27) - (1 : Int32))) fun σ2 =>
    (g_lp (fun v => mB_M_undo_26 v.2 v.1) g_fu ((0 : Int32), σ2)).bind fun e5 =>
    some ((e5.1 0 0 27), e5)
noncomputable def mB_M_putsBy_2 (σ : g_S) (v1 : Int32) : Option ((Int32 × g_S) ⊕ g_S) :=
  if (41 : Int32) ≤ v1 then
    some (.inr σ)
  else
    if g_in v1 41 then
    if g_in (((41 : Int32) * (σ.1 0 0 27)) + v1) 656 then
    g_let (g_sI σ 11 0 (((41 : Int32) * (σ.1 0 0 27)) + v1).toNatClampNeg (σ.1 1 0 v1.toNatClampNeg)) fun σ1 =>
    g_let (v1 + (1 : Int32)) fun x2 =>
    some (.inl (x2, σ1))
  else none
  else none
noncomputable def mF_M_putsBy (σ : g_S) : Option g_S :=
  (g_lp (fun v => mB_M_putsBy_2 v.2 v.1) g_fu ((0 : Int32), σ)).bind fun e3 =>
    some e3
noncomputable def mB_M_known_4 (σ : g_S) (u0 : Nat) (v2 : Int32) (v3 : Int32) : Option ((Int32 × Int32) ⊕ Int32) :=
  if (σ.1 0 0 5) ≤ v3 then
    some (.inr v2)
  else
    if g_in ((24 : Int32) + v3) 41 then
    (mF_J8_bitCount (σ.1 1 u0 ((24 : Int32) + v3).toNatClampNeg)).bind fun x1 =>
    g_let (v2 + x1) fun x2 =>
    g_let (v3 + (1 : Int32)) fun x3 =>
    some (.inl (x2, x3))
  else none
noncomputable def mF_M_known (σ : g_S) (u0 : Nat) : Option Int32 :=
  (g_lp (fun v => mB_M_known_4 σ u0 v.1 v.2) g_fu ((0 : Int32), (0 : Int32))).bind fun e4 =>
    some e4
noncomputable def mF_M_seeEachOther (σ : g_S) (u0 : Nat) (v2 : Int32) (v3 : Int32) : Option Int32 :=
  if g_in v3 41 then
    (mF_M_doesSee σ u0 v2 (σ.1 1 u0 v3.toNatClampNeg)).bind fun x1 =>
    if x1 = 0 then
    some (0 : Int32)
  else
    if g_in v2 41 then
    (mF_M_doesSee σ u0 v3 (σ.1 1 u0 v2.toNatClampNeg)).bind fun x2 =>
    if x2 = 0 then
    some (0 : Int32)
  else
    some (1 : Int32)
  else none
  else none
noncomputable def mJ_M_tellEachOther_53 (σ : g_S) (u0 : Nat) (v2 : Int32) (v3 : Int32) (s0 : Int32) : Option Int32 :=
  if s0 = 0 then
    some (0 : Int32)
  else
    (mF_M_seeEachOther σ u0 v2 v3).bind fun x1 =>
    if x1 = 0 then
    some (0 : Int32)
  else
    some (1 : Int32)
noncomputable def mJ_M_tellEachOther_52 (σ : g_S) (u0 : Nat) (v2 : Int32) (v3 : Int32) : Option Int32 :=
  (mJ_M_tellEachOther_53 σ u0 v2 v3 (0 : Int32))
noncomputable def mF_M_tellEachOther (σ : g_S) (u0 : Nat) (v2 : Int32) (v3 : Int32) : Option Int32 :=
  if g_in v2 41 then
    if ¬ (σ.1 0 0 4) = 0 then
    if g_in v3 41 then
    if ¬ (σ.1 0 0 4) = 0 then
    if (2 : Int32) ≤ (g_abs (((σ.1 1 u0 v2.toNatClampNeg) / (σ.1 0 0 4)) - ((σ.1 1 u0 v3.toNatClampNeg) / (σ.1 0 0 4)))) then
    (mJ_M_tellEachOther_52 σ u0 v2 v3)
  else
    if g_in v2 41 then
    if ¬ (σ.1 0 0 4) = 0 then
    if g_in v3 41 then
    if ¬ (σ.1 0 0 4) = 0 then
    if (2 : Int32) ≤ (g_abs ((g_rem (σ.1 1 u0 v2.toNatClampNeg) (σ.1 0 0 4)) - (g_rem (σ.1 1 u0 v3.toNatClampNeg) (σ.1 0 0 4)))) then
    (mJ_M_tellEachOther_52 σ u0 v2 v3)
  else
    (mJ_M_tellEachOther_53 σ u0 v2 v3 (1 : Int32))
  else none
  else none
  else none
  else none
  else none
  else none
  else none
  else none
noncomputable def mB_M_hourGoes_2 (σ : g_S) (u0 : Nat) (v2 : Int32) : Option ((Int32 × g_S) ⊕ g_S) :=
  if (σ.1 0 0 5) ≤ v2 then
    some (.inr σ)
  else
    if g_in ((24 : Int32) + v2) 41 then
    (mF_M_fieldsSeen σ u0 v2).bind fun x1 =>
    (mF_M_thingsOn σ u0 x1).bind fun x2 =>
    if g_in v2 8 then
    g_let (g_sI σ 12 0 v2.toNatClampNeg ((σ.1 1 u0 ((24 : Int32) + v2).toNatClampNeg) ||| x2)) fun σ3 =>
    g_let (v2 + (1 : Int32)) fun x4 =>
    some (.inl (x4, σ3))
  else none
  else none
noncomputable def mB_M_hourGoes_54 (σ : g_S) (u0 : Nat) (v2 : Int32) (v3 : Int32) : Option ((Int32 × g_S) ⊕ g_S) :=
  if (σ.1 0 0 5) ≤ v3 then
    some (.inr σ)
  else
    (mF_M_tellEachOther σ u0 v2 v3).bind fun x7 =>
    if x7 = 0 then
    g_let (v3 + (1 : Int32)) fun x8 =>
    some (.inl (x8, σ))
  else
    if g_in v2 8 then
    if g_in ((24 : Int32) + v3) 41 then
    if g_in v2 8 then
    g_let (g_sI σ 12 0 v2.toNatClampNeg ((σ.1 12 0 v2.toNatClampNeg) ||| (σ.1 1 u0 ((24 : Int32) + v3).toNatClampNeg))) fun σ9 =>
    if g_in v3 8 then
    if g_in ((24 : Int32) + v2) 41 then
    if g_in v3 8 then
    g_let (g_sI σ9 12 0 v3.toNatClampNeg ((σ9.1 12 0 v3.toNatClampNeg) ||| (σ9.1 1 u0 ((24 : Int32) + v2).toNatClampNeg))) fun σ10 =>
    g_let (v3 + (1 : Int32)) fun x11 =>
    some (.inl (x11, σ10))
  else none
  else none
  else none
  else none
  else none
  else none
noncomputable def mB_M_hourGoes_42 (σ : g_S) (u0 : Nat) (v2 : Int32) : Option ((Int32 × g_S) ⊕ g_S) :=
  if (σ.1 0 0 5) ≤ v2 then
    some (.inr σ)
  else
    g_let (v2 + (1 : Int32)) fun x6 =>
    (g_lp (fun v => mB_M_hourGoes_54 v.2 u0 v2 v.1) g_fu (x6, σ)).bind fun e12 =>
    g_let (v2 + (1 : Int32)) fun x13 =>
    some (.inl (x13, e12))
noncomputable def mB_M_hourGoes_116 (σ : g_S) (u0 : Nat) (v2 : Int32) : Option ((Int32 × g_S) ⊕ g_S) :=
  if (σ.1 0 0 5) ≤ v2 then
    some (.inr σ)
  else
    if g_in v2 8 then
    if g_in ((24 : Int32) + v2) 41 then
    g_let (g_sI σ 1 u0 ((24 : Int32) + v2).toNatClampNeg (σ.1 12 0 v2.toNatClampNeg)) fun σ15 =>
    g_let (v2 + (1 : Int32)) fun x16 =>
    some (.inl (x16, σ15))
  else none
  else none
noncomputable def mF_M_hourGoes (σ : g_S) (u0 : Nat) : Option g_S :=
  (g_lp (fun v => mB_M_hourGoes_2 v.2 u0 v.1) g_fu ((0 : Int32), σ)).bind fun e5 =>
    (g_lp (fun v => mB_M_hourGoes_42 v.2 u0 v.1) g_fu ((0 : Int32), e5)).bind fun e14 =>
    (g_lp (fun v => mB_M_hourGoes_116 v.2 u0 v.1) g_fu ((0 : Int32), e14)).bind fun e17 =>
    if g_in (40 : Int32) 41 then
    if g_in (40 : Int32) 41 then
    g_let (g_sI e17 1 u0 (40 : Int32).toNatClampNeg ((e17.1 1 u0 (40 : Int32).toNatClampNeg) + (1 : Int32))) fun σ18 =>
    some σ18
  else none
  else none
noncomputable def mB_M_goesOn_2 (σ : g_S) (u0 : Nat) (v2 : Int32) (v3 : Int32) : Option ((Int32 × g_S) ⊕ g_S) :=
  if v2 ≤ v3 then
    some (.inr σ)
  else
    (mF_M_hourGoes σ u0).bind fun σ1 =>
    g_let (v3 + (1 : Int32)) fun x2 =>
    some (.inl (x2, σ1))
noncomputable def mF_M_goesOn (σ : g_S) (u0 : Nat) (v2 : Int32) : Option g_S :=
  (g_lp (fun v => mB_M_goesOn_2 v.2 u0 v2 v.1) g_fu ((0 : Int32), σ)).bind fun e3 =>
    some e3
noncomputable def mF_M_enters (σ : g_S) (v1 : Int64) : Option g_S :=
  if g_in (σ.1 0 0 1) 53 then
    g_let (g_sL σ 2 0 (σ.1 0 0 1).toNatClampNeg v1) fun σ1 =>
    g_let (g_sI σ1 0 0 1 ((σ1.1 0 0 1) + (1 : Int32))) fun σ2 =>
    some σ2
  else none
noncomputable def mB_M_adds_21 (σ : g_S) (v1 : Int32) (v2 : Int32) : Option ((Int32 × g_S) ⊕ g_S) :=
  if (615 : Int32) ≤ v2 then
    some (.inr σ)
  else
    if g_in (v2 + (41 : Int32)) 656 then
    if g_in v2 656 then
    g_let (g_sI σ 11 0 v2.toNatClampNeg (σ.1 11 0 (v2 + (41 : Int32)).toNatClampNeg)) fun σ2 =>
    g_let (v2 + (1 : Int32)) fun x3 =>
    some (.inl (x3, σ2))
  else none
  else none
noncomputable def mF_M_adds (σ : g_S) (v1 : Int32) : Option (Int32 × g_S) :=
  g_let (g_sI σ 0 0 27 ((σ.1 0 0 27) + (1 : Int32))) fun σ1 =>
    if (σ1.1 0 0 27) ≤ (15 : Int32) then
    some (v1, σ1)
  else
    (g_lp (fun v => mB_M_adds_21 v.2 v1 v.1) g_fu ((0 : Int32), σ1)).bind fun e4 =>
    g_let (g_sI e4 0 0 27 ((e4.1 0 0 27) - (1 : Int32))) fun σ5 =>
    some (v1, σ5)
noncomputable def mB_M_hours_46 (σ : g_S) (v2 : Int32) (v3 : Int32) (v4 : Int32) : Option ((Int32 × Int32) ⊕ Int32) :=
  if (σ.1 0 0 5) ≤ v4 then
    some (.inr v3)
  else
    if g_in ((24 : Int32) + v4) 41 then
    g_let (v3 ||| (σ.1 1 0 ((24 : Int32) + v4).toNatClampNeg)) fun x6 =>
    g_let (v4 + (1 : Int32)) fun x7 =>
    some (.inl (x6, x7))
  else none
noncomputable def mF_M_hours (σ : g_S) (v1 : Int32) : Option (Int32 × g_S) :=
  g_let (g_sI σ 0 0 0 (0 : Int32)) fun σ1 =>
    (mF_M_in (v1.toInt64) (0 : Int64) (60 : Int64)).bind fun x2 =>
    if x2 = 0 then
    some ((-1 : Int32), σ1)
  else
    (mF_M_putsBy σ1).bind fun σ3 =>
    (mF_M_known σ3 0).bind fun x4 =>
    (mF_M_goesOn σ3 0 v1).bind fun σ5 =>
    (g_lp (fun v => mB_M_hours_46 σ5 x4 v.1 v.2) g_fu ((0 : Int32), (0 : Int32))).bind fun e8 =>
    g_let (g_sI σ5 0 0 1 (0 : Int32)) fun σ9 =>
    (mF_M_known σ9 0).bind fun x10 =>
    (mF_M_enters σ9 ((x10 - x4).toInt64)).bind fun σ11 =>
    (mF_M_enters σ11 (e8.toInt64)).bind fun σ12 =>
    (mF_M_known σ12 0).bind fun x13 =>
    g_b2 (mF_M_adds σ12 x13) fun x15 σ14 =>
    some (x15, σ14)
noncomputable def mF_M_facesOne (σ : g_S) (u0 : Nat) (v2 : Int32) (v3 : Int32) : Option (Int32 × g_S) :=
  (mF_M_isPerson σ v2).bind fun x1 =>
    if x1 = 0 then
    some ((-1 : Int32), σ)
  else
    (mF_M_in (v3.toInt64) (0 : Int64) (7 : Int64)).bind fun x2 =>
    if x2 = 0 then
    some ((-1 : Int32), σ)
  else
    if g_in ((8 : Int32) + v2) 41 then
    (mF_M_eighthsBetween (σ.1 1 u0 ((8 : Int32) + v2).toNatClampNeg) v3).bind fun x3 =>
    if g_in ((8 : Int32) + v2) 41 then
    g_let (g_sI σ 1 u0 ((8 : Int32) + v2).toNatClampNeg v3) fun σ4 =>
    some (x3, σ4)
  else none
  else none
noncomputable def mF_M_counted (σ : g_S) (v1 : Int32) : Option (Int32 × g_S) :=
  if 0 ≤ v1 then
    g_b2 (mF_M_adds σ v1) fun x2 σ1 =>
    some (x2, σ1)
  else
    some (v1, σ)
noncomputable def mF_M_faces (σ : g_S) (v1 : Int32) (v2 : Int32) : Option (Int32 × g_S) :=
  g_let (g_sI σ 0 0 0 (0 : Int32)) fun σ1 =>
    (mF_M_putsBy σ1).bind fun σ2 =>
    g_b2 (mF_M_facesOne σ2 0 v1 v2) fun x4 σ3 =>
    g_b2 (mF_M_counted σ3 x4) fun x6 σ5 =>
    some (x6, σ5)
noncomputable def mJ_M_beside_68 (σ : g_S) (v3 : Int32) (s0 : Int32) (s1 : Int32) : Option Int32 :=
  g_let (s0 + s1) fun x2 =>
    (mF_M_in (v3.toInt64) (0 : Int64) (((σ.1 0 0 3) - (1 : Int32)).toInt64)).bind fun x3 =>
    if x3 = 0 then
    some (-1 : Int32)
  else
    (mF_M_in (x2.toInt64) (0 : Int64) (((σ.1 0 0 4) - (1 : Int32)).toInt64)).bind fun x4 =>
    if x4 = 0 then
    some (-1 : Int32)
  else
    some (((σ.1 0 0 4) * v3) + x2)
noncomputable def mJ_M_beside_58 (σ : g_S) (v2 : Int32) (v3 : Int32) (s0 : Int32) : Option Int32 :=
  if v2 ≤ (4 : Int32) then
    (mJ_M_beside_68 σ v3 s0 (0 : Int32))
  else
    (mJ_M_beside_68 σ v3 s0 (-1 : Int32))
noncomputable def mJ_M_beside_37 (σ : g_S) (v1 : Int32) (v2 : Int32) (s0 : Int32) (s1 : Int32) : Option Int32 :=
  g_let (s0 + s1) fun x1 =>
    if ¬ (σ.1 0 0 4) = 0 then
    if v2 ≤ 0 then
    (mJ_M_beside_58 σ v2 x1 (g_rem v1 (σ.1 0 0 4)))
  else
    if (4 : Int32) ≤ v2 then
    (mJ_M_beside_58 σ v2 x1 (g_rem v1 (σ.1 0 0 4)))
  else
    (mJ_M_beside_68 σ x1 (g_rem v1 (σ.1 0 0 4)) (1 : Int32))
  else none
noncomputable def mJ_M_beside_17 (σ : g_S) (v1 : Int32) (v2 : Int32) (s0 : Int32) : Option Int32 :=
  (mJ_M_beside_37 σ v1 v2 s0 (-1 : Int32))
noncomputable def mJ_M_beside_36 (σ : g_S) (v1 : Int32) (v2 : Int32) (s0 : Int32) : Option Int32 :=
  (mJ_M_beside_37 σ v1 v2 s0 (0 : Int32))
noncomputable def mF_M_beside (σ : g_S) (v1 : Int32) (v2 : Int32) : Option Int32 :=
  if ¬ (σ.1 0 0 4) = 0 then
    if v2 = (7 : Int32) then
    (mJ_M_beside_17 σ v1 v2 (v1 / (σ.1 0 0 4)))
  else
    if (2 : Int32) ≤ v2 then
    if v2 ≤ (2 : Int32) then
    (mJ_M_beside_36 σ v1 v2 (v1 / (σ.1 0 0 4)))
  else
    if (6 : Int32) ≤ v2 then
    (mJ_M_beside_36 σ v1 v2 (v1 / (σ.1 0 0 4)))
  else
    (mJ_M_beside_37 σ v1 v2 (v1 / (σ.1 0 0 4)) (1 : Int32))
  else
    (mJ_M_beside_17 σ v1 v2 (v1 / (σ.1 0 0 4)))
  else none
noncomputable def mF_M_stepsOne (σ : g_S) (u0 : Nat) (v2 : Int32) (v3 : Int32) : Option (Int32 × g_S) :=
  (mF_M_isPerson σ v2).bind fun x1 =>
    if x1 = 0 then
    some ((-1 : Int32), σ)
  else
    (mF_M_in (v3.toInt64) (0 : Int64) (7 : Int64)).bind fun x2 =>
    if x2 = 0 then
    some ((-1 : Int32), σ)
  else
    if g_in v2 41 then
    (mF_M_beside σ (σ.1 1 u0 v2.toNatClampNeg) v3).bind fun x3 =>
    if x3 < 0 then
    some ((-2 : Int32), σ)
  else
    if g_in x3 49 then
    if (σ.1 3 0 x3.toNatClampNeg) = 0 then
    if g_in v2 41 then
    g_let (g_sI σ 1 u0 v2.toNatClampNeg x3) fun σ4 =>
    some (x3, σ4)
  else none
  else
    some ((-2 : Int32), σ)
  else none
  else none
noncomputable def mF_M_steps (σ : g_S) (v1 : Int32) (v2 : Int32) : Option (Int32 × g_S) :=
  g_let (g_sI σ 0 0 0 (0 : Int32)) fun σ1 =>
    (mF_M_putsBy σ1).bind fun σ2 =>
    g_b2 (mF_M_stepsOne σ2 0 v1 v2) fun x4 σ3 =>
    g_b2 (mF_M_counted σ3 x4) fun x6 σ5 =>
    some (x6, σ5)
noncomputable def mF_M_trimsOne (σ : g_S) (v1 : Int32) (v2 : Int32) : Option (Int32 × g_S) :=
  (mF_M_isPerson σ v1).bind fun x1 =>
    if x1 = 0 then
    some ((-1 : Int32), σ)
  else
    (mF_M_in (v2.toInt64) (0 : Int64) (4 : Int64)).bind fun x2 =>
    if x2 = 0 then
    some ((-1 : Int32), σ)
  else
    if g_in ((16 : Int32) + v1) 41 then
    g_let (σ.1 1 0 ((16 : Int32) + v1).toNatClampNeg) fun x3 =>
    if g_in ((16 : Int32) + v1) 41 then
    g_let (g_sI σ 1 0 ((16 : Int32) + v1).toNatClampNeg v2) fun σ4 =>
    some (x3, σ4)
  else none
  else none
noncomputable def mF_M_trims (σ : g_S) (v1 : Int32) (v2 : Int32) : Option (Int32 × g_S) :=
  g_let (g_sI σ 0 0 0 (0 : Int32)) fun σ1 =>
    (mF_M_putsBy σ1).bind fun σ2 =>
    g_b2 (mF_M_trimsOne σ2 v1 v2) fun x4 σ3 =>
    g_b2 (mF_M_counted σ3 x4) fun x6 σ5 =>
    some (x6, σ5)
noncomputable def mF_M_isField (σ : g_S) (v1 : Int32) : Option Int32 :=
  (mF_M_fields σ).bind fun x1 =>
    (mF_M_in (v1.toInt64) (0 : Int64) ((x1 - (1 : Int32)).toInt64)).bind fun x2 =>
    if x2 = 0 ∨ x2 = 1 then some x2 else none
noncomputable def mF_M_putsOne (σ : g_S) (v1 : Int32) (v2 : Int32) : Option (Int32 × g_S) :=
  (mF_M_isThing σ v1).bind fun x1 =>
    if x1 = 0 then
    some ((-1 : Int32), σ)
  else
    (mF_M_isField σ v2).bind fun x2 =>
    if x2 = 0 then
    some ((-1 : Int32), σ)
  else
    if g_in ((32 : Int32) + v1) 41 then
    g_let (σ.1 1 0 ((32 : Int32) + v1).toNatClampNeg) fun x3 =>
    if g_in ((32 : Int32) + v1) 41 then
    g_let (g_sI σ 1 0 ((32 : Int32) + v1).toNatClampNeg v2) fun σ4 =>
    if x3 = v2 then
    some ((-2 : Int32), σ4)
  else
    some (x3, σ4)
  else none
  else none
noncomputable def mF_M_puts (σ : g_S) (v1 : Int32) (v2 : Int32) : Option (Int32 × g_S) :=
  g_let (g_sI σ 0 0 0 (0 : Int32)) fun σ1 =>
    (mF_M_putsBy σ1).bind fun σ2 =>
    g_b2 (mF_M_putsOne σ2 v1 v2) fun x4 σ3 =>
    g_b2 (mF_M_counted σ3 x4) fun x6 σ5 =>
    some (x6, σ5)
noncomputable def mJ_M_readsAct_68 (σ : g_S) (v1 : Int32) : Option (Int32 × g_S) :=
  if g_in v1 60 then
    if (σ.1 14 0 v1.toNatClampNeg) < 0 then
    some ((0 : Int32), σ)
  else
    some ((1 : Int32), σ)
  else none
noncomputable def mJ_M_readsAct_113 (σ : g_S) (v1 : Int32) : Option (Int32 × g_S) :=
  if g_in v1 60 then
    if (σ.1 15 0 v1.toNatClampNeg) < 0 then
    some ((0 : Int32), σ)
  else
    some ((1 : Int32), σ)
  else none
noncomputable def mF_M_readsAct (σ : g_S) : Option (Int32 × g_S) :=
  g_let (σ.1 0 0 34) fun x1 =>
    g_b2 (mF_M_takesOf σ 5) fun x3 σ2 =>
    if g_in x1 60 then
    g_let (g_sI σ2 13 0 x1.toNatClampNeg x3) fun σ4 =>
    g_let (g_sI σ4 0 0 34 ((σ4.1 0 0 34) + (1 : Int32))) fun σ5 =>
    if g_in x1 60 then
    if 0 ≤ (σ5.1 13 0 x1.toNatClampNeg) then
    g_b2 (mF_M_number σ5 (1 : Int32)) fun x7 σ6 =>
    if g_in x1 60 then
    g_let (g_sI σ6 14 0 x1.toNatClampNeg x7) fun σ8 =>
    if g_in x1 60 then
    if (σ8.1 14 0 x1.toNatClampNeg) < 0 then
    (mJ_M_readsAct_68 σ8 x1)
  else
    if g_in x1 60 then
    if (σ8.1 13 0 x1.toNatClampNeg) = 0 then
    (mJ_M_readsAct_68 σ8 x1)
  else
    g_b2 (mF_M_number σ8 (1 : Int32)) fun x10 σ9 =>
    if g_in x1 60 then
    g_let (g_sI σ9 15 0 x1.toNatClampNeg x10) fun σ11 =>
    if g_in x1 60 then
    if (σ11.1 15 0 x1.toNatClampNeg) < 0 then
    (mJ_M_readsAct_113 σ11 x1)
  else
    if g_in x1 60 then
    if (4 : Int32) ≤ (σ11.1 13 0 x1.toNatClampNeg) then
    g_b2 (mF_M_number σ11 (1 : Int32)) fun x13 σ12 =>
    if g_in x1 60 then
    g_let (g_sI σ12 16 0 x1.toNatClampNeg x13) fun σ14 =>
    if g_in x1 60 then
    if (σ14.1 16 0 x1.toNatClampNeg) < 0 then
    some ((0 : Int32), σ14)
  else
    some ((1 : Int32), σ14)
  else none
  else none
  else
    (mJ_M_readsAct_113 σ11 x1)
  else none
  else none
  else none
  else none
  else none
  else none
  else
    some ((0 : Int32), σ5)
  else none
  else none
noncomputable def mJ_M_does_154 (σ : g_S) (v1 : Int32) (v2 : Int32) (s0 : Int32) : Option (Int32 × g_S) :=
  if s0 = 0 then
    some ((0 : Int32), σ)
  else
    if g_in v1 60 then
    if g_in v1 60 then
    g_b2 (mF_M_putsOne σ v2 (((σ.1 0 0 4) * (σ.1 15 0 v1.toNatClampNeg)) + (σ.1 16 0 v1.toNatClampNeg))) fun x10 σ9 =>
    if x10 < 0 then
    some ((0 : Int32), σ9)
  else
    some ((1 : Int32), σ9)
  else none
  else none
noncomputable def mJ_M_does_153 (σ : g_S) (v1 : Int32) (v2 : Int32) : Option (Int32 × g_S) :=
  (mJ_M_does_154 σ v1 v2 (0 : Int32))
noncomputable def mF_M_does (σ : g_S) (v1 : Int32) : Option (Int32 × g_S) :=
  if g_in v1 60 then
    g_let (σ.1 14 0 v1.toNatClampNeg) fun x1 =>
    if g_in v1 60 then
    if (σ.1 13 0 v1.toNatClampNeg) = (0 : Int32) then
    (mF_M_goesOn σ 0 x1).bind fun σ2 =>
    some ((1 : Int32), σ2)
  else if (σ.1 13 0 v1.toNatClampNeg) = (1 : Int32) then
    if g_in v1 60 then
    g_b2 (mF_M_facesOne σ 0 x1 (σ.1 15 0 v1.toNatClampNeg)) fun x4 σ3 =>
    if x4 < 0 then
    some ((0 : Int32), σ3)
  else
    some ((1 : Int32), σ3)
  else none
  else if (σ.1 13 0 v1.toNatClampNeg) = (2 : Int32) then
    if g_in v1 60 then
    g_b2 (mF_M_stepsOne σ 0 x1 (σ.1 15 0 v1.toNatClampNeg)) fun x6 σ5 =>
    if x6 < 0 then
    some ((0 : Int32), σ5)
  else
    some ((1 : Int32), σ5)
  else none
  else if (σ.1 13 0 v1.toNatClampNeg) = (3 : Int32) then
    if g_in v1 60 then
    g_b2 (mF_M_trimsOne σ x1 (σ.1 15 0 v1.toNatClampNeg)) fun x8 σ7 =>
    if x8 < 0 then
    some ((0 : Int32), σ7)
  else
    some ((1 : Int32), σ7)
  else none
  else if g_in v1 60 then
    if (σ.1 0 0 3) ≤ (σ.1 15 0 v1.toNatClampNeg) then
    (mJ_M_does_153 σ v1 x1)
  else
    if g_in v1 60 then
    if (σ.1 0 0 4) ≤ (σ.1 16 0 v1.toNatClampNeg) then
    (mJ_M_does_153 σ v1 x1)
  else
    (mJ_M_does_154 σ v1 x1 (1 : Int32))
  else none
  else none
  else none
  else none
noncomputable def mB_M_day_19 (σ : g_S) (v1 : Int32) (v2 : Int32) : Option ((Int32 × g_S) ⊕ (Int32 × g_S)) :=
  if v2 = 0 then
    some (.inr (v2, σ))
  else
    if (σ.1 0 0 16) ≤ (σ.1 0 0 15) then
    some (.inr (v2, σ))
  else
    g_b2 (mF_M_readsAct σ) fun x6 σ5 =>
    some (.inl (x6, σ5))
noncomputable def mB_M_day_64 (σ : g_S) (v4 : Int32) : Option ((Int32 × g_S) ⊕ (Int32 × g_S)) :=
  if (σ.1 0 0 34) ≤ v4 then
    some (.inr (v4, σ))
  else
    g_b2 (mF_M_does σ v4) fun x11 σ10 =>
    if x11 = 0 then
    some (.inr (v4, σ10))
  else
    g_let (v4 + (1 : Int32)) fun x12 =>
    some (.inl (x12, σ10))
noncomputable def mJ_M_day_108 (σ : g_S) (v4 : Int32) (s1 : Int32) : Option (Int32 × g_S) :=
  (mF_M_flag s1).bind fun x15 =>
    (mF_M_enters σ (x15.toInt64)).bind fun σ16 =>
    if g_in (40 : Int32) 41 then
    (mF_M_enters σ16 ((σ16.1 1 0 (40 : Int32).toNatClampNeg).toInt64)).bind fun σ17 =>
    if v4 ≤ 0 then
    some ((0 : Int32), σ17)
  else
    g_b2 (mF_M_adds σ17 v4) fun x19 σ18 =>
    some (x19, σ18)
  else none
noncomputable def mF_M_day (σ : g_S) : Option (Int32 × g_S) :=
  g_let (g_sI σ 0 0 0 (0 : Int32)) fun σ1 =>
    g_b2 (mF_M_begins σ1 (60 : Int32)) fun x3 σ2 =>
    g_let (g_sI σ2 0 0 34 (0 : Int32)) fun σ4 =>
    (g_lp (fun v => mB_M_day_19 v.2 x3 v.1) g_fu ((1 : Int32), σ4)).bind fun e7 =>
    (mF_M_faultOf e7.2 x3 (60 : Int32) e7.1).bind fun x8 =>
    if 0 ≤ x8 then
    (mF_M_putsBy e7.2).bind fun σ9 =>
    (g_lp (fun v => mB_M_day_64 v.2 v.1) g_fu ((0 : Int32), σ9)).bind fun e13 =>
    g_let (g_sI e13.2 0 0 1 (0 : Int32)) fun σ14 =>
    if (σ14.1 0 0 34) ≤ e13.1 then
    (mJ_M_day_108 σ14 e13.1 (0 : Int32))
  else
    (mJ_M_day_108 σ14 e13.1 (1 : Int32))
  else
    some (x8, e7.2)
noncomputable def mB_M_peopleOn_6 (σ : g_S) (u0 : Nat) (v2 : Int64) (v4 : Int32) (v5 : Int32) : Option ((Int32 × Int32) ⊕ Int32) :=
  if (σ.1 0 0 5) ≤ v5 then
    some (.inr v4)
  else
    if g_in v5 41 then
    (mF_M_has v2 (σ.1 1 u0 v5.toNatClampNeg)).bind fun x1 =>
    if x1 = 0 then
    g_let (v4 ||| (0 : Int32)) fun x2 =>
    g_let (v5 + (1 : Int32)) fun x3 =>
    some (.inl (x2, x3))
  else
    g_let (v4 ||| ((1 : Int32) <<< (v5 &&& 31))) fun x4 =>
    g_let (v5 + (1 : Int32)) fun x5 =>
    some (.inl (x4, x5))
  else none
noncomputable def mF_M_peopleOn (σ : g_S) (u0 : Nat) (v2 : Int64) : Option Int32 :=
  (g_lp (fun v => mB_M_peopleOn_6 σ u0 v2 v.1 v.2) g_fu ((0 : Int32), (0 : Int32))).bind fun e6 =>
    some e6
noncomputable def mF_M_sees (σ : g_S) (v1 : Int32) : Option (Int64 × g_S) :=
  g_let (g_sI σ 0 0 0 (0 : Int32)) fun σ1 =>
    (mF_M_isPerson σ1 v1).bind fun x2 =>
    if x2 = 0 then
    some ((-1 : Int64), σ1)
  else
    (mF_M_fieldsSeen σ1 0 v1).bind fun x3 =>
    g_let (g_sI σ1 0 0 1 (0 : Int32)) fun σ4 =>
    (mF_J12_bitCount x3).bind fun x5 =>
    (mF_M_enters σ4 (x5.toInt64)).bind fun σ6 =>
    (mF_M_peopleOn σ6 0 x3).bind fun x7 =>
    (mF_M_enters σ6 ((x7 &&& (((1 : Int32) <<< (v1 &&& 31)) ^^^ (-1 : Int32))).toInt64)).bind fun σ8 =>
    some (x3, σ8)
noncomputable def mF_M_seers (σ : g_S) (v1 : Int32) : Option (Int32 × g_S) :=
  g_let (g_sI σ 0 0 0 (0 : Int32)) fun σ1 =>
    (mF_M_isField σ1 v1).bind fun x2 =>
    if x2 = 0 then
    some ((-1 : Int32), σ1)
  else
    (mF_M_whoSees σ1 0 v1).bind fun x3 =>
    g_let (g_sI σ1 0 0 1 (0 : Int32)) fun σ4 =>
    (mF_J8_bitCount x3).bind fun x5 =>
    (mF_M_enters σ4 (x5.toInt64)).bind fun σ6 =>
    (mF_M_thingsOn σ6 0 ((1 : Int64) <<< (v1.toInt64 &&& 63))).bind fun x7 =>
    (mF_M_enters σ6 (x7.toInt64)).bind fun σ8 =>
    some (x3, σ8)
noncomputable def mB_M_free_4 (σ : g_S) (v1 : Int64) (v3 : Int32) : Option ((Int64 × Int32) ⊕ Int64) :=
  (mF_M_fields σ).bind fun x1 =>
    if x1 ≤ v3 then
    some (.inr v1)
  else
    if g_in v3 49 then
    if (σ.1 3 0 v3.toNatClampNeg) = 0 then
    g_let (v1 ||| ((1 : Int64) <<< (v3.toInt64 &&& 63))) fun x2 =>
    g_let (v3 + (1 : Int32)) fun x3 =>
    some (.inl (x2, x3))
  else
    g_let (v1 ||| (0 : Int64)) fun x4 =>
    g_let (v3 + (1 : Int32)) fun x5 =>
    some (.inl (x4, x5))
  else none
noncomputable def mF_M_free (σ : g_S) : Option Int64 :=
  (g_lp (fun v => mB_M_free_4 σ v.1 v.2) g_fu ((0 : Int64), (0 : Int32))).bind fun e6 =>
    some e6
noncomputable def mB_M_allSeen_5 (σ : g_S) (u0 : Nat) (v2 : Int64) (v4 : Int32) : Option ((Int64 × Int32) ⊕ Int64) :=
  if (σ.1 0 0 5) ≤ v4 then
    some (.inr v2)
  else
    (mF_M_fieldsSeen σ u0 v4).bind fun x1 =>
    g_let (v2 ||| x1) fun x2 =>
    g_let (v4 + (1 : Int32)) fun x3 =>
    some (.inl (x2, x3))
noncomputable def mF_M_allSeen (σ : g_S) (u0 : Nat) : Option Int64 :=
  (g_lp (fun v => mB_M_allSeen_5 σ u0 v.1 v.2) g_fu ((0 : Int64), (0 : Int32))).bind fun e4 =>
    some e4
noncomputable def mF_M_hidden (σ : g_S) : Option (Int64 × g_S) :=
  g_let (g_sI σ 0 0 0 (0 : Int32)) fun σ1 =>
    (mF_M_free σ1).bind fun x2 =>
    (mF_M_allSeen σ1 0).bind fun x3 =>
    g_let (x2 &&& (x3 ^^^ (-1 : Int64))) fun x4 =>
    g_let (g_sI σ1 0 0 1 (0 : Int32)) fun σ5 =>
    (mF_J12_bitCount x4).bind fun x6 =>
    (mF_M_enters σ5 (x6.toInt64)).bind fun σ7 =>
    (mF_M_thingsOn σ7 0 x4).bind fun x8 =>
    (mF_M_enters σ7 (x8.toInt64)).bind fun σ9 =>
    some (x4, σ9)
noncomputable def mJ_M_pairs_78 (σ : g_S) (v1 : Int32) (v2 : Int32) (v3 : Int32) (v5 : Int32) (v6 : Int32) (s0 : Int32) : Option ((Int32 × Int32 × Int32 × Int32 × Int32) ⊕ (Int32 × Int32 × Int32 × Int32)) :=
  g_let (v1 + (1 : Int32)) fun x5 =>
    (mF_M_tellEachOther σ 0 v5 v6).bind fun x6 =>
    (mF_M_flag x6).bind fun x7 =>
    g_let (v2 + x7) fun x8 =>
    g_let (v6 + (1 : Int32)) fun x9 =>
    some (.inl (x5, x8, v3, s0, x9))
noncomputable def mJ_M_pairs_66 (σ : g_S) (v1 : Int32) (v2 : Int32) (v4 : Int32) (v5 : Int32) (v6 : Int32) (s0 : Int32) : Option ((Int32 × Int32 × Int32 × Int32 × Int32) ⊕ (Int32 × Int32 × Int32 × Int32)) :=
  if v1 = 0 then
    (mJ_M_pairs_78 σ v1 v2 s0 v5 v6 v6)
  else
    (mJ_M_pairs_78 σ v1 v2 s0 v5 v6 v4)
noncomputable def mB_M_pairs_32 (σ : g_S) (v5 : Int32) (v1 : Int32) (v2 : Int32) (v3 : Int32) (v4 : Int32) (v6 : Int32) : Option ((Int32 × Int32 × Int32 × Int32 × Int32) ⊕ (Int32 × Int32 × Int32 × Int32)) :=
  if (σ.1 0 0 5) ≤ v6 then
    some (.inr (v1, v2, v3, v4))
  else
    (mF_M_seeEachOther σ 0 v5 v6).bind fun x3 =>
    if x3 = 0 then
    g_let (v6 + (1 : Int32)) fun x4 =>
    some (.inl (v1, v2, v3, v4, x4))
  else
    if v1 = 0 then
    (mJ_M_pairs_66 σ v1 v2 v4 v5 v6 v5)
  else
    (mJ_M_pairs_66 σ v1 v2 v4 v5 v6 v3)
noncomputable def mB_M_pairs_17 (σ : g_S) (v1 : Int32) (v2 : Int32) (v3 : Int32) (v4 : Int32) (v5 : Int32) : Option ((Int32 × Int32 × Int32 × Int32 × Int32) ⊕ (Int32 × Int32 × Int32 × Int32)) :=
  if (σ.1 0 0 5) ≤ v5 then
    some (.inr (v1, v2, v3, v4))
  else
    g_let (v5 + (1 : Int32)) fun x2 =>
    (g_lp (fun v => mB_M_pairs_32 σ v5 v.1 v.2.1 v.2.2.1 v.2.2.2.1 v.2.2.2.2) g_fu (v1, v2, v3, v4, x2)).bind fun e10 =>
    g_let (v5 + (1 : Int32)) fun x11 =>
    some (.inl (e10.1, e10.2.1, e10.2.2.1, e10.2.2.2, x11))
noncomputable def mF_M_pairs (σ : g_S) : Option (Int32 × g_S) :=
  g_let (g_sI σ 0 0 0 (0 : Int32)) fun σ1 =>
    (g_lp (fun v => mB_M_pairs_17 σ1 v.1 v.2.1 v.2.2.1 v.2.2.2.1 v.2.2.2.2) g_fu ((0 : Int32), (0 : Int32), (-1 : Int32), (-1 : Int32), (0 : Int32))).bind fun e12 =>
    g_let (g_sI σ1 0 0 1 (0 : Int32)) fun σ13 =>
    (mF_M_enters σ13 (e12.2.1.toInt64)).bind fun σ14 =>
    if e12.1 ≤ 0 then
    some (e12.1, σ14)
  else
    (mF_M_enters σ14 (e12.2.2.1.toInt64)).bind fun σ15 =>
    (mF_M_enters σ15 (e12.2.2.2.toInt64)).bind fun σ16 =>
    some (e12.1, σ16)
noncomputable def mF_M_behind (σ : g_S) (v1 : Int32) : Option (Int32 × g_S) :=
  g_let (g_sI σ 0 0 0 (0 : Int32)) fun σ1 =>
    (mF_M_isPerson σ1 v1).bind fun x2 =>
    if x2 = 0 then
    some ((-1 : Int32), σ1)
  else
    if g_in v1 41 then
    (mF_M_whoSees σ1 0 (σ1.1 1 0 v1.toNatClampNeg)).bind fun x3 =>
    (mF_M_fieldsSeen σ1 0 v1).bind fun x4 =>
    (mF_M_peopleOn σ1 0 x4).bind fun x5 =>
    g_let (x3 &&& (x5 ^^^ (-1 : Int32))) fun x6 =>
    g_let (g_sI σ1 0 0 1 (0 : Int32)) fun σ7 =>
    (mF_J8_bitCount x6).bind fun x8 =>
    (mF_M_enters σ7 (x8.toInt64)).bind fun σ9 =>
    some (x6, σ9)
  else none
noncomputable def mJ_M_widest_65 (σ : g_S) (v2 : Int32) (v3 : Int32) (v4 : Int32) (s0 : Int32) : Option ((Int32 × Int32 × Int32) ⊕ (Int32 × Int32)) :=
  (mF_M_fieldsSeen σ 0 v2).bind fun x6 =>
    (mF_J12_bitCount x6).bind fun x7 =>
    if x7 ≤ v4 then
    g_let (v3 + (1 : Int32)) fun x8 =>
    some (.inl (s0, v2, x8))
  else
    g_let (v3 + (1 : Int32)) fun x9 =>
    some (.inl (s0, v3, x9))
noncomputable def mB_M_widest_21 (σ : g_S) (v1 : Int32) (v2 : Int32) (v3 : Int32) : Option ((Int32 × Int32 × Int32) ⊕ (Int32 × Int32)) :=
  if (σ.1 0 0 5) ≤ v3 then
    some (.inr (v1, v2))
  else
    (mF_M_fieldsSeen σ 0 v3).bind fun x2 =>
    (mF_J12_bitCount x2).bind fun x3 =>
    (mF_M_fieldsSeen σ 0 v1).bind fun x4 =>
    (mF_J12_bitCount x4).bind fun x5 =>
    if x3 ≤ x5 then
    (mJ_M_widest_65 σ v2 v3 x3 v1)
  else
    (mJ_M_widest_65 σ v2 v3 x3 v3)
noncomputable def mF_M_widest (σ : g_S) : Option (Int32 × g_S) :=
  g_let (g_sI σ 0 0 0 (0 : Int32)) fun σ1 =>
    if (σ1.1 0 0 5) = 0 then
    some ((-2 : Int32), σ1)
  else
    (g_lp (fun v => mB_M_widest_21 σ1 v.1 v.2.1 v.2.2) g_fu ((0 : Int32), (0 : Int32), (1 : Int32))).bind fun e10 =>
    g_let (g_sI σ1 0 0 1 (0 : Int32)) fun σ11 =>
    (mF_M_fieldsSeen σ11 0 e10.1).bind fun x12 =>
    (mF_J12_bitCount x12).bind fun x13 =>
    (mF_M_enters σ11 (x13.toInt64)).bind fun σ14 =>
    (mF_M_enters σ14 (e10.2.toInt64)).bind fun σ15 =>
    (mF_M_fieldsSeen σ15 0 e10.2).bind fun x16 =>
    (mF_J12_bitCount x16).bind fun x17 =>
    (mF_M_enters σ15 (x17.toInt64)).bind fun σ18 =>
    some (e10.1, σ18)
noncomputable def mF_M_isFewer (v0 : Int32) (v1 : Int32) : Option Int32 :=
  if v1 < 0 then
    some (1 : Int32)
  else
    (mF_J8_bitCount v0).bind fun x1 =>
    (mF_J8_bitCount v1).bind fun x2 =>
    if x2 ≤ x1 then
    some (0 : Int32)
  else
    some (1 : Int32)
noncomputable def mB_M_watch_16 (σ : g_S) (v1 : Int64) (v3 : Int32) : Option ((Int32 × g_S) ⊕ g_S) :=
  if (σ.1 0 0 5) ≤ v3 then
    some (.inr σ)
  else
    (mF_M_fieldsSeen σ 0 v3).bind fun x3 =>
    if g_in v3 8 then
    g_let (g_sL σ 17 0 v3.toNatClampNeg x3) fun σ4 =>
    g_let (v3 + (1 : Int32)) fun x5 =>
    some (.inl (x5, σ4))
  else none
noncomputable def mB_M_watch_67 (σ : g_S) (v1 : Int64) (v3 : Int32) (v4 : Int32) (v5 : Int64) (v7 : Int32) : Option ((Int64 × Int32) ⊕ Int64) :=
  if (σ.1 0 0 5) ≤ v7 then
    some (.inr v5)
  else
    (mF_M_has (v4.toInt64) v7).bind fun x7 =>
    if x7 = 0 then
    g_let (v5 ||| (0 : Int64)) fun x8 =>
    g_let (v7 + (1 : Int32)) fun x9 =>
    some (.inl (x8, x9))
  else
    if g_in v7 8 then
    g_let (v5 ||| (σ.2.1 17 0 v7.toNatClampNeg)) fun x10 =>
    g_let (v7 + (1 : Int32)) fun x11 =>
    some (.inl (x10, x11))
  else none
noncomputable def mB_M_watch_50 (σ : g_S) (v1 : Int64) (v3 : Int32) (v4 : Int32) : Option ((Int32 × Int32) ⊕ Int32) :=
  if ((1 : Int32) <<< ((σ.1 0 0 5) &&& 31)) ≤ v4 then
    some (.inr v3)
  else
    (g_lp (fun v => mB_M_watch_67 σ v1 v3 v4 v.1 v.2) g_fu ((0 : Int64), (0 : Int32))).bind fun e12 =>
    if (lg_cmp e12 v1) = 0 then
    (mF_M_isFewer v4 v3).bind fun x14 =>
    if x14 = 0 then
    g_let (v4 + (1 : Int32)) fun x15 =>
    some (.inl (v3, x15))
  else
    g_let (v4 + (1 : Int32)) fun x16 =>
    some (.inl (v4, x16))
  else
    g_let (v4 + (1 : Int32)) fun x13 =>
    some (.inl (v3, x13))
noncomputable def mF_M_watch (σ : g_S) : Option (Int32 × g_S) :=
  g_let (g_sI σ 0 0 0 (0 : Int32)) fun σ1 =>
    (mF_M_allSeen σ1 0).bind fun x2 =>
    (g_lp (fun v => mB_M_watch_16 v.2 x2 v.1) g_fu ((0 : Int32), σ1)).bind fun e6 =>
    (g_lp (fun v => mB_M_watch_50 e6 x2 v.1 v.2) g_fu ((-1 : Int32), (0 : Int32))).bind fun e17 =>
    g_let (g_sI e6 0 0 1 (0 : Int32)) fun σ18 =>
    (mF_M_enters σ18 (e17.toInt64)).bind fun σ19 =>
    (mF_J8_bitCount e17).bind fun x20 =>
    some (x20, σ19)
noncomputable def mB_M_copies_2 (σ : g_S) (v1 : Int32) : Option ((Int32 × g_S) ⊕ g_S) :=
  if (41 : Int32) ≤ v1 then
    some (.inr σ)
  else
    if g_in v1 41 then
    if g_in v1 41 then
    g_let (g_sI σ 1 1 v1.toNatClampNeg (σ.1 1 0 v1.toNatClampNeg)) fun σ1 =>
    g_let (v1 + (1 : Int32)) fun x2 =>
    some (.inl (x2, σ1))
  else none
  else none
noncomputable def mF_M_copies (σ : g_S) : Option g_S :=
  (g_lp (fun v => mB_M_copies_2 v.2 v.1) g_fu ((0 : Int32), σ)).bind fun e3 =>
    some e3
noncomputable def mB_M_learns_29 (σ : g_S) (v1 : Int32) (v2 : Int32) (v3 : Int32) : Option ((Int32 × g_S) ⊕ ((Int32 × g_S) ⊕ g_S)) :=
  if (99 : Int32) < v3 then
    some (.inr (.inr σ))
  else
    if g_in ((24 : Int32) + v1) 41 then
    (mF_M_has ((σ.1 1 1 ((24 : Int32) + v1).toNatClampNeg).toInt64) v2).bind fun x5 =>
    if x5 = 0 then
    (mF_M_hourGoes σ 1).bind fun σ6 =>
    g_let (v3 + (1 : Int32)) fun x7 =>
    some (.inl (x7, σ6))
  else
    some (.inr (.inl (v3, σ)))
  else none
noncomputable def mF_M_learns (σ : g_S) (v1 : Int32) (v2 : Int32) : Option (Int32 × g_S) :=
  g_let (g_sI σ 0 0 0 (0 : Int32)) fun σ1 =>
    (mF_M_isPerson σ1 v1).bind fun x2 =>
    if x2 = 0 then
    some ((-1 : Int32), σ1)
  else
    (mF_M_isThing σ1 v2).bind fun x3 =>
    if x3 = 0 then
    some ((-1 : Int32), σ1)
  else
    (mF_M_copies σ1).bind fun σ4 =>
    (g_lp (fun v => mB_M_learns_29 v.2 v1 v2 v.1) g_fu ((0 : Int32), σ4)).bind fun e8 => (match e8 with
    | .inl y9 => g_let (g_sI y9.2 0 0 1 (0 : Int32)) fun σ10 =>
    (mF_M_knowing σ10 1 v2).bind fun x11 =>
    (mF_J8_bitCount x11).bind fun x12 =>
    (mF_M_enters σ10 (x12.toInt64)).bind fun σ13 =>
    some (y9.1, σ13)
    | .inr y14 => some ((-2 : Int32), y14))
noncomputable def mB_M_firstWithout_9 (σ : g_S) (u0 : Nat) (v2 : Int32) (v3 : Int32) : Option ((Int32 × Int32) ⊕ Int32) :=
  if v3 < 0 then
    some (.inr v2)
  else
    if g_in ((24 : Int32) + v3) 41 then
    (mF_J8_bitCount (σ.1 1 u0 ((24 : Int32) + v3).toNatClampNeg)).bind fun x2 =>
    if (σ.1 0 0 6) ≤ x2 then
    g_let (v3 + (-1 : Int32)) fun x3 =>
    some (.inl (v2, x3))
  else
    g_let (v3 + (-1 : Int32)) fun x4 =>
    some (.inl (v3, x4))
  else none
noncomputable def mF_M_firstWithout (σ : g_S) (u0 : Nat) : Option Int32 :=
  g_let ((σ.1 0 0 5) - (1 : Int32)) fun x1 =>
    (g_lp (fun v => mB_M_firstWithout_9 σ u0 v.1 v.2) g_fu ((-1 : Int32), x1)).bind fun e5 =>
    some e5
noncomputable def mB_M_all_13 (σ : g_S) (v1 : Int32) (v2 : Int32) : Option ((Int32 × Int32 × g_S) ⊕ ((Int32 × Int32 × g_S) ⊕ g_S)) :=
  if (99 : Int32) < v2 then
    some (.inr (.inr σ))
  else
    (mF_M_firstWithout σ 1).bind fun x3 =>
    if 0 ≤ x3 then
    (mF_M_hourGoes σ 1).bind fun σ4 =>
    g_let (v2 + (1 : Int32)) fun x5 =>
    some (.inl (x3, x5, σ4))
  else
    some (.inr (.inl (v1, v2, σ)))
noncomputable def mF_M_all (σ : g_S) : Option (Int32 × g_S) :=
  g_let (g_sI σ 0 0 0 (0 : Int32)) fun σ1 =>
    (mF_M_copies σ1).bind fun σ2 =>
    (g_lp (fun v => mB_M_all_13 v.2.2 v.1 v.2.1) g_fu ((-1 : Int32), (0 : Int32), σ2)).bind fun e6 => (match e6 with
    | .inl y7 => g_let (g_sI y7.2.2 0 0 1 (0 : Int32)) fun σ8 =>
    (mF_M_enters σ8 (y7.1.toInt64)).bind fun σ9 =>
    some (y7.2.1, σ9)
    | .inr y10 => some ((-2 : Int32), y10))
noncomputable def mB_M_ahead_39 (σ : g_S) (v2 : Int32) : Option ((Int32 × g_S) ⊕ g_S) :=
  if (σ.1 0 0 5) ≤ v2 then
    some (.inr σ)
  else
    if g_in ((24 : Int32) + v2) 41 then
    (mF_M_enters σ ((σ.1 1 1 ((24 : Int32) + v2).toNatClampNeg).toInt64)).bind fun σ6 =>
    g_let (v2 + (1 : Int32)) fun x7 =>
    some (.inl (x7, σ6))
  else none
noncomputable def mF_M_ahead (σ : g_S) (v1 : Int32) : Option (Int32 × g_S) :=
  g_let (g_sI σ 0 0 0 (0 : Int32)) fun σ1 =>
    (mF_M_in (v1.toInt64) (0 : Int64) (99 : Int64)).bind fun x2 =>
    if x2 = 0 then
    some ((-1 : Int32), σ1)
  else
    (mF_M_copies σ1).bind fun σ3 =>
    (mF_M_goesOn σ3 1 v1).bind fun σ4 =>
    g_let (g_sI σ4 0 0 1 (0 : Int32)) fun σ5 =>
    (g_lp (fun v => mB_M_ahead_39 v.2 v.1) g_fu ((0 : Int32), σ5)).bind fun e8 =>
    (mF_M_known e8 1).bind fun x9 =>
    some (x9, e8)
noncomputable def mB_M_gossip_55 (σ : g_S) (v2 : Int32) (v3 : Int32) (v5 : Int32) (v4 : Int32) (v6 : Int32) : Option ((Int32 × Int32) ⊕ Int32) :=
  if (σ.1 0 0 5) ≤ v6 then
    some (.inr v4)
  else
    (mF_M_has (v2.toInt64) v5).bind fun x6 =>
    if x6 = 0 then
    g_let (v4 ||| (0 : Int32)) fun x7 =>
    g_let (v6 + (1 : Int32)) fun x8 =>
    some (.inl (x7, x8))
  else
    (mF_M_has (v2.toInt64) v6).bind fun x9 =>
    if x9 = 0 then
    (mF_M_tellEachOther σ 0 v5 v6).bind fun x12 =>
    if x12 = 0 then
    g_let (v4 ||| (0 : Int32)) fun x13 =>
    g_let (v6 + (1 : Int32)) fun x14 =>
    some (.inl (x13, x14))
  else
    g_let (v4 ||| ((1 : Int32) <<< (v6 &&& 31))) fun x15 =>
    g_let (v6 + (1 : Int32)) fun x16 =>
    some (.inl (x15, x16))
  else
    g_let (v4 ||| (0 : Int32)) fun x10 =>
    g_let (v6 + (1 : Int32)) fun x11 =>
    some (.inl (x10, x11))
noncomputable def mB_M_gossip_43 (σ : g_S) (v2 : Int32) (v3 : Int32) (v4 : Int32) (v5 : Int32) : Option ((Int32 × Int32) ⊕ Int32) :=
  if (σ.1 0 0 5) ≤ v5 then
    some (.inr v4)
  else
    (g_lp (fun v => mB_M_gossip_55 σ v2 v3 v5 v.1 v.2) g_fu (v4, (0 : Int32))).bind fun e17 =>
    g_let (v5 + (1 : Int32)) fun x18 =>
    some (.inl (e17, x18))
noncomputable def mB_M_gossip_24 (σ : g_S) (v2 : Int32) (v3 : Int32) (v4 : Int32) : Option ((Int32 × Int32 × Int32) ⊕ (Int32 × Int32)) :=
  if v4 = 0 then
    some (.inr (v2, v3))
  else
    g_let (v3 + (1 : Int32)) fun x4 =>
    g_let (v2 ||| v4) fun x5 =>
    (g_lp (fun v => mB_M_gossip_43 σ x5 x4 v.1 v.2) g_fu ((0 : Int32), (0 : Int32))).bind fun e19 =>
    some (.inl (x5, x4, e19))
noncomputable def mF_M_gossip (σ : g_S) (v1 : Int32) : Option (Int32 × g_S) :=
  g_let (g_sI σ 0 0 0 (0 : Int32)) fun σ1 =>
    (mF_M_isPerson σ1 v1).bind fun x2 =>
    if x2 = 0 then
    some ((-1 : Int32), σ1)
  else
    g_let ((1 : Int32) <<< (v1 &&& 31)) fun x3 =>
    (g_lp (fun v => mB_M_gossip_24 σ1 v.1 v.2.1 v.2.2) g_fu (x3, (-1 : Int32), x3)).bind fun e20 =>
    g_let (g_sI σ1 0 0 1 (0 : Int32)) fun σ21 =>
    (mF_M_enters σ21 (e20.2.toInt64)).bind fun σ22 =>
    some (e20.1, σ22)
noncomputable def mF_M_wouldSee (σ : g_S) (v1 : Int32) (v2 : Int32) (v3 : Int32) : Option Int32 :=
  if g_in v1 41 then
    if g_in ((16 : Int32) + v1) 41 then
    if g_in ((16 : Int32) + v1) 41 then
    (mR_reachBy σ 0 v1 (σ.1 1 0 ((16 : Int32) + v1).toNatClampNeg)).bind fun x1 =>
    (mF_M_seesBy σ (σ.1 1 0 v1.toNatClampNeg) v2 v3 (σ.1 1 0 ((16 : Int32) + v1).toNatClampNeg) x1).bind fun x2 =>
    if x2 = 0 ∨ x2 = 1 then some x2 else none
  else none
  else none
  else none
noncomputable def mB_M_eighths_33 (σ : g_S) (v1 : Int32) (v2 : Int32) (v3 : Int32) (v4 : Int32) (v5 : Int32) : Option ((Int32 × Int32 × Int32) ⊕ (Int32 × Int32)) :=
  if (8 : Int32) ≤ v5 then
    some (.inr (v3, v4))
  else
    if g_in ((8 : Int32) + v1) 41 then
    (mF_M_eighthsBetween (σ.1 1 0 ((8 : Int32) + v1).toNatClampNeg) v5).bind fun x4 =>
    if v4 ≤ x4 then
    g_let (v5 + (1 : Int32)) fun x5 =>
    some (.inl (v3, v4, x5))
  else
    (mF_M_wouldSee σ v1 v2 v5).bind fun x6 =>
    if x6 = 0 then
    g_let (v5 + (1 : Int32)) fun x7 =>
    some (.inl (v3, v4, x7))
  else
    g_let (v5 + (1 : Int32)) fun x8 =>
    some (.inl (v5, x4, x8))
  else none
noncomputable def mF_M_eighths (σ : g_S) (v1 : Int32) (v2 : Int32) : Option (Int32 × g_S) :=
  g_let (g_sI σ 0 0 0 (0 : Int32)) fun σ1 =>
    (mF_M_isPerson σ1 v1).bind fun x2 =>
    if x2 = 0 then
    some ((-1 : Int32), σ1)
  else
    (mF_M_isField σ1 v2).bind fun x3 =>
    if x3 = 0 then
    some ((-1 : Int32), σ1)
  else
    (g_lp (fun v => mB_M_eighths_33 σ1 v1 v2 v.1 v.2.1 v.2.2) g_fu ((-1 : Int32), (1000000 : Int32), (0 : Int32))).bind fun e9 =>
    if 0 ≤ e9.1 then
    g_let (g_sI σ1 0 0 1 (0 : Int32)) fun σ10 =>
    (mF_M_enters σ10 (e9.1.toInt64)).bind fun σ11 =>
    some (e9.2, σ11)
  else
    some ((-2 : Int32), σ1)
noncomputable def mB_M_wouldSeeThings_5 (σ : g_S) (v1 : Int32) (v2 : Int32) (v3 : Int32) (v4 : Int32) : Option ((Int32 × Int32) ⊕ Int32) :=
  if (σ.1 0 0 6) ≤ v4 then
    some (.inr v3)
  else
    if g_in ((32 : Int32) + v4) 41 then
    (mF_M_wouldSee σ v1 (σ.1 1 0 ((32 : Int32) + v4).toNatClampNeg) v2).bind fun x1 =>
    if x1 = 0 then
    g_let (v3 ||| (0 : Int32)) fun x2 =>
    g_let (v4 + (1 : Int32)) fun x3 =>
    some (.inl (x2, x3))
  else
    g_let (v3 ||| ((1 : Int32) <<< (v4 &&& 31))) fun x4 =>
    g_let (v4 + (1 : Int32)) fun x5 =>
    some (.inl (x4, x5))
  else none
noncomputable def mF_M_wouldSeeThings (σ : g_S) (v1 : Int32) (v2 : Int32) : Option Int32 :=
  (g_lp (fun v => mB_M_wouldSeeThings_5 σ v1 v2 v.1 v.2) g_fu ((0 : Int32), (0 : Int32))).bind fun e6 =>
    some e6
noncomputable def mF_M_place (v0 : Int32) (v1 : Int32) : Option Int32 :=
  some ((v0 <<< ((8 : Int32) &&& 31)) ||| v1)
noncomputable def mJ_M_fewWith_42 (σ : g_S) (s0 : Int32) (s1 : Int32) : Option Int32 :=
  (mF_M_flag s1).bind fun x2 =>
    some (s0 + x2)
noncomputable def mF_M_fewWith (σ : g_S) (v1 : Int32) (v2 : Int32) (v3 : Int32) : Option Int32 :=
  if g_in (((8 : Int32) * v1) + v3) 64 then
    (mF_M_place (v1 + (1 : Int32)) (v2 ||| (σ.1 18 0 (((8 : Int32) * v1) + v3).toNatClampNeg))).bind fun x1 =>
    if g_in x1 2304 then
    if g_in ((8 : Int32) + v1) 41 then
    if v3 = (σ.1 1 0 ((8 : Int32) + v1).toNatClampNeg) then
    (mJ_M_fewWith_42 σ (σ.1 19 0 x1.toNatClampNeg) (0 : Int32))
  else
    (mJ_M_fewWith_42 σ (σ.1 19 0 x1.toNatClampNeg) (1 : Int32))
  else none
  else none
  else none
noncomputable def mB_M_turned_17 (σ : g_S) (v1 : Int32) (v2 : Int32) : Option ((Int32 × g_S) ⊕ g_S) :=
  if (8 : Int32) ≤ v2 then
    some (.inr σ)
  else
    (mF_M_wouldSeeThings σ v1 v2).bind fun x2 =>
    if g_in (((8 : Int32) * v1) + v2) 64 then
    g_let (g_sI σ 18 0 (((8 : Int32) * v1) + v2).toNatClampNeg x2) fun σ3 =>
    g_let (v2 + (1 : Int32)) fun x4 =>
    some (.inl (x4, σ3))
  else none
noncomputable def mB_M_turned_7 (σ : g_S) (v1 : Int32) : Option ((Int32 × g_S) ⊕ g_S) :=
  if (σ.1 0 0 5) ≤ v1 then
    some (.inr σ)
  else
    (g_lp (fun v => mB_M_turned_17 v.2 v1 v.1) g_fu ((0 : Int32), σ)).bind fun e5 =>
    g_let (v1 + (1 : Int32)) fun x6 =>
    some (.inl (x6, e5))
noncomputable def mJ_M_turned_92 (σ : g_S) (v1 : Int32) (v2 : Int32) (s1 : Int32) (s2 : Int32) : Option ((Int32 × g_S) ⊕ g_S) :=
  if g_in s1 2304 then
    g_let (g_sI σ 19 0 s1.toNatClampNeg s2) fun σ10 =>
    g_let (v2 + (1 : Int32)) fun x11 =>
    some (.inl (x11, σ10))
  else none
noncomputable def mB_M_turned_63 (σ : g_S) (v1 : Int32) (v2 : Int32) : Option ((Int32 × g_S) ⊕ g_S) :=
  if v1 < v2 then
    some (.inr σ)
  else
    (mF_M_place (σ.1 0 0 5) v2).bind fun x9 =>
    if v2 = v1 then
    (mJ_M_turned_92 σ v1 v2 x9 (0 : Int32))
  else
    (mJ_M_turned_92 σ v1 v2 x9 (1000000 : Int32))
noncomputable def mB_M_turned_125 (σ : g_S) (v1 : Int32) (v2 : Int32) (v3 : Int32) (v4 : Int32) (v5 : Int32) : Option ((Int32 × Int32) ⊕ Int32) :=
  if (8 : Int32) ≤ v5 then
    some (.inr v4)
  else
    (mF_M_fewWith σ v2 v3 v5).bind fun x14 =>
    g_let (g_min v4 x14) fun x15 =>
    g_let (v5 + (1 : Int32)) fun x16 =>
    some (.inl (x15, x16))
noncomputable def mB_M_turned_112 (σ : g_S) (v1 : Int32) (v2 : Int32) (v3 : Int32) : Option ((Int32 × g_S) ⊕ g_S) :=
  if v1 < v3 then
    some (.inr σ)
  else
    (g_lp (fun v => mB_M_turned_125 σ v1 v2 v3 v.1 v.2) g_fu ((1000000 : Int32), (0 : Int32))).bind fun e17 =>
    (mF_M_place v2 v3).bind fun x18 =>
    if g_in x18 2304 then
    g_let (g_sI σ 19 0 x18.toNatClampNeg e17) fun σ19 =>
    g_let (v3 + (1 : Int32)) fun x20 =>
    some (.inl (x20, σ19))
  else none
noncomputable def mB_M_turned_106 (σ : g_S) (v1 : Int32) (v2 : Int32) : Option ((Int32 × g_S) ⊕ g_S) :=
  if v2 < 0 then
    some (.inr σ)
  else
    (g_lp (fun v => mB_M_turned_112 v.2 v1 v2 v.1) g_fu ((0 : Int32), σ)).bind fun e21 =>
    g_let (v2 + (-1 : Int32)) fun x22 =>
    some (.inl (x22, e21))
noncomputable def mB_M_turned_220 (σ : g_S) (v2 : Int32) (v3 : Int32) (v4 : Int32) (v5 : Int32) : Option (Int32 ⊕ Int32) :=
  (mF_M_fewWith σ v4 v3 v5).bind fun x27 =>
    (mF_M_place v4 v3).bind fun x28 =>
    if g_in x28 2304 then
    if x27 = (σ.1 19 0 x28.toNatClampNeg) then
    some (.inr v5)
  else
    g_let (v5 + (1 : Int32)) fun x29 =>
    some (.inl x29)
  else none
noncomputable def mB_M_turned_208 (σ : g_S) (v2 : Int32) (v3 : Int32) (v4 : Int32) : Option ((Int32 × Int32 × g_S) ⊕ g_S) :=
  if (σ.1 0 0 5) ≤ v4 then
    some (.inr σ)
  else
    (g_lp (fun v => mB_M_turned_220 σ v2 v3 v4 v) g_fu (0 : Int32)).bind fun e30 =>
    if g_in (((8 : Int32) * v4) + e30) 64 then
    g_let (v3 ||| (σ.1 18 0 (((8 : Int32) * v4) + e30).toNatClampNeg)) fun x31 =>
    (mF_M_enters σ (e30.toInt64)).bind fun σ32 =>
    g_let (v4 + (1 : Int32)) fun x33 =>
    some (.inl (x31, x33, σ32))
  else none
noncomputable def mF_M_turned (σ : g_S) : Option (Int32 × g_S) :=
  g_let (g_sI σ 0 0 0 (0 : Int32)) fun σ1 =>
    (g_lp (fun v => mB_M_turned_7 v.2 v.1) g_fu ((0 : Int32), σ1)).bind fun e7 =>
    g_let (((1 : Int32) <<< ((e7.1 0 0 6) &&& 31)) - (1 : Int32)) fun x8 =>
    (g_lp (fun v => mB_M_turned_63 v.2 x8 v.1) g_fu ((0 : Int32), e7)).bind fun e12 =>
    g_let ((e12.1 0 0 5) - (1 : Int32)) fun x13 =>
    (g_lp (fun v => mB_M_turned_106 v.2 x8 v.1) g_fu (x13, e12)).bind fun e23 =>
    (mF_M_place (0 : Int32) (0 : Int32)).bind fun x24 =>
    if g_in x24 2304 then
    g_let (e23.1 19 0 x24.toNatClampNeg) fun x25 =>
    if x25 < (1000000 : Int32) then
    g_let (g_sI e23 0 0 1 (0 : Int32)) fun σ26 =>
    (g_lp (fun v => mB_M_turned_208 v.2.2 x25 v.1 v.2.1) g_fu ((0 : Int32), (0 : Int32), σ26)).bind fun e34 =>
    some (x25, e34)
  else
    some ((-2 : Int32), e23)
  else none
noncomputable def mB_M_best_19 (σ : g_S) (v1 : Int32) (v2 : Int32) (v3 : Int32) : Option ((Int32 × Int32) ⊕ Int32) :=
  if (8 : Int32) ≤ v3 then
    some (.inr v2)
  else
    (mF_M_wouldSeeThings σ v1 v3).bind fun x3 =>
    (mF_J8_bitCount x3).bind fun x4 =>
    (mF_M_wouldSeeThings σ v1 v2).bind fun x5 =>
    (mF_J8_bitCount x5).bind fun x6 =>
    if x4 ≤ x6 then
    g_let (v3 + (1 : Int32)) fun x7 =>
    some (.inl (v2, x7))
  else
    g_let (v3 + (1 : Int32)) fun x8 =>
    some (.inl (v3, x8))
noncomputable def mF_M_best (σ : g_S) (v1 : Int32) : Option (Int32 × g_S) :=
  g_let (g_sI σ 0 0 0 (0 : Int32)) fun σ1 =>
    (mF_M_isPerson σ1 v1).bind fun x2 =>
    if x2 = 0 then
    some ((-1 : Int32), σ1)
  else
    (g_lp (fun v => mB_M_best_19 σ1 v1 v.1 v.2) g_fu ((0 : Int32), (1 : Int32))).bind fun e9 =>
    g_let (g_sI σ1 0 0 1 (0 : Int32)) fun σ10 =>
    (mF_M_wouldSeeThings σ10 v1 e9).bind fun x11 =>
    (mF_M_enters σ10 (x11.toInt64)).bind fun σ12 =>
    some (e9, σ12)
noncomputable def mB_M_bears_25 (σ : g_S) (v1 : Int32) (v2 : Int32) (v3 : Int32) : Option (Int32 ⊕ ((Int32 × Int32) ⊕ Unit)) :=
  if v3 < 0 then
    some (.inr (.inr ()))
  else
    (mR_reachBy σ 0 v1 v3).bind fun x4 =>
    if g_in v1 41 then
    if g_in ((8 : Int32) + v1) 41 then
    (mF_M_seesBy σ (σ.1 1 0 v1.toNatClampNeg) v2 (σ.1 1 0 ((8 : Int32) + v1).toNatClampNeg) v3 x4).bind fun x5 =>
    if x5 = 0 then
    g_let (v3 + (-1 : Int32)) fun x6 =>
    some (.inl x6)
  else
    some (.inr (.inl (v3, x4)))
  else none
  else none
noncomputable def mF_M_bears (σ : g_S) (v1 : Int32) (v2 : Int32) : Option (Int32 × g_S) :=
  g_let (g_sI σ 0 0 0 (0 : Int32)) fun σ1 =>
    (mF_M_isPerson σ1 v1).bind fun x2 =>
    if x2 = 0 then
    some ((-1 : Int32), σ1)
  else
    (mF_M_isField σ1 v2).bind fun x3 =>
    if x3 = 0 then
    some ((-1 : Int32), σ1)
  else
    (g_lp (fun v => mB_M_bears_25 σ1 v1 v2 v) g_fu (4 : Int32)).bind fun e7 => (match e7 with
    | .inl y8 => g_let (g_sI σ1 0 0 1 (0 : Int32)) fun σ9 =>
    (mF_M_enters σ9 (y8.2.toInt64)).bind fun σ10 =>
    some (y8.1, σ10)
    | .inr y11 => some ((-2 : Int32), σ1))
noncomputable def mJ_M_laysSteps_31 (σ : g_S) (v1 : Int32) (v2 : Int32) (v3 : Int64) (v5 : Int32) (s1 : Int32) (s2 : Int32) : Option ((Int32 × g_S) ⊕ g_S) :=
  if g_in s1 49 then
    g_let (g_sI σ 20 0 s1.toNatClampNeg s2) fun σ2 =>
    g_let (v5 + (1 : Int32)) fun x3 =>
    some (.inl (x3, σ2))
  else none
noncomputable def mB_M_laysSteps_3 (σ : g_S) (v1 : Int32) (v2 : Int32) (v3 : Int64) (v5 : Int32) : Option ((Int32 × g_S) ⊕ g_S) :=
  (mF_M_fields σ).bind fun x1 =>
    if x1 ≤ v5 then
    some (.inr σ)
  else
    if v5 = v2 then
    (mJ_M_laysSteps_31 σ v1 v2 v3 v5 v5 (0 : Int32))
  else
    (mJ_M_laysSteps_31 σ v1 v2 v3 v5 v5 (1000000 : Int32))
noncomputable def mJ_M_laysSteps_164 (σ : g_S) (v1 : Int32) (v2 : Int32) (v3 : Int64) (v5 : Int32) (v6 : Int32) (v7 : Int32) (s1 : Int32) (s2 : Int32) : Option ((Int32 × g_S) ⊕ g_S) :=
  if g_in s1 49 then
    g_let (g_sI σ 20 0 s1.toNatClampNeg s2) fun σ8 =>
    g_let (v7 + (1 : Int32)) fun x9 =>
    some (.inl (x9, σ8))
  else none
noncomputable def mJ_M_laysSteps_122 (σ : g_S) (v1 : Int32) (v2 : Int32) (v3 : Int64) (v5 : Int32) (v6 : Int32) (v7 : Int32) (v8 : Int32) (s0 : Int32) : Option ((Int32 × g_S) ⊕ g_S) :=
  if s0 = 0 then
    if g_in v6 49 then
    (mJ_M_laysSteps_164 σ v1 v2 v3 v5 v6 v7 v6 (σ.1 20 0 v6.toNatClampNeg))
  else none
  else
    if g_in v6 49 then
    if g_in v8 49 then
    (mJ_M_laysSteps_164 σ v1 v2 v3 v5 v6 v7 v6 (g_min (σ.1 20 0 v6.toNatClampNeg) ((σ.1 20 0 v8.toNatClampNeg) + (1 : Int32))))
  else none
  else none
noncomputable def mJ_M_laysSteps_121 (σ : g_S) (v1 : Int32) (v2 : Int32) (v3 : Int64) (v5 : Int32) (v6 : Int32) (v7 : Int32) (v8 : Int32) : Option ((Int32 × g_S) ⊕ g_S) :=
  (mJ_M_laysSteps_122 σ v1 v2 v3 v5 v6 v7 v8 (0 : Int32))
noncomputable def mJ_M_laysSteps_117 (σ : g_S) (v1 : Int32) (v2 : Int32) (v3 : Int64) (v5 : Int32) (v6 : Int32) (v7 : Int32) (v8 : Int32) : Option ((Int32 × g_S) ⊕ g_S) :=
  (mJ_M_laysSteps_122 σ v1 v2 v3 v5 v6 v7 v8 (1 : Int32))
noncomputable def mJ_M_laysSteps_102 (σ : g_S) (v1 : Int32) (v2 : Int32) (v3 : Int64) (v5 : Int32) (v6 : Int32) (v7 : Int32) (v8 : Int32) : Option ((Int32 × g_S) ⊕ g_S) :=
  if v8 = v2 then
    (mJ_M_laysSteps_117 σ v1 v2 v3 v5 v6 v7 v8)
  else
    (mF_M_has v3 v8).bind fun x10 =>
    if x10 = 0 then
    (mJ_M_laysSteps_121 σ v1 v2 v3 v5 v6 v7 v8)
  else
    (mJ_M_laysSteps_117 σ v1 v2 v3 v5 v6 v7 v8)
noncomputable def mB_M_laysSteps_65 (σ : g_S) (v1 : Int32) (v2 : Int32) (v3 : Int64) (v5 : Int32) (v6 : Int32) (v7 : Int32) : Option ((Int32 × g_S) ⊕ g_S) :=
  if (8 : Int32) ≤ v7 then
    some (.inr σ)
  else
    (mF_M_beside σ v6 v7).bind fun x7 =>
    if x7 < 0 then
    (mJ_M_laysSteps_121 σ v1 v2 v3 v5 v6 v7 x7)
  else
    if v6 = v1 then
    (mJ_M_laysSteps_102 σ v1 v2 v3 v5 v6 v7 x7)
  else
    (mF_M_has v3 v6).bind fun x11 =>
    if x11 = 0 then
    (mJ_M_laysSteps_121 σ v1 v2 v3 v5 v6 v7 x7)
  else
    (mJ_M_laysSteps_102 σ v1 v2 v3 v5 v6 v7 x7)
noncomputable def mB_M_laysSteps_53 (σ : g_S) (v1 : Int32) (v2 : Int32) (v3 : Int64) (v5 : Int32) (v6 : Int32) : Option ((Int32 × g_S) ⊕ g_S) :=
  (mF_M_fields σ).bind fun x6 =>
    if x6 ≤ v6 then
    some (.inr σ)
  else
    (g_lp (fun v => mB_M_laysSteps_65 v.2 v1 v2 v3 v5 v6 v.1) g_fu ((0 : Int32), σ)).bind fun e12 =>
    g_let (v6 + (1 : Int32)) fun x13 =>
    some (.inl (x13, e12))
noncomputable def mB_M_laysSteps_41 (σ : g_S) (v1 : Int32) (v2 : Int32) (v3 : Int64) (v5 : Int32) : Option ((Int32 × g_S) ⊕ g_S) :=
  (mF_M_fields σ).bind fun x5 =>
    if x5 ≤ v5 then
    some (.inr σ)
  else
    (g_lp (fun v => mB_M_laysSteps_53 v.2 v1 v2 v3 v5 v.1) g_fu ((0 : Int32), σ)).bind fun e14 =>
    g_let (v5 + (1 : Int32)) fun x15 =>
    some (.inl (x15, e14))
noncomputable def mF_M_laysSteps (σ : g_S) (v1 : Int32) (v2 : Int32) (v3 : Int64) : Option g_S :=
  (g_lp (fun v => mB_M_laysSteps_3 v.2 v1 v2 v3 v.1) g_fu ((0 : Int32), σ)).bind fun e4 =>
    (g_lp (fun v => mB_M_laysSteps_41 v.2 v1 v2 v3 v.1) g_fu ((0 : Int32), e4)).bind fun e16 =>
    some e16
noncomputable def mJ_M_laysWay_130 (σ : g_S) (v1 : Int32) (v2 : Int32) (v3 : Int64) (v5 : Int32) (v6 : Int32) (v7 : Int32) (v8 : Int32) (v9 : Int32) (s0 : Int32) : Option ((Int32 × Int32) ⊕ Int32) :=
  if s0 = 0 then
    g_let (v8 + (1 : Int32)) fun x6 =>
    some (.inl (v7, x6))
  else
    if v7 < 0 then
    g_let (v8 + (1 : Int32)) fun x7 =>
    some (.inl (v9, x7))
  else
    if v7 ≤ v9 then
    g_let (v8 + (1 : Int32)) fun x8 =>
    some (.inl (v7, x8))
  else
    g_let (v8 + (1 : Int32)) fun x9 =>
    some (.inl (v9, x9))
noncomputable def mJ_M_laysWay_129 (σ : g_S) (v1 : Int32) (v2 : Int32) (v3 : Int64) (v5 : Int32) (v6 : Int32) (v7 : Int32) (v8 : Int32) (v9 : Int32) : Option ((Int32 × Int32) ⊕ Int32) :=
  (mJ_M_laysWay_130 σ v1 v2 v3 v5 v6 v7 v8 v9 (0 : Int32))
noncomputable def mJ_M_laysWay_125 (σ : g_S) (v1 : Int32) (v2 : Int32) (v3 : Int64) (v5 : Int32) (v6 : Int32) (v7 : Int32) (v8 : Int32) (v9 : Int32) : Option ((Int32 × Int32) ⊕ Int32) :=
  (mJ_M_laysWay_130 σ v1 v2 v3 v5 v6 v7 v8 v9 (1 : Int32))
noncomputable def mB_M_laysWay_76 (σ : g_S) (v1 : Int32) (v2 : Int32) (v3 : Int64) (v5 : Int32) (v6 : Int32) (v7 : Int32) (v8 : Int32) : Option ((Int32 × Int32) ⊕ Int32) :=
  if (8 : Int32) ≤ v8 then
    some (.inr v7)
  else
    (mF_M_beside σ v5 v8).bind fun x5 =>
    if x5 < 0 then
    (mJ_M_laysWay_129 σ v1 v2 v3 v5 v6 v7 v8 x5)
  else
    if g_in x5 49 then
    if (σ.1 20 0 x5.toNatClampNeg) = v6 then
    if x5 = v2 then
    (mJ_M_laysWay_125 σ v1 v2 v3 v5 v6 v7 v8 x5)
  else
    (mF_M_has v3 x5).bind fun x10 =>
    if x10 = 0 then
    (mJ_M_laysWay_129 σ v1 v2 v3 v5 v6 v7 v8 x5)
  else
    (mJ_M_laysWay_125 σ v1 v2 v3 v5 v6 v7 v8 x5)
  else
    (mJ_M_laysWay_129 σ v1 v2 v3 v5 v6 v7 v8 x5)
  else none
noncomputable def mB_M_laysWay_65 (σ : g_S) (v1 : Int32) (v2 : Int32) (v3 : Int64) (v5 : Int32) (v6 : Int32) : Option ((Int32 × Int32 × g_S) ⊕ g_S) :=
  if v6 < 0 then
    some (.inr σ)
  else
    (g_lp (fun v => mB_M_laysWay_76 σ v1 v2 v3 v5 v6 v.1 v.2) g_fu ((-1 : Int32), (0 : Int32))).bind fun e11 =>
    (mF_M_enters σ (e11.toInt64)).bind fun σ12 =>
    g_let (v6 + (-1 : Int32)) fun x13 =>
    some (.inl (e11, x13, σ12))
noncomputable def mF_M_laysWay (σ : g_S) (v1 : Int32) (v2 : Int32) (v3 : Int64) : Option (Int32 × g_S) :=
  (mF_M_laysSteps σ v1 v2 v3).bind fun σ1 =>
    if g_in v1 49 then
    if (σ1.1 3 0 v1.toNatClampNeg) = 0 then
    if g_in v2 49 then
    if (σ1.1 3 0 v2.toNatClampNeg) = 0 then
    if g_in v1 49 then
    if (σ1.1 20 0 v1.toNatClampNeg) < (1000000 : Int32) then
    g_let (g_sI σ1 0 0 1 (0 : Int32)) fun σ2 =>
    (mF_M_enters σ2 (v1.toInt64)).bind fun σ3 =>
    if g_in v1 49 then
    g_let ((σ3.1 20 0 v1.toNatClampNeg) - (1 : Int32)) fun x4 =>
    (g_lp (fun v => mB_M_laysWay_65 v.2.2 v1 v2 v3 v.1 v.2.1) g_fu (v1, x4, σ3)).bind fun e14 =>
    if g_in v1 49 then
    some ((e14.1 20 0 v1.toNatClampNeg), e14)
  else none
  else none
  else
    some ((-2 : Int32), σ1)
  else none
  else
    some ((-2 : Int32), σ1)
  else none
  else
    some ((-2 : Int32), σ1)
  else none
noncomputable def mF_M_back (σ : g_S) (v1 : Int32) (v2 : Int32) : Option (Int32 × g_S) :=
  g_let (g_sI σ 0 0 0 (0 : Int32)) fun σ1 =>
    (mF_M_isField σ1 v1).bind fun x2 =>
    if x2 = 0 then
    some ((-1 : Int32), σ1)
  else
    (mF_M_isField σ1 v2).bind fun x3 =>
    if x3 = 0 then
    some ((-1 : Int32), σ1)
  else
    (mF_M_free σ1).bind fun x4 =>
    (mF_M_allSeen σ1 0).bind fun x5 =>
    g_b2 (mF_M_laysWay σ1 v1 v2 (x4 &&& (x5 ^^^ (-1 : Int64)))) fun x7 σ6 =>
    some (x7, σ6)
noncomputable def mB_M_open_56 (σ : g_S) (v3 : Int32) (v4 : Int64) (v6 : Int32) (v7 : Int32) : Option ((Int32 × Int32) ⊕ Int32) :=
  if v3 < v7 then
    some (.inr v6)
  else
    if g_in v7 53 then
    (mF_M_has v4 ((σ.2.1 2 0 v7.toNatClampNeg).toInt32)).bind fun x8 =>
    (mF_M_flag x8).bind fun x9 =>
    g_let (v6 + x9) fun x10 =>
    g_let (v7 + (1 : Int32)) fun x11 =>
    some (.inl (x10, x11))
  else none
noncomputable def mF_M_open (σ : g_S) (v1 : Int32) (v2 : Int32) : Option (Int32 × g_S) :=
  g_let (g_sI σ 0 0 0 (0 : Int32)) fun σ1 =>
    (mF_M_isField σ1 v1).bind fun x2 =>
    if x2 = 0 then
    some ((-1 : Int32), σ1)
  else
    (mF_M_isField σ1 v2).bind fun x3 =>
    if x3 = 0 then
    some ((-1 : Int32), σ1)
  else
    (mF_M_free σ1).bind fun x4 =>
    g_b2 (mF_M_laysWay σ1 v1 v2 x4) fun x6 σ5 =>
    if 0 ≤ x6 then
    (mF_M_allSeen σ5 0).bind fun x7 =>
    (g_lp (fun v => mB_M_open_56 σ5 x6 x7 v.1 v.2) g_fu ((0 : Int32), (0 : Int32))).bind fun e12 =>
    g_let (g_sI σ5 0 0 1 (0 : Int32)) fun σ13 =>
    (mF_M_enters σ13 (e12.toInt64)).bind fun σ14 =>
    some (x6, σ14)
  else
    some (x6, σ5)
noncomputable def mF_M_heard (σ : g_S) (v1 : Int32) (v2 : Int32) : Option (Int32 × g_S) :=
  g_let (g_sI σ 0 0 0 (0 : Int32)) fun σ1 =>
    (mF_M_isPerson σ1 v1).bind fun x2 =>
    if x2 = 0 then
    some ((-1 : Int32), σ1)
  else
    (mF_M_in (v2.toInt64) (0 : Int64) (1 : Int64)).bind fun x3 =>
    if x3 = 0 then
    some ((-1 : Int32), σ1)
  else
    if (σ1.1 0 0 39) = (10 : Int32) then
    some ((-1 : Int32), σ1)
  else
    if g_in (σ1.1 0 0 39) 10 then
    g_let (g_sI σ1 21 0 (σ1.1 0 0 39).toNatClampNeg v1) fun σ4 =>
    if g_in (σ4.1 0 0 39) 10 then
    g_let (g_sI σ4 22 0 (σ4.1 0 0 39).toNatClampNeg v2) fun σ5 =>
    g_let (g_sI σ5 0 0 39 ((σ5.1 0 0 39) + (1 : Int32))) fun σ6 =>
    some ((σ6.1 0 0 39), σ6)
  else none
  else none
noncomputable def mF_M_forget (σ : g_S) : Option (Int32 × g_S) :=
  g_let (g_sI σ 0 0 0 (0 : Int32)) fun σ1 =>
    g_let (σ1.1 0 0 39) fun x2 =>
    g_let (g_sI σ1 0 0 39 (0 : Int32)) fun σ3 =>
    some (x2, σ3)
noncomputable def mB_M_fitting_7 (σ : g_S) (v1 : Int64) (v3 : Int32) : Option ((Int64 × Int32) ⊕ Int64) :=
  if (σ.1 0 0 39) ≤ v3 then
    some (.inr v1)
  else
    if g_in v3 10 then
    (mF_M_fieldsSeen σ 0 (σ.1 21 0 v3.toNatClampNeg)).bind fun x2 =>
    if g_in v3 10 then
    if (σ.1 22 0 v3.toNatClampNeg) = (1 : Int32) then
    g_let (v1 &&& x2) fun x5 =>
    g_let (v3 + (1 : Int32)) fun x6 =>
    some (.inl (x5, x6))
  else
    g_let (v1 &&& (x2 ^^^ (-1 : Int64))) fun x3 =>
    g_let (v3 + (1 : Int32)) fun x4 =>
    some (.inl (x3, x4))
  else none
  else none
noncomputable def mF_M_fitting (σ : g_S) : Option Int64 :=
  (mF_M_free σ).bind fun x1 =>
    (g_lp (fun v => mB_M_fitting_7 σ v.1 v.2) g_fu (x1, (0 : Int32))).bind fun e7 =>
    some e7
noncomputable def mF_M_lost (σ : g_S) : Option (Int64 × g_S) :=
  g_let (g_sI σ 0 0 0 (0 : Int32)) fun σ1 =>
    (mF_M_fitting σ1).bind fun x2 =>
    g_let (g_sI σ1 0 0 1 (0 : Int32)) fun σ3 =>
    (mF_J12_bitCount x2).bind fun x4 =>
    (mF_M_enters σ3 (x4.toInt64)).bind fun σ5 =>
    some (x2, σ5)
noncomputable def mJ_M_asks_80 (σ : g_S) (v1 : Int64) (v4 : Int32) (v5 : Int32) (v7 : Int32) (s0 : Int32) : Option ((Int32 × Int32 × Int32) ⊕ (Int32 × Int32)) :=
  g_let (g_min v4 v7) fun x7 =>
    g_let (v5 + (1 : Int32)) fun x8 =>
    some (.inl (s0, x7, x8))
noncomputable def mB_M_asks_21 (σ : g_S) (v1 : Int64) (v3 : Int32) (v4 : Int32) (v5 : Int32) : Option ((Int32 × Int32 × Int32) ⊕ (Int32 × Int32)) :=
  if (σ.1 0 0 5) ≤ v5 then
    some (.inr (v3, v4))
  else
    if (lg_cmp v1 (0 : Int64)) = 0 then
    some (.inr (v3, v4))
  else
    (mF_M_fieldsSeen σ 0 v5).bind fun x3 =>
    (mF_J12_bitCount (v1 &&& x3)).bind fun x4 =>
    (mF_J12_bitCount v1).bind fun x5 =>
    g_let (g_max x4 (x5 - x4)) fun x6 =>
    if v4 ≤ x6 then
    (mJ_M_asks_80 σ v1 v4 v5 x6 v3)
  else
    (mJ_M_asks_80 σ v1 v4 v5 x6 v5)
noncomputable def mF_M_asks (σ : g_S) : Option (Int32 × g_S) :=
  g_let (g_sI σ 0 0 0 (0 : Int32)) fun σ1 =>
    (mF_M_fitting σ1).bind fun x2 =>
    (g_lp (fun v => mB_M_asks_21 σ1 x2 v.1 v.2.1 v.2.2) g_fu ((-2 : Int32), (1000000 : Int32), (0 : Int32))).bind fun e9 =>
    if e9.1 < 0 then
    some (e9.1, σ1)
  else
    g_let (g_sI σ1 0 0 1 (0 : Int32)) fun σ10 =>
    (mF_M_enters σ10 (e9.2.toInt64)).bind fun σ11 =>
    some (e9.1, σ11)
noncomputable def mF_M_common (rc : Int64 → Int64 → Option Int64) (v0 : Int64) (v2 : Int64) : Option Int64 :=
  if (lg_cmp v2 (0 : Int64)) = 0 then
    some v0
  else
    if ¬ v2 = 0 then
    (rc v2 (g_remL v0 v2)).bind fun x1 =>
    some x1
  else none
noncomputable def mR_M_common : Nat → Int64 → Int64 → Option Int64
  | 0 => fun _ _ => none
  | n + 1 => mF_M_common (mR_M_common n)
noncomputable def mC_M_common (a b : Int64) : Option Int64 := mR_M_common 100 a b
noncomputable def mJ_M_storm_65 (σ : g_S) (v1 : Int32) (v2 : Int32) (v3 : Int32) (v4 : Int32) (s1 : Int32) (s2 : Int32) : Option ((Int32 × g_S) ⊕ g_S) :=
  (mF_M_flag s2).bind fun x5 =>
    if g_in s1 10 then
    g_let (g_sL σ 23 0 s1.toNatClampNeg (x5.toInt64)) fun σ6 =>
    g_let (v4 + (1 : Int32)) fun x7 =>
    some (.inl (x7, σ6))
  else none
noncomputable def mB_M_storm_42 (σ : g_S) (v1 : Int32) (v2 : Int32) (v3 : Int32) (v4 : Int32) : Option ((Int32 × g_S) ⊕ g_S) :=
  if (10 : Int32) ≤ v4 then
    some (.inr σ)
  else
    if v4 = 0 then
    (mJ_M_storm_65 σ v1 v2 v3 v4 v4 (1 : Int32))
  else
    (mJ_M_storm_65 σ v1 v2 v3 v4 v4 (0 : Int32))
noncomputable def mJ_M_storm_203 (σ : g_S) (v1 : Int32) (v2 : Int32) (v3 : Int32) (v4 : Int64) (v6 : Int32) (v7 : Int32) (v8 : Int32) (s1 : Int32) (s2 : Int64) (s3 : Int64) : Option ((Int32 × g_S) ⊕ g_S) :=
  if g_in s1 10 then
    g_let (g_sL σ 23 0 s1.toNatClampNeg (s2 + s3)) fun σ15 =>
    g_let (v8 + (-1 : Int32)) fun x16 =>
    some (.inl (x16, σ15))
  else none
noncomputable def mB_M_storm_156 (σ : g_S) (v1 : Int32) (v2 : Int32) (v3 : Int32) (v4 : Int64) (v6 : Int32) (v7 : Int32) (v8 : Int32) : Option ((Int32 × g_S) ⊕ g_S) :=
  if v8 < 0 then
    some (.inr σ)
  else
    if g_in v8 10 then
    if v8 ≤ 0 then
    (mJ_M_storm_203 σ v1 v2 v3 v4 v6 v7 v8 v8 ((σ.2.1 23 0 v8.toNatClampNeg) * (((10 : Int32) - v7).toInt64)) (0 : Int64))
  else
    if g_in (v8 - (1 : Int32)) 10 then
    (mJ_M_storm_203 σ v1 v2 v3 v4 v6 v7 v8 v8 ((σ.2.1 23 0 v8.toNatClampNeg) * (((10 : Int32) - v7).toInt64)) ((σ.2.1 23 0 (v8 - (1 : Int32)).toNatClampNeg) * (v7.toInt64)))
  else none
  else none
noncomputable def mB_M_storm_82 (σ : g_S) (v1 : Int32) (v2 : Int32) (v3 : Int32) (v4 : Int64) (v6 : Int32) : Option ((Int64 × Int32 × g_S) ⊕ (Int64 × g_S)) :=
  if (σ.1 0 0 5) ≤ v6 then
    some (.inr (v4, σ))
  else
    (mF_M_doesSee σ 0 v6 v1).bind fun x9 =>
    (mF_M_flag x9).bind fun x10 =>
    if g_in v6 41 then
    if g_in ((8 : Int32) + v6) 41 then
    (mR_reachBy σ 0 v6 (0 : Int32)).bind fun x11 =>
    (mF_M_seesBy σ (σ.1 1 0 v6.toNatClampNeg) v1 (σ.1 1 0 ((8 : Int32) + v6).toNatClampNeg) (0 : Int32) x11).bind fun x12 =>
    (mF_M_flag x12).bind fun x13 =>
    g_let ((x10 * ((10 : Int32) - v3)) + (x13 * v3)) fun x14 =>
    (g_lp (fun v => mB_M_storm_156 v.2 v1 v2 v3 v4 v6 x14 v.1) g_fu ((8 : Int32), σ)).bind fun e17 =>
    g_let (v4 * (10 : Int64)) fun x18 =>
    g_let (v6 + (1 : Int32)) fun x19 =>
    some (.inl (x18, x19, e17))
  else none
  else none
noncomputable def mB_M_storm_231 (σ : g_S) (v4 : Int64) (v6 : Int64) (v8 : Int32) : Option ((Int64 × Int32) ⊕ Int64) :=
  if (8 : Int32) < v8 then
    some (.inr v6)
  else
    if g_in v8 10 then
    g_let (v6 + (σ.2.1 23 0 v8.toNatClampNeg)) fun x21 =>
    g_let (v8 + (1 : Int32)) fun x22 =>
    some (.inl (x21, x22))
  else none
noncomputable def mF_M_storm (σ : g_S) (v1 : Int32) (v2 : Int32) (v3 : Int32) : Option (Int32 × g_S) :=
  g_let (g_sI σ 0 0 0 (0 : Int32)) fun σ1 =>
    (mF_M_isField σ1 v1).bind fun x2 =>
    if x2 = 0 then
    some ((-1 : Int32), σ1)
  else
    (mF_M_in (v2.toInt64) (0 : Int64) (8 : Int64)).bind fun x3 =>
    if x3 = 0 then
    some ((-1 : Int32), σ1)
  else
    (mF_M_in (v3.toInt64) (0 : Int64) (10 : Int64)).bind fun x4 =>
    if x4 = 0 then
    some ((-1 : Int32), σ1)
  else
    (g_lp (fun v => mB_M_storm_42 v.2 v1 v2 v3 v.1) g_fu ((0 : Int32), σ1)).bind fun e8 =>
    (g_lp (fun v => mB_M_storm_82 v.2.2 v1 v2 v3 v.1 v.2.1) g_fu ((1 : Int64), (0 : Int32), e8)).bind fun e20 =>
    (g_lp (fun v => mB_M_storm_231 e20.2 e20.1 v.1 v.2) g_fu ((0 : Int64), v2)).bind fun e23 =>
    (mC_M_common e23 e20.1).bind fun x24 =>
    g_let (g_sI e20.2 0 0 1 (0 : Int32)) fun σ25 =>
    if ¬ x24 = 0 then
    (mF_M_enters σ25 (e23 / x24)).bind fun σ26 =>
    if ¬ x24 = 0 then
    (mF_M_enters σ26 (e20.1 / x24)).bind fun σ27 =>
    some ((0 : Int32), σ27)
  else none
  else none
noncomputable def mJ_M_cock_122 (σ : g_S) (v1 : Int32) (v2 : Int32) (v3 : Int32) (v4 : Int32) (v5 : Int32) (v6 : Int32) (s1 : Int32) (s2 : Int32) : Option ((Int32 × g_S) ⊕ g_S) :=
  if g_in s1 610 then
    g_let (g_sI σ 24 0 s1.toNatClampNeg s2) fun σ7 =>
    g_let (v6 + (-1 : Int32)) fun x8 =>
    some (.inl (x8, σ7))
  else none
noncomputable def mJ_M_cock_115 (σ : g_S) (v1 : Int32) (v2 : Int32) (v3 : Int32) (v4 : Int32) (v5 : Int32) (v6 : Int32) (s1 : Int32) : Option ((Int32 × g_S) ⊕ g_S) :=
  if g_in v5 610 then
    (mJ_M_cock_122 σ v1 v2 v3 v4 v5 v6 s1 (σ.1 24 0 v5.toNatClampNeg))
  else none
noncomputable def mB_M_cock_74 (σ : g_S) (v1 : Int32) (v2 : Int32) (v3 : Int32) (v4 : Int32) (v5 : Int32) (v6 : Int32) : Option ((Int32 × g_S) ⊕ g_S) :=
  if v6 ≤ 0 then
    some (.inr σ)
  else
    if v6 = v4 then
    (mJ_M_cock_115 σ v1 v2 v3 v4 v5 v6 v5)
  else
    if g_in (((10 : Int32) * (v3 - v6)) + v6) 610 then
    if (σ.1 24 0 (((10 : Int32) * (v3 - v6)) + v6).toNatClampNeg) = 0 then
    (mJ_M_cock_122 σ v1 v2 v3 v4 v5 v6 v5 v6)
  else
    (mJ_M_cock_115 σ v1 v2 v3 v4 v5 v6 v5)
  else none
noncomputable def mB_M_cock_43 (σ : g_S) (v1 : Int32) (v2 : Int32) (v3 : Int32) (v4 : Int32) : Option ((Int32 × g_S) ⊕ g_S) :=
  if (10 : Int32) ≤ v4 then
    some (.inr σ)
  else
    g_let (((10 : Int32) * v3) + v4) fun x4 =>
    if g_in x4 610 then
    g_let (g_sI σ 24 0 x4.toNatClampNeg (0 : Int32)) fun σ5 =>
    g_let (g_min v2 v3) fun x6 =>
    (g_lp (fun v => mB_M_cock_74 v.2 v1 v2 v3 v4 x4 v.1) g_fu (x6, σ5)).bind fun e9 =>
    g_let (v4 + (1 : Int32)) fun x10 =>
    some (.inl (x10, e9))
  else none
noncomputable def mB_M_cock_35 (σ : g_S) (v1 : Int32) (v2 : Int32) (v3 : Int32) : Option ((Int32 × g_S) ⊕ g_S) :=
  if v1 < v3 then
    some (.inr σ)
  else
    (g_lp (fun v => mB_M_cock_43 v.2 v1 v2 v3 v.1) g_fu ((0 : Int32), σ)).bind fun e11 =>
    g_let (v3 + (1 : Int32)) fun x12 =>
    some (.inl (x12, e11))
noncomputable def mF_M_cock (σ : g_S) (v1 : Int32) (v2 : Int32) : Option (Int32 × g_S) :=
  g_let (g_sI σ 0 0 0 (0 : Int32)) fun σ1 =>
    (mF_M_in (v1.toInt64) (0 : Int64) (60 : Int64)).bind fun x2 =>
    if x2 = 0 then
    some ((-1 : Int32), σ1)
  else
    (mF_M_in (v2.toInt64) (2 : Int64) (9 : Int64)).bind fun x3 =>
    if x3 = 0 then
    some ((-1 : Int32), σ1)
  else
    (g_lp (fun v => mB_M_cock_35 v.2 v1 v2 v.1) g_fu ((0 : Int32), σ1)).bind fun e13 =>
    if g_in ((10 : Int32) * v1) 610 then
    some ((e13.1 24 0 ((10 : Int32) * v1).toNatClampNeg), e13)
  else none
noncomputable def mB_M_law_42 (σ : g_S) (v2 : Int32) (v3 : Int32) (v4 : Int32) : Option ((Int32 × g_S) ⊕ g_S) :=
  if (σ.1 0 0 23) ≤ v4 then
    some (.inr σ)
  else
    if g_in v4 80 then
    if g_in v4 80 then
    g_let (g_sI σ 8 2 v4.toNatClampNeg (σ.1 8 0 v4.toNatClampNeg)) fun σ7 =>
    g_let (v4 + (1 : Int32)) fun x8 =>
    some (.inl (x8, σ7))
  else none
  else none
noncomputable def mF_M_law (σ : g_S) : Option (Int32 × g_S) :=
  g_let (g_sI σ 0 0 0 (0 : Int32)) fun σ1 =>
    g_b2 (mF_M_readsRule σ1) fun x3 σ2 =>
    if 0 ≤ x3 then
    (mF_M_allSeen σ2 0).bind fun x4 =>
    (mF_J12_bitCount x4).bind fun x5 =>
    g_let (σ2.1 0 0 23) fun x6 =>
    (g_lp (fun v => mB_M_law_42 v.2 x5 x6 v.1) g_fu ((0 : Int32), σ2)).bind fun e9 =>
    (mF_M_laysCode e9 1 (e9.1 0 0 24)).bind fun σ10 =>
    (mF_M_allSeen σ10 0).bind fun x11 =>
    (mF_J12_bitCount x11).bind fun x12 =>
    (mF_M_laysCode σ10 2 x6).bind fun σ13 =>
    g_let (g_sI σ13 0 0 1 (0 : Int32)) fun σ14 =>
    (mF_M_enters σ14 (x12.toInt64)).bind fun σ15 =>
    (mF_M_enters σ15 (x5.toInt64)).bind fun σ16 =>
    some ((x12 - x5), σ16)
  else
    some (((x3 + (1 : Int32)) - (10000 : Int32)), σ2)
noncomputable def mF_M_gets (v0 : Int32) (v1 : Int32) (v2 : Int32) : Option Int32 :=
  some ((((v2 * (g_min v0 v1)) / (4 : Int32)) - v0) - (g_max (0 : Int32) (v0 - (4 : Int32))))
noncomputable def mB_M_isRest_5 (v0 : Int32) (v1 : Int32) (v2 : Int32) (v3 : Int32) (v4 : Int32) : Option ((Int32 × Int32) ⊕ Int32) :=
  if (9 : Int32) < v4 then
    some (.inr v3)
  else
    if v3 = 0 then
    g_let (v4 + (1 : Int32)) fun x1 =>
    some (.inl ((0 : Int32), x1))
  else
    (mF_M_gets v4 v1 v2).bind fun x2 =>
    (mF_M_gets v0 v1 v2).bind fun x3 =>
    if x3 < x2 then
    g_let (v4 + (1 : Int32)) fun x4 =>
    some (.inl ((0 : Int32), x4))
  else
    g_let (v4 + (1 : Int32)) fun x5 =>
    some (.inl ((1 : Int32), x5))
noncomputable def mF_M_isRest (v0 : Int32) (v1 : Int32) (v2 : Int32) : Option Int32 :=
  (g_lp (fun v => mB_M_isRest_5 v0 v1 v2 v.1 v.2) g_fu ((1 : Int32), (0 : Int32))).bind fun e6 =>
    if e6 = 0 ∨ e6 = 1 then some e6 else none
noncomputable def mB_M_rests_37 (σ : g_S) (v1 : Int32) (v3 : Int32) (v2 : Int32) (v4 : Int32) : Option ((Int32 × Int32 × g_S) ⊕ (Int32 × g_S)) :=
  if (9 : Int32) < v4 then
    some (.inr (v2, σ))
  else
    (mF_M_isRest v3 v4 v1).bind fun x4 =>
    if x4 = 0 then
    g_let (v4 + (1 : Int32)) fun x5 =>
    some (.inl (v2, x5, σ))
  else
    (mF_M_isRest v4 v3 v1).bind fun x6 =>
    if x6 = 0 then
    g_let (v4 + (1 : Int32)) fun x7 =>
    some (.inl (v2, x7, σ))
  else
    if v2 = 0 then
    (mF_M_enters σ (v3.toInt64)).bind fun σ10 =>
    (mF_M_enters σ10 (v4.toInt64)).bind fun σ11 =>
    g_let (v2 + (1 : Int32)) fun x12 =>
    g_let (v4 + (1 : Int32)) fun x13 =>
    some (.inl (x12, x13, σ11))
  else
    g_let (v2 + (1 : Int32)) fun x8 =>
    g_let (v4 + (1 : Int32)) fun x9 =>
    some (.inl (x8, x9, σ))
noncomputable def mB_M_rests_28 (σ : g_S) (v1 : Int32) (v2 : Int32) (v3 : Int32) : Option ((Int32 × Int32 × g_S) ⊕ (Int32 × g_S)) :=
  if (9 : Int32) < v3 then
    some (.inr (v2, σ))
  else
    (g_lp (fun v => mB_M_rests_37 v.2.2 v1 v3 v.1 v.2.1) g_fu (v2, (0 : Int32), σ)).bind fun e14 =>
    g_let (v3 + (1 : Int32)) fun x15 =>
    some (.inl (e14.1, x15, e14.2))
noncomputable def mF_M_rests (σ : g_S) (v1 : Int32) : Option (Int32 × g_S) :=
  g_let (g_sI σ 0 0 0 (0 : Int32)) fun σ1 =>
    (mF_M_in (v1.toInt64) (0 : Int64) (20 : Int64)).bind fun x2 =>
    if x2 = 0 then
    some ((-1 : Int32), σ1)
  else
    g_let (g_sI σ1 0 0 1 (0 : Int32)) fun σ3 =>
    (g_lp (fun v => mB_M_rests_28 v.2.2 v1 v.1 v.2.1) g_fu ((0 : Int32), (0 : Int32), σ3)).bind fun e16 =>
    some (e16.1, e16.2)
noncomputable def mF_M_draws (σ : g_S) (v1 : Int32) : Option (Int32 × g_S) :=
  g_let (g_sI σ 0 0 45 (((σ.1 0 0 45) * (1103515245 : Int32)) + (12345 : Int32))) fun σ1 =>
    if ¬ v1 = 0 then
    some ((g_rem (((σ1.1 0 0 45).toUInt32 >>> ((16 : Int32).toUInt32 &&& Int32.toUInt32 31)).toInt32) v1), σ1)
  else none
noncomputable def mB_M_years_30 (σ : g_S) (v2 : Int32) (v3 : Int32) : Option ((Int32 × g_S) ⊕ g_S) :=
  if v2 ≤ v3 then
    some (.inr σ)
  else
    g_b2 (mF_M_draws σ (4 : Int32)) fun x6 σ5 =>
    if (2 : Int32) ≤ x6 then
    if (σ5.1 0 0 5) ≤ 0 then
    g_let (v3 + (1 : Int32)) fun x7 =>
    some (.inl (x7, σ5))
  else
    g_b2 (mF_M_draws σ5 (σ5.1 0 0 5)) fun x9 σ8 =>
    g_b2 (mF_M_draws σ8 (8 : Int32)) fun x11 σ10 =>
    if x6 = (2 : Int32) then
    g_b2 (mF_M_facesOne σ10 1 x9 x11) fun x16 σ15 =>
    g_let (v3 + (1 : Int32)) fun x17 =>
    some (.inl (x17, σ15))
  else
    g_b2 (mF_M_stepsOne σ10 1 x9 x11) fun x13 σ12 =>
    g_let (v3 + (1 : Int32)) fun x14 =>
    some (.inl (x14, σ12))
  else
    (mF_M_hourGoes σ5 1).bind fun σ18 =>
    g_let (v3 + (1 : Int32)) fun x19 =>
    some (.inl (x19, σ18))
noncomputable def mB_M_years_130 (σ : g_S) (v3 : Int32) (v4 : Int32) : Option ((Int32 × Int32) ⊕ Int32) :=
  if (σ.1 0 0 5) ≤ v4 then
    some (.inr v3)
  else
    if g_in ((16 : Int32) + v4) 41 then
    g_let (v3 + (σ.1 1 1 ((16 : Int32) + v4).toNatClampNeg)) fun x21 =>
    g_let (v4 + (1 : Int32)) fun x22 =>
    some (.inl (x21, x22))
  else none
noncomputable def mF_M_years (σ : g_S) (v1 : Int32) (v2 : Int32) : Option (Int32 × g_S) :=
  g_let (g_sI σ 0 0 0 (0 : Int32)) fun σ1 =>
    (mF_M_in (v2.toInt64) (1 : Int64) (60 : Int64)).bind fun x2 =>
    if x2 = 0 then
    some ((-1 : Int32), σ1)
  else
    g_let (g_sI σ1 0 0 45 v1) fun σ3 =>
    (mF_M_copies σ3).bind fun σ4 =>
    (g_lp (fun v => mB_M_years_30 v.2 v2 v.1) g_fu ((0 : Int32), σ4)).bind fun e20 =>
    (g_lp (fun v => mB_M_years_130 e20 v.1 v.2) g_fu ((0 : Int32), (0 : Int32))).bind fun e23 =>
    g_let (g_sI e20 0 0 1 (0 : Int32)) fun σ24 =>
    (mF_M_allSeen σ24 1).bind fun x25 =>
    (mF_J12_bitCount x25).bind fun x26 =>
    (mF_M_enters σ24 (x26.toInt64)).bind fun σ27 =>
    (mF_M_enters σ27 (e23.toInt64)).bind fun σ28 =>
    (mF_M_known σ28 1).bind fun x29 =>
    some (x29, σ28)
noncomputable def mB_M_keep_38 (σ : g_S) (v1 : Int32) (v2 : Int32) : Option ((Int32 × g_S) ⊕ g_S) :=
  if (41 : Int32) ≤ v2 then
    some (.inr σ)
  else
    if g_in v2 41 then
    if g_in (((41 : Int32) * v1) + v2) 123 then
    g_let (g_sI σ 27 0 (((41 : Int32) * v1) + v2).toNatClampNeg (σ.1 1 0 v2.toNatClampNeg)) fun σ5 =>
    g_let (v2 + (1 : Int32)) fun x6 =>
    some (.inl (x6, σ5))
  else none
  else none
noncomputable def mF_M_keep (σ : g_S) (v1 : Int32) : Option (Int32 × g_S) :=
  g_let (g_sI σ 0 0 0 (0 : Int32)) fun σ1 =>
    (mF_M_in (v1.toInt64) (0 : Int64) (2 : Int64)).bind fun x2 =>
    if x2 = 0 then
    some ((0 : Int32), σ1)
  else
    if g_in v1 3 then
    g_let (g_sI σ1 25 0 v1.toNatClampNeg (vp_nar .boolean (1 : Int32))) fun σ3 =>
    if g_in v1 3 then
    g_let (g_sI σ3 26 0 v1.toNatClampNeg (σ3.1 0 0 7)) fun σ4 =>
    (g_lp (fun v => mB_M_keep_38 v.2 v1 v.1) g_fu ((0 : Int32), σ4)).bind fun e7 =>
    some ((1 : Int32), e7)
  else none
  else none
noncomputable def mB_M_again_43 (σ : g_S) (v1 : Int32) (v2 : Int32) : Option ((Int32 × g_S) ⊕ g_S) :=
  if (41 : Int32) ≤ v2 then
    some (.inr σ)
  else
    if g_in (((41 : Int32) * v1) + v2) 123 then
    if g_in v2 41 then
    g_let (g_sI σ 1 0 v2.toNatClampNeg (σ.1 27 0 (((41 : Int32) * v1) + v2).toNatClampNeg)) fun σ3 =>
    g_let (v2 + (1 : Int32)) fun x4 =>
    some (.inl (x4, σ3))
  else none
  else none
noncomputable def mF_M_again (σ : g_S) (v1 : Int32) : Option (Int32 × g_S) :=
  g_let (g_sI σ 0 0 0 (0 : Int32)) fun σ1 =>
    (mF_M_in (v1.toInt64) (0 : Int64) (2 : Int64)).bind fun x2 =>
    if x2 = 0 then
    some ((0 : Int32), σ1)
  else
    if g_in v1 3 then
    if (σ1.1 25 0 v1.toNatClampNeg) = 0 then
    some ((0 : Int32), σ1)
  else
    if g_in v1 3 then
    if (σ1.1 26 0 v1.toNatClampNeg) = (σ1.1 0 0 7) then
    (g_lp (fun v => mB_M_again_43 v.2 v1 v.1) g_fu ((0 : Int32), σ1)).bind fun e5 =>
    g_let (g_sI e5 0 0 27 (0 : Int32)) fun σ6 =>
    some ((1 : Int32), σ6)
  else
    some ((0 : Int32), σ1)
  else none
  else none
noncomputable def mF_M_count (σ : g_S) (v1 : Int32) : Option (Int32 × g_S) :=
  g_let (g_sI σ 0 0 0 (0 : Int32)) fun σ1 =>
    if v1 = (0 : Int32) then
    some ((σ1.1 0 0 3), σ1)
  else if v1 = (1 : Int32) then
    some ((σ1.1 0 0 4), σ1)
  else if v1 = (2 : Int32) then
    some ((σ1.1 0 0 5), σ1)
  else if v1 = (3 : Int32) then
    some ((σ1.1 0 0 6), σ1)
  else if v1 = (4 : Int32) then
    if g_in (40 : Int32) 41 then
    some ((σ1.1 1 0 (40 : Int32).toNatClampNeg), σ1)
  else none
  else if v1 = (5 : Int32) then
    if g_in (40 : Int32) 41 then
    (mF_M_lightOn σ1 (σ1.1 1 0 (40 : Int32).toNatClampNeg)).bind fun x2 =>
    some (x2, σ1)
  else none
  else if v1 = (6 : Int32) then
    (mF_M_known σ1 0).bind fun x3 =>
    some (x3, σ1)
  else if v1 = (7 : Int32) then
    (mF_M_fields σ1).bind fun x4 =>
    (mF_M_free σ1).bind fun x5 =>
    (mF_J12_bitCount x5).bind fun x6 =>
    some ((x4 - x6), σ1)
  else if v1 = (8 : Int32) then
    (mF_M_allSeen σ1 0).bind fun x7 =>
    (mF_J12_bitCount x7).bind fun x8 =>
    some (x8, σ1)
  else if v1 = (9 : Int32) then
    some ((σ1.1 0 0 39), σ1)
  else if v1 = (10 : Int32) then
    some ((σ1.1 0 0 27), σ1)
  else if v1 = (11 : Int32) then
    some ((σ1.1 0 0 1), σ1)
  else if v1 = (12 : Int32) then
    some ((σ1.1 0 0 14), σ1)
  else some ((-100 : Int32), σ1)
noncomputable def mF_M_row (σ : g_S) (v1 : Int32) : Option (Int64 × g_S) :=
  g_let (g_sI σ 0 0 0 (0 : Int32)) fun σ1 =>
    (mF_M_in (v1.toInt64) (0 : Int64) (((σ1.1 0 0 1) - (1 : Int32)).toInt64)).bind fun x2 =>
    if x2 = 0 then
    g_let (g_sI σ1 0 0 0 (1 : Int32)) fun σ3 =>
    some ((0 : Int64), σ3)
  else
    if g_in v1 53 then
    some ((σ1.2.1 2 0 v1.toNatClampNeg), σ1)
  else none
