set_option maxRecDepth 100000
theorem mw_M_thrown {X : g_F} {hid : Bool} (C : g_M gCl X cX6_thrown RX6 (some .int)) (hR : g_R X = g_rm 1 0 0) (hL : g_nL X = 1) {ad : Nat → Nat → Nat} {σ : g_S} {o : Int32} (h : mF_M_thrown σ = some o) (hQ : g_MQ gCl X (gM hid) ad σ (some (.int o)) = g_Q X) : g_Y gCl X (gM hid) ad σ (0, 0) 0 [(0, .ref (ad 0 0))] [] := by
  unfold mF_M_thrown at h
  refine y_aload_n C dX6_thrown_0 0 rfl rfl ?_
  refine gf_M_0 C dX6_thrown_1 ?_
  replace h := Option.some.inj h; subst h
  exact y_iret C hQ ⟨Nat.zero_le _, Nat.zero_le _⟩ dX6_thrown_4
theorem ct_M_thrown {D : va_G} {dA : Nat → ClassId} {A : Nat → Prop} {s0 : State} {b0 : Nat} {l : Launch} {hid : Bool} {ad : Nat → Nat → Nat} {σ : g_S} {r : Int32} (h : mF_M_thrown σ = some r) : g_Met gCl D dA A s0 b0 l yX6_thrown cX6_thrown 1 (some .int) 1 (0, 0) (gM hid) ad σ [.ref (ad 0 0)] (gM hid) ad σ (some (.int r)) :=
  g_Met.of pl_X6 (Nat.le_of_ble_eq_true rfl) (fun X C hQ hR _ _ hL _ es eb => mw_M_thrown C hR hL h hQ)
theorem ml_M_sign_18 {X : g_F} {hid : Bool} (C : g_M gCl X cX6_sign RX6 (some .int)) (hR : g_R X = g_rm 1 0 0) (hL : g_nL X = 3) {ad : Nat → Nat → Nat} {σ : g_S} {v1 : Int32} (n : Nat) (v : (Int32 × g_S)) (e : g_S) (h : g_lp (fun v => mB_M_sign_18 v.2 v1 v.1) n v = some e) (kx : g_Y gCl X (gM hid) ad e (0, 0) 53 [(0, .ref (ad 0 0))] []) : g_Y gCl X (gM hid) ad v.2 (0, 0) 18 [(0, .ref (ad 0 0)), (1, .int v1), (2, .int v.1)] [] := by
  refine g_loop (P := fun v => g_Y gCl X (gM hid) ad v.2 (0, 0) 18 [(0, .ref (ad 0 0)), (1, .int v1), (2, .int v.1)] []) (T := fun e => g_Y gCl X (gM hid) ad e (0, 0) 53 [(0, .ref (ad 0 0))] []) ?_ n v e h kx
  clear h kx
  clear n v e
  intro v o h kl kx
  obtain ⟨v2, σ⟩ := v
  have h : mB_M_sign_18 σ v1 v2 = some o := h
  unfold mB_M_sign_18 at h
  show g_Y gCl X (gM hid) ad σ (0, 0) 18 [(0, .ref (ad 0 0)), (1, .int v1), (2, .int v2)] []
  refine y_iload_n C dX6_sign_18 2 rfl rfl ?_
  refine y_iconst (v := (4 : Int32)) C dX6_sign_19 (by decide) ?_
  refine y_icmp_ge (tgt := 53) C dX6_sign_20 rfl (fun hc => ?_) (fun hc => ?_)
  · replace h := g_it h hc
    refine y_sub (vs2 := [(0, .ref (ad 0 0))]) [0] rfl ?_
    exact kx _ (Option.some.inj h).symm
  · replace h := g_if h hc
    refine y_aload_n C dX6_sign_23 0 rfl rfl ?_
    refine gf_M_13 C dX6_sign_24 ?_
    refine y_aload_n C dX6_sign_27 0 rfl rfl ?_
    refine gf_M_14 C dX6_sign_28 ?_
    refine y_iload_n C dX6_sign_31 2 rfl rfl ?_
    refine y_iadd C dX6_sign_32 ?_
    refine y_iload_n C dX6_sign_33 1 rfl rfl ?_
    refine y_bipush (v := (24 : Int32)) C dX6_sign_34 (by decide) ?_
    refine y_bipush (v := (8 : Int32)) C dX6_sign_36 (by decide) ?_
    refine y_iload_n C dX6_sign_38 2 rfl rfl ?_
    refine y_imul C dX6_sign_39 ?_
    refine y_isub C dX6_sign_40 ?_
    refine y_ishr C dX6_sign_41 ?_
    refine y_sipush (v := (255 : Int32)) C dX6_sign_42 (by decide) ?_
    refine y_iand C dX6_sign_45 ?_
    obtain ⟨hg, h⟩ := g_gd h
    obtain ⟨σ2, hσ2, h⟩ := g_lt h
    refine as_M_5 C nM_5_0 hσ2 hg dX6_sign_46 ?_
    obtain ⟨x3, hx3, h⟩ := g_lt h
    refine y_iinc (c := (1 : Int32)) (vs1 := [(2, .int x3), (0, .ref (ad 0 0)), (1, .int v1)]) C hx3 (by decide) dX6_sign_47 2 rfl (g_lL hL rfl) rfl ?_
    refine y_goto (tgt := 18) C dX6_sign_50 rfl ?_
    refine y_sub (vs2 := [(0, .ref (ad 0 0)), (1, .int v1), (2, .int x3)]) [1, 2, 0] rfl ?_
    exact kl _ (Option.some.inj h).symm
theorem mw_M_sign {X : g_F} {hid : Bool} (C : g_M gCl X cX6_sign RX6 (some .int)) (hR : g_R X = g_rm 1 0 0) (hL : g_nL X = 3) {ad : Nat → Nat → Nat} {σ : g_S} {v1 : Int32} {o : (Int32 × g_S)} (h : mF_M_sign σ v1 = some o) (hQ : g_MQ gCl X (gM hid) ad o.2 (some (.int o.1)) = g_Q X) : g_Y gCl X (gM hid) ad σ (0, 0) 0 [(0, .ref (ad 0 0)), (1, .int v1)] [] := by
  unfold mF_M_sign at h
  refine y_aload_n C dX6_sign_0 0 rfl rfl ?_
  refine y_iconst (v := (0 : Int32)) C dX6_sign_1 (by decide) ?_
  obtain ⟨σ1, hσ1, h⟩ := g_lt h
  refine pf_M_0 C hσ1 dX6_sign_2 ?_
  refine y_aload_n C dX6_sign_5 0 rfl rfl ?_
  refine gf_M_14 C dX6_sign_6 ?_
  refine y_bipush (v := (76 : Int32)) C dX6_sign_9 (by decide) ?_
  refine y_icmp_le (tgt := 16) C dX6_sign_11 rfl (fun hc => ?_) (fun hc => ?_)
  · replace h := g_it h hc
    refine y_iconst (v := (0 : Int32)) C dX6_sign_16 (by decide) ?_
    refine y_istore_n (vs1 := [(2, .int (0 : Int32)), (0, .ref (ad 0 0)), (1, .int v1)]) C rfl dX6_sign_17 rfl (g_lL hL rfl) rfl ?_
    refine y_sub (vs2 := [(0, .ref (ad 0 0)), (1, .int v1), (2, .int (0 : Int32))]) [1, 2, 0] rfl ?_
    obtain ⟨e4, he4, h⟩ := g_bd h
    refine ml_M_sign_18 C hR hL (σ := σ1) _ _ _ he4 ?_
    refine y_aload_n C dX6_sign_53 0 rfl rfl ?_
    refine y_dup C dX6_sign_54 rfl ?_
    refine gf_M_14 C dX6_sign_55 ?_
    refine y_iconst (v := (4 : Int32)) C dX6_sign_58 (by decide) ?_
    refine y_iadd C dX6_sign_59 ?_
    obtain ⟨σ5, hσ5, h⟩ := g_lt h
    refine pf_M_14 C hσ5 dX6_sign_60 ?_
    refine y_aload_n C dX6_sign_63 0 rfl rfl ?_
    refine gf_M_14 C dX6_sign_64 ?_
    replace h := Option.some.inj h; subst h
    exact y_iret C hQ ⟨Nat.zero_le _, Nat.zero_le _⟩ dX6_sign_67
  · replace h := g_if h hc
    refine y_iconst (v := (-1 : Int32)) C dX6_sign_14 (by decide) ?_
    replace h := Option.some.inj h; subst h
    exact y_iret C hQ ⟨Nat.zero_le _, Nat.zero_le _⟩ dX6_sign_15
theorem ct_M_sign {D : va_G} {dA : Nat → ClassId} {A : Nat → Prop} {s0 : State} {b0 : Nat} {l : Launch} {hid : Bool} {ad : Nat → Nat → Nat} {σ : g_S} {v1 : Int32} {r : Int32} {σ1 : g_S} (h : mF_M_sign σ v1 = some (r, σ1)) : g_Met gCl D dA A s0 b0 l yX6_sign cX6_sign 3 (some .int) 1 (0, 0) (gM hid) ad σ [.ref (ad 0 0), .int v1] (gM hid) ad σ1 (some (.int r)) :=
  g_Met.of pl_X6 (Nat.le_of_ble_eq_true rfl) (fun X C hQ hR _ _ hL _ es eb => mw_M_sign C hR hL h hQ)
theorem mw_M_in {X : g_F} {LM : g_L} (C : g_M gCl X cX6_in RX6 (some .boolean)) (hR : g_R X = g_rm 1 0 0) (hL : g_nL X = 6) {ad : Nat → Nat → Nat} {σ : g_S} {v0 : Int64} {v2 : Int64} {v4 : Int64} {o : Int32} (h : mF_M_in v0 v2 v4 = some o) (hQ : g_MQ gCl X LM ad σ (some (.int o)) = g_Q X) : g_Y gCl X LM ad σ (0, 0) 0 [(0, .long v0), (2, .long v2), (4, .long v4)] [] := by
  unfold mF_M_in at h
  refine y_lload_n C dX6_in_0 0 rfl rfl ?_
  refine y_lload_n C dX6_in_1 1 rfl rfl ?_
  refine y_lcmp C dX6_in_2 ?_
  refine y_if_lt (tgt := 17) C dX6_in_3 rfl (fun hc => ?_) (fun hc => ?_)
  · replace h := g_it h hc
    refine y_iconst (v := (0 : Int32)) C dX6_in_17 (by decide) ?_
    replace h := Option.some.inj h; subst h
    exact y_zret C (by decide) hQ ⟨Nat.zero_le _, Nat.zero_le _⟩ dX6_in_18
  · replace h := g_if h hc
    refine y_lload_n C dX6_in_6 0 rfl rfl ?_
    refine y_lload C dX6_in_7 2 rfl ?_
    refine y_lcmp C dX6_in_9 ?_
    refine y_if_gt (tgt := 17) C dX6_in_10 rfl (fun hc => ?_) (fun hc => ?_)
    · replace h := g_it h hc
      refine y_iconst (v := (0 : Int32)) C dX6_in_17 (by decide) ?_
      replace h := Option.some.inj h; subst h
      exact y_zret C (by decide) hQ ⟨Nat.zero_le _, Nat.zero_le _⟩ dX6_in_18
    · replace h := g_if h hc
      refine y_iconst (v := (1 : Int32)) C dX6_in_13 (by decide) ?_
      refine y_goto (tgt := 18) C dX6_in_14 rfl ?_
      replace h := Option.some.inj h; subst h
      exact y_zret C (by decide) hQ ⟨Nat.zero_le _, Nat.zero_le _⟩ dX6_in_18
theorem ct_M_in {D : va_G} {dA : Nat → ClassId} {A : Nat → Prop} {s0 : State} {b0 : Nat} {l : Launch} {LM : g_L} {ad : Nat → Nat → Nat} {σ : g_S} {v0 : Int64} {v2 : Int64} {v4 : Int64} {r : Int32} (h : mF_M_in v0 v2 v4 = some r) : g_Met gCl D dA A s0 b0 l yX6_in cX6_in 6 (some .boolean) 1 (0, 0) LM ad σ [.long v0, .long v2, .long v4] LM ad σ (some (.int r)) :=
  g_Met.of pl_X6 (Nat.le_of_ble_eq_true rfl) (fun X C hQ hR _ _ hL _ es eb => mw_M_in C hR hL h hQ)
theorem mw_M_end {X : g_F} {hid : Bool} (C : g_M gCl X cX6_end RX6 (some .boolean)) (hR : g_R X = g_rm 2 0 0) (hL : g_nL X = 2) {ad : Nat → Nat → Nat} {σ : g_S} {v1 : Int32} {o : (Int32 × g_S)} (h : mF_M_end σ v1 = some o) (hQ : g_MQ gCl X (gM hid) ad o.2 (some (.int o.1)) = g_Q X) : g_Y gCl X (gM hid) ad σ (0, 0) 0 [(0, .ref (ad 0 0)), (1, .int v1)] [] := by
  unfold mF_M_end at h
  refine y_aload_n C dX6_end_0 0 rfl rfl ?_
  refine y_iconst (v := (0 : Int32)) C dX6_end_1 (by decide) ?_
  obtain ⟨σ1, hσ1, h⟩ := g_lt h
  refine pf_M_0 C hσ1 dX6_end_2 ?_
  refine y_iload_n C dX6_end_5 1 rfl rfl ?_
  refine y_i2l C dX6_end_6 ?_
  refine y_lconst (v := (0 : Int64)) C dX6_end_7 (by decide) ?_
  refine y_aload_n C dX6_end_8 0 rfl rfl ?_
  refine gf_M_14 C dX6_end_9 ?_
  refine y_i2l C dX6_end_12 ?_
  obtain ⟨x2, hc, h⟩ := g_bd h
  refine y_callS C (As := [.long (v1.toInt64), .long (0 : Int64), .long ((σ1.1 0 0 14).toInt64)]) (rest := []) (lk_X6_126 C hR (by decide)) (ct_M_in hc) rfl rfl (Nat.le_of_ble_eq_true rfl) ⟨Nat.zero_le _, Nat.zero_le _⟩ dX6_end_13 ?_
  refine y_if_ne (tgt := 21) C dX6_end_16 rfl (fun hc => ?_) (fun hc => ?_)
  · replace h := g_if h hc
    refine y_aload_n C dX6_end_21 0 rfl rfl ?_
    refine y_iload_n C dX6_end_22 1 rfl rfl ?_
    obtain ⟨σ3, hσ3, h⟩ := g_lt h
    refine pf_M_14 C hσ3 dX6_end_23 ?_
    refine y_iconst (v := (1 : Int32)) C dX6_end_26 (by decide) ?_
    replace h := Option.some.inj h; subst h
    exact y_zret C (by decide) hQ ⟨Nat.zero_le _, Nat.zero_le _⟩ dX6_end_27
  · replace h := g_it h hc
    refine y_iconst (v := (0 : Int32)) C dX6_end_19 (by decide) ?_
    replace h := Option.some.inj h; subst h
    exact y_zret C (by decide) hQ ⟨Nat.zero_le _, Nat.zero_le _⟩ dX6_end_20
theorem ct_M_end {D : va_G} {dA : Nat → ClassId} {A : Nat → Prop} {s0 : State} {b0 : Nat} {l : Launch} {hid : Bool} {ad : Nat → Nat → Nat} {σ : g_S} {v1 : Int32} {r : Int32} {σ1 : g_S} (h : mF_M_end σ v1 = some (r, σ1)) : g_Met gCl D dA A s0 b0 l yX6_end cX6_end 2 (some .boolean) 2 (0, 0) (gM hid) ad σ [.ref (ad 0 0), .int v1] (gM hid) ad σ1 (some (.int r)) :=
  g_Met.of pl_X6 (Nat.le_of_ble_eq_true rfl) (fun X C hQ hR _ _ hL _ es eb => mw_M_end C hR hL h hQ)
theorem mw_M_begins {X : g_F} {hid : Bool} (C : g_M gCl X cX6_begins RX6 (some .int)) (hR : g_R X = g_rm 1 0 0) (hL : g_nL X = 3) {ad : Nat → Nat → Nat} {σ : g_S} {v1 : Int32} {o : (Int32 × g_S)} (h : mF_M_begins σ v1 = some o) (hQ : g_MQ gCl X (gM hid) ad o.2 (some (.int o.1)) = g_Q X) : g_Y gCl X (gM hid) ad σ (0, 0) 0 [(0, .ref (ad 0 0)), (1, .int v1)] [] := by
  unfold mF_M_begins at h
  refine y_aload_n C dX6_begins_0 0 rfl rfl ?_
  refine gf_M_14 C dX6_begins_1 ?_
  obtain ⟨x1, hx1, h⟩ := g_lt h
  refine y_istore_n (vs1 := [(2, .int x1), (0, .ref (ad 0 0)), (1, .int v1)]) C hx1 dX6_begins_4 rfl (g_lL hL rfl) rfl ?_
  refine y_aload_n C dX6_begins_5 1 rfl rfl ?_
  refine y_iconst (v := (0 : Int32)) C dX6_begins_6 (by decide) ?_
  obtain ⟨σ2, hσ2, h⟩ := g_lt h
  refine pf_M_14 C hσ2 dX6_begins_7 ?_
  refine y_aload_n C dX6_begins_10 1 rfl rfl ?_
  refine y_iconst (v := (0 : Int32)) C dX6_begins_11 (by decide) ?_
  obtain ⟨σ3, hσ3, h⟩ := g_lt h
  refine pf_M_15 C hσ3 dX6_begins_12 ?_
  refine y_aload_n C dX6_begins_15 1 rfl rfl ?_
  refine y_iconst (v := (0 : Int32)) C dX6_begins_16 (by decide) ?_
  obtain ⟨σ4, hσ4, h⟩ := g_lt h
  refine pf_M_17 C hσ4 dX6_begins_17 ?_
  refine y_aload_n C dX6_begins_20 1 rfl rfl ?_
  refine y_iload_n C dX6_begins_21 0 rfl rfl ?_
  refine y_iload_n C dX6_begins_22 2 rfl rfl ?_
  refine y_mmin C q1456 (g_rmM hR (by decide)) (Nat.le_of_ble_eq_true rfl) ⟨Nat.zero_le _, Nat.zero_le _⟩ dX6_begins_23 ?_
  obtain ⟨σ5, hσ5, h⟩ := g_lt h
  refine pf_M_16 C hσ5 dX6_begins_26 ?_
  refine y_iload_n C dX6_begins_29 0 rfl rfl ?_
  replace h := Option.some.inj h; subst h
  exact y_iret C hQ ⟨Nat.zero_le _, Nat.zero_le _⟩ dX6_begins_30
theorem ct_M_begins {D : va_G} {dA : Nat → ClassId} {A : Nat → Prop} {s0 : State} {b0 : Nat} {l : Launch} {hid : Bool} {ad : Nat → Nat → Nat} {σ : g_S} {v1 : Int32} {r : Int32} {σ1 : g_S} (h : mF_M_begins σ v1 = some (r, σ1)) : g_Met gCl D dA A s0 b0 l yX6_begins cX6_begins 3 (some .int) 1 (0, 0) (gM hid) ad σ [.ref (ad 0 0), .int v1] (gM hid) ad σ1 (some (.int r)) :=
  g_Met.of pl_X6 (Nat.le_of_ble_eq_true rfl) (fun X C hQ hR _ _ hL _ es eb => mw_M_begins C hR hL h hQ)
theorem mw_M_digitIn {X : g_F} {hid : Bool} (C : g_M gCl X cX6_digitIn RX6 (some .int)) (hR : g_R X = g_rm 2 0 0) (hL : g_nL X = 3) {ad : Nat → Nat → Nat} {σ : g_S} {v1 : Int32} {v2 : Int32} {o : (Int32 × g_S)} (h : mF_M_digitIn σ v1 v2 = some o) (hQ : g_MQ gCl X (gM hid) ad o.2 (some (.int o.1)) = g_Q X) : g_Y gCl X (gM hid) ad σ (0, 0) 0 [(0, .ref (ad 0 0)), (1, .int v1), (2, .int v2)] [] := by
  unfold mF_M_digitIn at h
  refine y_aload_n C dX6_digitIn_0 0 rfl rfl ?_
  refine gf_M_15 C dX6_digitIn_1 ?_
  refine y_aload_n C dX6_digitIn_4 0 rfl rfl ?_
  refine gf_M_16 C dX6_digitIn_5 ?_
  refine y_icmp_ge (tgt := 34) C dX6_digitIn_8 rfl (fun hc => ?_) (fun hc => ?_)
  · replace h := g_it h hc
    refine y_iconst (v := (-1 : Int32)) C dX6_digitIn_34 (by decide) ?_
    replace h := Option.some.inj h; subst h
    exact y_iret C hQ ⟨Nat.zero_le _, Nat.zero_le _⟩ dX6_digitIn_35
  · replace h := g_if h hc
    refine y_aload_n C dX6_digitIn_11 0 rfl rfl ?_
    refine gf_M_13 C dX6_digitIn_12 ?_
    refine y_aload_n C dX6_digitIn_15 0 rfl rfl ?_
    refine gf_M_15 C dX6_digitIn_16 ?_
    obtain ⟨hg, h⟩ := g_gd h
    refine al_M_5 C nM_5_0 hg dX6_digitIn_19 ?_
    refine y_bipush (v := (48 : Int32)) C dX6_digitIn_20 (by decide) ?_
    refine y_isub C dX6_digitIn_22 ?_
    refine y_i2l C dX6_digitIn_23 ?_
    refine y_iload_n C dX6_digitIn_24 1 rfl rfl ?_
    refine y_i2l C dX6_digitIn_25 ?_
    refine y_iload_n C dX6_digitIn_26 2 rfl rfl ?_
    refine y_i2l C dX6_digitIn_27 ?_
    obtain ⟨x1, hc, h⟩ := g_bd h
    refine y_callS C (As := [.long (((σ.1 5 0 (σ.1 0 0 15).toNatClampNeg) - (48 : Int32)).toInt64), .long (v1.toInt64), .long (v2.toInt64)]) (rest := []) (lk_X6_126 C hR (by decide)) (ct_M_in hc) rfl rfl (Nat.le_of_ble_eq_true rfl) ⟨Nat.zero_le _, Nat.zero_le _⟩ dX6_digitIn_28 ?_
    refine y_if_ne (tgt := 36) C dX6_digitIn_31 rfl (fun hc => ?_) (fun hc => ?_)
    · replace h := g_if h hc
      refine y_aload_n C dX6_digitIn_36 0 rfl rfl ?_
      refine y_dup C dX6_digitIn_37 rfl ?_
      refine gf_M_15 C dX6_digitIn_38 ?_
      refine y_iconst (v := (1 : Int32)) C dX6_digitIn_41 (by decide) ?_
      refine y_iadd C dX6_digitIn_42 ?_
      obtain ⟨σ2, hσ2, h⟩ := g_lt h
      refine pf_M_15 C hσ2 dX6_digitIn_43 ?_
      refine y_aload_n C dX6_digitIn_46 0 rfl rfl ?_
      refine gf_M_13 C dX6_digitIn_47 ?_
      refine y_aload_n C dX6_digitIn_50 0 rfl rfl ?_
      refine gf_M_15 C dX6_digitIn_51 ?_
      refine y_iconst (v := (1 : Int32)) C dX6_digitIn_54 (by decide) ?_
      refine y_isub C dX6_digitIn_55 ?_
      obtain ⟨hg, h⟩ := g_gd h
      refine al_M_5 C nM_5_0 hg dX6_digitIn_56 ?_
      refine y_bipush (v := (48 : Int32)) C dX6_digitIn_57 (by decide) ?_
      refine y_isub C dX6_digitIn_59 ?_
      replace h := Option.some.inj h; subst h
      exact y_iret C hQ ⟨Nat.zero_le _, Nat.zero_le _⟩ dX6_digitIn_60
    · replace h := g_it h hc
      refine y_iconst (v := (-1 : Int32)) C dX6_digitIn_34 (by decide) ?_
      replace h := Option.some.inj h; subst h
      exact y_iret C hQ ⟨Nat.zero_le _, Nat.zero_le _⟩ dX6_digitIn_35
theorem ct_M_digitIn {D : va_G} {dA : Nat → ClassId} {A : Nat → Prop} {s0 : State} {b0 : Nat} {l : Launch} {hid : Bool} {ad : Nat → Nat → Nat} {σ : g_S} {v1 : Int32} {v2 : Int32} {r : Int32} {σ1 : g_S} (h : mF_M_digitIn σ v1 v2 = some (r, σ1)) : g_Met gCl D dA A s0 b0 l yX6_digitIn cX6_digitIn 3 (some .int) 2 (0, 0) (gM hid) ad σ [.ref (ad 0 0), .int v1, .int v2] (gM hid) ad σ1 (some (.int r)) :=
  g_Met.of pl_X6 (Nat.le_of_ble_eq_true rfl) (fun X C hQ hR _ _ hL _ es eb => mw_M_digitIn C hR hL h hQ)
theorem ml_M_takesOf_2 {X : g_F} {hid : Bool} (C : g_M gCl X cX6_takesOf RX6 (some .int)) (hR : g_R X = g_rm 5 0 0) (hL : g_nL X = 3) {t0 : Nat} (hu_t0 : t0 < 6) {ad : Nat → Nat → Nat} {σ : g_S} (n : Nat) (v : Int32) (e : (Int32 ⊕ Unit)) (h : g_lp (fun v => mB_M_takesOf_2 σ t0 v) n v = some e) (kx : (∀ y, e = .inl y → g_Y gCl X (gM hid) ad σ (0, 0) 38 [(0, .ref (ad 0 0)), (2, .int y)] []) ∧ (∀ y, e = .inr y → g_Y gCl X (gM hid) ad σ (0, 0) 56 [] [])) : g_Y gCl X (gM hid) ad σ (0, 0) 2 [(0, .ref (ad 0 0)), (1, .ref (g_str (g_s0 X) (g_b0 X) t0)), (2, .int v)] [] := by
  refine g_loop (P := fun v => g_Y gCl X (gM hid) ad σ (0, 0) 2 [(0, .ref (ad 0 0)), (1, .ref (g_str (g_s0 X) (g_b0 X) t0)), (2, .int v)] []) (T := fun e => (∀ y, e = .inl y → g_Y gCl X (gM hid) ad σ (0, 0) 38 [(0, .ref (ad 0 0)), (2, .int y)] []) ∧ (∀ y, e = .inr y → g_Y gCl X (gM hid) ad σ (0, 0) 56 [] [])) ?_ n v e h kx
  clear h kx
  clear n v e
  intro v o h kl kx
  obtain ⟨v2, rfl⟩ : ∃ z, z = v := ⟨_, rfl⟩
  have h : mB_M_takesOf_2 σ t0 v2 = some o := h
  unfold mB_M_takesOf_2 at h
  show g_Y gCl X (gM hid) ad σ (0, 0) 2 [(0, .ref (ad 0 0)), (1, .ref (g_str (g_s0 X) (g_b0 X) t0)), (2, .int v2)] []
  refine y_iload_n C dX6_takesOf_2 2 rfl rfl ?_
  refine y_aload_n C dX6_takesOf_3 1 rfl rfl ?_
  obtain ⟨x1, hc, h⟩ := g_bd h
  refine y_callH C (As := []) (rest := [.int v2]) (C1 := "java/lang/String") (fun H locs hS => vk_recv (g_strX C) hu_t0 hS) (lk_X6_162 C hR (by decide)) (ct_J3_length hu_t0 hc) rfl rfl (Nat.le_of_ble_eq_true rfl) ⟨Nat.zero_le _, Nat.zero_le _⟩ dX6_takesOf_4 ?_
  refine y_icmp_ge (tgt := 56) C dX6_takesOf_7 rfl (fun hc => ?_) (fun hc => ?_)
  · replace h := g_it h hc
    refine y_sub (vs2 := []) [] rfl ?_
    exact (kx _ (Option.some.inj h).symm).2 _ rfl
  · replace h := g_if h hc
    refine y_aload_n C dX6_takesOf_10 0 rfl rfl ?_
    refine gf_M_15 C dX6_takesOf_11 ?_
    refine y_aload_n C dX6_takesOf_14 0 rfl rfl ?_
    refine gf_M_16 C dX6_takesOf_15 ?_
    refine y_icmp_ge (tgt := 56) C dX6_takesOf_18 rfl (fun hc => ?_) (fun hc => ?_)
    · replace h := g_it h hc
      refine y_sub (vs2 := []) [] rfl ?_
      exact (kx _ (Option.some.inj h).symm).2 _ rfl
    · replace h := g_if h hc
      refine y_aload_n C dX6_takesOf_21 1 rfl rfl ?_
      refine y_iload_n C dX6_takesOf_22 2 rfl rfl ?_
      obtain ⟨x2, hc, h⟩ := g_bd h
      refine y_callH C (As := [.int v2]) (rest := []) (C1 := "java/lang/String") (fun H locs hS => vk_recv (g_strX C) hu_t0 hS) (lk_X6_167 C hR (by decide)) (ct_J3_charAt hu_t0 hc) rfl rfl (Nat.le_of_ble_eq_true rfl) ⟨Nat.zero_le _, Nat.zero_le _⟩ dX6_takesOf_23 ?_
      refine y_aload_n C dX6_takesOf_26 0 rfl rfl ?_
      refine gf_M_13 C dX6_takesOf_27 ?_
      refine y_aload_n C dX6_takesOf_30 0 rfl rfl ?_
      refine gf_M_15 C dX6_takesOf_31 ?_
      obtain ⟨hg, h⟩ := g_gd h
      refine al_M_5 C nM_5_0 hg dX6_takesOf_34 ?_
      refine y_icmp_ne (tgt := 50) C dX6_takesOf_35 rfl (fun hc => ?_) (fun hc => ?_)
      · replace h := g_if h hc
        obtain ⟨x3, hx3, h⟩ := g_lt h
        refine y_iinc (c := (1 : Int32)) (vs1 := [(2, .int x3), (0, .ref (ad 0 0)), (1, .ref (g_str (g_s0 X) (g_b0 X) t0))]) C hx3 (by decide) dX6_takesOf_50 2 rfl (g_lL hL rfl) rfl ?_
        refine y_goto (tgt := 2) C dX6_takesOf_53 rfl ?_
        refine y_sub (vs2 := [(0, .ref (ad 0 0)), (1, .ref (g_str (g_s0 X) (g_b0 X) t0)), (2, .int x3)]) [1, 2, 0] rfl ?_
        exact kl _ (Option.some.inj h).symm
      · replace h := g_it h hc
        refine y_sub (vs2 := [(0, .ref (ad 0 0)), (2, .int v2)]) [0, 2] rfl ?_
        exact (kx _ (Option.some.inj h).symm).1 _ rfl
theorem mw_M_takesOf {X : g_F} {hid : Bool} (C : g_M gCl X cX6_takesOf RX6 (some .int)) (hR : g_R X = g_rm 5 0 0) (hL : g_nL X = 3) {t0 : Nat} (hu_t0 : t0 < 6) {ad : Nat → Nat → Nat} {σ : g_S} {o : (Int32 × g_S)} (h : mF_M_takesOf σ t0 = some o) (hQ : g_MQ gCl X (gM hid) ad o.2 (some (.int o.1)) = g_Q X) : g_Y gCl X (gM hid) ad σ (0, 0) 0 [(0, .ref (ad 0 0)), (1, .ref (g_str (g_s0 X) (g_b0 X) t0))] [] := by
  unfold mF_M_takesOf at h
  refine y_iconst (v := (0 : Int32)) C dX6_takesOf_0 (by decide) ?_
  refine y_istore_n (vs1 := [(2, .int (0 : Int32)), (0, .ref (ad 0 0)), (1, .ref (g_str (g_s0 X) (g_b0 X) t0))]) C rfl dX6_takesOf_1 rfl (g_lL hL rfl) rfl ?_
  refine y_sub (vs2 := [(0, .ref (ad 0 0)), (1, .ref (g_str (g_s0 X) (g_b0 X) t0)), (2, .int (0 : Int32))]) [1, 2, 0] rfl ?_
  obtain ⟨e4, he4, h⟩ := g_bd h
  refine ml_M_takesOf_2 C hR hL hu_t0 (σ := σ) _ _ _ he4 ⟨fun y he => ?_, fun y he => ?_⟩
  · obtain ⟨y5, rfl⟩ : ∃ z, z = y := ⟨_, rfl⟩
    subst he
    dsimp only at h
    refine y_aload_n C dX6_takesOf_38 0 rfl rfl ?_
    refine y_dup C dX6_takesOf_39 rfl ?_
    refine gf_M_15 C dX6_takesOf_40 ?_
    refine y_iconst (v := (1 : Int32)) C dX6_takesOf_43 (by decide) ?_
    refine y_iadd C dX6_takesOf_44 ?_
    obtain ⟨σ6, hσ6, h⟩ := g_lt h
    refine pf_M_15 C hσ6 dX6_takesOf_45 ?_
    refine y_iload_n C dX6_takesOf_48 1 rfl rfl ?_
    replace h := Option.some.inj h; subst h
    exact y_iret C hQ ⟨Nat.zero_le _, Nat.zero_le _⟩ dX6_takesOf_49
  · obtain ⟨y7, rfl⟩ : ∃ z, z = y := ⟨_, rfl⟩
    subst he
    dsimp only at h
    refine y_iconst (v := (-1 : Int32)) C dX6_takesOf_56 (by decide) ?_
    replace h := Option.some.inj h; subst h
    exact y_iret C hQ ⟨Nat.zero_le _, Nat.zero_le _⟩ dX6_takesOf_57
theorem ct_M_takesOf {D : va_G} {dA : Nat → ClassId} {A : Nat → Prop} {s0 : State} {b0 : Nat} {l : Launch} {hid : Bool} {t0 : Nat} (hu_t0 : t0 < 6) {ad : Nat → Nat → Nat} {σ : g_S} {r : Int32} {σ1 : g_S} (h : mF_M_takesOf σ t0 = some (r, σ1)) : g_Met gCl D dA A s0 b0 l yX6_takesOf cX6_takesOf 3 (some .int) 5 (0, 0) (gM hid) ad σ [.ref (ad 0 0), .ref (g_str s0 b0 t0)] (gM hid) ad σ1 (some (.int r)) :=
  g_Met.of pl_X6 (Nat.le_of_ble_eq_true rfl) (fun X C hQ hR _ _ hL _ es eb => by subst es; subst eb; exact mw_M_takesOf C hR hL hu_t0 h hQ)
theorem mw_M_fields {X : g_F} {hid : Bool} (C : g_M gCl X cX6_fields RX6 (some .int)) (hR : g_R X = g_rm 1 0 0) (hL : g_nL X = 1) {ad : Nat → Nat → Nat} {σ : g_S} {o : Int32} (h : mF_M_fields σ = some o) (hQ : g_MQ gCl X (gM hid) ad σ (some (.int o)) = g_Q X) : g_Y gCl X (gM hid) ad σ (0, 0) 0 [(0, .ref (ad 0 0))] [] := by
  unfold mF_M_fields at h
  refine y_aload_n C dX6_fields_0 0 rfl rfl ?_
  refine gf_M_3 C dX6_fields_1 ?_
  refine y_aload_n C dX6_fields_4 0 rfl rfl ?_
  refine gf_M_4 C dX6_fields_5 ?_
  refine y_imul C dX6_fields_8 ?_
  replace h := Option.some.inj h; subst h
  exact y_iret C hQ ⟨Nat.zero_le _, Nat.zero_le _⟩ dX6_fields_9
theorem ct_M_fields {D : va_G} {dA : Nat → ClassId} {A : Nat → Prop} {s0 : State} {b0 : Nat} {l : Launch} {hid : Bool} {ad : Nat → Nat → Nat} {σ : g_S} {r : Int32} (h : mF_M_fields σ = some r) : g_Met gCl D dA A s0 b0 l yX6_fields cX6_fields 1 (some .int) 1 (0, 0) (gM hid) ad σ [.ref (ad 0 0)] (gM hid) ad σ (some (.int r)) :=
  g_Met.of pl_X6 (Nat.le_of_ble_eq_true rfl) (fun X C hQ hR _ _ hL _ es eb => mw_M_fields C hR hL h hQ)
theorem mj_M_valley_86 {X : g_F} {hid : Bool} (C : g_M gCl X cX6_valley RX6 (some .int)) (hR : g_R X = g_rm 6 0 0) (hL : g_nL X = 6) {ad : Nat → Nat → Nat} {σ : g_S} {v1 : Int32} {v2 : Int32} {v4 : Int32} {v5 : Int32} {s1 : Int32} {s2 : Int32} {o : ((Int32 × Int32 × g_S) ⊕ (Int32 × g_S))} (h : mJ_M_valley_86 σ v1 v2 v4 v5 s1 s2 = some o) (kl : ∀ z, o = .inl z → g_Y gCl X (gM hid) ad z.2.2 (0, 0) 49 [(0, .ref (ad 0 0)), (1, .int v1), (2, .int v2), (3, .int z.1), (4, .int z.2.1)] []) (kx : ∀ z, o = .inr z → g_Y gCl X (gM hid) ad z.2 (0, 0) 104 [(0, .ref (ad 0 0)), (1, .int v1), (2, .int v2), (3, .int z.1)] []) : g_Y gCl X (gM hid) ad σ (0, 0) 86 [(0, .ref (ad 0 0)), (1, .int v1), (2, .int v2), (4, .int v4), (5, .int v5)] [.int s2, .int s1, .ref (ad 6 0)] := by
  unfold mJ_M_valley_86 at h
  obtain ⟨hg, h⟩ := g_gd h
  obtain ⟨σ10, hσ10, h⟩ := g_lt h
  refine as_M_6 C nM_6_0 hσ10 hg dX6_valley_86 ?_
  refine y_iload C dX6_valley_87 4 rfl ?_
  refine y_if_lt (tgt := 96) C dX6_valley_89 rfl (fun hc => ?_) (fun hc => ?_)
  · replace h := g_it h hc
    refine y_iconst (v := (0 : Int32)) C dX6_valley_96 (by decide) ?_
    refine y_istore_n (vs1 := [(3, .int (0 : Int32)), (0, .ref (ad 0 0)), (1, .int v1), (2, .int v2), (4, .int v4), (5, .int v5)]) C rfl dX6_valley_97 rfl (g_lL hL rfl) rfl ?_
    obtain ⟨x11, hx11, h⟩ := g_lt h
    refine y_iinc (c := (1 : Int32)) (vs1 := [(4, .int x11), (3, .int (0 : Int32)), (0, .ref (ad 0 0)), (1, .int v1), (2, .int v2), (5, .int v5)]) C hx11 (by decide) dX6_valley_98 4 rfl (g_lL hL rfl) rfl ?_
    refine y_goto (tgt := 49) C dX6_valley_101 rfl ?_
    refine y_sub (vs2 := [(0, .ref (ad 0 0)), (1, .int v1), (2, .int v2), (3, .int (0 : Int32)), (4, .int x11)]) [2, 3, 4, 1, 0] rfl ?_
    exact kl _ (Option.some.inj h).symm
  · replace h := g_if h hc
    refine y_iconst (v := (1 : Int32)) C dX6_valley_92 (by decide) ?_
    refine y_goto (tgt := 97) C dX6_valley_93 rfl ?_
    refine y_istore_n (vs1 := [(3, .int (1 : Int32)), (0, .ref (ad 0 0)), (1, .int v1), (2, .int v2), (4, .int v4), (5, .int v5)]) C rfl dX6_valley_97 rfl (g_lL hL rfl) rfl ?_
    obtain ⟨x12, hx12, h⟩ := g_lt h
    refine y_iinc (c := (1 : Int32)) (vs1 := [(4, .int x12), (3, .int (1 : Int32)), (0, .ref (ad 0 0)), (1, .int v1), (2, .int v2), (5, .int v5)]) C hx12 (by decide) dX6_valley_98 4 rfl (g_lL hL rfl) rfl ?_
    refine y_goto (tgt := 49) C dX6_valley_101 rfl ?_
    refine y_sub (vs2 := [(0, .ref (ad 0 0)), (1, .int v1), (2, .int v2), (3, .int (1 : Int32)), (4, .int x12)]) [2, 3, 4, 1, 0] rfl ?_
    exact kl _ (Option.some.inj h).symm
theorem ml_M_valley_49 {X : g_F} {hid : Bool} (C : g_M gCl X cX6_valley RX6 (some .int)) (hR : g_R X = g_rm 6 0 0) (hL : g_nL X = 6) {ad : Nat → Nat → Nat} {σ : g_S} {v1 : Int32} {v2 : Int32} (n : Nat) (v : (Int32 × Int32 × g_S)) (e : (Int32 × g_S)) (h : g_lp (fun v => mB_M_valley_49 v.2.2 v1 v2 v.1 v.2.1) n v = some e) (kx : g_Y gCl X (gM hid) ad e.2 (0, 0) 104 [(0, .ref (ad 0 0)), (1, .int v1), (2, .int v2), (3, .int e.1)] []) : g_Y gCl X (gM hid) ad v.2.2 (0, 0) 49 [(0, .ref (ad 0 0)), (1, .int v1), (2, .int v2), (3, .int v.1), (4, .int v.2.1)] [] := by
  refine g_loop (P := fun v => g_Y gCl X (gM hid) ad v.2.2 (0, 0) 49 [(0, .ref (ad 0 0)), (1, .int v1), (2, .int v2), (3, .int v.1), (4, .int v.2.1)] []) (T := fun e => g_Y gCl X (gM hid) ad e.2 (0, 0) 104 [(0, .ref (ad 0 0)), (1, .int v1), (2, .int v2), (3, .int e.1)] []) ?_ n v e h kx
  clear h kx
  clear n v e
  intro v o h kl kx
  obtain ⟨v3, v4, σ⟩ := v
  have h : mB_M_valley_49 σ v1 v2 v3 v4 = some o := h
  unfold mB_M_valley_49 at h
  show g_Y gCl X (gM hid) ad σ (0, 0) 49 [(0, .ref (ad 0 0)), (1, .int v1), (2, .int v2), (3, .int v3), (4, .int v4)] []
  refine y_iload_n C dX6_valley_49 3 rfl rfl ?_
  refine y_if_eq (tgt := 104) C dX6_valley_50 rfl (fun hc => ?_) (fun hc => ?_)
  · replace h := g_it h hc
    refine y_sub (vs2 := [(0, .ref (ad 0 0)), (1, .int v1), (2, .int v2), (3, .int v3)]) [0, 1, 2, 3] rfl ?_
    exact kx _ (Option.some.inj h).symm
  · replace h := g_if h hc
    refine y_iload C dX6_valley_53 4 rfl ?_
    refine y_iload_n C dX6_valley_55 1 rfl rfl ?_
    refine y_iload_n C dX6_valley_56 2 rfl rfl ?_
    refine y_imul C dX6_valley_57 ?_
    refine y_icmp_ge (tgt := 104) C dX6_valley_58 rfl (fun hc => ?_) (fun hc => ?_)
    · replace h := g_it h hc
      refine y_sub (vs2 := [(0, .ref (ad 0 0)), (1, .int v1), (2, .int v2), (3, .int v3)]) [0, 1, 2, 3] rfl ?_
      exact kx _ (Option.some.inj h).symm
    · replace h := g_if h hc
      refine y_aload_n C dX6_valley_61 0 rfl rfl ?_
      refine y_ldcS (i := 0) C q1461 (g_strEv (i := 0) C.2.2.2.2.2.2.2.2.2.1 (by decide)) dX6_valley_62 ?_
      obtain ⟨x9, σ8, hc, h⟩ := g_bp h
      refine y_callV C (As := [.ref (g_str (g_s0 X) (g_b0 X) 0)]) (rest := []) (hu := nM_0_0) (hc := (rfl : gCl[5]? = some (RX6, TX6, 49))) (hcell := obM_0) (lk_X6_184 C hR (by decide)) (ct_M_takesOf (by decide) hc) rfl rfl (Nat.le_of_ble_eq_true rfl) ⟨Nat.zero_le _, Nat.zero_le _⟩ dX6_valley_64 ?_
      refine y_istore (vs1 := [(5, .int x9), (0, .ref (ad 0 0)), (1, .int v1), (2, .int v2), (3, .int v3), (4, .int v4)]) C rfl dX6_valley_67 (g_lL hL rfl) rfl ?_
      refine y_aload_n C dX6_valley_69 1 rfl rfl ?_
      refine gf_M_18 C dX6_valley_70 ?_
      refine y_iload C dX6_valley_73 5 rfl ?_
      refine y_iload C dX6_valley_75 0 rfl ?_
      refine y_iconst (v := (1 : Int32)) C dX6_valley_77 (by decide) ?_
      refine y_icmp_ne (tgt := 85) C dX6_valley_78 rfl (fun hc => ?_) (fun hc => ?_)
      · replace h := g_if h hc
        refine y_iconst (v := (0 : Int32)) C dX6_valley_85 (by decide) ?_
        refine y_sub (vs2 := [(0, .ref (ad 0 0)), (1, .int v1), (2, .int v2), (4, .int v4), (5, .int x9)]) [1, 2, 3, 5, 0] rfl ?_
        exact mj_M_valley_86 C hR hL h kl kx
      · replace h := g_it h hc
        refine y_iconst (v := (1 : Int32)) C dX6_valley_81 (by decide) ?_
        refine y_goto (tgt := 86) C dX6_valley_82 rfl ?_
        refine y_sub (vs2 := [(0, .ref (ad 0 0)), (1, .int v1), (2, .int v2), (4, .int v4), (5, .int x9)]) [1, 2, 3, 5, 0] rfl ?_
        exact mj_M_valley_86 C hR hL h kl kx
theorem mj_M_valley_119 {X : g_F} {hid : Bool} (C : g_M gCl X cX6_valley RX6 (some .int)) (hR : g_R X = g_rm 6 0 0) (hL : g_nL X = 6) {ad : Nat → Nat → Nat} {σ : g_S} {o : (Int32 × g_S)} (h : mJ_M_valley_119 σ = some o) (hQ : g_MQ gCl X (gM hid) ad o.2 (some (.int o.1)) = g_Q X) : g_Y gCl X (gM hid) ad σ (0, 0) 119 [(0, .ref (ad 0 0))] [] := by
  unfold mJ_M_valley_119 at h
  refine y_iconst (v := (-1 : Int32)) C dX6_valley_119 (by decide) ?_
  refine y_aload_n C dX6_valley_120 0 rfl rfl ?_
  refine gf_M_15 C dX6_valley_121 ?_
  refine y_isub C dX6_valley_124 ?_
  replace h := Option.some.inj h; subst h
  exact y_iret C hQ ⟨Nat.zero_le _, Nat.zero_le _⟩ dX6_valley_125
theorem ml_M_valley_139 {X : g_F} {hid : Bool} (C : g_M gCl X cX6_valley RX6 (some .int)) (hR : g_R X = g_rm 6 0 0) (hL : g_nL X = 6) {ad : Nat → Nat → Nat} {σ : g_S} (n : Nat) (v : (Int32 × g_S)) (e : g_S) (h : g_lp (fun v => mB_M_valley_139 v.2 v.1) n v = some e) (kx : g_Y gCl X (gM hid) ad e (0, 0) 168 [(0, .ref (ad 0 0))] []) : g_Y gCl X (gM hid) ad v.2 (0, 0) 139 [(0, .ref (ad 0 0)), (4, .int v.1)] [] := by
  refine g_loop (P := fun v => g_Y gCl X (gM hid) ad v.2 (0, 0) 139 [(0, .ref (ad 0 0)), (4, .int v.1)] []) (T := fun e => g_Y gCl X (gM hid) ad e (0, 0) 168 [(0, .ref (ad 0 0))] []) ?_ n v e h kx
  clear h kx
  clear n v e
  intro v o h kl kx
  obtain ⟨v4, σ⟩ := v
  have h : mB_M_valley_139 σ v4 = some o := h
  unfold mB_M_valley_139 at h
  show g_Y gCl X (gM hid) ad σ (0, 0) 139 [(0, .ref (ad 0 0)), (4, .int v4)] []
  refine y_iload C dX6_valley_139 1 rfl ?_
  refine y_aload_n C dX6_valley_141 0 rfl rfl ?_
  obtain ⟨x16, hc, h⟩ := g_bd h
  refine y_callV C (As := []) (rest := [.int v4]) (hu := nM_0_0) (hc := (rfl : gCl[5]? = some (RX6, TX6, 49))) (hcell := obM_0) (lk_X6_122 C hR (by decide)) (ct_M_fields hc) rfl rfl (Nat.le_of_ble_eq_true rfl) ⟨Nat.zero_le _, Nat.zero_le _⟩ dX6_valley_142 ?_
  refine y_icmp_ge (tgt := 168) C dX6_valley_145 rfl (fun hc => ?_) (fun hc => ?_)
  · replace h := g_it h hc
    refine y_sub (vs2 := [(0, .ref (ad 0 0))]) [0] rfl ?_
    exact kx _ (Option.some.inj h).symm
  · replace h := g_if h hc
    refine y_aload_n C dX6_valley_148 0 rfl rfl ?_
    refine gf_M_9 C dX6_valley_149 ?_
    refine y_iload C dX6_valley_152 1 rfl ?_
    refine y_aload_n C dX6_valley_154 0 rfl rfl ?_
    refine gf_M_18 C dX6_valley_155 ?_
    refine y_iload C dX6_valley_158 1 rfl ?_
    obtain ⟨hg, h⟩ := g_gd h
    refine al_M_6 C nM_6_0 hg dX6_valley_160 ?_
    obtain ⟨hg, h⟩ := g_gd h
    obtain ⟨σ17, hσ17, h⟩ := g_lt h
    refine as_M_3 C nM_3_0 hσ17 hg dX6_valley_161 ?_
    obtain ⟨x18, hx18, h⟩ := g_lt h
    refine y_iinc (c := (1 : Int32)) (vs1 := [(4, .int x18), (0, .ref (ad 0 0))]) C hx18 (by decide) dX6_valley_162 1 rfl (g_lL hL rfl) rfl ?_
    refine y_goto (tgt := 139) C dX6_valley_165 rfl ?_
    refine y_sub (vs2 := [(0, .ref (ad 0 0)), (4, .int x18)]) [1, 0] rfl ?_
    exact kl _ (Option.some.inj h).symm
theorem mj_M_valley_45 {X : g_F} {hid : Bool} (C : g_M gCl X cX6_valley RX6 (some .int)) (hR : g_R X = g_rm 6 0 0) (hL : g_nL X = 6) {ad : Nat → Nat → Nat} {σ : g_S} {v1 : Int32} {v2 : Int32} {s0 : Int32} {o : (Int32 × g_S)} (h : mJ_M_valley_45 σ v1 v2 s0 = some o) (hQ : g_MQ gCl X (gM hid) ad o.2 (some (.int o.1)) = g_Q X) : g_Y gCl X (gM hid) ad σ (0, 0) 45 [(0, .ref (ad 0 0)), (1, .int v1), (2, .int v2)] [.int s0] := by
  unfold mJ_M_valley_45 at h
  refine y_istore_n (vs1 := [(3, .int s0), (0, .ref (ad 0 0)), (1, .int v1), (2, .int v2)]) C rfl dX6_valley_45 rfl (g_lL hL rfl) rfl ?_
  refine y_iconst (v := (0 : Int32)) C dX6_valley_46 (by decide) ?_
  refine y_istore (vs1 := [(4, .int (0 : Int32)), (3, .int s0), (0, .ref (ad 0 0)), (1, .int v1), (2, .int v2)]) C rfl dX6_valley_47 (g_lL hL rfl) rfl ?_
  refine y_sub (vs2 := [(0, .ref (ad 0 0)), (1, .int v1), (2, .int v2), (3, .int s0), (4, .int (0 : Int32))]) [2, 3, 4, 1, 0] rfl ?_
  obtain ⟨e13, he13, h⟩ := g_bd h
  refine ml_M_valley_49 C hR hL (σ := σ) _ _ _ he13 ?_
  refine y_iload_n C dX6_valley_104 3 rfl rfl ?_
  refine y_if_eq (tgt := 119) C dX6_valley_105 rfl (fun hc => ?_) (fun hc => ?_)
  · replace h := g_it h hc
    refine y_sub (vs2 := [(0, .ref (ad 0 0))]) [0] rfl ?_
    exact mj_M_valley_119 C hR hL h hQ
  · replace h := g_if h hc
    refine y_aload_n C dX6_valley_108 0 rfl rfl ?_
    refine gf_M_15 C dX6_valley_109 ?_
    refine y_aload_n C dX6_valley_112 0 rfl rfl ?_
    refine gf_M_16 C dX6_valley_113 ?_
    refine y_icmp_ge (tgt := 126) C dX6_valley_116 rfl (fun hc => ?_) (fun hc => ?_)
    · replace h := g_it h hc
      refine y_aload_n C dX6_valley_126 0 rfl rfl ?_
      refine y_iload_n C dX6_valley_127 1 rfl rfl ?_
      obtain ⟨σ14, hσ14, h⟩ := g_lt h
      refine pf_M_3 C hσ14 dX6_valley_128 ?_
      refine y_aload_n C dX6_valley_131 0 rfl rfl ?_
      refine y_iload_n C dX6_valley_132 2 rfl rfl ?_
      obtain ⟨σ15, hσ15, h⟩ := g_lt h
      refine pf_M_4 C hσ15 dX6_valley_133 ?_
      refine y_iconst (v := (0 : Int32)) C dX6_valley_136 (by decide) ?_
      refine y_istore (vs1 := [(4, .int (0 : Int32)), (0, .ref (ad 0 0)), (1, .int v1), (2, .int v2), (3, .int e13.1)]) C rfl dX6_valley_137 (g_lL hL rfl) rfl ?_
      refine y_sub (vs2 := [(0, .ref (ad 0 0)), (4, .int (0 : Int32))]) [1, 0] rfl ?_
      obtain ⟨e19, he19, h⟩ := g_bd h
      refine ml_M_valley_139 C hR hL (σ := σ15) _ _ _ he19 ?_
      refine y_aload_n C dX6_valley_168 0 rfl rfl ?_
      refine y_iconst (v := (0 : Int32)) C dX6_valley_169 (by decide) ?_
      obtain ⟨σ20, hσ20, h⟩ := g_lt h
      refine pf_M_5 C hσ20 dX6_valley_170 ?_
      refine y_aload_n C dX6_valley_173 0 rfl rfl ?_
      refine y_iconst (v := (0 : Int32)) C dX6_valley_174 (by decide) ?_
      obtain ⟨σ21, hσ21, h⟩ := g_lt h
      refine pf_M_6 C hσ21 dX6_valley_175 ?_
      refine y_aload_n C dX6_valley_178 0 rfl rfl ?_
      refine gf_M_11 C dX6_valley_179 ?_
      refine y_bipush (v := (40 : Int32)) C dX6_valley_182 (by decide) ?_
      refine y_iconst (v := (0 : Int32)) C dX6_valley_184 (by decide) ?_
      obtain ⟨hg, h⟩ := g_gd h
      obtain ⟨σ22, hσ22, h⟩ := g_lt h
      refine as_M_1 C nM_1_0 hσ22 hg dX6_valley_185 ?_
      refine y_aload_n C dX6_valley_186 0 rfl rfl ?_
      refine y_iconst (v := (0 : Int32)) C dX6_valley_187 (by decide) ?_
      obtain ⟨σ23, hσ23, h⟩ := g_lt h
      refine pf_M_27 C hσ23 dX6_valley_188 ?_
      refine y_aload_n C dX6_valley_191 0 rfl rfl ?_
      refine y_dup C dX6_valley_192 rfl ?_
      refine gf_M_7 C dX6_valley_193 ?_
      refine y_iconst (v := (1 : Int32)) C dX6_valley_196 (by decide) ?_
      refine y_iadd C dX6_valley_197 ?_
      obtain ⟨σ24, hσ24, h⟩ := g_lt h
      refine pf_M_7 C hσ24 dX6_valley_198 ?_
      refine y_aload_n C dX6_valley_201 0 rfl rfl ?_
      refine y_iconst (v := (0 : Int32)) C dX6_valley_202 (by decide) ?_
      obtain ⟨σ25, hσ25, h⟩ := g_lt h
      refine pf_M_39 C hσ25 dX6_valley_203 ?_
      refine y_aload_n C dX6_valley_206 0 rfl rfl ?_
      obtain ⟨x26, hc, h⟩ := g_bd h
      refine y_callV C (As := []) (rest := []) (hu := nM_0_0) (hc := (rfl : gCl[5]? = some (RX6, TX6, 49))) (hcell := obM_0) (lk_X6_122 C hR (by decide)) (ct_M_fields hc) rfl rfl (Nat.le_of_ble_eq_true rfl) ⟨Nat.zero_le _, Nat.zero_le _⟩ dX6_valley_207 ?_
      replace h := Option.some.inj h; subst h
      exact y_iret C hQ ⟨Nat.zero_le _, Nat.zero_le _⟩ dX6_valley_210
    · replace h := g_if h hc
      refine y_sub (vs2 := [(0, .ref (ad 0 0))]) [0] rfl ?_
      exact mj_M_valley_119 C hR hL h hQ
theorem mj_M_valley_35 {X : g_F} {hid : Bool} (C : g_M gCl X cX6_valley RX6 (some .int)) (hR : g_R X = g_rm 6 0 0) (hL : g_nL X = 6) {ad : Nat → Nat → Nat} {σ : g_S} {v1 : Int32} {s0 : Int32} {o : (Int32 × g_S)} (h : mJ_M_valley_35 σ v1 s0 = some o) (hQ : g_MQ gCl X (gM hid) ad o.2 (some (.int o.1)) = g_Q X) : g_Y gCl X (gM hid) ad σ (0, 0) 35 [(0, .ref (ad 0 0)), (1, .int v1)] [.int s0] := by
  unfold mJ_M_valley_35 at h
  refine y_istore_n (vs1 := [(2, .int s0), (0, .ref (ad 0 0)), (1, .int v1)]) C rfl dX6_valley_35 rfl (g_lL hL rfl) rfl ?_
  refine y_iload_n C dX6_valley_36 0 rfl rfl ?_
  refine y_if_le (tgt := 44) C dX6_valley_37 rfl (fun hc => ?_) (fun hc => ?_)
  · replace h := g_it h hc
    refine y_iconst (v := (0 : Int32)) C dX6_valley_44 (by decide) ?_
    refine y_sub (vs2 := [(0, .ref (ad 0 0)), (1, .int v1), (2, .int s0)]) [1, 2, 0] rfl ?_
    exact mj_M_valley_45 C hR hL h hQ
  · replace h := g_if h hc
    refine y_iconst (v := (1 : Int32)) C dX6_valley_40 (by decide) ?_
    refine y_goto (tgt := 45) C dX6_valley_41 rfl ?_
    refine y_sub (vs2 := [(0, .ref (ad 0 0)), (1, .int v1), (2, .int s0)]) [1, 2, 0] rfl ?_
    exact mj_M_valley_45 C hR hL h hQ
theorem mw_M_valley {X : g_F} {hid : Bool} (C : g_M gCl X cX6_valley RX6 (some .int)) (hR : g_R X = g_rm 6 0 0) (hL : g_nL X = 6) {ad : Nat → Nat → Nat} {σ : g_S} {o : (Int32 × g_S)} (h : mF_M_valley σ = some o) (hQ : g_MQ gCl X (gM hid) ad o.2 (some (.int o.1)) = g_Q X) : g_Y gCl X (gM hid) ad σ (0, 0) 0 [(0, .ref (ad 0 0))] [] := by
  unfold mF_M_valley at h
  refine y_aload_n C dX6_valley_0 0 rfl rfl ?_
  refine y_iconst (v := (0 : Int32)) C dX6_valley_1 (by decide) ?_
  obtain ⟨σ1, hσ1, h⟩ := g_lt h
  refine pf_M_0 C hσ1 dX6_valley_2 ?_
  refine y_aload_n C dX6_valley_5 0 rfl rfl ?_
  refine y_bipush (v := (80 : Int32)) C dX6_valley_6 (by decide) ?_
  obtain ⟨x3, σ2, hc, h⟩ := g_bp h
  refine y_callV C (As := [.int (80 : Int32)]) (rest := []) (hu := nM_0_0) (hc := (rfl : gCl[5]? = some (RX6, TX6, 49))) (hcell := obM_0) (lk_X6_175 C hR (by decide)) (ct_M_begins hc) rfl rfl (Nat.le_of_ble_eq_true rfl) ⟨Nat.zero_le _, Nat.zero_le _⟩ dX6_valley_8 ?_
  refine y_pop C dX6_valley_11 rfl ?_
  refine y_aload_n C dX6_valley_12 0 rfl rfl ?_
  refine y_iconst (v := (3 : Int32)) C dX6_valley_13 (by decide) ?_
  refine y_bipush (v := (7 : Int32)) C dX6_valley_14 (by decide) ?_
  obtain ⟨x5, σ4, hc, h⟩ := g_bp h
  refine y_callV C (As := [.int (3 : Int32), .int (7 : Int32)]) (rest := []) (hu := nM_0_0) (hc := (rfl : gCl[5]? = some (RX6, TX6, 49))) (hcell := obM_0) (lk_X6_179 C hR (by decide)) (ct_M_digitIn hc) rfl rfl (Nat.le_of_ble_eq_true rfl) ⟨Nat.zero_le _, Nat.zero_le _⟩ dX6_valley_16 ?_
  refine y_istore_n (vs1 := [(1, .int x5), (0, .ref (ad 0 0))]) C rfl dX6_valley_19 rfl (g_lL hL rfl) rfl ?_
  refine y_iload_n C dX6_valley_20 0 rfl rfl ?_
  refine y_if_ge (tgt := 28) C dX6_valley_21 rfl (fun hc => ?_) (fun hc => ?_)
  · replace h := g_it h hc
    refine y_aload_n C dX6_valley_28 1 rfl rfl ?_
    refine y_iconst (v := (3 : Int32)) C dX6_valley_29 (by decide) ?_
    refine y_bipush (v := (7 : Int32)) C dX6_valley_30 (by decide) ?_
    obtain ⟨x7, σ6, hc, h⟩ := g_bp h
    refine y_callV C (As := [.int (3 : Int32), .int (7 : Int32)]) (rest := []) (hu := nM_0_0) (hc := (rfl : gCl[5]? = some (RX6, TX6, 49))) (hcell := obM_0) (lk_X6_179 C hR (by decide)) (ct_M_digitIn hc) rfl rfl (Nat.le_of_ble_eq_true rfl) ⟨Nat.zero_le _, Nat.zero_le _⟩ dX6_valley_32 ?_
    refine y_sub (vs2 := [(0, .ref (ad 0 0)), (1, .int x5)]) [1, 0] rfl ?_
    exact mj_M_valley_35 C hR hL h hQ
  · replace h := g_if h hc
    refine y_iconst (v := (-1 : Int32)) C dX6_valley_24 (by decide) ?_
    refine y_goto (tgt := 35) C dX6_valley_25 rfl ?_
    refine y_sub (vs2 := [(0, .ref (ad 0 0)), (1, .int x5)]) [1, 0] rfl ?_
    exact mj_M_valley_35 C hR hL h hQ
theorem ct_M_valley {D : va_G} {dA : Nat → ClassId} {A : Nat → Prop} {s0 : State} {b0 : Nat} {l : Launch} {hid : Bool} {ad : Nat → Nat → Nat} {σ : g_S} {r : Int32} {σ1 : g_S} (h : mF_M_valley σ = some (r, σ1)) : g_Met gCl D dA A s0 b0 l yX6_valley cX6_valley 6 (some .int) 6 (0, 0) (gM hid) ad σ [.ref (ad 0 0)] (gM hid) ad σ1 (some (.int r)) :=
  g_Met.of pl_X6 (Nat.le_of_ble_eq_true rfl) (fun X C hQ hR _ _ hL _ es eb => mw_M_valley C hR hL h hQ)
theorem mj_M_readsField_31 {X : g_F} {hid : Bool} (C : g_M gCl X cX6_readsField RX6 (some .int)) (hR : g_R X = g_rm 3 0 0) (hL : g_nL X = 3) {ad : Nat → Nat → Nat} {σ : g_S} {v1 : Int32} {s0 : Int32} {o : (Int32 × g_S)} (h : mJ_M_readsField_31 σ v1 s0 = some o) (hQ : g_MQ gCl X (gM hid) ad o.2 (some (.int o.1)) = g_Q X) : g_Y gCl X (gM hid) ad σ (0, 0) 31 [(0, .ref (ad 0 0)), (1, .int v1)] [.int s0] := by
  unfold mJ_M_readsField_31 at h
  refine y_istore_n (vs1 := [(2, .int s0), (0, .ref (ad 0 0)), (1, .int v1)]) C rfl dX6_readsField_31 rfl (g_lL hL rfl) rfl ?_
  refine y_iload_n C dX6_readsField_32 0 rfl rfl ?_
  refine y_if_ge (tgt := 40) C dX6_readsField_33 rfl (fun hc => ?_) (fun hc => ?_)
  · replace h := g_it h hc
    refine y_aload_n C dX6_readsField_40 1 rfl rfl ?_
    refine gf_M_4 C dX6_readsField_41 ?_
    refine y_iload_n C dX6_readsField_44 2 rfl rfl ?_
    refine y_imul C dX6_readsField_45 ?_
    refine y_iload_n C dX6_readsField_46 0 rfl rfl ?_
    refine y_iadd C dX6_readsField_47 ?_
    replace h := Option.some.inj h; subst h
    exact y_iret C hQ ⟨Nat.zero_le _, Nat.zero_le _⟩ dX6_readsField_48
  · replace h := g_if h hc
    refine y_iconst (v := (-1 : Int32)) C dX6_readsField_36 (by decide) ?_
    refine y_goto (tgt := 48) C dX6_readsField_37 rfl ?_
    replace h := Option.some.inj h; subst h
    exact y_iret C hQ ⟨Nat.zero_le _, Nat.zero_le _⟩ dX6_readsField_48
theorem mw_M_readsField {X : g_F} {hid : Bool} (C : g_M gCl X cX6_readsField RX6 (some .int)) (hR : g_R X = g_rm 3 0 0) (hL : g_nL X = 3) {ad : Nat → Nat → Nat} {σ : g_S} {o : (Int32 × g_S)} (h : mF_M_readsField σ = some o) (hQ : g_MQ gCl X (gM hid) ad o.2 (some (.int o.1)) = g_Q X) : g_Y gCl X (gM hid) ad σ (0, 0) 0 [(0, .ref (ad 0 0))] [] := by
  unfold mF_M_readsField at h
  refine y_aload_n C dX6_readsField_0 0 rfl rfl ?_
  refine y_iconst (v := (0 : Int32)) C dX6_readsField_1 (by decide) ?_
  refine y_aload_n C dX6_readsField_2 0 rfl rfl ?_
  refine gf_M_3 C dX6_readsField_3 ?_
  refine y_iconst (v := (1 : Int32)) C dX6_readsField_6 (by decide) ?_
  refine y_isub C dX6_readsField_7 ?_
  obtain ⟨x2, σ1, hc, h⟩ := g_bp h
  refine y_callV C (As := [.int (0 : Int32), .int ((σ.1 0 0 3) - (1 : Int32))]) (rest := []) (hu := nM_0_0) (hc := (rfl : gCl[5]? = some (RX6, TX6, 49))) (hcell := obM_0) (lk_X6_179 C hR (by decide)) (ct_M_digitIn hc) rfl rfl (Nat.le_of_ble_eq_true rfl) ⟨Nat.zero_le _, Nat.zero_le _⟩ dX6_readsField_8 ?_
  refine y_istore_n (vs1 := [(1, .int x2), (0, .ref (ad 0 0))]) C rfl dX6_readsField_11 rfl (g_lL hL rfl) rfl ?_
  refine y_iload_n C dX6_readsField_12 0 rfl rfl ?_
  refine y_if_ge (tgt := 20) C dX6_readsField_13 rfl (fun hc => ?_) (fun hc => ?_)
  · replace h := g_it h hc
    refine y_aload_n C dX6_readsField_20 1 rfl rfl ?_
    refine y_iconst (v := (0 : Int32)) C dX6_readsField_21 (by decide) ?_
    refine y_aload_n C dX6_readsField_22 1 rfl rfl ?_
    refine gf_M_4 C dX6_readsField_23 ?_
    refine y_iconst (v := (1 : Int32)) C dX6_readsField_26 (by decide) ?_
    refine y_isub C dX6_readsField_27 ?_
    obtain ⟨x4, σ3, hc, h⟩ := g_bp h
    refine y_callV C (As := [.int (0 : Int32), .int ((σ1.1 0 0 4) - (1 : Int32))]) (rest := []) (hu := nM_0_0) (hc := (rfl : gCl[5]? = some (RX6, TX6, 49))) (hcell := obM_0) (lk_X6_179 C hR (by decide)) (ct_M_digitIn hc) rfl rfl (Nat.le_of_ble_eq_true rfl) ⟨Nat.zero_le _, Nat.zero_le _⟩ dX6_readsField_28 ?_
    refine y_sub (vs2 := [(0, .ref (ad 0 0)), (1, .int x2)]) [1, 0] rfl ?_
    exact mj_M_readsField_31 C hR hL h hQ
  · replace h := g_if h hc
    refine y_iconst (v := (-1 : Int32)) C dX6_readsField_16 (by decide) ?_
    refine y_goto (tgt := 31) C dX6_readsField_17 rfl ?_
    refine y_sub (vs2 := [(0, .ref (ad 0 0)), (1, .int x2)]) [1, 0] rfl ?_
    exact mj_M_readsField_31 C hR hL h hQ
theorem ct_M_readsField {D : va_G} {dA : Nat → ClassId} {A : Nat → Prop} {s0 : State} {b0 : Nat} {l : Launch} {hid : Bool} {ad : Nat → Nat → Nat} {σ : g_S} {r : Int32} {σ1 : g_S} (h : mF_M_readsField σ = some (r, σ1)) : g_Met gCl D dA A s0 b0 l yX6_readsField cX6_readsField 3 (some .int) 3 (0, 0) (gM hid) ad σ [.ref (ad 0 0)] (gM hid) ad σ1 (some (.int r)) :=
  g_Met.of pl_X6 (Nat.le_of_ble_eq_true rfl) (fun X C hQ hR _ _ hL _ es eb => mw_M_readsField C hR hL h hQ)
theorem mj_M_readsPerson_129 {X : g_F} {hid : Bool} (C : g_M gCl X cX6_readsPerson RX6 (some .boolean)) (hR : g_R X = g_rm 4 0 0) (hL : g_nL X = 2) {ad : Nat → Nat → Nat} {σ : g_S} {v1 : Int32} {s1 : Int32} {s2 : Int32} {o : (Int32 × g_S)} (h : mJ_M_readsPerson_129 σ v1 s1 s2 = some o) (hQ : g_MQ gCl X (gM hid) ad o.2 (some (.int o.1)) = g_Q X) : g_Y gCl X (gM hid) ad σ (0, 0) 129 [(0, .ref (ad 0 0)), (1, .int v1)] [.int s2, .int s1, .ref (ad 7 0)] := by
  unfold mJ_M_readsPerson_129 at h
  obtain ⟨hg, h⟩ := g_gd h
  obtain ⟨σ10, hσ10, h⟩ := g_lt h
  refine as_M_7 C nM_7_0 hσ10 hg dX6_readsPerson_129 ?_
  refine y_aload_n C dX6_readsPerson_130 0 rfl rfl ?_
  refine y_dup C dX6_readsPerson_131 rfl ?_
  refine gf_M_20 C dX6_readsPerson_132 ?_
  refine y_iconst (v := (1 : Int32)) C dX6_readsPerson_135 (by decide) ?_
  refine y_iadd C dX6_readsPerson_136 ?_
  obtain ⟨σ11, hσ11, h⟩ := g_lt h
  refine pf_M_20 C hσ11 dX6_readsPerson_137 ?_
  refine y_aload_n C dX6_readsPerson_140 0 rfl rfl ?_
  refine gf_M_19 C dX6_readsPerson_141 ?_
  refine y_iload_n C dX6_readsPerson_144 1 rfl rfl ?_
  refine y_iconst (v := (2 : Int32)) C dX6_readsPerson_145 (by decide) ?_
  refine y_iadd C dX6_readsPerson_146 ?_
  obtain ⟨hg, h⟩ := g_gd h
  refine al_M_7 C nM_7_0 hg dX6_readsPerson_147 ?_
  refine y_if_lt (tgt := 155) C dX6_readsPerson_148 rfl (fun hc => ?_) (fun hc => ?_)
  · replace h := g_it h hc
    refine y_iconst (v := (0 : Int32)) C dX6_readsPerson_155 (by decide) ?_
    replace h := Option.some.inj h; subst h
    exact y_zret C (by decide) hQ ⟨Nat.zero_le _, Nat.zero_le _⟩ dX6_readsPerson_156
  · replace h := g_if h hc
    refine y_iconst (v := (1 : Int32)) C dX6_readsPerson_151 (by decide) ?_
    refine y_goto (tgt := 156) C dX6_readsPerson_152 rfl ?_
    replace h := Option.some.inj h; subst h
    exact y_zret C (by decide) hQ ⟨Nat.zero_le _, Nat.zero_le _⟩ dX6_readsPerson_156
theorem mj_M_readsPerson_100 {X : g_F} {hid : Bool} (C : g_M gCl X cX6_readsPerson RX6 (some .boolean)) (hR : g_R X = g_rm 4 0 0) (hL : g_nL X = 2) {ad : Nat → Nat → Nat} {σ : g_S} {v1 : Int32} {s1 : Int32} {s2 : Int32} {o : (Int32 × g_S)} (h : mJ_M_readsPerson_100 σ v1 s1 s2 = some o) (hQ : g_MQ gCl X (gM hid) ad o.2 (some (.int o.1)) = g_Q X) : g_Y gCl X (gM hid) ad σ (0, 0) 100 [(0, .ref (ad 0 0)), (1, .int v1)] [.int s2, .int s1, .ref (ad 7 0)] := by
  unfold mJ_M_readsPerson_100 at h
  obtain ⟨hg, h⟩ := g_gd h
  obtain ⟨σ7, hσ7, h⟩ := g_lt h
  refine as_M_7 C nM_7_0 hσ7 hg dX6_readsPerson_100 ?_
  refine y_aload_n C dX6_readsPerson_101 0 rfl rfl ?_
  refine gf_M_19 C dX6_readsPerson_102 ?_
  refine y_iload_n C dX6_readsPerson_105 1 rfl rfl ?_
  refine y_iconst (v := (2 : Int32)) C dX6_readsPerson_106 (by decide) ?_
  refine y_iadd C dX6_readsPerson_107 ?_
  refine y_aload_n C dX6_readsPerson_108 0 rfl rfl ?_
  refine gf_M_19 C dX6_readsPerson_109 ?_
  refine y_iload_n C dX6_readsPerson_112 1 rfl rfl ?_
  refine y_iconst (v := (1 : Int32)) C dX6_readsPerson_113 (by decide) ?_
  refine y_iadd C dX6_readsPerson_114 ?_
  obtain ⟨hg, h⟩ := g_gd h
  refine al_M_7 C nM_7_0 hg dX6_readsPerson_115 ?_
  refine y_if_ge (tgt := 123) C dX6_readsPerson_116 rfl (fun hc => ?_) (fun hc => ?_)
  · replace h := g_it h hc
    refine y_aload_n C dX6_readsPerson_123 0 rfl rfl ?_
    refine y_iconst (v := (0 : Int32)) C dX6_readsPerson_124 (by decide) ?_
    refine y_iconst (v := (4 : Int32)) C dX6_readsPerson_125 (by decide) ?_
    obtain ⟨x9, σ8, hc, h⟩ := g_bp h
    refine y_callV C (As := [.int (0 : Int32), .int (4 : Int32)]) (rest := [.int (v1 + (2 : Int32)), .ref (ad 7 0)]) (hu := nM_0_0) (hc := (rfl : gCl[5]? = some (RX6, TX6, 49))) (hcell := obM_0) (lk_X6_179 C hR (by decide)) (ct_M_digitIn hc) rfl rfl (Nat.le_of_ble_eq_true rfl) ⟨Nat.zero_le _, Nat.zero_le _⟩ dX6_readsPerson_126 ?_
    exact mj_M_readsPerson_129 C hR hL h hQ
  · replace h := g_if h hc
    refine y_iconst (v := (-1 : Int32)) C dX6_readsPerson_119 (by decide) ?_
    refine y_goto (tgt := 129) C dX6_readsPerson_120 rfl ?_
    exact mj_M_readsPerson_129 C hR hL h hQ
theorem mj_M_readsPerson_73 {X : g_F} {hid : Bool} (C : g_M gCl X cX6_readsPerson RX6 (some .boolean)) (hR : g_R X = g_rm 4 0 0) (hL : g_nL X = 2) {ad : Nat → Nat → Nat} {σ : g_S} {v1 : Int32} {o : (Int32 × g_S)} (h : mJ_M_readsPerson_73 σ v1 = some o) (hQ : g_MQ gCl X (gM hid) ad o.2 (some (.int o.1)) = g_Q X) : g_Y gCl X (gM hid) ad σ (0, 0) 73 [(0, .ref (ad 0 0)), (1, .int v1)] [] := by
  unfold mJ_M_readsPerson_73 at h
  refine y_aload_n C dX6_readsPerson_73 0 rfl rfl ?_
  refine gf_M_19 C dX6_readsPerson_74 ?_
  refine y_iload_n C dX6_readsPerson_77 1 rfl rfl ?_
  refine y_iconst (v := (1 : Int32)) C dX6_readsPerson_78 (by decide) ?_
  refine y_iadd C dX6_readsPerson_79 ?_
  refine y_aload_n C dX6_readsPerson_80 0 rfl rfl ?_
  refine gf_M_19 C dX6_readsPerson_81 ?_
  refine y_iload_n C dX6_readsPerson_84 1 rfl rfl ?_
  obtain ⟨hg, h⟩ := g_gd h
  refine al_M_7 C nM_7_0 hg dX6_readsPerson_85 ?_
  refine y_if_ge (tgt := 93) C dX6_readsPerson_86 rfl (fun hc => ?_) (fun hc => ?_)
  · replace h := g_it h hc
    refine y_aload_n C dX6_readsPerson_93 0 rfl rfl ?_
    refine y_iconst (v := (0 : Int32)) C dX6_readsPerson_94 (by decide) ?_
    refine y_bipush (v := (7 : Int32)) C dX6_readsPerson_95 (by decide) ?_
    obtain ⟨x6, σ5, hc, h⟩ := g_bp h
    refine y_callV C (As := [.int (0 : Int32), .int (7 : Int32)]) (rest := [.int (v1 + (1 : Int32)), .ref (ad 7 0)]) (hu := nM_0_0) (hc := (rfl : gCl[5]? = some (RX6, TX6, 49))) (hcell := obM_0) (lk_X6_179 C hR (by decide)) (ct_M_digitIn hc) rfl rfl (Nat.le_of_ble_eq_true rfl) ⟨Nat.zero_le _, Nat.zero_le _⟩ dX6_readsPerson_97 ?_
    exact mj_M_readsPerson_100 C hR hL h hQ
  · replace h := g_if h hc
    refine y_iconst (v := (-1 : Int32)) C dX6_readsPerson_89 (by decide) ?_
    refine y_goto (tgt := 100) C dX6_readsPerson_90 rfl ?_
    exact mj_M_readsPerson_100 C hR hL h hQ
theorem mw_M_readsPerson {X : g_F} {hid : Bool} (C : g_M gCl X cX6_readsPerson RX6 (some .boolean)) (hR : g_R X = g_rm 4 0 0) (hL : g_nL X = 2) {ad : Nat → Nat → Nat} {σ : g_S} {o : (Int32 × g_S)} (h : mF_M_readsPerson σ = some o) (hQ : g_MQ gCl X (gM hid) ad o.2 (some (.int o.1)) = g_Q X) : g_Y gCl X (gM hid) ad σ (0, 0) 0 [(0, .ref (ad 0 0))] [] := by
  unfold mF_M_readsPerson at h
  refine y_aload_n C dX6_readsPerson_0 0 rfl rfl ?_
  refine gf_M_5 C dX6_readsPerson_1 ?_
  refine y_aload_n C dX6_readsPerson_4 0 rfl rfl ?_
  refine gf_M_20 C dX6_readsPerson_5 ?_
  refine y_iadd C dX6_readsPerson_8 ?_
  refine y_bipush (v := (8 : Int32)) C dX6_readsPerson_9 (by decide) ?_
  refine y_icmp_ne (tgt := 16) C dX6_readsPerson_11 rfl (fun hc => ?_) (fun hc => ?_)
  · replace h := g_if h hc
    refine y_iconst (v := (3 : Int32)) C dX6_readsPerson_16 (by decide) ?_
    refine y_aload_n C dX6_readsPerson_17 0 rfl rfl ?_
    refine gf_M_20 C dX6_readsPerson_18 ?_
    refine y_imul C dX6_readsPerson_21 ?_
    obtain ⟨x1, hx1, h⟩ := g_lt h
    refine y_istore_n (vs1 := [(1, .int x1), (0, .ref (ad 0 0))]) C hx1 dX6_readsPerson_22 rfl (g_lL hL rfl) rfl ?_
    refine y_aload_n C dX6_readsPerson_23 1 rfl rfl ?_
    refine gf_M_19 C dX6_readsPerson_24 ?_
    refine y_iload_n C dX6_readsPerson_27 0 rfl rfl ?_
    refine y_aload_n C dX6_readsPerson_28 1 rfl rfl ?_
    obtain ⟨x3, σ2, hc, h⟩ := g_bp h
    refine y_callV C (As := []) (rest := [.int x1, .ref (ad 7 0)]) (hu := nM_0_0) (hc := (rfl : gCl[5]? = some (RX6, TX6, 49))) (hcell := obM_0) (lk_X6_200 C hR (by decide)) (ct_M_readsField hc) rfl rfl (Nat.le_of_ble_eq_true rfl) ⟨Nat.zero_le _, Nat.zero_le _⟩ dX6_readsPerson_29 ?_
    obtain ⟨hg, h⟩ := g_gd h
    obtain ⟨σ4, hσ4, h⟩ := g_lt h
    refine as_M_7 C nM_7_0 hσ4 hg dX6_readsPerson_32 ?_
    refine y_aload_n C dX6_readsPerson_33 1 rfl rfl ?_
    refine gf_M_19 C dX6_readsPerson_34 ?_
    refine y_iload_n C dX6_readsPerson_37 0 rfl rfl ?_
    obtain ⟨hg, h⟩ := g_gd h
    refine al_M_7 C nM_7_0 hg dX6_readsPerson_38 ?_
    refine y_if_lt (tgt := 73) C dX6_readsPerson_39 rfl (fun hc => ?_) (fun hc => ?_)
    · replace h := g_it h hc
      refine y_sub (vs2 := [(0, .ref (ad 0 0)), (1, .int x1)]) [1, 0] rfl ?_
      exact mj_M_readsPerson_73 C hR hL h hQ
    · replace h := g_if h hc
      refine y_aload_n C dX6_readsPerson_42 1 rfl rfl ?_
      refine gf_M_9 C dX6_readsPerson_43 ?_
      refine y_aload_n C dX6_readsPerson_46 1 rfl rfl ?_
      refine gf_M_19 C dX6_readsPerson_47 ?_
      refine y_iload_n C dX6_readsPerson_50 0 rfl rfl ?_
      obtain ⟨hg, h⟩ := g_gd h
      refine al_M_7 C nM_7_0 hg dX6_readsPerson_51 ?_
      obtain ⟨hg, h⟩ := g_gd h
      refine al_M_3 C nM_3_0 hg dX6_readsPerson_52 ?_
      refine y_if_eq (tgt := 73) C dX6_readsPerson_53 rfl (fun hc => ?_) (fun hc => ?_)
      · replace h := g_it h hc
        refine y_sub (vs2 := [(0, .ref (ad 0 0)), (1, .int x1)]) [1, 0] rfl ?_
        exact mj_M_readsPerson_73 C hR hL h hQ
      · replace h := g_if h hc
        refine y_aload_n C dX6_readsPerson_56 1 rfl rfl ?_
        refine y_dup C dX6_readsPerson_57 rfl ?_
        refine gf_M_15 C dX6_readsPerson_58 ?_
        refine y_iconst (v := (1 : Int32)) C dX6_readsPerson_61 (by decide) ?_
        refine y_isub C dX6_readsPerson_62 ?_
        obtain ⟨σ12, hσ12, h⟩ := g_lt h
        refine pf_M_15 C hσ12 dX6_readsPerson_63 ?_
        refine y_aload_n C dX6_readsPerson_66 1 rfl rfl ?_
        refine gf_M_19 C dX6_readsPerson_67 ?_
        refine y_iload_n C dX6_readsPerson_70 0 rfl rfl ?_
        refine y_iconst (v := (-1 : Int32)) C dX6_readsPerson_71 (by decide) ?_
        obtain ⟨hg, h⟩ := g_gd h
        obtain ⟨σ13, hσ13, h⟩ := g_lt h
        refine as_M_7 C nM_7_0 hσ13 hg dX6_readsPerson_72 ?_
        refine y_sub (vs2 := [(0, .ref (ad 0 0)), (1, .int x1)]) [1, 0] rfl ?_
        exact mj_M_readsPerson_73 C hR hL h hQ
  · replace h := g_it h hc
    refine y_iconst (v := (0 : Int32)) C dX6_readsPerson_14 (by decide) ?_
    replace h := Option.some.inj h; subst h
    exact y_zret C (by decide) hQ ⟨Nat.zero_le _, Nat.zero_le _⟩ dX6_readsPerson_15
theorem ct_M_readsPerson {D : va_G} {dA : Nat → ClassId} {A : Nat → Prop} {s0 : State} {b0 : Nat} {l : Launch} {hid : Bool} {ad : Nat → Nat → Nat} {σ : g_S} {r : Int32} {σ1 : g_S} (h : mF_M_readsPerson σ = some (r, σ1)) : g_Met gCl D dA A s0 b0 l yX6_readsPerson cX6_readsPerson 2 (some .boolean) 4 (0, 0) (gM hid) ad σ [.ref (ad 0 0)] (gM hid) ad σ1 (some (.int r)) :=
  g_Met.of pl_X6 (Nat.le_of_ble_eq_true rfl) (fun X C hQ hR _ _ hL _ es eb => mw_M_readsPerson C hR hL h hQ)
theorem mw_M_readsThing {X : g_F} {hid : Bool} (C : g_M gCl X cX6_readsThing RX6 (some .boolean)) (hR : g_R X = g_rm 4 0 0) (hL : g_nL X = 1) {ad : Nat → Nat → Nat} {σ : g_S} {o : (Int32 × g_S)} (h : mF_M_readsThing σ = some o) (hQ : g_MQ gCl X (gM hid) ad o.2 (some (.int o.1)) = g_Q X) : g_Y gCl X (gM hid) ad σ (0, 0) 0 [(0, .ref (ad 0 0))] [] := by
  unfold mF_M_readsThing at h
  refine y_aload_n C dX6_readsThing_0 0 rfl rfl ?_
  refine gf_M_6 C dX6_readsThing_1 ?_
  refine y_aload_n C dX6_readsThing_4 0 rfl rfl ?_
  refine gf_M_20 C dX6_readsThing_5 ?_
  refine y_iadd C dX6_readsThing_8 ?_
  refine y_bipush (v := (8 : Int32)) C dX6_readsThing_9 (by decide) ?_
  refine y_icmp_ne (tgt := 16) C dX6_readsThing_11 rfl (fun hc => ?_) (fun hc => ?_)
  · replace h := g_if h hc
    refine y_aload_n C dX6_readsThing_16 0 rfl rfl ?_
    refine gf_M_19 C dX6_readsThing_17 ?_
    refine y_aload_n C dX6_readsThing_20 0 rfl rfl ?_
    refine gf_M_20 C dX6_readsThing_21 ?_
    refine y_aload_n C dX6_readsThing_24 0 rfl rfl ?_
    obtain ⟨x2, σ1, hc, h⟩ := g_bp h
    refine y_callV C (As := []) (rest := [.int (σ.1 0 0 20), .ref (ad 7 0)]) (hu := nM_0_0) (hc := (rfl : gCl[5]? = some (RX6, TX6, 49))) (hcell := obM_0) (lk_X6_200 C hR (by decide)) (ct_M_readsField hc) rfl rfl (Nat.le_of_ble_eq_true rfl) ⟨Nat.zero_le _, Nat.zero_le _⟩ dX6_readsThing_25 ?_
    obtain ⟨hg, h⟩ := g_gd h
    obtain ⟨σ3, hσ3, h⟩ := g_lt h
    refine as_M_7 C nM_7_0 hσ3 hg dX6_readsThing_28 ?_
    refine y_aload_n C dX6_readsThing_29 0 rfl rfl ?_
    refine y_dup C dX6_readsThing_30 rfl ?_
    refine gf_M_20 C dX6_readsThing_31 ?_
    refine y_iconst (v := (1 : Int32)) C dX6_readsThing_34 (by decide) ?_
    refine y_iadd C dX6_readsThing_35 ?_
    obtain ⟨σ4, hσ4, h⟩ := g_lt h
    refine pf_M_20 C hσ4 dX6_readsThing_36 ?_
    refine y_aload_n C dX6_readsThing_39 0 rfl rfl ?_
    refine gf_M_19 C dX6_readsThing_40 ?_
    refine y_aload_n C dX6_readsThing_43 0 rfl rfl ?_
    refine gf_M_20 C dX6_readsThing_44 ?_
    refine y_iconst (v := (1 : Int32)) C dX6_readsThing_47 (by decide) ?_
    refine y_isub C dX6_readsThing_48 ?_
    obtain ⟨hg, h⟩ := g_gd h
    refine al_M_7 C nM_7_0 hg dX6_readsThing_49 ?_
    refine y_if_lt (tgt := 57) C dX6_readsThing_50 rfl (fun hc => ?_) (fun hc => ?_)
    · replace h := g_it h hc
      refine y_iconst (v := (0 : Int32)) C dX6_readsThing_57 (by decide) ?_
      replace h := Option.some.inj h; subst h
      exact y_zret C (by decide) hQ ⟨Nat.zero_le _, Nat.zero_le _⟩ dX6_readsThing_58
    · replace h := g_if h hc
      refine y_iconst (v := (1 : Int32)) C dX6_readsThing_53 (by decide) ?_
      refine y_goto (tgt := 58) C dX6_readsThing_54 rfl ?_
      replace h := Option.some.inj h; subst h
      exact y_zret C (by decide) hQ ⟨Nat.zero_le _, Nat.zero_le _⟩ dX6_readsThing_58
  · replace h := g_it h hc
    refine y_iconst (v := (0 : Int32)) C dX6_readsThing_14 (by decide) ?_
    replace h := Option.some.inj h; subst h
    exact y_zret C (by decide) hQ ⟨Nat.zero_le _, Nat.zero_le _⟩ dX6_readsThing_15
theorem ct_M_readsThing {D : va_G} {dA : Nat → ClassId} {A : Nat → Prop} {s0 : State} {b0 : Nat} {l : Launch} {hid : Bool} {ad : Nat → Nat → Nat} {σ : g_S} {r : Int32} {σ1 : g_S} (h : mF_M_readsThing σ = some (r, σ1)) : g_Met gCl D dA A s0 b0 l yX6_readsThing cX6_readsThing 1 (some .boolean) 4 (0, 0) (gM hid) ad σ [.ref (ad 0 0)] (gM hid) ad σ1 (some (.int r)) :=
  g_Met.of pl_X6 (Nat.le_of_ble_eq_true rfl) (fun X C hQ hR _ _ hL _ es eb => mw_M_readsThing C hR hL h hQ)
theorem mw_M_flag {X : g_F} {LM : g_L} (C : g_M gCl X cX6_flag RX6 (some .int)) (hR : g_R X = g_rm 1 0 0) (hL : g_nL X = 1) {ad : Nat → Nat → Nat} {σ : g_S} {v0 : Int32} {o : Int32} (h : mF_M_flag v0 = some o) (hQ : g_MQ gCl X LM ad σ (some (.int o)) = g_Q X) : g_Y gCl X LM ad σ (0, 0) 0 [(0, .int v0)] [] := by
  unfold mF_M_flag at h
  refine y_iload_n C dX6_flag_0 0 rfl rfl ?_
  refine y_if_eq (tgt := 8) C dX6_flag_1 rfl (fun hc => ?_) (fun hc => ?_)
  · replace h := g_it h hc
    refine y_iconst (v := (0 : Int32)) C dX6_flag_8 (by decide) ?_
    replace h := Option.some.inj h; subst h
    exact y_iret C hQ ⟨Nat.zero_le _, Nat.zero_le _⟩ dX6_flag_9
  · replace h := g_if h hc
    refine y_iconst (v := (1 : Int32)) C dX6_flag_4 (by decide) ?_
    refine y_goto (tgt := 9) C dX6_flag_5 rfl ?_
    replace h := Option.some.inj h; subst h
    exact y_iret C hQ ⟨Nat.zero_le _, Nat.zero_le _⟩ dX6_flag_9
theorem ct_M_flag {D : va_G} {dA : Nat → ClassId} {A : Nat → Prop} {s0 : State} {b0 : Nat} {l : Launch} {LM : g_L} {ad : Nat → Nat → Nat} {σ : g_S} {v0 : Int32} {r : Int32} (h : mF_M_flag v0 = some r) : g_Met gCl D dA A s0 b0 l yX6_flag cX6_flag 1 (some .int) 1 (0, 0) LM ad σ [.int v0] LM ad σ (some (.int r)) :=
  g_Met.of pl_X6 (Nat.le_of_ble_eq_true rfl) (fun X C hQ hR _ _ hL _ es eb => mw_M_flag C hR hL h hQ)
theorem mj_M_takes_29 {X : g_F} {hid : Bool} (C : g_M gCl X cX6_takes RX6 (some .boolean)) (hR : g_R X = g_rm 2 0 0) (hL : g_nL X = 3) {ad : Nat → Nat → Nat} {σ : g_S} {s0 : Int32} {o : (Int32 × g_S)} (h : mJ_M_takes_29 σ s0 = some o) (hQ : g_MQ gCl X (gM hid) ad o.2 (some (.int o.1)) = g_Q X) : g_Y gCl X (gM hid) ad σ (0, 0) 29 [(0, .ref (ad 0 0))] [.int s0] := by
  unfold mJ_M_takes_29 at h
  refine y_istore_n (vs1 := [(2, .int s0), (0, .ref (ad 0 0))]) C rfl dX6_takes_29 rfl (g_lL hL rfl) rfl ?_
  refine y_aload_n C dX6_takes_30 1 rfl rfl ?_
  refine y_dup C dX6_takes_31 rfl ?_
  refine gf_M_15 C dX6_takes_32 ?_
  refine y_iload_n C dX6_takes_35 0 rfl rfl ?_
  obtain ⟨x1, hc, h⟩ := g_bd h
  refine y_callS C (As := [.int s0]) (rest := [.int (σ.1 0 0 15), .ref (ad 0 0)]) (lk_X6_154 C hR (by decide)) (ct_M_flag hc) rfl rfl (Nat.le_of_ble_eq_true rfl) ⟨Nat.zero_le _, Nat.zero_le _⟩ dX6_takes_36 ?_
  refine y_iadd C dX6_takes_39 ?_
  obtain ⟨σ2, hσ2, h⟩ := g_lt h
  refine pf_M_15 C hσ2 dX6_takes_40 ?_
  refine y_iload_n C dX6_takes_43 0 rfl rfl ?_
  obtain ⟨hg, h⟩ := g_gd h
  replace h := Option.some.inj h; subst h
  exact y_zret C (g_nz hg) hQ ⟨Nat.zero_le _, Nat.zero_le _⟩ dX6_takes_44
theorem mj_M_takes_28 {X : g_F} {hid : Bool} (C : g_M gCl X cX6_takes RX6 (some .boolean)) (hR : g_R X = g_rm 2 0 0) (hL : g_nL X = 3) {ad : Nat → Nat → Nat} {σ : g_S} {o : (Int32 × g_S)} (h : mJ_M_takes_28 σ = some o) (hQ : g_MQ gCl X (gM hid) ad o.2 (some (.int o.1)) = g_Q X) : g_Y gCl X (gM hid) ad σ (0, 0) 28 [(0, .ref (ad 0 0))] [] := by
  unfold mJ_M_takes_28 at h
  refine y_iconst (v := (0 : Int32)) C dX6_takes_28 (by decide) ?_
  exact mj_M_takes_29 C hR hL h hQ
theorem mw_M_takes {X : g_F} {hid : Bool} (C : g_M gCl X cX6_takes RX6 (some .boolean)) (hR : g_R X = g_rm 2 0 0) (hL : g_nL X = 3) {ad : Nat → Nat → Nat} {σ : g_S} {v1 : Int32} {o : (Int32 × g_S)} (h : mF_M_takes σ v1 = some o) (hQ : g_MQ gCl X (gM hid) ad o.2 (some (.int o.1)) = g_Q X) : g_Y gCl X (gM hid) ad σ (0, 0) 0 [(0, .ref (ad 0 0)), (1, .int v1)] [] := by
  unfold mF_M_takes at h
  refine y_aload_n C dX6_takes_0 0 rfl rfl ?_
  refine gf_M_15 C dX6_takes_1 ?_
  refine y_aload_n C dX6_takes_4 0 rfl rfl ?_
  refine gf_M_16 C dX6_takes_5 ?_
  refine y_icmp_ge (tgt := 28) C dX6_takes_8 rfl (fun hc => ?_) (fun hc => ?_)
  · replace h := g_it h hc
    refine y_sub (vs2 := [(0, .ref (ad 0 0))]) [0] rfl ?_
    exact mj_M_takes_28 C hR hL h hQ
  · replace h := g_if h hc
    refine y_aload_n C dX6_takes_11 0 rfl rfl ?_
    refine gf_M_13 C dX6_takes_12 ?_
    refine y_aload_n C dX6_takes_15 0 rfl rfl ?_
    refine gf_M_15 C dX6_takes_16 ?_
    obtain ⟨hg, h⟩ := g_gd h
    refine al_M_5 C nM_5_0 hg dX6_takes_19 ?_
    refine y_iload_n C dX6_takes_20 1 rfl rfl ?_
    refine y_icmp_ne (tgt := 28) C dX6_takes_21 rfl (fun hc => ?_) (fun hc => ?_)
    · replace h := g_if h hc
      refine y_sub (vs2 := [(0, .ref (ad 0 0))]) [0] rfl ?_
      exact mj_M_takes_28 C hR hL h hQ
    · replace h := g_it h hc
      refine y_iconst (v := (1 : Int32)) C dX6_takes_24 (by decide) ?_
      refine y_goto (tgt := 29) C dX6_takes_25 rfl ?_
      refine y_sub (vs2 := [(0, .ref (ad 0 0))]) [0] rfl ?_
      exact mj_M_takes_29 C hR hL h hQ
theorem ct_M_takes {D : va_G} {dA : Nat → ClassId} {A : Nat → Prop} {s0 : State} {b0 : Nat} {l : Launch} {hid : Bool} {ad : Nat → Nat → Nat} {σ : g_S} {v1 : Int32} {r : Int32} {σ1 : g_S} (h : mF_M_takes σ v1 = some (r, σ1)) : g_Met gCl D dA A s0 b0 l yX6_takes cX6_takes 3 (some .boolean) 2 (0, 0) (gM hid) ad σ [.ref (ad 0 0), .int v1] (gM hid) ad σ1 (some (.int r)) :=
  g_Met.of pl_X6 (Nat.le_of_ble_eq_true rfl) (fun X C hQ hR _ _ hL _ es eb => mw_M_takes C hR hL h hQ)
theorem mj_M_faultOf_44 {X : g_F} {hid : Bool} (C : g_M gCl X cX6_faultOf RX6 (some .int)) (hR : g_R X = g_rm 1 0 0) (hL : g_nL X = 5) {ad : Nat → Nat → Nat} {σ : g_S} {v4 : Int32} {o : Int32} (h : mJ_M_faultOf_44 σ v4 = some o) (hQ : g_MQ gCl X (gM hid) ad σ (some (.int o)) = g_Q X) : g_Y gCl X (gM hid) ad σ (0, 0) 44 [(0, .ref (ad 0 0)), (4, .int v4)] [] := by
  unfold mJ_M_faultOf_44 at h
  refine y_iload C dX6_faultOf_44 1 rfl ?_
  refine y_if_eq (tgt := 53) C dX6_faultOf_46 rfl (fun hc => ?_) (fun hc => ?_)
  · replace h := g_it h hc
    refine y_iconst (v := (-1 : Int32)) C dX6_faultOf_53 (by decide) ?_
    refine y_aload_n C dX6_faultOf_54 0 rfl rfl ?_
    refine gf_M_15 C dX6_faultOf_55 ?_
    refine y_isub C dX6_faultOf_58 ?_
    replace h := Option.some.inj h; subst h
    exact y_iret C hQ ⟨Nat.zero_le _, Nat.zero_le _⟩ dX6_faultOf_59
  · replace h := g_if h hc
    refine y_iconst (v := (0 : Int32)) C dX6_faultOf_49 (by decide) ?_
    refine y_goto (tgt := 59) C dX6_faultOf_50 rfl ?_
    replace h := Option.some.inj h; subst h
    exact y_iret C hQ ⟨Nat.zero_le _, Nat.zero_le _⟩ dX6_faultOf_59
theorem mj_M_faultOf_20 {X : g_F} {hid : Bool} (C : g_M gCl X cX6_faultOf RX6 (some .int)) (hR : g_R X = g_rm 1 0 0) (hL : g_nL X = 5) {ad : Nat → Nat → Nat} {σ : g_S} {v1 : Int32} {v2 : Int32} {s0 : Int32} {o : Int32} (h : mJ_M_faultOf_20 σ v1 v2 s0 = some o) (hQ : g_MQ gCl X (gM hid) ad σ (some (.int o)) = g_Q X) : g_Y gCl X (gM hid) ad σ (0, 0) 20 [(0, .ref (ad 0 0)), (1, .int v1), (2, .int v2)] [.int s0] := by
  unfold mJ_M_faultOf_20 at h
  refine y_istore (vs1 := [(4, .int s0), (0, .ref (ad 0 0)), (1, .int v1), (2, .int v2)]) C rfl dX6_faultOf_20 (g_lL hL rfl) rfl ?_
  refine y_iload_n C dX6_faultOf_22 2 rfl rfl ?_
  refine y_iload_n C dX6_faultOf_23 3 rfl rfl ?_
  refine y_icmp_le (tgt := 44) C dX6_faultOf_24 rfl (fun hc => ?_) (fun hc => ?_)
  · replace h := g_it h hc
    refine y_sub (vs2 := [(0, .ref (ad 0 0)), (4, .int s0)]) [1, 0] rfl ?_
    exact mj_M_faultOf_44 C hR hL h hQ
  · replace h := g_if h hc
    refine y_iload C dX6_faultOf_27 0 rfl ?_
    refine y_if_ne (tgt := 40) C dX6_faultOf_29 rfl (fun hc => ?_) (fun hc => ?_)
    · replace h := g_if h hc
      refine y_iconst (v := (-1 : Int32)) C dX6_faultOf_40 (by decide) ?_
      refine y_iload_n C dX6_faultOf_41 3 rfl rfl ?_
      refine y_isub C dX6_faultOf_42 ?_
      replace h := Option.some.inj h; subst h
      exact y_iret C hQ ⟨Nat.zero_le _, Nat.zero_le _⟩ dX6_faultOf_43
    · replace h := g_it h hc
      refine y_aload_n C dX6_faultOf_32 1 rfl rfl ?_
      refine gf_M_15 C dX6_faultOf_33 ?_
      refine y_iload_n C dX6_faultOf_36 3 rfl rfl ?_
      refine y_icmp_lt (tgt := 44) C dX6_faultOf_37 rfl (fun hc => ?_) (fun hc => ?_)
      · replace h := g_it h hc
        refine y_sub (vs2 := [(0, .ref (ad 0 0)), (4, .int s0)]) [1, 0] rfl ?_
        exact mj_M_faultOf_44 C hR hL h hQ
      · replace h := g_if h hc
        refine y_iconst (v := (-1 : Int32)) C dX6_faultOf_40 (by decide) ?_
        refine y_iload_n C dX6_faultOf_41 3 rfl rfl ?_
        refine y_isub C dX6_faultOf_42 ?_
        replace h := Option.some.inj h; subst h
        exact y_iret C hQ ⟨Nat.zero_le _, Nat.zero_le _⟩ dX6_faultOf_43
theorem mj_M_faultOf_19 {X : g_F} {hid : Bool} (C : g_M gCl X cX6_faultOf RX6 (some .int)) (hR : g_R X = g_rm 1 0 0) (hL : g_nL X = 5) {ad : Nat → Nat → Nat} {σ : g_S} {v1 : Int32} {v2 : Int32} {o : Int32} (h : mJ_M_faultOf_19 σ v1 v2 = some o) (hQ : g_MQ gCl X (gM hid) ad σ (some (.int o)) = g_Q X) : g_Y gCl X (gM hid) ad σ (0, 0) 19 [(0, .ref (ad 0 0)), (1, .int v1), (2, .int v2)] [] := by
  unfold mJ_M_faultOf_19 at h
  refine y_iconst (v := (0 : Int32)) C dX6_faultOf_19 (by decide) ?_
  exact mj_M_faultOf_20 C hR hL h hQ
theorem mw_M_faultOf {X : g_F} {hid : Bool} (C : g_M gCl X cX6_faultOf RX6 (some .int)) (hR : g_R X = g_rm 1 0 0) (hL : g_nL X = 5) {ad : Nat → Nat → Nat} {σ : g_S} {v1 : Int32} {v2 : Int32} {v3 : Int32} {o : Int32} (h : mF_M_faultOf σ v1 v2 v3 = some o) (hQ : g_MQ gCl X (gM hid) ad σ (some (.int o)) = g_Q X) : g_Y gCl X (gM hid) ad σ (0, 0) 0 [(0, .ref (ad 0 0)), (1, .int v1), (2, .int v2), (3, .int v3)] [] := by
  unfold mF_M_faultOf at h
  refine y_iload_n C dX6_faultOf_0 3 rfl rfl ?_
  refine y_if_eq (tgt := 19) C dX6_faultOf_1 rfl (fun hc => ?_) (fun hc => ?_)
  · replace h := g_it h hc
    refine y_sub (vs2 := [(0, .ref (ad 0 0)), (1, .int v1), (2, .int v2)]) [0, 1, 2] rfl ?_
    exact mj_M_faultOf_19 C hR hL h hQ
  · replace h := g_if h hc
    refine y_aload_n C dX6_faultOf_4 0 rfl rfl ?_
    refine gf_M_15 C dX6_faultOf_5 ?_
    refine y_aload_n C dX6_faultOf_8 0 rfl rfl ?_
    refine gf_M_16 C dX6_faultOf_9 ?_
    refine y_icmp_ne (tgt := 19) C dX6_faultOf_12 rfl (fun hc => ?_) (fun hc => ?_)
    · replace h := g_if h hc
      refine y_sub (vs2 := [(0, .ref (ad 0 0)), (1, .int v1), (2, .int v2)]) [0, 1, 2] rfl ?_
      exact mj_M_faultOf_19 C hR hL h hQ
    · replace h := g_it h hc
      refine y_iconst (v := (1 : Int32)) C dX6_faultOf_15 (by decide) ?_
      refine y_goto (tgt := 20) C dX6_faultOf_16 rfl ?_
      refine y_sub (vs2 := [(0, .ref (ad 0 0)), (1, .int v1), (2, .int v2)]) [0, 1, 2] rfl ?_
      exact mj_M_faultOf_20 C hR hL h hQ
theorem ct_M_faultOf {D : va_G} {dA : Nat → ClassId} {A : Nat → Prop} {s0 : State} {b0 : Nat} {l : Launch} {hid : Bool} {ad : Nat → Nat → Nat} {σ : g_S} {v1 : Int32} {v2 : Int32} {v3 : Int32} {r : Int32} (h : mF_M_faultOf σ v1 v2 v3 = some r) : g_Met gCl D dA A s0 b0 l yX6_faultOf cX6_faultOf 5 (some .int) 1 (0, 0) (gM hid) ad σ [.ref (ad 0 0), .int v1, .int v2, .int v3] (gM hid) ad σ (some (.int r)) :=
  g_Met.of pl_X6 (Nat.le_of_ble_eq_true rfl) (fun X C hQ hR _ _ hL _ es eb => mw_M_faultOf C hR hL h hQ)
theorem mj_M_readsLines_45 {X : g_F} {hid : Bool} (C : g_M gCl X cX6_readsLines RX6 (some .int)) (hR : g_R X = g_rm 5 0 0) (hL : g_nL X = 6) {ad : Nat → Nat → Nat} {σ : g_S} {v1 : Int32} {v2 : Int32} {v3 : Int32} {s0 : Int32} {o : ((Int32 × Int32 × g_S) ⊕ (Int32 × g_S))} (h : mJ_M_readsLines_45 σ v1 v2 v3 s0 = some o) (kl : ∀ z, o = .inl z → g_Y gCl X (gM hid) ad z.2.2 (0, 0) 25 [(0, .ref (ad 0 0)), (1, .int v1), (2, .int v2), (3, .int v3), (4, .int z.1), (5, .int z.2.1)] []) (kx : ∀ z, o = .inr z → g_Y gCl X (gM hid) ad z.2 (0, 0) 71 [(0, .ref (ad 0 0)), (2, .int v2), (3, .int v3), (4, .int z.1)] []) : g_Y gCl X (gM hid) ad σ (0, 0) 45 [(0, .ref (ad 0 0)), (1, .int v1), (2, .int v2), (3, .int v3)] [.int s0] := by
  unfold mJ_M_readsLines_45 at h
  refine y_istore (vs1 := [(4, .int s0), (0, .ref (ad 0 0)), (1, .int v1), (2, .int v2), (3, .int v3)]) C rfl dX6_readsLines_45 (g_lL hL rfl) rfl ?_
  refine y_iload C dX6_readsLines_47 0 rfl ?_
  refine y_if_eq (tgt := 65) C dX6_readsLines_49 rfl (fun hc => ?_) (fun hc => ?_)
  · replace h := g_it h hc
    refine y_iconst (v := (0 : Int32)) C dX6_readsLines_65 (by decide) ?_
    refine y_istore (vs1 := [(5, .int (0 : Int32)), (4, .int s0), (0, .ref (ad 0 0)), (1, .int v1), (2, .int v2), (3, .int v3)]) C rfl dX6_readsLines_66 (g_lL hL rfl) rfl ?_
    refine y_goto (tgt := 25) C dX6_readsLines_68 rfl ?_
    refine y_sub (vs2 := [(0, .ref (ad 0 0)), (1, .int v1), (2, .int v2), (3, .int v3), (4, .int s0), (5, .int (0 : Int32))]) [2, 3, 4, 5, 1, 0] rfl ?_
    exact kl _ (Option.some.inj h).symm
  · replace h := g_if h hc
    refine y_aload_n C dX6_readsLines_52 1 rfl rfl ?_
    refine y_bipush (v := (59 : Int32)) C dX6_readsLines_53 (by decide) ?_
    obtain ⟨x7, σ6, hc, h⟩ := g_bp h
    refine y_callV C (As := [.int (59 : Int32)]) (rest := []) (hu := nM_0_0) (hc := (rfl : gCl[5]? = some (RX6, TX6, 49))) (hcell := obM_0) (lk_X6_209 C hR (by decide)) (ct_M_takes hc) rfl rfl (Nat.le_of_ble_eq_true rfl) ⟨Nat.zero_le _, Nat.zero_le _⟩ dX6_readsLines_55 ?_
    refine y_if_eq (tgt := 65) C dX6_readsLines_58 rfl (fun hc => ?_) (fun hc => ?_)
    · replace h := g_it h hc
      refine y_iconst (v := (0 : Int32)) C dX6_readsLines_65 (by decide) ?_
      refine y_istore (vs1 := [(5, .int (0 : Int32)), (4, .int s0), (0, .ref (ad 0 0)), (1, .int v1), (2, .int v2), (3, .int v3)]) C rfl dX6_readsLines_66 (g_lL hL rfl) rfl ?_
      refine y_goto (tgt := 25) C dX6_readsLines_68 rfl ?_
      refine y_sub (vs2 := [(0, .ref (ad 0 0)), (1, .int v1), (2, .int v2), (3, .int v3), (4, .int s0), (5, .int (0 : Int32))]) [2, 3, 4, 5, 1, 0] rfl ?_
      exact kl _ (Option.some.inj h).symm
    · replace h := g_if h hc
      refine y_iconst (v := (1 : Int32)) C dX6_readsLines_61 (by decide) ?_
      refine y_goto (tgt := 66) C dX6_readsLines_62 rfl ?_
      refine y_istore (vs1 := [(5, .int (1 : Int32)), (4, .int s0), (0, .ref (ad 0 0)), (1, .int v1), (2, .int v2), (3, .int v3)]) C rfl dX6_readsLines_66 (g_lL hL rfl) rfl ?_
      refine y_goto (tgt := 25) C dX6_readsLines_68 rfl ?_
      refine y_sub (vs2 := [(0, .ref (ad 0 0)), (1, .int v1), (2, .int v2), (3, .int v3), (4, .int s0), (5, .int (1 : Int32))]) [2, 3, 4, 5, 1, 0] rfl ?_
      exact kl _ (Option.some.inj h).symm
theorem ml_M_readsLines_25 {X : g_F} {hid : Bool} (C : g_M gCl X cX6_readsLines RX6 (some .int)) (hR : g_R X = g_rm 5 0 0) (hL : g_nL X = 6) {ad : Nat → Nat → Nat} {σ : g_S} {v1 : Int32} {v2 : Int32} {v3 : Int32} (n : Nat) (v : (Int32 × Int32 × g_S)) (e : (Int32 × g_S)) (h : g_lp (fun v => mB_M_readsLines_25 v.2.2 v1 v2 v3 v.1 v.2.1) n v = some e) (kx : g_Y gCl X (gM hid) ad e.2 (0, 0) 71 [(0, .ref (ad 0 0)), (2, .int v2), (3, .int v3), (4, .int e.1)] []) : g_Y gCl X (gM hid) ad v.2.2 (0, 0) 25 [(0, .ref (ad 0 0)), (1, .int v1), (2, .int v2), (3, .int v3), (4, .int v.1), (5, .int v.2.1)] [] := by
  refine g_loop (P := fun v => g_Y gCl X (gM hid) ad v.2.2 (0, 0) 25 [(0, .ref (ad 0 0)), (1, .int v1), (2, .int v2), (3, .int v3), (4, .int v.1), (5, .int v.2.1)] []) (T := fun e => g_Y gCl X (gM hid) ad e.2 (0, 0) 71 [(0, .ref (ad 0 0)), (2, .int v2), (3, .int v3), (4, .int e.1)] []) ?_ n v e h kx
  clear h kx
  clear n v e
  intro v o h kl kx
  obtain ⟨v4, v5, σ⟩ := v
  have h : mB_M_readsLines_25 σ v1 v2 v3 v4 v5 = some o := h
  unfold mB_M_readsLines_25 at h
  show g_Y gCl X (gM hid) ad σ (0, 0) 25 [(0, .ref (ad 0 0)), (1, .int v1), (2, .int v2), (3, .int v3), (4, .int v4), (5, .int v5)] []
  refine y_iload C dX6_readsLines_25 5 rfl ?_
  refine y_if_eq (tgt := 71) C dX6_readsLines_27 rfl (fun hc => ?_) (fun hc => ?_)
  · replace h := g_it h hc
    refine y_sub (vs2 := [(0, .ref (ad 0 0)), (2, .int v2), (3, .int v3), (4, .int v4)]) [0, 2, 3, 4] rfl ?_
    exact kx _ (Option.some.inj h).symm
  · replace h := g_if h hc
    refine y_iload_n C dX6_readsLines_30 1 rfl rfl ?_
    refine y_if_eq (tgt := 41) C dX6_readsLines_31 rfl (fun hc => ?_) (fun hc => ?_)
    · replace h := g_it h hc
      refine y_aload_n C dX6_readsLines_41 0 rfl rfl ?_
      obtain ⟨x5, σ4, hc, h⟩ := g_bp h
      refine y_callV C (As := []) (rest := []) (hu := nM_0_0) (hc := (rfl : gCl[5]? = some (RX6, TX6, 49))) (hcell := obM_0) (lk_X6_206 C hR (by decide)) (ct_M_readsThing hc) rfl rfl (Nat.le_of_ble_eq_true rfl) ⟨Nat.zero_le _, Nat.zero_le _⟩ dX6_readsLines_42 ?_
      refine y_sub (vs2 := [(0, .ref (ad 0 0)), (1, .int v1), (2, .int v2), (3, .int v3)]) [0, 1, 2, 3] rfl ?_
      exact mj_M_readsLines_45 C hR hL h kl kx
    · replace h := g_if h hc
      refine y_aload_n C dX6_readsLines_34 0 rfl rfl ?_
      obtain ⟨x9, σ8, hc, h⟩ := g_bp h
      refine y_callV C (As := []) (rest := []) (hu := nM_0_0) (hc := (rfl : gCl[5]? = some (RX6, TX6, 49))) (hcell := obM_0) (lk_X6_203 C hR (by decide)) (ct_M_readsPerson hc) rfl rfl (Nat.le_of_ble_eq_true rfl) ⟨Nat.zero_le _, Nat.zero_le _⟩ dX6_readsLines_35 ?_
      refine y_goto (tgt := 45) C dX6_readsLines_38 rfl ?_
      refine y_sub (vs2 := [(0, .ref (ad 0 0)), (1, .int v1), (2, .int v2), (3, .int v3)]) [0, 1, 2, 3] rfl ?_
      exact mj_M_readsLines_45 C hR hL h kl kx
theorem mj_M_readsLines_23 {X : g_F} {hid : Bool} (C : g_M gCl X cX6_readsLines RX6 (some .int)) (hR : g_R X = g_rm 5 0 0) (hL : g_nL X = 6) {ad : Nat → Nat → Nat} {σ : g_S} {v1 : Int32} {v2 : Int32} {v3 : Int32} {v4 : Int32} {s0 : Int32} {o : (Int32 × g_S)} (h : mJ_M_readsLines_23 σ v1 v2 v3 v4 s0 = some o) (hQ : g_MQ gCl X (gM hid) ad o.2 (some (.int o.1)) = g_Q X) : g_Y gCl X (gM hid) ad σ (0, 0) 23 [(0, .ref (ad 0 0)), (1, .int v1), (2, .int v2), (3, .int v3), (4, .int v4)] [.int s0] := by
  unfold mJ_M_readsLines_23 at h
  refine y_istore (vs1 := [(5, .int s0), (0, .ref (ad 0 0)), (1, .int v1), (2, .int v2), (3, .int v3), (4, .int v4)]) C rfl dX6_readsLines_23 (g_lL hL rfl) rfl ?_
  refine y_sub (vs2 := [(0, .ref (ad 0 0)), (1, .int v1), (2, .int v2), (3, .int v3), (4, .int v4), (5, .int s0)]) [1, 2, 3, 4, 5, 0] rfl ?_
  obtain ⟨e10, he10, h⟩ := g_bd h
  refine ml_M_readsLines_25 C hR hL (σ := σ) _ _ _ he10 ?_
  refine y_aload_n C dX6_readsLines_71 0 rfl rfl ?_
  refine y_iload_n C dX6_readsLines_72 2 rfl rfl ?_
  refine y_iload_n C dX6_readsLines_73 1 rfl rfl ?_
  refine y_iload C dX6_readsLines_74 3 rfl ?_
  obtain ⟨x11, hc, h⟩ := g_bd h
  refine y_callV C (As := [.int v3, .int v2, .int e10.1]) (rest := []) (hu := nM_0_0) (hc := (rfl : gCl[5]? = some (RX6, TX6, 49))) (hcell := obM_0) (lk_X6_213 C hR (by decide)) (ct_M_faultOf hc) rfl rfl (Nat.le_of_ble_eq_true rfl) ⟨Nat.zero_le _, Nat.zero_le _⟩ dX6_readsLines_76 ?_
  replace h := Option.some.inj h; subst h
  exact y_iret C hQ ⟨Nat.zero_le _, Nat.zero_le _⟩ dX6_readsLines_79
theorem mw_M_readsLines {X : g_F} {hid : Bool} (C : g_M gCl X cX6_readsLines RX6 (some .int)) (hR : g_R X = g_rm 5 0 0) (hL : g_nL X = 6) {ad : Nat → Nat → Nat} {σ : g_S} {v1 : Int32} {v2 : Int32} {o : (Int32 × g_S)} (h : mF_M_readsLines σ v1 v2 = some o) (hQ : g_MQ gCl X (gM hid) ad o.2 (some (.int o.1)) = g_Q X) : g_Y gCl X (gM hid) ad σ (0, 0) 0 [(0, .ref (ad 0 0)), (1, .int v1), (2, .int v2)] [] := by
  unfold mF_M_readsLines at h
  refine y_aload_n C dX6_readsLines_0 0 rfl rfl ?_
  refine y_iload_n C dX6_readsLines_1 2 rfl rfl ?_
  obtain ⟨x2, σ1, hc, h⟩ := g_bp h
  refine y_callV C (As := [.int v2]) (rest := []) (hu := nM_0_0) (hc := (rfl : gCl[5]? = some (RX6, TX6, 49))) (hcell := obM_0) (lk_X6_175 C hR (by decide)) (ct_M_begins hc) rfl rfl (Nat.le_of_ble_eq_true rfl) ⟨Nat.zero_le _, Nat.zero_le _⟩ dX6_readsLines_2 ?_
  refine y_istore_n (vs1 := [(3, .int x2), (0, .ref (ad 0 0)), (1, .int v1), (2, .int v2)]) C rfl dX6_readsLines_5 rfl (g_lL hL rfl) rfl ?_
  refine y_aload_n C dX6_readsLines_6 1 rfl rfl ?_
  refine y_iconst (v := (0 : Int32)) C dX6_readsLines_7 (by decide) ?_
  obtain ⟨σ3, hσ3, h⟩ := g_lt h
  refine pf_M_20 C hσ3 dX6_readsLines_8 ?_
  refine y_iconst (v := (1 : Int32)) C dX6_readsLines_11 (by decide) ?_
  refine y_istore (vs1 := [(4, .int (1 : Int32)), (3, .int x2), (0, .ref (ad 0 0)), (1, .int v1), (2, .int v2)]) C rfl dX6_readsLines_12 (g_lL hL rfl) rfl ?_
  refine y_iload_n C dX6_readsLines_14 1 rfl rfl ?_
  refine y_if_le (tgt := 22) C dX6_readsLines_15 rfl (fun hc => ?_) (fun hc => ?_)
  · replace h := g_it h hc
    refine y_iconst (v := (0 : Int32)) C dX6_readsLines_22 (by decide) ?_
    refine y_sub (vs2 := [(0, .ref (ad 0 0)), (1, .int v1), (2, .int v2), (3, .int x2), (4, .int (1 : Int32))]) [2, 3, 4, 1, 0] rfl ?_
    exact mj_M_readsLines_23 C hR hL h hQ
  · replace h := g_if h hc
    refine y_iconst (v := (1 : Int32)) C dX6_readsLines_18 (by decide) ?_
    refine y_goto (tgt := 23) C dX6_readsLines_19 rfl ?_
    refine y_sub (vs2 := [(0, .ref (ad 0 0)), (1, .int v1), (2, .int v2), (3, .int x2), (4, .int (1 : Int32))]) [2, 3, 4, 1, 0] rfl ?_
    exact mj_M_readsLines_23 C hR hL h hQ
theorem ct_M_readsLines {D : va_G} {dA : Nat → ClassId} {A : Nat → Prop} {s0 : State} {b0 : Nat} {l : Launch} {hid : Bool} {ad : Nat → Nat → Nat} {σ : g_S} {v1 : Int32} {v2 : Int32} {r : Int32} {σ1 : g_S} (h : mF_M_readsLines σ v1 v2 = some (r, σ1)) : g_Met gCl D dA A s0 b0 l yX6_readsLines cX6_readsLines 6 (some .int) 5 (0, 0) (gM hid) ad σ [.ref (ad 0 0), .int v1, .int v2] (gM hid) ad σ1 (some (.int r)) :=
  g_Met.of pl_X6 (Nat.le_of_ble_eq_true rfl) (fun X C hQ hR _ _ hL _ es eb => mw_M_readsLines C hR hL h hQ)
theorem mj_M_isNew_36 {X : g_F} {hid : Bool} (C : g_M gCl X cX6_isNew RX6 (some .int)) (hR : g_R X = g_rm 2 0 0) (hL : g_nL X = 1) {ad : Nat → Nat → Nat} {σ : g_S} {s1 : Int32} {s2 : Int32} {o : (Int32 × g_S)} (h : mJ_M_isNew_36 σ s1 s2 = some o) (hQ : g_MQ gCl X (gM hid) ad o.2 (some (.int o.1)) = g_Q X) : g_Y gCl X (gM hid) ad σ (0, 0) 36 [(0, .ref (ad 0 0))] [.int s2, .int s1, .ref (ad 0 0)] := by
  unfold mJ_M_isNew_36 at h
  obtain ⟨x2, hc, h⟩ := g_bd h
  refine y_callS C (As := [.int s2]) (rest := [.int s1, .ref (ad 0 0)]) (lk_X6_154 C hR (by decide)) (ct_M_flag hc) rfl rfl (Nat.le_of_ble_eq_true rfl) ⟨Nat.zero_le _, Nat.zero_le _⟩ dX6_isNew_36 ?_
  refine y_iadd C dX6_isNew_39 ?_
  obtain ⟨σ3, hσ3, h⟩ := g_lt h
  refine pf_M_7 C hσ3 dX6_isNew_40 ?_
  refine y_aload_n C dX6_isNew_43 0 rfl rfl ?_
  refine gf_M_20 C dX6_isNew_44 ?_
  replace h := Option.some.inj h; subst h
  exact y_iret C hQ ⟨Nat.zero_le _, Nat.zero_le _⟩ dX6_isNew_47
theorem mj_M_isNew_16 {X : g_F} {hid : Bool} (C : g_M gCl X cX6_isNew RX6 (some .int)) (hR : g_R X = g_rm 2 0 0) (hL : g_nL X = 1) {ad : Nat → Nat → Nat} {σ : g_S} {s1 : Int32} {o : (Int32 × g_S)} (h : mJ_M_isNew_16 σ s1 = some o) (hQ : g_MQ gCl X (gM hid) ad o.2 (some (.int o.1)) = g_Q X) : g_Y gCl X (gM hid) ad σ (0, 0) 16 [(0, .ref (ad 0 0))] [.int s1, .ref (ad 0 0)] := by
  unfold mJ_M_isNew_16 at h
  obtain ⟨σ1, hσ1, h⟩ := g_lt h
  refine pf_M_27 C hσ1 dX6_isNew_16 ?_
  refine y_aload_n C dX6_isNew_19 0 rfl rfl ?_
  refine y_dup C dX6_isNew_20 rfl ?_
  refine gf_M_7 C dX6_isNew_21 ?_
  refine y_aload_n C dX6_isNew_24 0 rfl rfl ?_
  refine gf_M_20 C dX6_isNew_25 ?_
  refine y_if_le (tgt := 35) C dX6_isNew_28 rfl (fun hc => ?_) (fun hc => ?_)
  · replace h := g_it h hc
    refine y_iconst (v := (0 : Int32)) C dX6_isNew_35 (by decide) ?_
    exact mj_M_isNew_36 C hR hL h hQ
  · replace h := g_if h hc
    refine y_iconst (v := (1 : Int32)) C dX6_isNew_31 (by decide) ?_
    refine y_goto (tgt := 36) C dX6_isNew_32 rfl ?_
    exact mj_M_isNew_36 C hR hL h hQ
theorem mw_M_isNew {X : g_F} {hid : Bool} (C : g_M gCl X cX6_isNew RX6 (some .int)) (hR : g_R X = g_rm 2 0 0) (hL : g_nL X = 1) {ad : Nat → Nat → Nat} {σ : g_S} {o : (Int32 × g_S)} (h : mF_M_isNew σ = some o) (hQ : g_MQ gCl X (gM hid) ad o.2 (some (.int o.1)) = g_Q X) : g_Y gCl X (gM hid) ad σ (0, 0) 0 [(0, .ref (ad 0 0))] [] := by
  unfold mF_M_isNew at h
  refine y_aload_n C dX6_isNew_0 0 rfl rfl ?_
  refine y_aload_n C dX6_isNew_1 0 rfl rfl ?_
  refine gf_M_20 C dX6_isNew_2 ?_
  refine y_if_le (tgt := 12) C dX6_isNew_5 rfl (fun hc => ?_) (fun hc => ?_)
  · replace h := g_it h hc
    refine y_aload_n C dX6_isNew_12 0 rfl rfl ?_
    refine gf_M_27 C dX6_isNew_13 ?_
    exact mj_M_isNew_16 C hR hL h hQ
  · replace h := g_if h hc
    refine y_iconst (v := (0 : Int32)) C dX6_isNew_8 (by decide) ?_
    refine y_goto (tgt := 16) C dX6_isNew_9 rfl ?_
    exact mj_M_isNew_16 C hR hL h hQ
theorem ct_M_isNew {D : va_G} {dA : Nat → ClassId} {A : Nat → Prop} {s0 : State} {b0 : Nat} {l : Launch} {hid : Bool} {ad : Nat → Nat → Nat} {σ : g_S} {r : Int32} {σ1 : g_S} (h : mF_M_isNew σ = some (r, σ1)) : g_Met gCl D dA A s0 b0 l yX6_isNew cX6_isNew 1 (some .int) 2 (0, 0) (gM hid) ad σ [.ref (ad 0 0)] (gM hid) ad σ1 (some (.int r)) :=
  g_Met.of pl_X6 (Nat.le_of_ble_eq_true rfl) (fun X C hQ hR _ _ hL _ es eb => mw_M_isNew C hR hL h hQ)
theorem ml_M_people_21 {X : g_F} {hid : Bool} (C : g_M gCl X cX6_people RX6 (some .int)) (hR : g_R X = g_rm 6 0 0) (hL : g_nL X = 3) {ad : Nat → Nat → Nat} {σ : g_S} (n : Nat) (v : (Int32 × g_S)) (e : g_S) (h : g_lp (fun v => mB_M_people_21 v.2 v.1) n v = some e) (kx : g_Y gCl X (gM hid) ad e (0, 0) 119 [(0, .ref (ad 0 0))] []) : g_Y gCl X (gM hid) ad v.2 (0, 0) 21 [(0, .ref (ad 0 0)), (2, .int v.1)] [] := by
  refine g_loop (P := fun v => g_Y gCl X (gM hid) ad v.2 (0, 0) 21 [(0, .ref (ad 0 0)), (2, .int v.1)] []) (T := fun e => g_Y gCl X (gM hid) ad e (0, 0) 119 [(0, .ref (ad 0 0))] []) ?_ n v e h kx
  clear h kx
  clear n v e
  intro v o h kl kx
  obtain ⟨v2, σ⟩ := v
  have h : mB_M_people_21 σ v2 = some o := h
  unfold mB_M_people_21 at h
  show g_Y gCl X (gM hid) ad σ (0, 0) 21 [(0, .ref (ad 0 0)), (2, .int v2)] []
  refine y_iload_n C dX6_people_21 1 rfl rfl ?_
  refine y_aload_n C dX6_people_22 0 rfl rfl ?_
  refine gf_M_20 C dX6_people_23 ?_
  refine y_icmp_ge (tgt := 119) C dX6_people_26 rfl (fun hc => ?_) (fun hc => ?_)
  · replace h := g_it h hc
    refine y_sub (vs2 := [(0, .ref (ad 0 0))]) [0] rfl ?_
    exact kx _ (Option.some.inj h).symm
  · replace h := g_if h hc
    refine y_aload_n C dX6_people_29 0 rfl rfl ?_
    refine gf_M_11 C dX6_people_30 ?_
    refine y_aload_n C dX6_people_33 0 rfl rfl ?_
    refine gf_M_5 C dX6_people_34 ?_
    refine y_aload_n C dX6_people_37 0 rfl rfl ?_
    refine gf_M_19 C dX6_people_38 ?_
    refine y_iconst (v := (3 : Int32)) C dX6_people_41 (by decide) ?_
    refine y_iload_n C dX6_people_42 1 rfl rfl ?_
    refine y_imul C dX6_people_43 ?_
    obtain ⟨hg, h⟩ := g_gd h
    refine al_M_7 C nM_7_0 hg dX6_people_44 ?_
    obtain ⟨hg, h⟩ := g_gd h
    obtain ⟨σ4, hσ4, h⟩ := g_lt h
    refine as_M_1 C nM_1_0 hσ4 hg dX6_people_45 ?_
    refine y_aload_n C dX6_people_46 0 rfl rfl ?_
    refine gf_M_11 C dX6_people_47 ?_
    refine y_bipush (v := (8 : Int32)) C dX6_people_50 (by decide) ?_
    refine y_aload_n C dX6_people_52 0 rfl rfl ?_
    refine gf_M_5 C dX6_people_53 ?_
    refine y_iadd C dX6_people_56 ?_
    refine y_aload_n C dX6_people_57 0 rfl rfl ?_
    refine gf_M_19 C dX6_people_58 ?_
    refine y_iconst (v := (3 : Int32)) C dX6_people_61 (by decide) ?_
    refine y_iload_n C dX6_people_62 1 rfl rfl ?_
    refine y_imul C dX6_people_63 ?_
    refine y_iconst (v := (1 : Int32)) C dX6_people_64 (by decide) ?_
    refine y_iadd C dX6_people_65 ?_
    obtain ⟨hg, h⟩ := g_gd h
    refine al_M_7 C nM_7_0 hg dX6_people_66 ?_
    obtain ⟨hg, h⟩ := g_gd h
    obtain ⟨σ5, hσ5, h⟩ := g_lt h
    refine as_M_1 C nM_1_0 hσ5 hg dX6_people_67 ?_
    refine y_aload_n C dX6_people_68 0 rfl rfl ?_
    refine gf_M_11 C dX6_people_69 ?_
    refine y_bipush (v := (16 : Int32)) C dX6_people_72 (by decide) ?_
    refine y_aload_n C dX6_people_74 0 rfl rfl ?_
    refine gf_M_5 C dX6_people_75 ?_
    refine y_iadd C dX6_people_78 ?_
    refine y_aload_n C dX6_people_79 0 rfl rfl ?_
    refine gf_M_19 C dX6_people_80 ?_
    refine y_iconst (v := (3 : Int32)) C dX6_people_83 (by decide) ?_
    refine y_iload_n C dX6_people_84 1 rfl rfl ?_
    refine y_imul C dX6_people_85 ?_
    refine y_iconst (v := (2 : Int32)) C dX6_people_86 (by decide) ?_
    refine y_iadd C dX6_people_87 ?_
    obtain ⟨hg, h⟩ := g_gd h
    refine al_M_7 C nM_7_0 hg dX6_people_88 ?_
    obtain ⟨hg, h⟩ := g_gd h
    obtain ⟨σ6, hσ6, h⟩ := g_lt h
    refine as_M_1 C nM_1_0 hσ6 hg dX6_people_89 ?_
    refine y_aload_n C dX6_people_90 0 rfl rfl ?_
    refine gf_M_11 C dX6_people_91 ?_
    refine y_bipush (v := (24 : Int32)) C dX6_people_94 (by decide) ?_
    refine y_aload_n C dX6_people_96 0 rfl rfl ?_
    refine gf_M_5 C dX6_people_97 ?_
    refine y_iadd C dX6_people_100 ?_
    refine y_iconst (v := (0 : Int32)) C dX6_people_101 (by decide) ?_
    obtain ⟨hg, h⟩ := g_gd h
    obtain ⟨σ7, hσ7, h⟩ := g_lt h
    refine as_M_1 C nM_1_0 hσ7 hg dX6_people_102 ?_
    refine y_aload_n C dX6_people_103 0 rfl rfl ?_
    refine y_dup C dX6_people_104 rfl ?_
    refine gf_M_5 C dX6_people_105 ?_
    refine y_iconst (v := (1 : Int32)) C dX6_people_108 (by decide) ?_
    refine y_iadd C dX6_people_109 ?_
    obtain ⟨σ8, hσ8, h⟩ := g_lt h
    refine pf_M_5 C hσ8 dX6_people_110 ?_
    obtain ⟨x9, hx9, h⟩ := g_lt h
    refine y_iinc (c := (1 : Int32)) (vs1 := [(2, .int x9), (0, .ref (ad 0 0))]) C hx9 (by decide) dX6_people_113 1 rfl (g_lL hL rfl) rfl ?_
    refine y_goto (tgt := 21) C dX6_people_116 rfl ?_
    refine y_sub (vs2 := [(0, .ref (ad 0 0)), (2, .int x9)]) [1, 0] rfl ?_
    exact kl _ (Option.some.inj h).symm
theorem mw_M_people {X : g_F} {hid : Bool} (C : g_M gCl X cX6_people RX6 (some .int)) (hR : g_R X = g_rm 6 0 0) (hL : g_nL X = 3) {ad : Nat → Nat → Nat} {σ : g_S} {o : (Int32 × g_S)} (h : mF_M_people σ = some o) (hQ : g_MQ gCl X (gM hid) ad o.2 (some (.int o.1)) = g_Q X) : g_Y gCl X (gM hid) ad σ (0, 0) 0 [(0, .ref (ad 0 0))] [] := by
  unfold mF_M_people at h
  refine y_aload_n C dX6_people_0 0 rfl rfl ?_
  refine y_iconst (v := (0 : Int32)) C dX6_people_1 (by decide) ?_
  obtain ⟨σ1, hσ1, h⟩ := g_lt h
  refine pf_M_0 C hσ1 dX6_people_2 ?_
  refine y_aload_n C dX6_people_5 0 rfl rfl ?_
  refine y_iconst (v := (1 : Int32)) C dX6_people_6 (by decide) ?_
  refine y_bipush (v := (39 : Int32)) C dX6_people_7 (by decide) ?_
  obtain ⟨x3, σ2, hc, h⟩ := g_bp h
  refine y_callV C (As := [.int (1 : Int32), .int (39 : Int32)]) (rest := []) (hu := nM_0_0) (hc := (rfl : gCl[5]? = some (RX6, TX6, 49))) (hcell := obM_0) (lk_X6_217 C hR (by decide)) (ct_M_readsLines hc) rfl rfl (Nat.le_of_ble_eq_true rfl) ⟨Nat.zero_le _, Nat.zero_le _⟩ dX6_people_9 ?_
  refine y_istore_n (vs1 := [(1, .int x3), (0, .ref (ad 0 0))]) C rfl dX6_people_12 rfl (g_lL hL rfl) rfl ?_
  refine y_iload_n C dX6_people_13 0 rfl rfl ?_
  refine y_if_ge (tgt := 19) C dX6_people_14 rfl (fun hc => ?_) (fun hc => ?_)
  · replace h := g_it h hc
    refine y_iconst (v := (0 : Int32)) C dX6_people_19 (by decide) ?_
    refine y_istore_n (vs1 := [(2, .int (0 : Int32)), (1, .int x3), (0, .ref (ad 0 0))]) C rfl dX6_people_20 rfl (g_lL hL rfl) rfl ?_
    refine y_sub (vs2 := [(0, .ref (ad 0 0)), (2, .int (0 : Int32))]) [2, 0] rfl ?_
    obtain ⟨e10, he10, h⟩ := g_bd h
    refine ml_M_people_21 C hR hL (σ := σ2) _ _ _ he10 ?_
    refine y_aload_n C dX6_people_119 0 rfl rfl ?_
    obtain ⟨x12, σ11, hc, h⟩ := g_bp h
    refine y_callV C (As := []) (rest := []) (hu := nM_0_0) (hc := (rfl : gCl[5]? = some (RX6, TX6, 49))) (hcell := obM_0) (lk_X6_221 C hR (by decide)) (ct_M_isNew hc) rfl rfl (Nat.le_of_ble_eq_true rfl) ⟨Nat.zero_le _, Nat.zero_le _⟩ dX6_people_120 ?_
    replace h := Option.some.inj h; subst h
    exact y_iret C hQ ⟨Nat.zero_le _, Nat.zero_le _⟩ dX6_people_123
  · replace h := g_if h hc
    refine y_iload_n C dX6_people_17 0 rfl rfl ?_
    replace h := Option.some.inj h; subst h
    exact y_iret C hQ ⟨Nat.zero_le _, Nat.zero_le _⟩ dX6_people_18
theorem ct_M_people {D : va_G} {dA : Nat → ClassId} {A : Nat → Prop} {s0 : State} {b0 : Nat} {l : Launch} {hid : Bool} {ad : Nat → Nat → Nat} {σ : g_S} {r : Int32} {σ1 : g_S} (h : mF_M_people σ = some (r, σ1)) : g_Met gCl D dA A s0 b0 l yX6_people cX6_people 3 (some .int) 6 (0, 0) (gM hid) ad σ [.ref (ad 0 0)] (gM hid) ad σ1 (some (.int r)) :=
  g_Met.of pl_X6 (Nat.le_of_ble_eq_true rfl) (fun X C hQ hR _ _ hL _ es eb => mw_M_people C hR hL h hQ)
theorem ml_M_things_21 {X : g_F} {hid : Bool} (C : g_M gCl X cX6_things RX6 (some .int)) (hR : g_R X = g_rm 6 0 0) (hL : g_nL X = 3) {ad : Nat → Nat → Nat} {σ : g_S} (n : Nat) (v : (Int32 × g_S)) (e : g_S) (h : g_lp (fun v => mB_M_things_21 v.2 v.1) n v = some e) (kx : g_Y gCl X (gM hid) ad e (0, 0) 63 [(0, .ref (ad 0 0))] []) : g_Y gCl X (gM hid) ad v.2 (0, 0) 21 [(0, .ref (ad 0 0)), (2, .int v.1)] [] := by
  refine g_loop (P := fun v => g_Y gCl X (gM hid) ad v.2 (0, 0) 21 [(0, .ref (ad 0 0)), (2, .int v.1)] []) (T := fun e => g_Y gCl X (gM hid) ad e (0, 0) 63 [(0, .ref (ad 0 0))] []) ?_ n v e h kx
  clear h kx
  clear n v e
  intro v o h kl kx
  obtain ⟨v2, σ⟩ := v
  have h : mB_M_things_21 σ v2 = some o := h
  unfold mB_M_things_21 at h
  show g_Y gCl X (gM hid) ad σ (0, 0) 21 [(0, .ref (ad 0 0)), (2, .int v2)] []
  refine y_iload_n C dX6_things_21 1 rfl rfl ?_
  refine y_aload_n C dX6_things_22 0 rfl rfl ?_
  refine gf_M_20 C dX6_things_23 ?_
  refine y_icmp_ge (tgt := 63) C dX6_things_26 rfl (fun hc => ?_) (fun hc => ?_)
  · replace h := g_it h hc
    refine y_sub (vs2 := [(0, .ref (ad 0 0))]) [0] rfl ?_
    exact kx _ (Option.some.inj h).symm
  · replace h := g_if h hc
    refine y_aload_n C dX6_things_29 0 rfl rfl ?_
    refine gf_M_11 C dX6_things_30 ?_
    refine y_bipush (v := (32 : Int32)) C dX6_things_33 (by decide) ?_
    refine y_aload_n C dX6_things_35 0 rfl rfl ?_
    refine gf_M_6 C dX6_things_36 ?_
    refine y_iadd C dX6_things_39 ?_
    refine y_aload_n C dX6_things_40 0 rfl rfl ?_
    refine gf_M_19 C dX6_things_41 ?_
    refine y_iload_n C dX6_things_44 1 rfl rfl ?_
    obtain ⟨hg, h⟩ := g_gd h
    refine al_M_7 C nM_7_0 hg dX6_things_45 ?_
    obtain ⟨hg, h⟩ := g_gd h
    obtain ⟨σ4, hσ4, h⟩ := g_lt h
    refine as_M_1 C nM_1_0 hσ4 hg dX6_things_46 ?_
    refine y_aload_n C dX6_things_47 0 rfl rfl ?_
    refine y_dup C dX6_things_48 rfl ?_
    refine gf_M_6 C dX6_things_49 ?_
    refine y_iconst (v := (1 : Int32)) C dX6_things_52 (by decide) ?_
    refine y_iadd C dX6_things_53 ?_
    obtain ⟨σ5, hσ5, h⟩ := g_lt h
    refine pf_M_6 C hσ5 dX6_things_54 ?_
    obtain ⟨x6, hx6, h⟩ := g_lt h
    refine y_iinc (c := (1 : Int32)) (vs1 := [(2, .int x6), (0, .ref (ad 0 0))]) C hx6 (by decide) dX6_things_57 1 rfl (g_lL hL rfl) rfl ?_
    refine y_goto (tgt := 21) C dX6_things_60 rfl ?_
    refine y_sub (vs2 := [(0, .ref (ad 0 0)), (2, .int x6)]) [1, 0] rfl ?_
    exact kl _ (Option.some.inj h).symm
theorem mw_M_things {X : g_F} {hid : Bool} (C : g_M gCl X cX6_things RX6 (some .int)) (hR : g_R X = g_rm 6 0 0) (hL : g_nL X = 3) {ad : Nat → Nat → Nat} {σ : g_S} {o : (Int32 × g_S)} (h : mF_M_things σ = some o) (hQ : g_MQ gCl X (gM hid) ad o.2 (some (.int o.1)) = g_Q X) : g_Y gCl X (gM hid) ad σ (0, 0) 0 [(0, .ref (ad 0 0))] [] := by
  unfold mF_M_things at h
  refine y_aload_n C dX6_things_0 0 rfl rfl ?_
  refine y_iconst (v := (0 : Int32)) C dX6_things_1 (by decide) ?_
  obtain ⟨σ1, hσ1, h⟩ := g_lt h
  refine pf_M_0 C hσ1 dX6_things_2 ?_
  refine y_aload_n C dX6_things_5 0 rfl rfl ?_
  refine y_iconst (v := (0 : Int32)) C dX6_things_6 (by decide) ?_
  refine y_bipush (v := (23 : Int32)) C dX6_things_7 (by decide) ?_
  obtain ⟨x3, σ2, hc, h⟩ := g_bp h
  refine y_callV C (As := [.int (0 : Int32), .int (23 : Int32)]) (rest := []) (hu := nM_0_0) (hc := (rfl : gCl[5]? = some (RX6, TX6, 49))) (hcell := obM_0) (lk_X6_217 C hR (by decide)) (ct_M_readsLines hc) rfl rfl (Nat.le_of_ble_eq_true rfl) ⟨Nat.zero_le _, Nat.zero_le _⟩ dX6_things_9 ?_
  refine y_istore_n (vs1 := [(1, .int x3), (0, .ref (ad 0 0))]) C rfl dX6_things_12 rfl (g_lL hL rfl) rfl ?_
  refine y_iload_n C dX6_things_13 0 rfl rfl ?_
  refine y_if_ge (tgt := 19) C dX6_things_14 rfl (fun hc => ?_) (fun hc => ?_)
  · replace h := g_it h hc
    refine y_iconst (v := (0 : Int32)) C dX6_things_19 (by decide) ?_
    refine y_istore_n (vs1 := [(2, .int (0 : Int32)), (1, .int x3), (0, .ref (ad 0 0))]) C rfl dX6_things_20 rfl (g_lL hL rfl) rfl ?_
    refine y_sub (vs2 := [(0, .ref (ad 0 0)), (2, .int (0 : Int32))]) [2, 0] rfl ?_
    obtain ⟨e7, he7, h⟩ := g_bd h
    refine ml_M_things_21 C hR hL (σ := σ2) _ _ _ he7 ?_
    refine y_aload_n C dX6_things_63 0 rfl rfl ?_
    obtain ⟨x9, σ8, hc, h⟩ := g_bp h
    refine y_callV C (As := []) (rest := []) (hu := nM_0_0) (hc := (rfl : gCl[5]? = some (RX6, TX6, 49))) (hcell := obM_0) (lk_X6_221 C hR (by decide)) (ct_M_isNew hc) rfl rfl (Nat.le_of_ble_eq_true rfl) ⟨Nat.zero_le _, Nat.zero_le _⟩ dX6_things_64 ?_
    replace h := Option.some.inj h; subst h
    exact y_iret C hQ ⟨Nat.zero_le _, Nat.zero_le _⟩ dX6_things_67
  · replace h := g_if h hc
    refine y_iload_n C dX6_things_17 0 rfl rfl ?_
    replace h := Option.some.inj h; subst h
    exact y_iret C hQ ⟨Nat.zero_le _, Nat.zero_le _⟩ dX6_things_18
theorem ct_M_things {D : va_G} {dA : Nat → ClassId} {A : Nat → Prop} {s0 : State} {b0 : Nat} {l : Launch} {hid : Bool} {ad : Nat → Nat → Nat} {σ : g_S} {r : Int32} {σ1 : g_S} (h : mF_M_things σ = some (r, σ1)) : g_Met gCl D dA A s0 b0 l yX6_things cX6_things 3 (some .int) 6 (0, 0) (gM hid) ad σ [.ref (ad 0 0)] (gM hid) ad σ1 (some (.int r)) :=
  g_Met.of pl_X6 (Nat.le_of_ble_eq_true rfl) (fun X C hQ hR _ _ hL _ es eb => mw_M_things C hR hL h hQ)
theorem mw_M_isDigit {X : g_F} {hid : Bool} (C : g_M gCl X cX6_isDigit RX6 (some .boolean)) (hR : g_R X = g_rm 2 0 0) (hL : g_nL X = 1) {ad : Nat → Nat → Nat} {σ : g_S} {o : Int32} (h : mF_M_isDigit σ = some o) (hQ : g_MQ gCl X (gM hid) ad σ (some (.int o)) = g_Q X) : g_Y gCl X (gM hid) ad σ (0, 0) 0 [(0, .ref (ad 0 0))] [] := by
  unfold mF_M_isDigit at h
  refine y_aload_n C dX6_isDigit_0 0 rfl rfl ?_
  refine gf_M_15 C dX6_isDigit_1 ?_
  refine y_aload_n C dX6_isDigit_4 0 rfl rfl ?_
  refine gf_M_16 C dX6_isDigit_5 ?_
  refine y_icmp_ge (tgt := 37) C dX6_isDigit_8 rfl (fun hc => ?_) (fun hc => ?_)
  · replace h := g_it h hc
    refine y_iconst (v := (0 : Int32)) C dX6_isDigit_37 (by decide) ?_
    replace h := Option.some.inj h; subst h
    exact y_zret C (by decide) hQ ⟨Nat.zero_le _, Nat.zero_le _⟩ dX6_isDigit_38
  · replace h := g_if h hc
    refine y_aload_n C dX6_isDigit_11 0 rfl rfl ?_
    refine gf_M_13 C dX6_isDigit_12 ?_
    refine y_aload_n C dX6_isDigit_15 0 rfl rfl ?_
    refine gf_M_15 C dX6_isDigit_16 ?_
    obtain ⟨hg, h⟩ := g_gd h
    refine al_M_5 C nM_5_0 hg dX6_isDigit_19 ?_
    refine y_i2l C dX6_isDigit_20 ?_
    refine y_ldc2 (v := (48 : Int64)) C q1538 dX6_isDigit_21 ?_
    refine y_ldc2 (v := (57 : Int64)) C q1539 dX6_isDigit_24 ?_
    obtain ⟨x1, hc, h⟩ := g_bd h
    refine y_callS C (As := [.long ((σ.1 5 0 (σ.1 0 0 15).toNatClampNeg).toInt64), .long (48 : Int64), .long (57 : Int64)]) (rest := []) (lk_X6_126 C hR (by decide)) (ct_M_in hc) rfl rfl (Nat.le_of_ble_eq_true rfl) ⟨Nat.zero_le _, Nat.zero_le _⟩ dX6_isDigit_27 ?_
    refine y_if_eq (tgt := 37) C dX6_isDigit_30 rfl (fun hc => ?_) (fun hc => ?_)
    · replace h := g_it h hc
      refine y_iconst (v := (0 : Int32)) C dX6_isDigit_37 (by decide) ?_
      replace h := Option.some.inj h; subst h
      exact y_zret C (by decide) hQ ⟨Nat.zero_le _, Nat.zero_le _⟩ dX6_isDigit_38
    · replace h := g_if h hc
      refine y_iconst (v := (1 : Int32)) C dX6_isDigit_33 (by decide) ?_
      refine y_goto (tgt := 38) C dX6_isDigit_34 rfl ?_
      replace h := Option.some.inj h; subst h
      exact y_zret C (by decide) hQ ⟨Nat.zero_le _, Nat.zero_le _⟩ dX6_isDigit_38
theorem ct_M_isDigit {D : va_G} {dA : Nat → ClassId} {A : Nat → Prop} {s0 : State} {b0 : Nat} {l : Launch} {hid : Bool} {ad : Nat → Nat → Nat} {σ : g_S} {r : Int32} (h : mF_M_isDigit σ = some r) : g_Met gCl D dA A s0 b0 l yX6_isDigit cX6_isDigit 1 (some .boolean) 2 (0, 0) (gM hid) ad σ [.ref (ad 0 0)] (gM hid) ad σ (some (.int r)) :=
  g_Met.of pl_X6 (Nat.le_of_ble_eq_true rfl) (fun X C hQ hR _ _ hL _ es eb => mw_M_isDigit C hR hL h hQ)
theorem ml_M_number_13 {X : g_F} {hid : Bool} (C : g_M gCl X cX6_number RX6 (some .int)) (hR : g_R X = g_rm 3 0 0) (hL : g_nL X = 4) {ad : Nat → Nat → Nat} {σ : g_S} {v1 : Int32} (n : Nat) (v : (Int32 × Int32 × g_S)) (e : (Int32 × g_S)) (h : g_lp (fun v => mB_M_number_13 v.2.2 v1 v.1 v.2.1) n v = some e) (kx : g_Y gCl X (gM hid) ad e.2 (0, 0) 59 [(2, .int e.1)] []) : g_Y gCl X (gM hid) ad v.2.2 (0, 0) 13 [(0, .ref (ad 0 0)), (1, .int v1), (2, .int v.1), (3, .int v.2.1)] [] := by
  refine g_loop (P := fun v => g_Y gCl X (gM hid) ad v.2.2 (0, 0) 13 [(0, .ref (ad 0 0)), (1, .int v1), (2, .int v.1), (3, .int v.2.1)] []) (T := fun e => g_Y gCl X (gM hid) ad e.2 (0, 0) 59 [(2, .int e.1)] []) ?_ n v e h kx
  clear h kx
  clear n v e
  intro v o h kl kx
  obtain ⟨v2, v3, σ⟩ := v
  have h : mB_M_number_13 σ v1 v2 v3 = some o := h
  unfold mB_M_number_13 at h
  show g_Y gCl X (gM hid) ad σ (0, 0) 13 [(0, .ref (ad 0 0)), (1, .int v1), (2, .int v2), (3, .int v3)] []
  refine y_iload_n C dX6_number_13 3 rfl rfl ?_
  refine y_iload_n C dX6_number_14 1 rfl rfl ?_
  refine y_icmp_ge (tgt := 59) C dX6_number_15 rfl (fun hc => ?_) (fun hc => ?_)
  · replace h := g_it h hc
    refine y_sub (vs2 := [(2, .int v2)]) [2] rfl ?_
    exact kx _ (Option.some.inj h).symm
  · replace h := g_if h hc
    refine y_aload_n C dX6_number_18 0 rfl rfl ?_
    obtain ⟨x2, hc, h⟩ := g_bd h
    refine y_callV C (As := []) (rest := []) (hu := nM_0_0) (hc := (rfl : gCl[5]? = some (RX6, TX6, 49))) (hcell := obM_0) (lk_X6_171 C hR (by decide)) (ct_M_isDigit hc) rfl rfl (Nat.le_of_ble_eq_true rfl) ⟨Nat.zero_le _, Nat.zero_le _⟩ dX6_number_19 ?_
    refine y_if_eq (tgt := 59) C dX6_number_22 rfl (fun hc => ?_) (fun hc => ?_)
    · replace h := g_it h hc
      refine y_sub (vs2 := [(2, .int v2)]) [2] rfl ?_
      exact kx _ (Option.some.inj h).symm
    · replace h := g_if h hc
      refine y_bipush (v := (10 : Int32)) C dX6_number_25 (by decide) ?_
      refine y_iload_n C dX6_number_27 2 rfl rfl ?_
      refine y_imul C dX6_number_28 ?_
      refine y_aload_n C dX6_number_29 0 rfl rfl ?_
      refine gf_M_13 C dX6_number_30 ?_
      refine y_aload_n C dX6_number_33 0 rfl rfl ?_
      refine gf_M_15 C dX6_number_34 ?_
      obtain ⟨hg, h⟩ := g_gd h
      refine al_M_5 C nM_5_0 hg dX6_number_37 ?_
      refine y_iadd C dX6_number_38 ?_
      refine y_bipush (v := (48 : Int32)) C dX6_number_39 (by decide) ?_
      refine y_isub C dX6_number_41 ?_
      obtain ⟨x3, hx3, h⟩ := g_lt h
      refine y_istore_n (vs1 := [(2, .int x3), (0, .ref (ad 0 0)), (1, .int v1), (3, .int v3)]) C hx3 dX6_number_42 rfl (g_lL hL rfl) rfl ?_
      refine y_aload_n C dX6_number_43 1 rfl rfl ?_
      refine y_dup C dX6_number_44 rfl ?_
      refine gf_M_15 C dX6_number_45 ?_
      refine y_iconst (v := (1 : Int32)) C dX6_number_48 (by decide) ?_
      refine y_iadd C dX6_number_49 ?_
      obtain ⟨σ4, hσ4, h⟩ := g_lt h
      refine pf_M_15 C hσ4 dX6_number_50 ?_
      obtain ⟨x5, hx5, h⟩ := g_lt h
      refine y_iinc (c := (1 : Int32)) (vs1 := [(3, .int x5), (2, .int x3), (0, .ref (ad 0 0)), (1, .int v1)]) C hx5 (by decide) dX6_number_53 3 rfl (g_lL hL rfl) rfl ?_
      refine y_goto (tgt := 13) C dX6_number_56 rfl ?_
      refine y_sub (vs2 := [(0, .ref (ad 0 0)), (1, .int v1), (2, .int x3), (3, .int x5)]) [2, 3, 1, 0] rfl ?_
      exact kl _ (Option.some.inj h).symm
theorem mw_M_number {X : g_F} {hid : Bool} (C : g_M gCl X cX6_number RX6 (some .int)) (hR : g_R X = g_rm 3 0 0) (hL : g_nL X = 4) {ad : Nat → Nat → Nat} {σ : g_S} {v1 : Int32} {o : (Int32 × g_S)} (h : mF_M_number σ v1 = some o) (hQ : g_MQ gCl X (gM hid) ad o.2 (some (.int o.1)) = g_Q X) : g_Y gCl X (gM hid) ad σ (0, 0) 0 [(0, .ref (ad 0 0)), (1, .int v1)] [] := by
  unfold mF_M_number at h
  refine y_aload_n C dX6_number_0 0 rfl rfl ?_
  obtain ⟨x1, hc, h⟩ := g_bd h
  refine y_callV C (As := []) (rest := []) (hu := nM_0_0) (hc := (rfl : gCl[5]? = some (RX6, TX6, 49))) (hcell := obM_0) (lk_X6_171 C hR (by decide)) (ct_M_isDigit hc) rfl rfl (Nat.le_of_ble_eq_true rfl) ⟨Nat.zero_le _, Nat.zero_le _⟩ dX6_number_1 ?_
  refine y_if_ne (tgt := 9) C dX6_number_4 rfl (fun hc => ?_) (fun hc => ?_)
  · replace h := g_if h hc
    refine y_iconst (v := (0 : Int32)) C dX6_number_9 (by decide) ?_
    refine y_istore_n (vs1 := [(2, .int (0 : Int32)), (0, .ref (ad 0 0)), (1, .int v1)]) C rfl dX6_number_10 rfl (g_lL hL rfl) rfl ?_
    refine y_iconst (v := (0 : Int32)) C dX6_number_11 (by decide) ?_
    refine y_istore_n (vs1 := [(3, .int (0 : Int32)), (2, .int (0 : Int32)), (0, .ref (ad 0 0)), (1, .int v1)]) C rfl dX6_number_12 rfl (g_lL hL rfl) rfl ?_
    refine y_sub (vs2 := [(0, .ref (ad 0 0)), (1, .int v1), (2, .int (0 : Int32)), (3, .int (0 : Int32))]) [2, 3, 1, 0] rfl ?_
    obtain ⟨e6, he6, h⟩ := g_bd h
    refine ml_M_number_13 C hR hL (σ := σ) _ _ _ he6 ?_
    refine y_iload_n C dX6_number_59 0 rfl rfl ?_
    replace h := Option.some.inj h; subst h
    exact y_iret C hQ ⟨Nat.zero_le _, Nat.zero_le _⟩ dX6_number_60
  · replace h := g_it h hc
    refine y_iconst (v := (-1 : Int32)) C dX6_number_7 (by decide) ?_
    replace h := Option.some.inj h; subst h
    exact y_iret C hQ ⟨Nat.zero_le _, Nat.zero_le _⟩ dX6_number_8
theorem ct_M_number {D : va_G} {dA : Nat → ClassId} {A : Nat → Prop} {s0 : State} {b0 : Nat} {l : Launch} {hid : Bool} {ad : Nat → Nat → Nat} {σ : g_S} {v1 : Int32} {r : Int32} {σ1 : g_S} (h : mF_M_number σ v1 = some (r, σ1)) : g_Met gCl D dA A s0 b0 l yX6_number cX6_number 4 (some .int) 3 (0, 0) (gM hid) ad σ [.ref (ad 0 0), .int v1] (gM hid) ad σ1 (some (.int r)) :=
  g_Met.of pl_X6 (Nat.le_of_ble_eq_true rfl) (fun X C hQ hR _ _ hL _ es eb => mw_M_number C hR hL h hQ)
theorem ml_M_light_14 {X : g_F} {hid : Bool} (C : g_M gCl X cX6_light RX6 (some .int)) (hR : g_R X = g_rm 4 0 0) (hL : g_nL X = 3) {ad : Nat → Nat → Nat} {σ : g_S} (n : Nat) (v : (Int32 × g_S)) (e : (Int32 × g_S)) (h : g_lp (fun v => mB_M_light_14 v.2 v.1) n v = some e) (kx : g_Y gCl X (gM hid) ad e.2 (0, 0) 44 [(0, .ref (ad 0 0)), (1, .int e.1)] []) : g_Y gCl X (gM hid) ad v.2 (0, 0) 14 [(0, .ref (ad 0 0)), (1, .int v.1)] [] := by
  refine g_loop (P := fun v => g_Y gCl X (gM hid) ad v.2 (0, 0) 14 [(0, .ref (ad 0 0)), (1, .int v.1)] []) (T := fun e => g_Y gCl X (gM hid) ad e.2 (0, 0) 44 [(0, .ref (ad 0 0)), (1, .int e.1)] []) ?_ n v e h kx
  clear h kx
  clear n v e
  intro v o h kl kx
  obtain ⟨v1, σ⟩ := v
  have h : mB_M_light_14 σ v1 = some o := h
  unfold mB_M_light_14 at h
  show g_Y gCl X (gM hid) ad σ (0, 0) 14 [(0, .ref (ad 0 0)), (1, .int v1)] []
  refine y_iload_n C dX6_light_14 1 rfl rfl ?_
  refine y_bipush (v := (20 : Int32)) C dX6_light_15 (by decide) ?_
  refine y_icmp_ge (tgt := 44) C dX6_light_17 rfl (fun hc => ?_) (fun hc => ?_)
  · replace h := g_it h hc
    exact kx _ (Option.some.inj h).symm
  · replace h := g_if h hc
    refine y_aload_n C dX6_light_20 0 rfl rfl ?_
    obtain ⟨x4, hc, h⟩ := g_bd h
    refine y_callV C (As := []) (rest := []) (hu := nM_0_0) (hc := (rfl : gCl[5]? = some (RX6, TX6, 49))) (hcell := obM_0) (lk_X6_171 C hR (by decide)) (ct_M_isDigit hc) rfl rfl (Nat.le_of_ble_eq_true rfl) ⟨Nat.zero_le _, Nat.zero_le _⟩ dX6_light_21 ?_
    refine y_if_eq (tgt := 44) C dX6_light_24 rfl (fun hc => ?_) (fun hc => ?_)
    · replace h := g_it h hc
      exact kx _ (Option.some.inj h).symm
    · replace h := g_if h hc
      refine y_aload_n C dX6_light_27 0 rfl rfl ?_
      refine gf_M_19 C dX6_light_28 ?_
      refine y_iload_n C dX6_light_31 1 rfl rfl ?_
      refine y_aload_n C dX6_light_32 0 rfl rfl ?_
      refine y_iconst (v := (1 : Int32)) C dX6_light_33 (by decide) ?_
      obtain ⟨x6, σ5, hc, h⟩ := g_bp h
      refine y_callV C (As := [.int (1 : Int32)]) (rest := [.int v1, .ref (ad 7 0)]) (hu := nM_0_0) (hc := (rfl : gCl[5]? = some (RX6, TX6, 49))) (hcell := obM_0) (lk_X6_224 C hR (by decide)) (ct_M_number hc) rfl rfl (Nat.le_of_ble_eq_true rfl) ⟨Nat.zero_le _, Nat.zero_le _⟩ dX6_light_34 ?_
      obtain ⟨hg, h⟩ := g_gd h
      obtain ⟨σ7, hσ7, h⟩ := g_lt h
      refine as_M_7 C nM_7_0 hσ7 hg dX6_light_37 ?_
      obtain ⟨x8, hx8, h⟩ := g_lt h
      refine y_iinc (c := (1 : Int32)) (vs1 := [(1, .int x8), (0, .ref (ad 0 0))]) C hx8 (by decide) dX6_light_38 1 rfl (g_lL hL rfl) rfl ?_
      refine y_goto (tgt := 14) C dX6_light_41 rfl ?_
      refine y_sub (vs2 := [(0, .ref (ad 0 0)), (1, .int x8)]) [1, 0] rfl ?_
      exact kl _ (Option.some.inj h).symm
theorem mj_M_light_59 {X : g_F} {hid : Bool} (C : g_M gCl X cX6_light RX6 (some .int)) (hR : g_R X = g_rm 4 0 0) (hL : g_nL X = 3) {ad : Nat → Nat → Nat} {σ : g_S} {o : (Int32 × g_S)} (h : mJ_M_light_59 σ = some o) (hQ : g_MQ gCl X (gM hid) ad o.2 (some (.int o.1)) = g_Q X) : g_Y gCl X (gM hid) ad σ (0, 0) 59 [(0, .ref (ad 0 0))] [] := by
  unfold mJ_M_light_59 at h
  refine y_iconst (v := (-1 : Int32)) C dX6_light_59 (by decide) ?_
  refine y_aload_n C dX6_light_60 0 rfl rfl ?_
  refine gf_M_15 C dX6_light_61 ?_
  refine y_isub C dX6_light_64 ?_
  replace h := Option.some.inj h; subst h
  exact y_iret C hQ ⟨Nat.zero_le _, Nat.zero_le _⟩ dX6_light_65
theorem ml_M_light_73 {X : g_F} {hid : Bool} (C : g_M gCl X cX6_light RX6 (some .int)) (hR : g_R X = g_rm 4 0 0) (hL : g_nL X = 3) {ad : Nat → Nat → Nat} {σ : g_S} {v1 : Int32} (n : Nat) (v : (Int32 × g_S)) (e : g_S) (h : g_lp (fun v => mB_M_light_73 v.2 v1 v.1) n v = some e) (kx : g_Y gCl X (gM hid) ad e (0, 0) 96 [(1, .int v1)] []) : g_Y gCl X (gM hid) ad v.2 (0, 0) 73 [(0, .ref (ad 0 0)), (1, .int v1), (2, .int v.1)] [] := by
  refine g_loop (P := fun v => g_Y gCl X (gM hid) ad v.2 (0, 0) 73 [(0, .ref (ad 0 0)), (1, .int v1), (2, .int v.1)] []) (T := fun e => g_Y gCl X (gM hid) ad e (0, 0) 96 [(1, .int v1)] []) ?_ n v e h kx
  clear h kx
  clear n v e
  intro v o h kl kx
  obtain ⟨v2, σ⟩ := v
  have h : mB_M_light_73 σ v1 v2 = some o := h
  unfold mB_M_light_73 at h
  show g_Y gCl X (gM hid) ad σ (0, 0) 73 [(0, .ref (ad 0 0)), (1, .int v1), (2, .int v2)] []
  refine y_iload_n C dX6_light_73 2 rfl rfl ?_
  refine y_iload_n C dX6_light_74 1 rfl rfl ?_
  refine y_icmp_ge (tgt := 96) C dX6_light_75 rfl (fun hc => ?_) (fun hc => ?_)
  · replace h := g_it h hc
    refine y_sub (vs2 := [(1, .int v1)]) [1] rfl ?_
    exact kx _ (Option.some.inj h).symm
  · replace h := g_if h hc
    refine y_aload_n C dX6_light_78 0 rfl rfl ?_
    refine gf_M_10 C dX6_light_79 ?_
    refine y_iload_n C dX6_light_82 2 rfl rfl ?_
    refine y_aload_n C dX6_light_83 0 rfl rfl ?_
    refine gf_M_19 C dX6_light_84 ?_
    refine y_iload_n C dX6_light_87 2 rfl rfl ?_
    obtain ⟨hg, h⟩ := g_gd h
    refine al_M_7 C nM_7_0 hg dX6_light_88 ?_
    obtain ⟨hg, h⟩ := g_gd h
    obtain ⟨σ11, hσ11, h⟩ := g_lt h
    refine as_M_4 C nM_4_0 hσ11 hg dX6_light_89 ?_
    obtain ⟨x12, hx12, h⟩ := g_lt h
    refine y_iinc (c := (1 : Int32)) (vs1 := [(2, .int x12), (0, .ref (ad 0 0)), (1, .int v1)]) C hx12 (by decide) dX6_light_90 2 rfl (g_lL hL rfl) rfl ?_
    refine y_goto (tgt := 73) C dX6_light_93 rfl ?_
    refine y_sub (vs2 := [(0, .ref (ad 0 0)), (1, .int v1), (2, .int x12)]) [1, 2, 0] rfl ?_
    exact kl _ (Option.some.inj h).symm
theorem mw_M_light {X : g_F} {hid : Bool} (C : g_M gCl X cX6_light RX6 (some .int)) (hR : g_R X = g_rm 4 0 0) (hL : g_nL X = 3) {ad : Nat → Nat → Nat} {σ : g_S} {o : (Int32 × g_S)} (h : mF_M_light σ = some o) (hQ : g_MQ gCl X (gM hid) ad o.2 (some (.int o.1)) = g_Q X) : g_Y gCl X (gM hid) ad σ (0, 0) 0 [(0, .ref (ad 0 0))] [] := by
  unfold mF_M_light at h
  refine y_aload_n C dX6_light_0 0 rfl rfl ?_
  refine y_iconst (v := (0 : Int32)) C dX6_light_1 (by decide) ?_
  obtain ⟨σ1, hσ1, h⟩ := g_lt h
  refine pf_M_0 C hσ1 dX6_light_2 ?_
  refine y_aload_n C dX6_light_5 0 rfl rfl ?_
  refine y_bipush (v := (80 : Int32)) C dX6_light_6 (by decide) ?_
  obtain ⟨x3, σ2, hc, h⟩ := g_bp h
  refine y_callV C (As := [.int (80 : Int32)]) (rest := []) (hu := nM_0_0) (hc := (rfl : gCl[5]? = some (RX6, TX6, 49))) (hcell := obM_0) (lk_X6_175 C hR (by decide)) (ct_M_begins hc) rfl rfl (Nat.le_of_ble_eq_true rfl) ⟨Nat.zero_le _, Nat.zero_le _⟩ dX6_light_8 ?_
  refine y_pop C dX6_light_11 rfl ?_
  refine y_iconst (v := (0 : Int32)) C dX6_light_12 (by decide) ?_
  refine y_istore_n (vs1 := [(1, .int (0 : Int32)), (0, .ref (ad 0 0))]) C rfl dX6_light_13 rfl (g_lL hL rfl) rfl ?_
  refine y_sub (vs2 := [(0, .ref (ad 0 0)), (1, .int (0 : Int32))]) [1, 0] rfl ?_
  obtain ⟨e9, he9, h⟩ := g_bd h
  refine ml_M_light_14 C hR hL (σ := σ2) _ _ _ he9 ?_
  refine y_iload_n C dX6_light_44 1 rfl rfl ?_
  refine y_if_eq (tgt := 59) C dX6_light_45 rfl (fun hc => ?_) (fun hc => ?_)
  · replace h := g_it h hc
    refine y_sub (vs2 := [(0, .ref (ad 0 0))]) [0] rfl ?_
    exact mj_M_light_59 C hR hL h hQ
  · replace h := g_if h hc
    refine y_aload_n C dX6_light_48 0 rfl rfl ?_
    refine gf_M_15 C dX6_light_49 ?_
    refine y_aload_n C dX6_light_52 0 rfl rfl ?_
    refine gf_M_16 C dX6_light_53 ?_
    refine y_icmp_ge (tgt := 66) C dX6_light_56 rfl (fun hc => ?_) (fun hc => ?_)
    · replace h := g_it h hc
      refine y_aload_n C dX6_light_66 0 rfl rfl ?_
      refine y_iload_n C dX6_light_67 1 rfl rfl ?_
      obtain ⟨σ10, hσ10, h⟩ := g_lt h
      refine pf_M_8 C hσ10 dX6_light_68 ?_
      refine y_iconst (v := (0 : Int32)) C dX6_light_71 (by decide) ?_
      refine y_istore_n (vs1 := [(2, .int (0 : Int32)), (0, .ref (ad 0 0)), (1, .int e9.1)]) C rfl dX6_light_72 rfl (g_lL hL rfl) rfl ?_
      refine y_sub (vs2 := [(0, .ref (ad 0 0)), (1, .int e9.1), (2, .int (0 : Int32))]) [1, 2, 0] rfl ?_
      obtain ⟨e13, he13, h⟩ := g_bd h
      refine ml_M_light_73 C hR hL (σ := σ10) _ _ _ he13 ?_
      refine y_iload_n C dX6_light_96 0 rfl rfl ?_
      replace h := Option.some.inj h; subst h
      exact y_iret C hQ ⟨Nat.zero_le _, Nat.zero_le _⟩ dX6_light_97
    · replace h := g_if h hc
      refine y_sub (vs2 := [(0, .ref (ad 0 0))]) [0] rfl ?_
      exact mj_M_light_59 C hR hL h hQ
theorem ct_M_light {D : va_G} {dA : Nat → ClassId} {A : Nat → Prop} {s0 : State} {b0 : Nat} {l : Launch} {hid : Bool} {ad : Nat → Nat → Nat} {σ : g_S} {r : Int32} {σ1 : g_S} (h : mF_M_light σ = some (r, σ1)) : g_Met gCl D dA A s0 b0 l yX6_light cX6_light 3 (some .int) 4 (0, 0) (gM hid) ad σ [.ref (ad 0 0)] (gM hid) ad σ1 (some (.int r)) :=
  g_Met.of pl_X6 (Nat.le_of_ble_eq_true rfl) (fun X C hQ hR _ _ hL _ es eb => mw_M_light C hR hL h hQ)
theorem mw_M_codes {X : g_F} {hid : Bool} (C : g_M gCl X cX6_codes RX6 none) (hR : g_R X = g_rm 1 0 0) (hL : g_nL X = 2) {ad : Nat → Nat → Nat} {σ : g_S} {v1 : Int32} {o : g_S} (h : mF_M_codes σ v1 = some o) (hQ : g_MQ gCl X (gM hid) ad o none = g_Q X) : g_Y gCl X (gM hid) ad σ (0, 0) 0 [(0, .ref (ad 0 0)), (1, .int v1)] [] := by
  unfold mF_M_codes at h
  refine y_aload_n C dX6_codes_0 0 rfl rfl ?_
  refine gf_M_22 C dX6_codes_1 ?_
  refine y_aload_n C dX6_codes_4 0 rfl rfl ?_
  refine gf_M_24 C dX6_codes_5 ?_
  refine y_iload_n C dX6_codes_8 1 rfl rfl ?_
  obtain ⟨hg, h⟩ := g_gd h
  obtain ⟨σ1, hσ1, h⟩ := g_lt h
  refine as_M_8 C nM_8_1 hσ1 hg dX6_codes_9 ?_
  refine y_aload_n C dX6_codes_10 0 rfl rfl ?_
  refine y_dup C dX6_codes_11 rfl ?_
  refine gf_M_24 C dX6_codes_12 ?_
  refine y_iconst (v := (1 : Int32)) C dX6_codes_15 (by decide) ?_
  refine y_iadd C dX6_codes_16 ?_
  obtain ⟨σ2, hσ2, h⟩ := g_lt h
  refine pf_M_24 C hσ2 dX6_codes_17 ?_
  replace h := Option.some.inj h; subst h
  exact y_vret C hQ ⟨Nat.zero_le _, Nat.zero_le _⟩ dX6_codes_20
theorem ct_M_codes {D : va_G} {dA : Nat → ClassId} {A : Nat → Prop} {s0 : State} {b0 : Nat} {l : Launch} {hid : Bool} {ad : Nat → Nat → Nat} {σ : g_S} {v1 : Int32} {σ1 : g_S} (h : mF_M_codes σ v1 = some σ1) : g_Met gCl D dA A s0 b0 l yX6_codes cX6_codes 2 none 1 (0, 0) (gM hid) ad σ [.ref (ad 0 0), .int v1] (gM hid) ad σ1 none :=
  g_Met.of pl_X6 (Nat.le_of_ble_eq_true rfl) (fun X C hQ hR _ _ hL _ es eb => mw_M_codes C hR hL h hQ)
theorem mw_M_readsAsked {X : g_F} {d : Nat} {hid : Bool} (C : g_M gCl X cX6_readsAsked RX6 (some .boolean)) (hR : g_R X = g_rm (d + 1 + 5) 0 0) (hL : g_nL X = 2) {rc : (g_S → Option (Int32 × g_S)) × (g_S → Int32 → Option (Int32 × g_S))} (ihA : ∀ {ad : Nat → Nat → Nat} {σ σ1 : g_S} {r : Int32}, rc.1 σ = some (r, σ1) → g_Met gCl (g_D X) (g_dA X) (g_A X) (g_s0 X) (g_b0 X) (g_l X) yX6_readsAsked cX6_readsAsked 2 (some .boolean) (d + 5) (0, 0) (gM hid) ad σ [.ref (ad 0 0)] (gM hid) ad σ1 (some (.int r))) (ihR : ∀ {ad : Nat → Nat → Nat} {σ σ1 : g_S} {v r : Int32}, rc.2 σ v = some (r, σ1) → g_Met gCl (g_D X) (g_dA X) (g_A X) (g_s0 X) (g_b0 X) (g_l X) yX6_readsRank cX6_readsRank 4 (some .boolean) (d + 5) (0, 0) (gM hid) ad σ [.ref (ad 0 0), .int v] (gM hid) ad σ1 (some (.int r))) {ad : Nat → Nat → Nat} {σ : g_S} {o : (Int32 × g_S)} (h : mF_M_readsAsked σ rc = some o) (hQ : g_MQ gCl X (gM hid) ad o.2 (some (.int o.1)) = g_Q X) : g_Y gCl X (gM hid) ad σ (0, 0) 0 [(0, .ref (ad 0 0))] [] := by
  unfold mF_M_readsAsked at h
  refine y_aload_n C dX6_readsAsked_0 0 rfl rfl ?_
  refine y_bipush (v := (45 : Int32)) C dX6_readsAsked_1 (by decide) ?_
  obtain ⟨x2, σ1, hc, h⟩ := g_bp h
  refine y_callV C (As := [.int (45 : Int32)]) (rest := []) (hu := nM_0_0) (hc := (rfl : gCl[5]? = some (RX6, TX6, 49))) (hcell := obM_0) (lk_X6_209 C hR ⟨by omega, by omega⟩) (ct_M_takes hc) rfl rfl (Nat.le_of_ble_eq_true rfl) ⟨Nat.zero_le _, Nat.zero_le _⟩ dX6_readsAsked_3 ?_
  refine y_if_eq (tgt := 23) C dX6_readsAsked_6 rfl (fun hc => ?_) (fun hc => ?_)
  · replace h := g_it h hc
    refine y_aload_n C dX6_readsAsked_23 0 rfl rfl ?_
    obtain ⟨x3, hc, h⟩ := g_bd h
    refine y_callV C (As := []) (rest := []) (hu := nM_0_0) (hc := (rfl : gCl[5]? = some (RX6, TX6, 49))) (hcell := obM_0) (lk_X6_171 C hR ⟨by omega, by omega⟩) (ct_M_isDigit hc) rfl rfl (Nat.le_of_ble_eq_true rfl) ⟨Nat.zero_le _, Nat.zero_le _⟩ dX6_readsAsked_24 ?_
    refine y_if_eq (tgt := 41) C dX6_readsAsked_27 rfl (fun hc => ?_) (fun hc => ?_)
    · replace h := g_it h hc
      refine y_aload_n C dX6_readsAsked_41 0 rfl rfl ?_
      refine y_ldcS (i := 1) C q1564 (g_strEv (i := 1) C.2.2.2.2.2.2.2.2.2.1 (by decide)) dX6_readsAsked_42 ?_
      obtain ⟨x5, σ4, hc, h⟩ := g_bp h
      refine y_callV C (As := [.ref (g_str (g_s0 X) (g_b0 X) 1)]) (rest := []) (hu := nM_0_0) (hc := (rfl : gCl[5]? = some (RX6, TX6, 49))) (hcell := obM_0) (lk_X6_184 C hR ⟨by omega, by omega⟩) (ct_M_takesOf (by decide) hc) rfl rfl (Nat.le_of_ble_eq_true rfl) ⟨Nat.zero_le _, Nat.zero_le _⟩ dX6_readsAsked_44 ?_
      refine y_istore_n (vs1 := [(1, .int x5), (0, .ref (ad 0 0))]) C rfl dX6_readsAsked_47 rfl (g_lL hL rfl) rfl ?_
      refine y_iload_n C dX6_readsAsked_48 0 rfl rfl ?_
      refine y_if_lt (tgt := 63) C dX6_readsAsked_49 rfl (fun hc => ?_) (fun hc => ?_)
      · replace h := g_it h hc
        refine y_aload_n C dX6_readsAsked_63 1 rfl rfl ?_
        refine gf_M_17 C dX6_readsAsked_64 ?_
        refine y_iconst (v := (4 : Int32)) C dX6_readsAsked_67 (by decide) ?_
        refine y_icmp_eq (tgt := 80) C dX6_readsAsked_68 rfl (fun hc => ?_) (fun hc => ?_)
        · replace h := g_it h hc
          refine y_iconst (v := (0 : Int32)) C dX6_readsAsked_80 (by decide) ?_
          replace h := Option.some.inj h; subst h
          exact y_zret C (by decide) hQ ⟨Nat.zero_le _, Nat.zero_le _⟩ dX6_readsAsked_81
        · replace h := g_if h hc
          refine y_aload_n C dX6_readsAsked_71 1 rfl rfl ?_
          refine y_bipush (v := (40 : Int32)) C dX6_readsAsked_72 (by decide) ?_
          obtain ⟨x7, σ6, hc, h⟩ := g_bp h
          refine y_callV C (As := [.int (40 : Int32)]) (rest := []) (hu := nM_0_0) (hc := (rfl : gCl[5]? = some (RX6, TX6, 49))) (hcell := obM_0) (lk_X6_209 C hR ⟨by omega, by omega⟩) (ct_M_takes hc) rfl rfl (Nat.le_of_ble_eq_true rfl) ⟨Nat.zero_le _, Nat.zero_le _⟩ dX6_readsAsked_74 ?_
          refine y_if_ne (tgt := 82) C dX6_readsAsked_77 rfl (fun hc => ?_) (fun hc => ?_)
          · replace h := g_if h hc
            refine y_aload_n C dX6_readsAsked_82 1 rfl rfl ?_
            refine y_dup C dX6_readsAsked_83 rfl ?_
            refine gf_M_17 C dX6_readsAsked_84 ?_
            refine y_iconst (v := (1 : Int32)) C dX6_readsAsked_87 (by decide) ?_
            refine y_iadd C dX6_readsAsked_88 ?_
            obtain ⟨σ8, hσ8, h⟩ := g_lt h
            refine pf_M_17 C hσ8 dX6_readsAsked_89 ?_
            refine y_aload_n C dX6_readsAsked_92 1 rfl rfl ?_
            refine y_iconst (v := (0 : Int32)) C dX6_readsAsked_93 (by decide) ?_
            obtain ⟨x10, σ9, hc, h⟩ := g_bp h
            refine y_callV C (As := [.int (0 : Int32)]) (rest := []) (hu := nM_0_0) (hc := (rfl : gCl[5]? = some (RX6, TX6, 49))) (hcell := obM_0) (lk_X6_239 C hR ⟨by omega, by omega⟩) (ihR hc) rfl rfl (Nat.le_of_ble_eq_true rfl) ⟨Nat.zero_le _, Nat.zero_le _⟩ dX6_readsAsked_94 ?_
            refine y_if_eq (tgt := 109) C dX6_readsAsked_97 rfl (fun hc => ?_) (fun hc => ?_)
            · replace h := g_it h hc
              refine y_iconst (v := (0 : Int32)) C dX6_readsAsked_109 (by decide) ?_
              replace h := Option.some.inj h; subst h
              exact y_zret C (by decide) hQ ⟨Nat.zero_le _, Nat.zero_le _⟩ dX6_readsAsked_110
            · replace h := g_if h hc
              refine y_aload_n C dX6_readsAsked_100 1 rfl rfl ?_
              refine y_bipush (v := (41 : Int32)) C dX6_readsAsked_101 (by decide) ?_
              obtain ⟨x12, σ11, hc, h⟩ := g_bp h
              refine y_callV C (As := [.int (41 : Int32)]) (rest := []) (hu := nM_0_0) (hc := (rfl : gCl[5]? = some (RX6, TX6, 49))) (hcell := obM_0) (lk_X6_209 C hR ⟨by omega, by omega⟩) (ct_M_takes hc) rfl rfl (Nat.le_of_ble_eq_true rfl) ⟨Nat.zero_le _, Nat.zero_le _⟩ dX6_readsAsked_103 ?_
              refine y_if_ne (tgt := 111) C dX6_readsAsked_106 rfl (fun hc => ?_) (fun hc => ?_)
              · replace h := g_if h hc
                refine y_aload_n C dX6_readsAsked_111 1 rfl rfl ?_
                refine y_dup C dX6_readsAsked_112 rfl ?_
                refine gf_M_17 C dX6_readsAsked_113 ?_
                refine y_iconst (v := (1 : Int32)) C dX6_readsAsked_116 (by decide) ?_
                refine y_isub C dX6_readsAsked_117 ?_
                obtain ⟨σ13, hσ13, h⟩ := g_lt h
                refine pf_M_17 C hσ13 dX6_readsAsked_118 ?_
                refine y_iconst (v := (1 : Int32)) C dX6_readsAsked_121 (by decide) ?_
                replace h := Option.some.inj h; subst h
                exact y_zret C (by decide) hQ ⟨Nat.zero_le _, Nat.zero_le _⟩ dX6_readsAsked_122
              · replace h := g_it h hc
                refine y_iconst (v := (0 : Int32)) C dX6_readsAsked_109 (by decide) ?_
                replace h := Option.some.inj h; subst h
                exact y_zret C (by decide) hQ ⟨Nat.zero_le _, Nat.zero_le _⟩ dX6_readsAsked_110
          · replace h := g_it h hc
            refine y_iconst (v := (0 : Int32)) C dX6_readsAsked_80 (by decide) ?_
            replace h := Option.some.inj h; subst h
            exact y_zret C (by decide) hQ ⟨Nat.zero_le _, Nat.zero_le _⟩ dX6_readsAsked_81
      · replace h := g_if h hc
        refine y_aload_n C dX6_readsAsked_52 1 rfl rfl ?_
        refine y_sipush (v := (1000 : Int32)) C dX6_readsAsked_53 (by decide) ?_
        refine y_iload_n C dX6_readsAsked_56 0 rfl rfl ?_
        refine y_iadd C dX6_readsAsked_57 ?_
        obtain ⟨σ14, hc, h⟩ := g_bd h
        refine y_callVv C (As := [.int ((1000 : Int32) + x5)]) (rest := []) (hu := nM_0_0) (hc := (rfl : gCl[5]? = some (RX6, TX6, 49))) (hcell := obM_0) (lk_X6_233 C hR ⟨by omega, by omega⟩) (ct_M_codes hc) rfl rfl (Nat.le_of_ble_eq_true rfl) ⟨Nat.zero_le _, Nat.zero_le _⟩ dX6_readsAsked_58 ?_
        refine y_iconst (v := (1 : Int32)) C dX6_readsAsked_61 (by decide) ?_
        replace h := Option.some.inj h; subst h
        exact y_zret C (by decide) hQ ⟨Nat.zero_le _, Nat.zero_le _⟩ dX6_readsAsked_62
    · replace h := g_if h hc
      refine y_aload_n C dX6_readsAsked_30 0 rfl rfl ?_
      refine y_aload_n C dX6_readsAsked_31 0 rfl rfl ?_
      refine y_iconst (v := (3 : Int32)) C dX6_readsAsked_32 (by decide) ?_
      obtain ⟨x16, σ15, hc, h⟩ := g_bp h
      refine y_callV C (As := [.int (3 : Int32)]) (rest := [.ref (ad 0 0)]) (hu := nM_0_0) (hc := (rfl : gCl[5]? = some (RX6, TX6, 49))) (hcell := obM_0) (lk_X6_224 C hR ⟨by omega, by omega⟩) (ct_M_number hc) rfl rfl (Nat.le_of_ble_eq_true rfl) ⟨Nat.zero_le _, Nat.zero_le _⟩ dX6_readsAsked_33 ?_
      obtain ⟨σ17, hc, h⟩ := g_bd h
      refine y_callVv C (As := [.int x16]) (rest := []) (hu := nM_0_0) (hc := (rfl : gCl[5]? = some (RX6, TX6, 49))) (hcell := obM_0) (lk_X6_233 C hR ⟨by omega, by omega⟩) (ct_M_codes hc) rfl rfl (Nat.le_of_ble_eq_true rfl) ⟨Nat.zero_le _, Nat.zero_le _⟩ dX6_readsAsked_36 ?_
      refine y_iconst (v := (1 : Int32)) C dX6_readsAsked_39 (by decide) ?_
      replace h := Option.some.inj h; subst h
      exact y_zret C (by decide) hQ ⟨Nat.zero_le _, Nat.zero_le _⟩ dX6_readsAsked_40
  · replace h := g_if h hc
    refine y_aload_n C dX6_readsAsked_9 0 rfl rfl ?_
    obtain ⟨x19, σ18, hc, h⟩ := g_bp h
    refine y_callV C (As := []) (rest := []) (hu := nM_0_0) (hc := (rfl : gCl[5]? = some (RX6, TX6, 49))) (hcell := obM_0) (lk_X6_230 C hR ⟨by omega, by omega⟩) (ihA hc) rfl rfl (Nat.le_of_ble_eq_true rfl) ⟨Nat.zero_le _, Nat.zero_le _⟩ dX6_readsAsked_10 ?_
    refine y_istore_n (vs1 := [(1, .int x19), (0, .ref (ad 0 0))]) C rfl dX6_readsAsked_13 rfl (g_lL hL rfl) rfl ?_
    refine y_aload_n C dX6_readsAsked_14 1 rfl rfl ?_
    refine y_sipush (v := (3000 : Int32)) C dX6_readsAsked_15 (by decide) ?_
    obtain ⟨σ20, hc, h⟩ := g_bd h
    refine y_callVv C (As := [.int (3000 : Int32)]) (rest := []) (hu := nM_0_0) (hc := (rfl : gCl[5]? = some (RX6, TX6, 49))) (hcell := obM_0) (lk_X6_233 C hR ⟨by omega, by omega⟩) (ct_M_codes hc) rfl rfl (Nat.le_of_ble_eq_true rfl) ⟨Nat.zero_le _, Nat.zero_le _⟩ dX6_readsAsked_18 ?_
    refine y_iload_n C dX6_readsAsked_21 0 rfl rfl ?_
    obtain ⟨hg, h⟩ := g_gd h
    replace h := Option.some.inj h; subst h
    exact y_zret C (g_nz hg) hQ ⟨Nat.zero_le _, Nat.zero_le _⟩ dX6_readsAsked_22
theorem mj_M_readsRank_96 {X : g_F} {d : Nat} {hid : Bool} (C : g_M gCl X cX6_readsRank RX6 (some .boolean)) (hR : g_R X = g_rm (d + 1 + 5) 0 0) (hL : g_nL X = 4) {rc : (g_S → Option (Int32 × g_S)) × (g_S → Int32 → Option (Int32 × g_S))} (ihA : ∀ {ad : Nat → Nat → Nat} {σ σ1 : g_S} {r : Int32}, rc.1 σ = some (r, σ1) → g_Met gCl (g_D X) (g_dA X) (g_A X) (g_s0 X) (g_b0 X) (g_l X) yX6_readsAsked cX6_readsAsked 2 (some .boolean) (d + 5) (0, 0) (gM hid) ad σ [.ref (ad 0 0)] (gM hid) ad σ1 (some (.int r))) (ihR : ∀ {ad : Nat → Nat → Nat} {σ σ1 : g_S} {v r : Int32}, rc.2 σ v = some (r, σ1) → g_Met gCl (g_D X) (g_dA X) (g_A X) (g_s0 X) (g_b0 X) (g_l X) yX6_readsRank cX6_readsRank 4 (some .boolean) (d + 5) (0, 0) (gM hid) ad σ [.ref (ad 0 0), .int v] (gM hid) ad σ1 (some (.int r))) {ad : Nat → Nat → Nat} {σ : g_S} {v1 : Int32} {s1 : Int32} {s2 : Int32} {o : ((Int32 × g_S) ⊕ (g_S ⊕ (g_S ⊕ g_S)))} (h : mJ_M_readsRank_96 σ rc v1 s1 s2 = some o) (kl : ∀ z, o = .inl z → g_Y gCl X (gM hid) ad z.2 (0, 0) 24 [(0, .ref (ad 0 0)), (1, .int v1), (2, .int z.1)] []) (kx : ∀ z, o = .inr z → (∀ y, z = .inl y → g_Y gCl X (gM hid) ad y (0, 0) 58 [] []) ∧ (∀ y, z = .inr (.inl y) → g_Y gCl X (gM hid) ad y (0, 0) 70 [] []) ∧ (∀ y, z = .inr (.inr y) → g_Y gCl X (gM hid) ad y (0, 0) 113 [] [])) : g_Y gCl X (gM hid) ad σ (0, 0) 96 [(0, .ref (ad 0 0)), (1, .int v1)] [.int s2, .int s1, .ref (ad 0 0)] := by
  unfold mJ_M_readsRank_96 at h
  refine y_iadd C dX6_readsRank_96 ?_
  obtain ⟨σ7, hc, h⟩ := g_bd h
  refine y_callVv C (As := [.int (s1 + s2)]) (rest := []) (hu := nM_0_0) (hc := (rfl : gCl[5]? = some (RX6, TX6, 49))) (hcell := obM_0) (lk_X6_233 C hR ⟨by omega, by omega⟩) (ct_M_codes hc) rfl rfl (Nat.le_of_ble_eq_true rfl) ⟨Nat.zero_le _, Nat.zero_le _⟩ dX6_readsRank_97 ?_
  refine y_iload_n C dX6_readsRank_100 1 rfl rfl ?_
  refine y_if_le (tgt := 108) C dX6_readsRank_101 rfl (fun hc => ?_) (fun hc => ?_)
  · replace h := g_it h hc
    refine y_iconst (v := (0 : Int32)) C dX6_readsRank_108 (by decide) ?_
    refine y_istore_n (vs1 := [(2, .int (0 : Int32)), (0, .ref (ad 0 0)), (1, .int v1)]) C rfl dX6_readsRank_109 rfl (g_lL hL rfl) rfl ?_
    refine y_goto (tgt := 24) C dX6_readsRank_110 rfl ?_
    refine y_sub (vs2 := [(0, .ref (ad 0 0)), (1, .int v1), (2, .int (0 : Int32))]) [1, 2, 0] rfl ?_
    exact kl _ (Option.some.inj h).symm
  · replace h := g_if h hc
    refine y_iconst (v := (1 : Int32)) C dX6_readsRank_104 (by decide) ?_
    refine y_goto (tgt := 109) C dX6_readsRank_105 rfl ?_
    refine y_istore_n (vs1 := [(2, .int (1 : Int32)), (0, .ref (ad 0 0)), (1, .int v1)]) C rfl dX6_readsRank_109 rfl (g_lL hL rfl) rfl ?_
    refine y_goto (tgt := 24) C dX6_readsRank_110 rfl ?_
    refine y_sub (vs2 := [(0, .ref (ad 0 0)), (1, .int v1), (2, .int (1 : Int32))]) [1, 2, 0] rfl ?_
    exact kl _ (Option.some.inj h).symm
theorem mj_M_readsRank_50 {X : g_F} {d : Nat} {hid : Bool} (C : g_M gCl X cX6_readsRank RX6 (some .boolean)) (hR : g_R X = g_rm (d + 1 + 5) 0 0) (hL : g_nL X = 4) {rc : (g_S → Option (Int32 × g_S)) × (g_S → Int32 → Option (Int32 × g_S))} (ihA : ∀ {ad : Nat → Nat → Nat} {σ σ1 : g_S} {r : Int32}, rc.1 σ = some (r, σ1) → g_Met gCl (g_D X) (g_dA X) (g_A X) (g_s0 X) (g_b0 X) (g_l X) yX6_readsAsked cX6_readsAsked 2 (some .boolean) (d + 5) (0, 0) (gM hid) ad σ [.ref (ad 0 0)] (gM hid) ad σ1 (some (.int r))) (ihR : ∀ {ad : Nat → Nat → Nat} {σ σ1 : g_S} {v r : Int32}, rc.2 σ v = some (r, σ1) → g_Met gCl (g_D X) (g_dA X) (g_A X) (g_s0 X) (g_b0 X) (g_l X) yX6_readsRank cX6_readsRank 4 (some .boolean) (d + 5) (0, 0) (gM hid) ad σ [.ref (ad 0 0), .int v] (gM hid) ad σ1 (some (.int r))) {ad : Nat → Nat → Nat} {σ : g_S} {v1 : Int32} {s1 : Nat} {o : ((Int32 × g_S) ⊕ (g_S ⊕ (g_S ⊕ g_S)))} (h : mJ_M_readsRank_50 σ rc v1 s1 = some o) (kl : ∀ z, o = .inl z → g_Y gCl X (gM hid) ad z.2 (0, 0) 24 [(0, .ref (ad 0 0)), (1, .int v1), (2, .int z.1)] []) (kx : ∀ z, o = .inr z → (∀ y, z = .inl y → g_Y gCl X (gM hid) ad y (0, 0) 58 [] []) ∧ (∀ y, z = .inr (.inl y) → g_Y gCl X (gM hid) ad y (0, 0) 70 [] []) ∧ (∀ y, z = .inr (.inr y) → g_Y gCl X (gM hid) ad y (0, 0) 113 [] [])) : g_Y gCl X (gM hid) ad σ (0, 0) 50 [(0, .ref (ad 0 0)), (1, .int v1)] [.ref (g_str (g_s0 X) (g_b0 X) s1), .ref (ad 0 0)] := by
  unfold mJ_M_readsRank_50 at h
  obtain ⟨hu_s1, h⟩ := g_gd h
  obtain ⟨x4, σ3, hc, h⟩ := g_bp h
  refine y_callV C (As := [.ref (g_str (g_s0 X) (g_b0 X) s1)]) (rest := []) (hu := nM_0_0) (hc := (rfl : gCl[5]? = some (RX6, TX6, 49))) (hcell := obM_0) (lk_X6_184 C hR ⟨by omega, by omega⟩) (ct_M_takesOf hu_s1 hc) rfl rfl (Nat.le_of_ble_eq_true rfl) ⟨Nat.zero_le _, Nat.zero_le _⟩ dX6_readsRank_50 ?_
  refine y_istore_n (vs1 := [(3, .int x4), (0, .ref (ad 0 0)), (1, .int v1)]) C rfl dX6_readsRank_53 rfl (g_lL hL rfl) rfl ?_
  refine y_iload_n C dX6_readsRank_54 0 rfl rfl ?_
  refine y_if_ge (tgt := 60) C dX6_readsRank_55 rfl (fun hc => ?_) (fun hc => ?_)
  · replace h := g_it h hc
    refine y_aload_n C dX6_readsRank_60 1 rfl rfl ?_
    refine y_iload_n C dX6_readsRank_61 2 rfl rfl ?_
    refine y_iconst (v := (1 : Int32)) C dX6_readsRank_62 (by decide) ?_
    refine y_iadd C dX6_readsRank_63 ?_
    obtain ⟨x6, σ5, hc, h⟩ := g_bp h
    refine y_callV C (As := [.int (v1 + (1 : Int32))]) (rest := []) (hu := nM_0_0) (hc := (rfl : gCl[5]? = some (RX6, TX6, 49))) (hcell := obM_0) (lk_X6_239 C hR ⟨by omega, by omega⟩) (ihR hc) rfl rfl (Nat.le_of_ble_eq_true rfl) ⟨Nat.zero_le _, Nat.zero_le _⟩ dX6_readsRank_64 ?_
    refine y_if_ne (tgt := 72) C dX6_readsRank_67 rfl (fun hc => ?_) (fun hc => ?_)
    · replace h := g_if h hc
      refine y_aload_n C dX6_readsRank_72 1 rfl rfl ?_
      refine y_sipush (v := (2000 : Int32)) C dX6_readsRank_73 (by decide) ?_
      refine y_iload_n C dX6_readsRank_76 0 rfl rfl ?_
      refine y_iadd C dX6_readsRank_77 ?_
      refine y_iload_n C dX6_readsRank_78 2 rfl rfl ?_
      refine y_if_ne (tgt := 86) C dX6_readsRank_79 rfl (fun hc => ?_) (fun hc => ?_)
      · replace h := g_if h hc
        refine y_iload_n C dX6_readsRank_86 2 rfl rfl ?_
        refine y_iconst (v := (1 : Int32)) C dX6_readsRank_87 (by decide) ?_
        refine y_icmp_ne (tgt := 95) C dX6_readsRank_88 rfl (fun hc => ?_) (fun hc => ?_)
        · replace h := g_if h hc
          refine y_iconst (v := (5 : Int32)) C dX6_readsRank_95 (by decide) ?_
          refine y_sub (vs2 := [(0, .ref (ad 0 0)), (1, .int v1)]) [1, 2] rfl ?_
          exact mj_M_readsRank_96 C hR hL ihA ihR h kl kx
        · replace h := g_it h hc
          refine y_iconst (v := (3 : Int32)) C dX6_readsRank_91 (by decide) ?_
          refine y_goto (tgt := 96) C dX6_readsRank_92 rfl ?_
          refine y_sub (vs2 := [(0, .ref (ad 0 0)), (1, .int v1)]) [1, 2] rfl ?_
          exact mj_M_readsRank_96 C hR hL ihA ihR h kl kx
      · replace h := g_it h hc
        refine y_iconst (v := (0 : Int32)) C dX6_readsRank_82 (by decide) ?_
        refine y_goto (tgt := 96) C dX6_readsRank_83 rfl ?_
        refine y_sub (vs2 := [(0, .ref (ad 0 0)), (1, .int v1)]) [1, 2] rfl ?_
        exact mj_M_readsRank_96 C hR hL ihA ihR h kl kx
    · replace h := g_it h hc
      refine y_sub (vs2 := []) [] rfl ?_
      exact (kx _ (Option.some.inj h).symm).2.1 _ rfl
  · replace h := g_if h hc
    refine y_sub (vs2 := []) [] rfl ?_
    exact (kx _ (Option.some.inj h).symm).1 _ rfl
theorem ml_M_readsRank_24 {X : g_F} {d : Nat} {hid : Bool} (C : g_M gCl X cX6_readsRank RX6 (some .boolean)) (hR : g_R X = g_rm (d + 1 + 5) 0 0) (hL : g_nL X = 4) {rc : (g_S → Option (Int32 × g_S)) × (g_S → Int32 → Option (Int32 × g_S))} (ihA : ∀ {ad : Nat → Nat → Nat} {σ σ1 : g_S} {r : Int32}, rc.1 σ = some (r, σ1) → g_Met gCl (g_D X) (g_dA X) (g_A X) (g_s0 X) (g_b0 X) (g_l X) yX6_readsAsked cX6_readsAsked 2 (some .boolean) (d + 5) (0, 0) (gM hid) ad σ [.ref (ad 0 0)] (gM hid) ad σ1 (some (.int r))) (ihR : ∀ {ad : Nat → Nat → Nat} {σ σ1 : g_S} {v r : Int32}, rc.2 σ v = some (r, σ1) → g_Met gCl (g_D X) (g_dA X) (g_A X) (g_s0 X) (g_b0 X) (g_l X) yX6_readsRank cX6_readsRank 4 (some .boolean) (d + 5) (0, 0) (gM hid) ad σ [.ref (ad 0 0), .int v] (gM hid) ad σ1 (some (.int r))) {ad : Nat → Nat → Nat} {σ : g_S} {v1 : Int32} (n : Nat) (v : (Int32 × g_S)) (e : (g_S ⊕ (g_S ⊕ g_S))) (h : g_lp (fun v => mB_M_readsRank_24 v.2 rc v1 v.1) n v = some e) (kx : (∀ y, e = .inl y → g_Y gCl X (gM hid) ad y (0, 0) 58 [] []) ∧ (∀ y, e = .inr (.inl y) → g_Y gCl X (gM hid) ad y (0, 0) 70 [] []) ∧ (∀ y, e = .inr (.inr y) → g_Y gCl X (gM hid) ad y (0, 0) 113 [] [])) : g_Y gCl X (gM hid) ad v.2 (0, 0) 24 [(0, .ref (ad 0 0)), (1, .int v1), (2, .int v.1)] [] := by
  refine g_loop (P := fun v => g_Y gCl X (gM hid) ad v.2 (0, 0) 24 [(0, .ref (ad 0 0)), (1, .int v1), (2, .int v.1)] []) (T := fun e => (∀ y, e = .inl y → g_Y gCl X (gM hid) ad y (0, 0) 58 [] []) ∧ (∀ y, e = .inr (.inl y) → g_Y gCl X (gM hid) ad y (0, 0) 70 [] []) ∧ (∀ y, e = .inr (.inr y) → g_Y gCl X (gM hid) ad y (0, 0) 113 [] [])) ?_ n v e h kx
  clear h kx
  clear n v e
  intro v o h kl kx
  obtain ⟨v2, σ⟩ := v
  have h : mB_M_readsRank_24 σ rc v1 v2 = some o := h
  unfold mB_M_readsRank_24 at h
  show g_Y gCl X (gM hid) ad σ (0, 0) 24 [(0, .ref (ad 0 0)), (1, .int v1), (2, .int v2)] []
  refine y_iload_n C dX6_readsRank_24 2 rfl rfl ?_
  refine y_if_eq (tgt := 113) C dX6_readsRank_25 rfl (fun hc => ?_) (fun hc => ?_)
  · replace h := g_it h hc
    refine y_sub (vs2 := []) [] rfl ?_
    exact (kx _ (Option.some.inj h).symm).2.2 _ rfl
  · replace h := g_if h hc
    refine y_aload_n C dX6_readsRank_28 0 rfl rfl ?_
    refine y_iload_n C dX6_readsRank_29 1 rfl rfl ?_
    refine y_if_ne (tgt := 38) C dX6_readsRank_30 rfl (fun hc => ?_) (fun hc => ?_)
    · replace h := g_if h hc
      refine y_iload_n C dX6_readsRank_38 1 rfl rfl ?_
      refine y_iconst (v := (1 : Int32)) C dX6_readsRank_39 (by decide) ?_
      refine y_icmp_ne (tgt := 48) C dX6_readsRank_40 rfl (fun hc => ?_) (fun hc => ?_)
      · replace h := g_if h hc
        refine y_ldcS (i := 4) C q1567 (g_strEv (i := 4) C.2.2.2.2.2.2.2.2.2.1 (by decide)) dX6_readsRank_48 ?_
        refine y_sub (vs2 := [(0, .ref (ad 0 0)), (1, .int v1)]) [0, 1] rfl ?_
        exact mj_M_readsRank_50 C hR hL ihA ihR h kl kx
      · replace h := g_it h hc
        refine y_ldcS (i := 3) C q1566 (g_strEv (i := 3) C.2.2.2.2.2.2.2.2.2.1 (by decide)) dX6_readsRank_43 ?_
        refine y_goto (tgt := 50) C dX6_readsRank_45 rfl ?_
        refine y_sub (vs2 := [(0, .ref (ad 0 0)), (1, .int v1)]) [0, 1] rfl ?_
        exact mj_M_readsRank_50 C hR hL ihA ihR h kl kx
    · replace h := g_it h hc
      refine y_ldcS (i := 2) C q1565 (g_strEv (i := 2) C.2.2.2.2.2.2.2.2.2.1 (by decide)) dX6_readsRank_33 ?_
      refine y_goto (tgt := 50) C dX6_readsRank_35 rfl ?_
      refine y_sub (vs2 := [(0, .ref (ad 0 0)), (1, .int v1)]) [0, 1] rfl ?_
      exact mj_M_readsRank_50 C hR hL ihA ihR h kl kx
theorem mw_M_readsRank {X : g_F} {d : Nat} {hid : Bool} (C : g_M gCl X cX6_readsRank RX6 (some .boolean)) (hR : g_R X = g_rm (d + 1 + 5) 0 0) (hL : g_nL X = 4) {rc : (g_S → Option (Int32 × g_S)) × (g_S → Int32 → Option (Int32 × g_S))} (ihA : ∀ {ad : Nat → Nat → Nat} {σ σ1 : g_S} {r : Int32}, rc.1 σ = some (r, σ1) → g_Met gCl (g_D X) (g_dA X) (g_A X) (g_s0 X) (g_b0 X) (g_l X) yX6_readsAsked cX6_readsAsked 2 (some .boolean) (d + 5) (0, 0) (gM hid) ad σ [.ref (ad 0 0)] (gM hid) ad σ1 (some (.int r))) (ihR : ∀ {ad : Nat → Nat → Nat} {σ σ1 : g_S} {v r : Int32}, rc.2 σ v = some (r, σ1) → g_Met gCl (g_D X) (g_dA X) (g_A X) (g_s0 X) (g_b0 X) (g_l X) yX6_readsRank cX6_readsRank 4 (some .boolean) (d + 5) (0, 0) (gM hid) ad σ [.ref (ad 0 0), .int v] (gM hid) ad σ1 (some (.int r))) {ad : Nat → Nat → Nat} {σ : g_S} {v1 : Int32} {o : (Int32 × g_S)} (h : mF_M_readsRank σ rc v1 = some o) (hQ : g_MQ gCl X (gM hid) ad o.2 (some (.int o.1)) = g_Q X) : g_Y gCl X (gM hid) ad σ (0, 0) 0 [(0, .ref (ad 0 0)), (1, .int v1)] [] := by
  unfold mF_M_readsRank at h
  refine y_iload_n C dX6_readsRank_0 1 rfl rfl ?_
  refine y_iconst (v := (3 : Int32)) C dX6_readsRank_1 (by decide) ?_
  refine y_icmp_ne (tgt := 10) C dX6_readsRank_2 rfl (fun hc => ?_) (fun hc => ?_)
  · replace h := g_if h hc
    refine y_aload_n C dX6_readsRank_10 0 rfl rfl ?_
    refine y_iload_n C dX6_readsRank_11 1 rfl rfl ?_
    refine y_iconst (v := (1 : Int32)) C dX6_readsRank_12 (by decide) ?_
    refine y_iadd C dX6_readsRank_13 ?_
    obtain ⟨x2, σ1, hc, h⟩ := g_bp h
    refine y_callV C (As := [.int (v1 + (1 : Int32))]) (rest := []) (hu := nM_0_0) (hc := (rfl : gCl[5]? = some (RX6, TX6, 49))) (hcell := obM_0) (lk_X6_239 C hR ⟨by omega, by omega⟩) (ihR hc) rfl rfl (Nat.le_of_ble_eq_true rfl) ⟨Nat.zero_le _, Nat.zero_le _⟩ dX6_readsRank_14 ?_
    refine y_if_ne (tgt := 22) C dX6_readsRank_17 rfl (fun hc => ?_) (fun hc => ?_)
    · replace h := g_if h hc
      refine y_iconst (v := (1 : Int32)) C dX6_readsRank_22 (by decide) ?_
      refine y_istore_n (vs1 := [(2, .int (1 : Int32)), (0, .ref (ad 0 0)), (1, .int v1)]) C rfl dX6_readsRank_23 rfl (g_lL hL rfl) rfl ?_
      refine y_sub (vs2 := [(0, .ref (ad 0 0)), (1, .int v1), (2, .int (1 : Int32))]) [1, 2, 0] rfl ?_
      obtain ⟨e8, he8, h⟩ := g_bd h
      refine ml_M_readsRank_24 C hR hL ihA ihR (σ := σ1) _ _ _ he8 ⟨fun y he => ?_, fun y he => ?_, fun y he => ?_⟩
      · obtain ⟨y9, rfl⟩ : ∃ z, z = y := ⟨_, rfl⟩
        subst he
        dsimp only at h
        refine y_iconst (v := (1 : Int32)) C dX6_readsRank_58 (by decide) ?_
        replace h := Option.some.inj h; subst h
        exact y_zret C (by decide) hQ ⟨Nat.zero_le _, Nat.zero_le _⟩ dX6_readsRank_59
      · obtain ⟨y10, rfl⟩ : ∃ z, z = y := ⟨_, rfl⟩
        subst he
        dsimp only at h
        refine y_iconst (v := (0 : Int32)) C dX6_readsRank_70 (by decide) ?_
        replace h := Option.some.inj h; subst h
        exact y_zret C (by decide) hQ ⟨Nat.zero_le _, Nat.zero_le _⟩ dX6_readsRank_71
      · obtain ⟨y11, rfl⟩ : ∃ z, z = y := ⟨_, rfl⟩
        subst he
        dsimp only at h
        refine y_iconst (v := (1 : Int32)) C dX6_readsRank_113 (by decide) ?_
        replace h := Option.some.inj h; subst h
        exact y_zret C (by decide) hQ ⟨Nat.zero_le _, Nat.zero_le _⟩ dX6_readsRank_114
    · replace h := g_it h hc
      refine y_iconst (v := (0 : Int32)) C dX6_readsRank_20 (by decide) ?_
      replace h := Option.some.inj h; subst h
      exact y_zret C (by decide) hQ ⟨Nat.zero_le _, Nat.zero_le _⟩ dX6_readsRank_21
  · replace h := g_it h hc
    refine y_aload_n C dX6_readsRank_5 0 rfl rfl ?_
    obtain ⟨x13, σ12, hc, h⟩ := g_bp h
    refine y_callV C (As := []) (rest := []) (hu := nM_0_0) (hc := (rfl : gCl[5]? = some (RX6, TX6, 49))) (hcell := obM_0) (lk_X6_230 C hR ⟨by omega, by omega⟩) (ihA hc) rfl rfl (Nat.le_of_ble_eq_true rfl) ⟨Nat.zero_le _, Nat.zero_le _⟩ dX6_readsRank_6 ?_
    obtain ⟨hg, h⟩ := g_gd h
    replace h := Option.some.inj h; subst h
    exact y_zret C (g_nz hg) hQ ⟨Nat.zero_le _, Nat.zero_le _⟩ dX6_readsRank_9
theorem ctr_M_reads : ∀ (n : Nat) {D : va_G} {dA : Nat → ClassId} {A : Nat → Prop} {s0 : State} {b0 : Nat} {l : Launch} {hid : Bool}, (∀ {ad : Nat → Nat → Nat} {σ σ1 : g_S} {r : Int32}, (mR_M_reads n).1 σ = some (r, σ1) → g_Met gCl D dA A s0 b0 l yX6_readsAsked cX6_readsAsked 2 (some .boolean) (n + 5) (0, 0) (gM hid) ad σ [.ref (ad 0 0)] (gM hid) ad σ1 (some (.int r))) ∧ (∀ {ad : Nat → Nat → Nat} {σ σ1 : g_S} {v r : Int32}, (mR_M_reads n).2 σ v = some (r, σ1) → g_Met gCl D dA A s0 b0 l yX6_readsRank cX6_readsRank 4 (some .boolean) (n + 5) (0, 0) (gM hid) ad σ [.ref (ad 0 0), .int v] (gM hid) ad σ1 (some (.int r))) := by
  intro n
  induction n with
  | zero =>
    intro D dA A s0 b0 l hid
    exact ⟨fun h => (by cases h), fun h => (by cases h)⟩
  | succ n ih =>
    intro D dA A s0 b0 l hid
    exact ⟨fun h => g_Met.of pl_X6 (Nat.le_of_ble_eq_true rfl) (fun X C hQ hR _ _ hL _ es eb => mw_M_readsAsked C hR hL (fun h => ih.1 h) (fun h => ih.2 h) h hQ),
      fun h => g_Met.of pl_X6 (Nat.le_of_ble_eq_true rfl) (fun X C hQ hR _ _ hL _ es eb => mw_M_readsRank C hR hL (fun h => ih.1 h) (fun h => ih.2 h) h hQ)⟩
theorem ct_M_readsRank {D : va_G} {dA : Nat → ClassId} {A : Nat → Prop} {s0 : State} {b0 : Nat} {l : Launch} {hid : Bool} {ad : Nat → Nat → Nat} {σ σ1 : g_S} {v r : Int32} (h : mC_M_readsRank σ v = some (r, σ1)) : g_Met gCl D dA A s0 b0 l yX6_readsRank cX6_readsRank 4 (some .boolean) 105 (0, 0) (gM hid) ad σ [.ref (ad 0 0), .int v] (gM hid) ad σ1 (some (.int r)) := (ctr_M_reads 100).2 h
theorem mj_M_readsRule_29 {X : g_F} {hid : Bool} (C : g_M gCl X cX6_readsRule RX6 (some .int)) (hR : g_R X = g_rm 106 0 0) (hL : g_nL X = 3) {ad : Nat → Nat → Nat} {σ : g_S} {v1 : Int32} {s0 : Int32} {o : (Int32 × g_S)} (h : mJ_M_readsRule_29 σ v1 s0 = some o) (hQ : g_MQ gCl X (gM hid) ad o.2 (some (.int o.1)) = g_Q X) : g_Y gCl X (gM hid) ad σ (0, 0) 29 [(0, .ref (ad 0 0)), (1, .int v1)] [.int s0] := by
  unfold mJ_M_readsRule_29 at h
  refine y_istore_n (vs1 := [(2, .int s0), (0, .ref (ad 0 0)), (1, .int v1)]) C rfl dX6_readsRule_29 rfl (g_lL hL rfl) rfl ?_
  refine y_aload_n C dX6_readsRule_30 1 rfl rfl ?_
  refine y_iload_n C dX6_readsRule_31 2 rfl rfl ?_
  refine y_bipush (v := (40 : Int32)) C dX6_readsRule_32 (by decide) ?_
  refine y_iload_n C dX6_readsRule_34 0 rfl rfl ?_
  obtain ⟨x4, hc, h⟩ := g_bd h
  refine y_callV C (As := [.int v1, .int (40 : Int32), .int s0]) (rest := []) (hu := nM_0_0) (hc := (rfl : gCl[5]? = some (RX6, TX6, 49))) (hcell := obM_0) (lk_X6_213 C hR (by decide)) (ct_M_faultOf hc) rfl rfl (Nat.le_of_ble_eq_true rfl) ⟨Nat.zero_le _, Nat.zero_le _⟩ dX6_readsRule_35 ?_
  replace h := Option.some.inj h; subst h
  exact y_iret C hQ ⟨Nat.zero_le _, Nat.zero_le _⟩ dX6_readsRule_38
theorem mj_M_readsRule_24 {X : g_F} {hid : Bool} (C : g_M gCl X cX6_readsRule RX6 (some .int)) (hR : g_R X = g_rm 106 0 0) (hL : g_nL X = 3) {ad : Nat → Nat → Nat} {σ : g_S} {v1 : Int32} {o : (Int32 × g_S)} (h : mJ_M_readsRule_24 σ v1 = some o) (hQ : g_MQ gCl X (gM hid) ad o.2 (some (.int o.1)) = g_Q X) : g_Y gCl X (gM hid) ad σ (0, 0) 24 [(0, .ref (ad 0 0)), (1, .int v1)] [] := by
  unfold mJ_M_readsRule_24 at h
  refine y_iconst (v := (1 : Int32)) C dX6_readsRule_24 (by decide) ?_
  refine y_goto (tgt := 29) C dX6_readsRule_25 rfl ?_
  exact mj_M_readsRule_29 C hR hL h hQ
theorem mw_M_readsRule {X : g_F} {hid : Bool} (C : g_M gCl X cX6_readsRule RX6 (some .int)) (hR : g_R X = g_rm 106 0 0) (hL : g_nL X = 3) {ad : Nat → Nat → Nat} {σ : g_S} {o : (Int32 × g_S)} (h : mF_M_readsRule σ = some o) (hQ : g_MQ gCl X (gM hid) ad o.2 (some (.int o.1)) = g_Q X) : g_Y gCl X (gM hid) ad σ (0, 0) 0 [(0, .ref (ad 0 0))] [] := by
  unfold mF_M_readsRule at h
  refine y_aload_n C dX6_readsRule_0 0 rfl rfl ?_
  refine y_bipush (v := (40 : Int32)) C dX6_readsRule_1 (by decide) ?_
  obtain ⟨x2, σ1, hc, h⟩ := g_bp h
  refine y_callV C (As := [.int (40 : Int32)]) (rest := []) (hu := nM_0_0) (hc := (rfl : gCl[5]? = some (RX6, TX6, 49))) (hcell := obM_0) (lk_X6_175 C hR (by decide)) (ct_M_begins hc) rfl rfl (Nat.le_of_ble_eq_true rfl) ⟨Nat.zero_le _, Nat.zero_le _⟩ dX6_readsRule_3 ?_
  refine y_istore_n (vs1 := [(1, .int x2), (0, .ref (ad 0 0))]) C rfl dX6_readsRule_6 rfl (g_lL hL rfl) rfl ?_
  refine y_aload_n C dX6_readsRule_7 1 rfl rfl ?_
  refine y_iconst (v := (0 : Int32)) C dX6_readsRule_8 (by decide) ?_
  obtain ⟨σ3, hσ3, h⟩ := g_lt h
  refine pf_M_24 C hσ3 dX6_readsRule_9 ?_
  refine y_iload_n C dX6_readsRule_12 0 rfl rfl ?_
  refine y_if_eq (tgt := 24) C dX6_readsRule_13 rfl (fun hc => ?_) (fun hc => ?_)
  · replace h := g_it h hc
    refine y_sub (vs2 := [(0, .ref (ad 0 0)), (1, .int x2)]) [1, 0] rfl ?_
    exact mj_M_readsRule_24 C hR hL h hQ
  · replace h := g_if h hc
    refine y_aload_n C dX6_readsRule_16 1 rfl rfl ?_
    refine y_iconst (v := (0 : Int32)) C dX6_readsRule_17 (by decide) ?_
    obtain ⟨x6, σ5, hc, h⟩ := g_bp h
    refine y_callV C (As := [.int (0 : Int32)]) (rest := []) (hu := nM_0_0) (hc := (rfl : gCl[5]? = some (RX6, TX6, 49))) (hcell := obM_0) (lk_X6_239 C hR (by decide)) (ct_M_readsRank hc) rfl rfl (Nat.le_of_ble_eq_true rfl) ⟨Nat.zero_le _, Nat.zero_le _⟩ dX6_readsRule_18 ?_
    refine y_if_eq (tgt := 28) C dX6_readsRule_21 rfl (fun hc => ?_) (fun hc => ?_)
    · replace h := g_it h hc
      refine y_iconst (v := (0 : Int32)) C dX6_readsRule_28 (by decide) ?_
      refine y_sub (vs2 := [(0, .ref (ad 0 0)), (1, .int x2)]) [1, 0] rfl ?_
      exact mj_M_readsRule_29 C hR hL h hQ
    · replace h := g_if h hc
      refine y_sub (vs2 := [(0, .ref (ad 0 0)), (1, .int x2)]) [1, 0] rfl ?_
      exact mj_M_readsRule_24 C hR hL h hQ
theorem ct_M_readsRule {D : va_G} {dA : Nat → ClassId} {A : Nat → Prop} {s0 : State} {b0 : Nat} {l : Launch} {hid : Bool} {ad : Nat → Nat → Nat} {σ : g_S} {r : Int32} {σ1 : g_S} (h : mF_M_readsRule σ = some (r, σ1)) : g_Met gCl D dA A s0 b0 l yX6_readsRule cX6_readsRule 3 (some .int) 106 (0, 0) (gM hid) ad σ [.ref (ad 0 0)] (gM hid) ad σ1 (some (.int r)) :=
  g_Met.of pl_X6 (Nat.le_of_ble_eq_true rfl) (fun X C hQ hR _ _ hL _ es eb => mw_M_readsRule C hR hL h hQ)
theorem ml_M_laysCode_7 {X : g_F} {hid : Bool} (C : g_M gCl X cX6_laysCode RX6 none) (hR : g_R X = g_rm 1 0 0) (hL : g_nL X = 4) {u0 : Nat} (hu_u0 : u0 < g_n (gM hid) 8) {ad : Nat → Nat → Nat} {σ : g_S} {v2 : Int32} (n : Nat) (v : (Int32 × g_S)) (e : g_S) (h : g_lp (fun v => mB_M_laysCode_7 v.2 u0 v2 v.1) n v = some e) (kx : g_Y gCl X (gM hid) ad e (0, 0) 27 [] []) : g_Y gCl X (gM hid) ad v.2 (0, 0) 7 [(0, .ref (ad 0 0)), (1, .ref (ad 8 u0)), (2, .int v2), (3, .int v.1)] [] := by
  refine g_loop (P := fun v => g_Y gCl X (gM hid) ad v.2 (0, 0) 7 [(0, .ref (ad 0 0)), (1, .ref (ad 8 u0)), (2, .int v2), (3, .int v.1)] []) (T := fun e => g_Y gCl X (gM hid) ad e (0, 0) 27 [] []) ?_ n v e h kx
  clear h kx
  clear n v e
  intro v o h kl kx
  obtain ⟨v3, σ⟩ := v
  have h : mB_M_laysCode_7 σ u0 v2 v3 = some o := h
  unfold mB_M_laysCode_7 at h
  show g_Y gCl X (gM hid) ad σ (0, 0) 7 [(0, .ref (ad 0 0)), (1, .ref (ad 8 u0)), (2, .int v2), (3, .int v3)] []
  refine y_iload_n C dX6_laysCode_7 3 rfl rfl ?_
  refine y_iload_n C dX6_laysCode_8 2 rfl rfl ?_
  refine y_icmp_ge (tgt := 27) C dX6_laysCode_9 rfl (fun hc => ?_) (fun hc => ?_)
  · replace h := g_it h hc
    refine y_sub (vs2 := []) [] rfl ?_
    exact kx _ (Option.some.inj h).symm
  · replace h := g_if h hc
    refine y_aload_n C dX6_laysCode_12 0 rfl rfl ?_
    refine gf_M_21 C dX6_laysCode_13 ?_
    refine y_iload_n C dX6_laysCode_16 3 rfl rfl ?_
    refine y_aload_n C dX6_laysCode_17 1 rfl rfl ?_
    refine y_iload_n C dX6_laysCode_18 3 rfl rfl ?_
    obtain ⟨hg, h⟩ := g_gd h
    refine al_M_8 C hu_u0 hg dX6_laysCode_19 ?_
    obtain ⟨hg, h⟩ := g_gd h
    obtain ⟨σ2, hσ2, h⟩ := g_lt h
    refine as_M_8 C nM_8_0 hσ2 hg dX6_laysCode_20 ?_
    obtain ⟨x3, hx3, h⟩ := g_lt h
    refine y_iinc (c := (1 : Int32)) (vs1 := [(3, .int x3), (0, .ref (ad 0 0)), (1, .ref (ad 8 u0)), (2, .int v2)]) C hx3 (by decide) dX6_laysCode_21 3 rfl (g_lL hL rfl) rfl ?_
    refine y_goto (tgt := 7) C dX6_laysCode_24 rfl ?_
    refine y_sub (vs2 := [(0, .ref (ad 0 0)), (1, .ref (ad 8 u0)), (2, .int v2), (3, .int x3)]) [1, 2, 3, 0] rfl ?_
    exact kl _ (Option.some.inj h).symm
theorem mw_M_laysCode {X : g_F} {hid : Bool} (C : g_M gCl X cX6_laysCode RX6 none) (hR : g_R X = g_rm 1 0 0) (hL : g_nL X = 4) {u0 : Nat} (hu_u0 : u0 < g_n (gM hid) 8) {ad : Nat → Nat → Nat} {σ : g_S} {v2 : Int32} {o : g_S} (h : mF_M_laysCode σ u0 v2 = some o) (hQ : g_MQ gCl X (gM hid) ad o none = g_Q X) : g_Y gCl X (gM hid) ad σ (0, 0) 0 [(0, .ref (ad 0 0)), (1, .ref (ad 8 u0)), (2, .int v2)] [] := by
  unfold mF_M_laysCode at h
  refine y_aload_n C dX6_laysCode_0 0 rfl rfl ?_
  refine y_iload_n C dX6_laysCode_1 2 rfl rfl ?_
  obtain ⟨σ1, hσ1, h⟩ := g_lt h
  refine pf_M_23 C hσ1 dX6_laysCode_2 ?_
  refine y_iconst (v := (0 : Int32)) C dX6_laysCode_5 (by decide) ?_
  refine y_istore_n (vs1 := [(3, .int (0 : Int32)), (0, .ref (ad 0 0)), (1, .ref (ad 8 u0)), (2, .int v2)]) C rfl dX6_laysCode_6 rfl (g_lL hL rfl) rfl ?_
  refine y_sub (vs2 := [(0, .ref (ad 0 0)), (1, .ref (ad 8 u0)), (2, .int v2), (3, .int (0 : Int32))]) [1, 2, 3, 0] rfl ?_
  obtain ⟨e4, he4, h⟩ := g_bd h
  refine ml_M_laysCode_7 C hR hL hu_u0 (σ := σ1) _ _ _ he4 ?_
  replace h := Option.some.inj h; subst h
  exact y_vret C hQ ⟨Nat.zero_le _, Nat.zero_le _⟩ dX6_laysCode_27
theorem ct_M_laysCode {D : va_G} {dA : Nat → ClassId} {A : Nat → Prop} {s0 : State} {b0 : Nat} {l : Launch} {hid : Bool} {u0 : Nat} (hu_u0 : u0 < g_n (gM hid) 8) {ad : Nat → Nat → Nat} {σ : g_S} {v2 : Int32} {σ1 : g_S} (h : mF_M_laysCode σ u0 v2 = some σ1) : g_Met gCl D dA A s0 b0 l yX6_laysCode cX6_laysCode 4 none 1 (0, 0) (gM hid) ad σ [.ref (ad 0 0), .ref (ad 8 u0), .int v2] (gM hid) ad σ1 none :=
  g_Met.of pl_X6 (Nat.le_of_ble_eq_true rfl) (fun X C hQ hR _ _ hL _ es eb => mw_M_laysCode C hR hL hu_u0 h hQ)
theorem mw_M_rule {X : g_F} {hid : Bool} (C : g_M gCl X cX6_rule RX6 (some .int)) (hR : g_R X = g_rm 107 0 0) (hL : g_nL X = 2) {ad : Nat → Nat → Nat} {σ : g_S} {o : (Int32 × g_S)} (h : mF_M_rule σ = some o) (hQ : g_MQ gCl X (gM hid) ad o.2 (some (.int o.1)) = g_Q X) : g_Y gCl X (gM hid) ad σ (0, 0) 0 [(0, .ref (ad 0 0))] [] := by
  unfold mF_M_rule at h
  refine y_aload_n C dX6_rule_0 0 rfl rfl ?_
  refine y_iconst (v := (0 : Int32)) C dX6_rule_1 (by decide) ?_
  obtain ⟨σ1, hσ1, h⟩ := g_lt h
  refine pf_M_0 C hσ1 dX6_rule_2 ?_
  refine y_aload_n C dX6_rule_5 0 rfl rfl ?_
  obtain ⟨x3, σ2, hc, h⟩ := g_bp h
  refine y_callV C (As := []) (rest := []) (hu := nM_0_0) (hc := (rfl : gCl[5]? = some (RX6, TX6, 49))) (hcell := obM_0) (lk_X6_251 C hR (by decide)) (ct_M_readsRule hc) rfl rfl (Nat.le_of_ble_eq_true rfl) ⟨Nat.zero_le _, Nat.zero_le _⟩ dX6_rule_6 ?_
  refine y_istore_n (vs1 := [(1, .int x3), (0, .ref (ad 0 0))]) C rfl dX6_rule_9 rfl (g_lL hL rfl) rfl ?_
  refine y_iload_n C dX6_rule_10 0 rfl rfl ?_
  refine y_if_ne (tgt := 26) C dX6_rule_11 rfl (fun hc => ?_) (fun hc => ?_)
  · replace h := g_if h hc
    refine y_iload_n C dX6_rule_26 0 rfl rfl ?_
    replace h := Option.some.inj h; subst h
    exact y_iret C hQ ⟨Nat.zero_le _, Nat.zero_le _⟩ dX6_rule_27
  · replace h := g_it h hc
    refine y_aload_n C dX6_rule_14 1 rfl rfl ?_
    refine y_aload_n C dX6_rule_15 1 rfl rfl ?_
    refine gf_M_22 C dX6_rule_16 ?_
    refine y_aload_n C dX6_rule_19 1 rfl rfl ?_
    refine gf_M_24 C dX6_rule_20 ?_
    obtain ⟨σ4, hc, h⟩ := g_bd h
    refine y_callVv C (As := [.ref (ad 8 1), .int (σ2.1 0 0 24)]) (rest := []) (hu := nM_0_0) (hc := (rfl : gCl[5]? = some (RX6, TX6, 49))) (hcell := obM_0) (lk_X6_254 C hR (by decide)) (ct_M_laysCode nM_8_1 hc) rfl rfl (Nat.le_of_ble_eq_true rfl) ⟨Nat.zero_le _, Nat.zero_le _⟩ dX6_rule_23 ?_
    refine y_iload_n C dX6_rule_26 0 rfl rfl ?_
    replace h := Option.some.inj h; subst h
    exact y_iret C hQ ⟨Nat.zero_le _, Nat.zero_le _⟩ dX6_rule_27
theorem ct_M_rule {D : va_G} {dA : Nat → ClassId} {A : Nat → Prop} {s0 : State} {b0 : Nat} {l : Launch} {hid : Bool} {ad : Nat → Nat → Nat} {σ : g_S} {r : Int32} {σ1 : g_S} (h : mF_M_rule σ = some (r, σ1)) : g_Met gCl D dA A s0 b0 l yX6_rule cX6_rule 2 (some .int) 107 (0, 0) (gM hid) ad σ [.ref (ad 0 0)] (gM hid) ad σ1 (some (.int r)) :=
  g_Met.of pl_X6 (Nat.le_of_ble_eq_true rfl) (fun X C hQ hR _ _ hL _ es eb => mw_M_rule C hR hL h hQ)
theorem mw_M_isPerson {X : g_F} {hid : Bool} (C : g_M gCl X cX6_isPerson RX6 (some .boolean)) (hR : g_R X = g_rm 2 0 0) (hL : g_nL X = 2) {ad : Nat → Nat → Nat} {σ : g_S} {v1 : Int32} {o : Int32} (h : mF_M_isPerson σ v1 = some o) (hQ : g_MQ gCl X (gM hid) ad σ (some (.int o)) = g_Q X) : g_Y gCl X (gM hid) ad σ (0, 0) 0 [(0, .ref (ad 0 0)), (1, .int v1)] [] := by
  unfold mF_M_isPerson at h
  refine y_iload_n C dX6_isPerson_0 1 rfl rfl ?_
  refine y_i2l C dX6_isPerson_1 ?_
  refine y_lconst (v := (0 : Int64)) C dX6_isPerson_2 (by decide) ?_
  refine y_aload_n C dX6_isPerson_3 0 rfl rfl ?_
  refine gf_M_5 C dX6_isPerson_4 ?_
  refine y_iconst (v := (1 : Int32)) C dX6_isPerson_7 (by decide) ?_
  refine y_isub C dX6_isPerson_8 ?_
  refine y_i2l C dX6_isPerson_9 ?_
  obtain ⟨x1, hc, h⟩ := g_bd h
  refine y_callS C (As := [.long (v1.toInt64), .long (0 : Int64), .long (((σ.1 0 0 5) - (1 : Int32)).toInt64)]) (rest := []) (lk_X6_126 C hR (by decide)) (ct_M_in hc) rfl rfl (Nat.le_of_ble_eq_true rfl) ⟨Nat.zero_le _, Nat.zero_le _⟩ dX6_isPerson_10 ?_
  obtain ⟨hg, h⟩ := g_gd h
  replace h := Option.some.inj h; subst h
  exact y_zret C (g_nz hg) hQ ⟨Nat.zero_le _, Nat.zero_le _⟩ dX6_isPerson_13
theorem ct_M_isPerson {D : va_G} {dA : Nat → ClassId} {A : Nat → Prop} {s0 : State} {b0 : Nat} {l : Launch} {hid : Bool} {ad : Nat → Nat → Nat} {σ : g_S} {v1 : Int32} {r : Int32} (h : mF_M_isPerson σ v1 = some r) : g_Met gCl D dA A s0 b0 l yX6_isPerson cX6_isPerson 2 (some .boolean) 2 (0, 0) (gM hid) ad σ [.ref (ad 0 0), .int v1] (gM hid) ad σ (some (.int r)) :=
  g_Met.of pl_X6 (Nat.le_of_ble_eq_true rfl) (fun X C hQ hR _ _ hL _ es eb => mw_M_isPerson C hR hL h hQ)
theorem mw_M_refuse {X : g_F} {hid : Bool} (C : g_M gCl X cX6_refuse RX6 (some .int)) (hR : g_R X = g_rm 1 0 0) (hL : g_nL X = 1) {ad : Nat → Nat → Nat} {σ : g_S} {o : (Int32 × g_S)} (h : mF_M_refuse σ = some o) (hQ : g_MQ gCl X (gM hid) ad o.2 (some (.int o.1)) = g_Q X) : g_Y gCl X (gM hid) ad σ (0, 0) 0 [(0, .ref (ad 0 0))] [] := by
  unfold mF_M_refuse at h
  refine y_aload_n C dX6_refuse_0 0 rfl rfl ?_
  refine y_iconst (v := (1 : Int32)) C dX6_refuse_1 (by decide) ?_
  obtain ⟨σ1, hσ1, h⟩ := g_lt h
  refine pf_M_0 C hσ1 dX6_refuse_2 ?_
  refine y_iconst (v := (0 : Int32)) C dX6_refuse_5 (by decide) ?_
  replace h := Option.some.inj h; subst h
  exact y_iret C hQ ⟨Nat.zero_le _, Nat.zero_le _⟩ dX6_refuse_6
theorem ct_M_refuse {D : va_G} {dA : Nat → ClassId} {A : Nat → Prop} {s0 : State} {b0 : Nat} {l : Launch} {hid : Bool} {ad : Nat → Nat → Nat} {σ : g_S} {r : Int32} {σ1 : g_S} (h : mF_M_refuse σ = some (r, σ1)) : g_Met gCl D dA A s0 b0 l yX6_refuse cX6_refuse 1 (some .int) 1 (0, 0) (gM hid) ad σ [.ref (ad 0 0)] (gM hid) ad σ1 (some (.int r)) :=
  g_Met.of pl_X6 (Nat.le_of_ble_eq_true rfl) (fun X C hQ hR _ _ hL _ es eb => mw_M_refuse C hR hL h hQ)
theorem mw_M_lightOn {X : g_F} {hid : Bool} (C : g_M gCl X cX6_lightOn RX6 (some .int)) (hR : g_R X = g_rm 1 0 0) (hL : g_nL X = 2) {ad : Nat → Nat → Nat} {σ : g_S} {v1 : Int32} {o : Int32} (h : mF_M_lightOn σ v1 = some o) (hQ : g_MQ gCl X (gM hid) ad σ (some (.int o)) = g_Q X) : g_Y gCl X (gM hid) ad σ (0, 0) 0 [(0, .ref (ad 0 0)), (1, .int v1)] [] := by
  unfold mF_M_lightOn at h
  refine y_aload_n C dX6_lightOn_0 0 rfl rfl ?_
  refine gf_M_10 C dX6_lightOn_1 ?_
  refine y_iload_n C dX6_lightOn_4 1 rfl rfl ?_
  refine y_aload_n C dX6_lightOn_5 0 rfl rfl ?_
  refine gf_M_8 C dX6_lightOn_6 ?_
  obtain ⟨hg, h⟩ := g_gd h
  refine y_irem C dX6_lightOn_9 hg ?_
  obtain ⟨hg, h⟩ := g_gd h
  refine al_M_4 C nM_4_0 hg dX6_lightOn_10 ?_
  replace h := Option.some.inj h; subst h
  exact y_iret C hQ ⟨Nat.zero_le _, Nat.zero_le _⟩ dX6_lightOn_11
theorem ct_M_lightOn {D : va_G} {dA : Nat → ClassId} {A : Nat → Prop} {s0 : State} {b0 : Nat} {l : Launch} {hid : Bool} {ad : Nat → Nat → Nat} {σ : g_S} {v1 : Int32} {r : Int32} (h : mF_M_lightOn σ v1 = some r) : g_Met gCl D dA A s0 b0 l yX6_lightOn cX6_lightOn 2 (some .int) 1 (0, 0) (gM hid) ad σ [.ref (ad 0 0), .int v1] (gM hid) ad σ (some (.int r)) :=
  g_Met.of pl_X6 (Nat.le_of_ble_eq_true rfl) (fun X C hQ hR _ _ hL _ es eb => mw_M_lightOn C hR hL h hQ)
theorem mj_M_worked_50 {X : g_F} {LM : g_L} (C : g_M gCl X cX6_worked RX6 (some .int)) (hR : g_R X = g_rm 2 0 0) (hL : g_nL X = 3) {ad : Nat → Nat → Nat} {σ : g_S} {s0 : Int32} {o : Int32} (h : mJ_M_worked_50 s0 = some o) (hQ : g_MQ gCl X LM ad σ (some (.int o)) = g_Q X) : g_Y gCl X LM ad σ (0, 0) 50 [] [.int s0] := by
  unfold mJ_M_worked_50 at h
  obtain ⟨x1, hc, h⟩ := g_bd h
  refine y_callS C (As := [.int s0]) (rest := []) (lk_X6_154 C hR (by decide)) (ct_M_flag hc) rfl rfl (Nat.le_of_ble_eq_true rfl) ⟨Nat.zero_le _, Nat.zero_le _⟩ dX6_worked_50 ?_
  replace h := Option.some.inj h; subst h
  exact y_iret C hQ ⟨Nat.zero_le _, Nat.zero_le _⟩ dX6_worked_53
theorem mj_M_worked_64 {X : g_F} {LM : g_L} (C : g_M gCl X cX6_worked RX6 (some .int)) (hR : g_R X = g_rm 2 0 0) (hL : g_nL X = 3) {ad : Nat → Nat → Nat} {σ : g_S} {s0 : Int32} {o : Int32} (h : mJ_M_worked_64 s0 = some o) (hQ : g_MQ gCl X LM ad σ (some (.int o)) = g_Q X) : g_Y gCl X LM ad σ (0, 0) 64 [] [.int s0] := by
  unfold mJ_M_worked_64 at h
  obtain ⟨x2, hc, h⟩ := g_bd h
  refine y_callS C (As := [.int s0]) (rest := []) (lk_X6_154 C hR (by decide)) (ct_M_flag hc) rfl rfl (Nat.le_of_ble_eq_true rfl) ⟨Nat.zero_le _, Nat.zero_le _⟩ dX6_worked_64 ?_
  replace h := Option.some.inj h; subst h
  exact y_iret C hQ ⟨Nat.zero_le _, Nat.zero_le _⟩ dX6_worked_67
theorem mj_M_worked_78 {X : g_F} {LM : g_L} (C : g_M gCl X cX6_worked RX6 (some .int)) (hR : g_R X = g_rm 2 0 0) (hL : g_nL X = 3) {ad : Nat → Nat → Nat} {σ : g_S} {s0 : Int32} {o : Int32} (h : mJ_M_worked_78 s0 = some o) (hQ : g_MQ gCl X LM ad σ (some (.int o)) = g_Q X) : g_Y gCl X LM ad σ (0, 0) 78 [] [.int s0] := by
  unfold mJ_M_worked_78 at h
  obtain ⟨x3, hc, h⟩ := g_bd h
  refine y_callS C (As := [.int s0]) (rest := []) (lk_X6_154 C hR (by decide)) (ct_M_flag hc) rfl rfl (Nat.le_of_ble_eq_true rfl) ⟨Nat.zero_le _, Nat.zero_le _⟩ dX6_worked_78 ?_
  replace h := Option.some.inj h; subst h
  exact y_iret C hQ ⟨Nat.zero_le _, Nat.zero_le _⟩ dX6_worked_81
theorem mw_M_worked {X : g_F} {LM : g_L} (C : g_M gCl X cX6_worked RX6 (some .int)) (hR : g_R X = g_rm 2 0 0) (hL : g_nL X = 3) {ad : Nat → Nat → Nat} {σ : g_S} {v0 : Int32} {v1 : Int32} {v2 : Int32} {o : Int32} (h : mF_M_worked v0 v1 v2 = some o) (hQ : g_MQ gCl X LM ad σ (some (.int o)) = g_Q X) : g_Y gCl X LM ad σ (0, 0) 0 [(0, .int v0), (1, .int v1), (2, .int v2)] [] := by
  unfold mF_M_worked at h
  refine y_iload_n C dX6_worked_0 0 rfl rfl ?_
  by_cases hc0 : v0 = (0 : Int32)
  · replace h := g_it h hc0
    refine y_tswI (tgt := 40) (off := 39) C dX6_worked_1 hc0 (by decide) rfl ?_
    refine y_iload_n C dX6_worked_40 1 rfl rfl ?_
    refine y_iload_n C dX6_worked_41 2 rfl rfl ?_
    refine y_icmp_ge (tgt := 49) C dX6_worked_42 rfl (fun hc => ?_) (fun hc => ?_)
    · replace h := g_it h hc
      refine y_iconst (v := (0 : Int32)) C dX6_worked_49 (by decide) ?_
      refine y_sub (vs2 := []) [] rfl ?_
      exact mj_M_worked_50 C hR hL h hQ
    · replace h := g_if h hc
      refine y_iconst (v := (1 : Int32)) C dX6_worked_45 (by decide) ?_
      refine y_goto (tgt := 50) C dX6_worked_46 rfl ?_
      refine y_sub (vs2 := []) [] rfl ?_
      exact mj_M_worked_50 C hR hL h hQ
  replace h := g_if h hc0
  by_cases hc1 : v0 = (1 : Int32)
  · replace h := g_it h hc1
    refine y_tswI (tgt := 54) (off := 53) C dX6_worked_1 hc1 (by decide) rfl ?_
    refine y_iload_n C dX6_worked_54 1 rfl rfl ?_
    refine y_iload_n C dX6_worked_55 2 rfl rfl ?_
    refine y_icmp_le (tgt := 63) C dX6_worked_56 rfl (fun hc => ?_) (fun hc => ?_)
    · replace h := g_it h hc
      refine y_iconst (v := (0 : Int32)) C dX6_worked_63 (by decide) ?_
      refine y_sub (vs2 := []) [] rfl ?_
      exact mj_M_worked_64 C hR hL h hQ
    · replace h := g_if h hc
      refine y_iconst (v := (1 : Int32)) C dX6_worked_59 (by decide) ?_
      refine y_goto (tgt := 64) C dX6_worked_60 rfl ?_
      refine y_sub (vs2 := []) [] rfl ?_
      exact mj_M_worked_64 C hR hL h hQ
  replace h := g_if h hc1
  by_cases hc2 : v0 = (2 : Int32)
  · replace h := g_it h hc2
    refine y_tswI (tgt := 68) (off := 67) C dX6_worked_1 hc2 (by decide) rfl ?_
    refine y_iload_n C dX6_worked_68 1 rfl rfl ?_
    refine y_iload_n C dX6_worked_69 2 rfl rfl ?_
    refine y_icmp_ne (tgt := 77) C dX6_worked_70 rfl (fun hc => ?_) (fun hc => ?_)
    · replace h := g_if h hc
      refine y_iconst (v := (0 : Int32)) C dX6_worked_77 (by decide) ?_
      refine y_sub (vs2 := []) [] rfl ?_
      exact mj_M_worked_78 C hR hL h hQ
    · replace h := g_it h hc
      refine y_iconst (v := (1 : Int32)) C dX6_worked_73 (by decide) ?_
      refine y_goto (tgt := 78) C dX6_worked_74 rfl ?_
      refine y_sub (vs2 := []) [] rfl ?_
      exact mj_M_worked_78 C hR hL h hQ
  replace h := g_if h hc2
  by_cases hc3 : v0 = (3 : Int32)
  · replace h := g_it h hc3
    refine y_tswI (tgt := 82) (off := 81) C dX6_worked_1 hc3 (by decide) rfl ?_
    refine y_iload_n C dX6_worked_82 1 rfl rfl ?_
    refine y_iload_n C dX6_worked_83 2 rfl rfl ?_
    refine y_iadd C dX6_worked_84 ?_
    replace h := Option.some.inj h; subst h
    exact y_iret C hQ ⟨Nat.zero_le _, Nat.zero_le _⟩ dX6_worked_85
  replace h := g_if h hc3
  by_cases hc4 : v0 = (4 : Int32)
  · replace h := g_it h hc4
    refine y_tswI (tgt := 86) (off := 85) C dX6_worked_1 hc4 (by decide) rfl ?_
    refine y_iload_n C dX6_worked_86 1 rfl rfl ?_
    refine y_iload_n C dX6_worked_87 2 rfl rfl ?_
    refine y_isub C dX6_worked_88 ?_
    replace h := Option.some.inj h; subst h
    exact y_iret C hQ ⟨Nat.zero_le _, Nat.zero_le _⟩ dX6_worked_89
  replace h := g_if h hc4
  by_cases hc5 : v0 = (5 : Int32)
  · replace h := g_it h hc5
    refine y_tswI (tgt := 90) (off := 89) C dX6_worked_1 hc5 (by decide) rfl ?_
    refine y_iload_n C dX6_worked_90 1 rfl rfl ?_
    refine y_iload_n C dX6_worked_91 2 rfl rfl ?_
    refine y_imul C dX6_worked_92 ?_
    replace h := Option.some.inj h; subst h
    exact y_iret C hQ ⟨Nat.zero_le _, Nat.zero_le _⟩ dX6_worked_93
  replace h := g_if h hc5
  refine y_tswO (tgt := 94) C dX6_worked_1 (by have e0 := lv_neT hc0 (show (0 : Int32).toInt = 0 by decide); have e1 := lv_neT hc1 (show (1 : Int32).toInt = 1 by decide); have e2 := lv_neT hc2 (show (2 : Int32).toInt = 2 by decide); have e3 := lv_neT hc3 (show (3 : Int32).toInt = 3 by decide); have e4 := lv_neT hc4 (show (4 : Int32).toInt = 4 by decide); have e5 := lv_neT hc5 (show (5 : Int32).toInt = 5 by decide); omega) rfl ?_
  refine y_iload_n C dX6_worked_94 2 rfl rfl ?_
  refine y_if_ne (tgt := 102) C dX6_worked_95 rfl (fun hc => ?_) (fun hc => ?_)
  · replace h := g_if h hc
    refine y_iload_n C dX6_worked_102 1 rfl rfl ?_
    refine y_iload_n C dX6_worked_103 2 rfl rfl ?_
    obtain ⟨hg, h⟩ := g_gd h
    refine y_idiv C dX6_worked_104 hg ?_
    replace h := Option.some.inj h; subst h
    exact y_iret C hQ ⟨Nat.zero_le _, Nat.zero_le _⟩ dX6_worked_105
  · replace h := g_it h hc
    refine y_iconst (v := (0 : Int32)) C dX6_worked_98 (by decide) ?_
    refine y_goto (tgt := 105) C dX6_worked_99 rfl ?_
    replace h := Option.some.inj h; subst h
    exact y_iret C hQ ⟨Nat.zero_le _, Nat.zero_le _⟩ dX6_worked_105
theorem ct_M_worked {D : va_G} {dA : Nat → ClassId} {A : Nat → Prop} {s0 : State} {b0 : Nat} {l : Launch} {LM : g_L} {ad : Nat → Nat → Nat} {σ : g_S} {v0 : Int32} {v1 : Int32} {v2 : Int32} {r : Int32} (h : mF_M_worked v0 v1 v2 = some r) : g_Met gCl D dA A s0 b0 l yX6_worked cX6_worked 3 (some .int) 2 (0, 0) LM ad σ [.int v0, .int v1, .int v2] LM ad σ (some (.int r)) :=
  g_Met.of pl_X6 (Nat.le_of_ble_eq_true rfl) (fun X C hQ hR _ _ hL _ es eb => mw_M_worked C hR hL h hQ)
theorem mj_M_ruled_115 {X : g_F} (C : g_M gCl X cX6_ruled RX6 (some .int)) (hR : g_R X = g_rm 3 0 0) (hL : g_nL X = 4) {ad : Nat → Nat → Nat} {σ : g_S} {v1 : Int32} {v2 : Int32} {s1 : Int32} {s2 : Int32} {o : ((Int32 × Int32 × g_S) ⊕ g_S)} (h : mJ_M_ruled_115 σ v1 v2 s1 s2 = some o) (kl : ∀ z, o = .inl z → g_Y gCl X (gM false) ad z.2.2 (0, 0) 4 [(0, .ref (ad 0 0)), (1, .int z.1), (2, .int z.2.1)] []) (kx : ∀ z, o = .inr z → g_Y gCl X (gM false) ad z (0, 0) 125 [(0, .ref (ad 0 0))] []) : g_Y gCl X (gM false) ad σ (0, 0) 115 [(0, .ref (ad 0 0)), (1, .int v1), (2, .int v2)] [.int s2, .int s1, .ref (ad 9 0)] := by
  unfold mJ_M_ruled_115 at h
  obtain ⟨hg, h⟩ := g_gd h
  obtain ⟨σ2, hσ2, h⟩ := g_lt h
  refine as_M_9 C nM_9_0 hσ2 hg dX6_ruled_115 ?_
  obtain ⟨x3, hx3, h⟩ := g_lt h
  refine y_iinc (c := (1 : Int32)) (vs1 := [(1, .int x3), (0, .ref (ad 0 0)), (2, .int v2)]) C hx3 (by decide) dX6_ruled_116 1 rfl (g_lL hL rfl) rfl ?_
  obtain ⟨x4, hx4, h⟩ := g_lt h
  refine y_iinc (c := (1 : Int32)) (vs1 := [(2, .int x4), (1, .int x3), (0, .ref (ad 0 0))]) C hx4 (by decide) dX6_ruled_119 2 rfl (g_lL hL rfl) rfl ?_
  refine y_goto (tgt := 4) C dX6_ruled_122 rfl ?_
  refine y_sub (vs2 := [(0, .ref (ad 0 0)), (1, .int x3), (2, .int x4)]) [2, 1, 0] rfl ?_
  exact kl _ (Option.some.inj h).symm
theorem ml_M_ruled_4 {X : g_F} (C : g_M gCl X cX6_ruled RX6 (some .int)) (hR : g_R X = g_rm 3 0 0) (hL : g_nL X = 4) {ad : Nat → Nat → Nat} {σ : g_S} (n : Nat) (v : (Int32 × Int32 × g_S)) (e : g_S) (h : g_lp (fun v => mB_M_ruled_4 v.2.2 v.1 v.2.1) n v = some e) (kx : g_Y gCl X (gM false) ad e (0, 0) 125 [(0, .ref (ad 0 0))] []) : g_Y gCl X (gM false) ad v.2.2 (0, 0) 4 [(0, .ref (ad 0 0)), (1, .int v.1), (2, .int v.2.1)] [] := by
  refine g_loop (P := fun v => g_Y gCl X (gM false) ad v.2.2 (0, 0) 4 [(0, .ref (ad 0 0)), (1, .int v.1), (2, .int v.2.1)] []) (T := fun e => g_Y gCl X (gM false) ad e (0, 0) 125 [(0, .ref (ad 0 0))] []) ?_ n v e h kx
  clear h kx
  clear n v e
  intro v o h kl kx
  obtain ⟨v1, v2, σ⟩ := v
  have h : mB_M_ruled_4 σ v1 v2 = some o := h
  unfold mB_M_ruled_4 at h
  show g_Y gCl X (gM false) ad σ (0, 0) 4 [(0, .ref (ad 0 0)), (1, .int v1), (2, .int v2)] []
  refine y_iload_n C dX6_ruled_4 2 rfl rfl ?_
  refine y_aload_n C dX6_ruled_5 0 rfl rfl ?_
  refine gf_M_23 C dX6_ruled_6 ?_
  refine y_icmp_ge (tgt := 125) C dX6_ruled_9 rfl (fun hc => ?_) (fun hc => ?_)
  · replace h := g_it h hc
    refine y_sub (vs2 := [(0, .ref (ad 0 0))]) [0] rfl ?_
    exact kx _ (Option.some.inj h).symm
  · replace h := g_if h hc
    refine y_aload_n C dX6_ruled_12 0 rfl rfl ?_
    refine gf_M_21 C dX6_ruled_13 ?_
    refine y_iload_n C dX6_ruled_16 2 rfl rfl ?_
    obtain ⟨hg, h⟩ := g_gd h
    refine al_M_8 C nM_8_0 hg dX6_ruled_17 ?_
    obtain ⟨x1, hx1, h⟩ := g_lt h
    refine y_istore_n (vs1 := [(3, .int x1), (0, .ref (ad 0 0)), (1, .int v1), (2, .int v2)]) C hx1 dX6_ruled_18 rfl (g_lL hL rfl) rfl ?_
    refine y_iload_n C dX6_ruled_19 0 rfl rfl ?_
    refine y_sipush (v := (3000 : Int32)) C dX6_ruled_20 (by decide) ?_
    refine y_icmp_ne (tgt := 46) C dX6_ruled_23 rfl (fun hc => ?_) (fun hc => ?_)
    · replace h := g_if h hc
      refine y_iload_n C dX6_ruled_46 0 rfl rfl ?_
      refine y_sipush (v := (2000 : Int32)) C dX6_ruled_47 (by decide) ?_
      refine y_icmp_lt (tgt := 89) C dX6_ruled_50 rfl (fun hc => ?_) (fun hc => ?_)
      · replace h := g_it h hc
        refine y_aload_n C dX6_ruled_89 1 rfl rfl ?_
        refine gf_M_25 C dX6_ruled_90 ?_
        refine y_iload_n C dX6_ruled_93 2 rfl rfl ?_
        refine y_iload_n C dX6_ruled_94 0 rfl rfl ?_
        refine y_sipush (v := (1000 : Int32)) C dX6_ruled_95 (by decide) ?_
        refine y_icmp_lt (tgt := 114) C dX6_ruled_98 rfl (fun hc => ?_) (fun hc => ?_)
        · replace h := g_it h hc
          refine y_iload_n C dX6_ruled_114 0 rfl rfl ?_
          refine y_sub (vs2 := [(0, .ref (ad 0 0)), (1, .int v1), (2, .int v2)]) [1, 2, 3] rfl ?_
          exact mj_M_ruled_115 C hR hL h kl kx
        · replace h := g_if h hc
          refine y_aload_n C dX6_ruled_101 1 rfl rfl ?_
          refine gf_M_26 C dX6_ruled_102 ?_
          refine y_iload_n C dX6_ruled_105 0 rfl rfl ?_
          refine y_sipush (v := (1000 : Int32)) C dX6_ruled_106 (by decide) ?_
          refine y_isub C dX6_ruled_109 ?_
          obtain ⟨hg, h⟩ := g_gd h
          refine al_M_10 C nM_10_0 hg dX6_ruled_110 ?_
          refine y_goto (tgt := 115) C dX6_ruled_111 rfl ?_
          refine y_sub (vs2 := [(0, .ref (ad 0 0)), (1, .int v1), (2, .int v2)]) [1, 2, 3] rfl ?_
          exact mj_M_ruled_115 C hR hL h kl kx
      · replace h := g_if h hc
        obtain ⟨x5, hx5, h⟩ := g_lt h
        refine y_iinc (c := (-1 : Int32)) (vs1 := [(1, .int x5), (3, .int x1), (0, .ref (ad 0 0)), (2, .int v2)]) C hx5 (by decide) dX6_ruled_53 2 rfl (g_lL hL rfl) rfl ?_
        refine y_aload_n C dX6_ruled_56 2 rfl rfl ?_
        refine gf_M_25 C dX6_ruled_57 ?_
        refine y_iload_n C dX6_ruled_60 0 rfl rfl ?_
        refine y_iconst (v := (1 : Int32)) C dX6_ruled_61 (by decide) ?_
        refine y_isub C dX6_ruled_62 ?_
        refine y_iload_n C dX6_ruled_63 1 rfl rfl ?_
        refine y_sipush (v := (2000 : Int32)) C dX6_ruled_64 (by decide) ?_
        refine y_isub C dX6_ruled_67 ?_
        refine y_aload_n C dX6_ruled_68 2 rfl rfl ?_
        refine gf_M_25 C dX6_ruled_69 ?_
        refine y_iload_n C dX6_ruled_72 0 rfl rfl ?_
        refine y_iconst (v := (1 : Int32)) C dX6_ruled_73 (by decide) ?_
        refine y_isub C dX6_ruled_74 ?_
        obtain ⟨hg, h⟩ := g_gd h
        refine al_M_9 C nM_9_0 hg dX6_ruled_75 ?_
        refine y_aload_n C dX6_ruled_76 2 rfl rfl ?_
        refine gf_M_25 C dX6_ruled_77 ?_
        refine y_iload_n C dX6_ruled_80 0 rfl rfl ?_
        obtain ⟨hg, h⟩ := g_gd h
        refine al_M_9 C nM_9_0 hg dX6_ruled_81 ?_
        obtain ⟨x6, hc, h⟩ := g_bd h
        refine y_callS C (As := [.int (x1 - (2000 : Int32)), .int (σ.1 9 0 (x5 - (1 : Int32)).toNatClampNeg), .int (σ.1 9 0 x5.toNatClampNeg)]) (rest := [.int (x5 - (1 : Int32)), .ref (ad 9 0)]) (lk_X6_258 C hR (by decide)) (ct_M_worked hc) rfl rfl (Nat.le_of_ble_eq_true rfl) ⟨Nat.zero_le _, Nat.zero_le _⟩ dX6_ruled_82 ?_
        obtain ⟨hg, h⟩ := g_gd h
        obtain ⟨σ7, hσ7, h⟩ := g_lt h
        refine as_M_9 C nM_9_0 hσ7 hg dX6_ruled_85 ?_
        refine y_goto (tgt := 119) C dX6_ruled_86 rfl ?_
        obtain ⟨x8, hx8, h⟩ := g_lt h
        refine y_iinc (c := (1 : Int32)) (vs1 := [(2, .int x8), (1, .int x5), (3, .int x1), (0, .ref (ad 0 0))]) C hx8 (by decide) dX6_ruled_119 3 rfl (g_lL hL rfl) rfl ?_
        refine y_goto (tgt := 4) C dX6_ruled_122 rfl ?_
        refine y_sub (vs2 := [(0, .ref (ad 0 0)), (1, .int x5), (2, .int x8)]) [3, 1, 0] rfl ?_
        exact kl _ (Option.some.inj h).symm
    · replace h := g_it h hc
      refine y_aload_n C dX6_ruled_26 1 rfl rfl ?_
      refine gf_M_25 C dX6_ruled_27 ?_
      refine y_iload_n C dX6_ruled_30 2 rfl rfl ?_
      refine y_iconst (v := (1 : Int32)) C dX6_ruled_31 (by decide) ?_
      refine y_isub C dX6_ruled_32 ?_
      refine y_aload_n C dX6_ruled_33 1 rfl rfl ?_
      refine gf_M_25 C dX6_ruled_34 ?_
      refine y_iload_n C dX6_ruled_37 2 rfl rfl ?_
      refine y_iconst (v := (1 : Int32)) C dX6_ruled_38 (by decide) ?_
      refine y_isub C dX6_ruled_39 ?_
      obtain ⟨hg, h⟩ := g_gd h
      refine al_M_9 C nM_9_0 hg dX6_ruled_40 ?_
      refine y_ineg C dX6_ruled_41 ?_
      obtain ⟨hg, h⟩ := g_gd h
      obtain ⟨σ9, hσ9, h⟩ := g_lt h
      refine as_M_9 C nM_9_0 hσ9 hg dX6_ruled_42 ?_
      refine y_goto (tgt := 119) C dX6_ruled_43 rfl ?_
      obtain ⟨x10, hx10, h⟩ := g_lt h
      refine y_iinc (c := (1 : Int32)) (vs1 := [(2, .int x10), (3, .int x1), (0, .ref (ad 0 0)), (1, .int v1)]) C hx10 (by decide) dX6_ruled_119 3 rfl (g_lL hL rfl) rfl ?_
      refine y_goto (tgt := 4) C dX6_ruled_122 rfl ?_
      refine y_sub (vs2 := [(0, .ref (ad 0 0)), (1, .int v1), (2, .int x10)]) [2, 3, 0] rfl ?_
      exact kl _ (Option.some.inj h).symm
theorem mw_M_ruled {X : g_F} (C : g_M gCl X cX6_ruled RX6 (some .int)) (hR : g_R X = g_rm 3 0 0) (hL : g_nL X = 4) {ad : Nat → Nat → Nat} {σ : g_S} {o : (Int32 × g_S)} (h : mF_M_ruled σ = some o) (hQ : g_MQ gCl X (gM false) ad o.2 (some (.int o.1)) = g_Q X) : g_Y gCl X (gM false) ad σ (0, 0) 0 [(0, .ref (ad 0 0))] [] := by
  unfold mF_M_ruled at h
  refine y_iconst (v := (0 : Int32)) C dX6_ruled_0 (by decide) ?_
  refine y_istore_n (vs1 := [(1, .int (0 : Int32)), (0, .ref (ad 0 0))]) C rfl dX6_ruled_1 rfl (g_lL hL rfl) rfl ?_
  refine y_iconst (v := (0 : Int32)) C dX6_ruled_2 (by decide) ?_
  refine y_istore_n (vs1 := [(2, .int (0 : Int32)), (1, .int (0 : Int32)), (0, .ref (ad 0 0))]) C rfl dX6_ruled_3 rfl (g_lL hL rfl) rfl ?_
  refine y_sub (vs2 := [(0, .ref (ad 0 0)), (1, .int (0 : Int32)), (2, .int (0 : Int32))]) [2, 1, 0] rfl ?_
  obtain ⟨e11, he11, h⟩ := g_bd h
  refine ml_M_ruled_4 C hR hL (σ := σ) _ _ _ he11 ?_
  refine y_aload_n C dX6_ruled_125 0 rfl rfl ?_
  refine gf_M_23 C dX6_ruled_126 ?_
  refine y_if_ne (tgt := 148) C dX6_ruled_129 rfl (fun hc => ?_) (fun hc => ?_)
  · replace h := g_if h hc
    refine y_aload_n C dX6_ruled_148 0 rfl rfl ?_
    refine gf_M_25 C dX6_ruled_149 ?_
    refine y_iconst (v := (0 : Int32)) C dX6_ruled_152 (by decide) ?_
    obtain ⟨hg, h⟩ := g_gd h
    refine al_M_9 C nM_9_0 hg dX6_ruled_153 ?_
    replace h := Option.some.inj h; subst h
    exact y_iret C hQ ⟨Nat.zero_le _, Nat.zero_le _⟩ dX6_ruled_154
  · replace h := g_it h hc
    refine y_aload_n C dX6_ruled_132 0 rfl rfl ?_
    refine gf_M_26 C dX6_ruled_133 ?_
    refine y_iconst (v := (1 : Int32)) C dX6_ruled_136 (by decide) ?_
    obtain ⟨hg, h⟩ := g_gd h
    refine al_M_10 C nM_10_0 hg dX6_ruled_137 ?_
    refine y_aload_n C dX6_ruled_138 0 rfl rfl ?_
    refine gf_M_26 C dX6_ruled_139 ?_
    refine y_iconst (v := (0 : Int32)) C dX6_ruled_142 (by decide) ?_
    obtain ⟨hg, h⟩ := g_gd h
    refine al_M_10 C nM_10_0 hg dX6_ruled_143 ?_
    refine y_isub C dX6_ruled_144 ?_
    refine y_goto (tgt := 154) C dX6_ruled_145 rfl ?_
    replace h := Option.some.inj h; subst h
    exact y_iret C hQ ⟨Nat.zero_le _, Nat.zero_le _⟩ dX6_ruled_154
theorem ct_M_ruled {D : va_G} {dA : Nat → ClassId} {A : Nat → Prop} {s0 : State} {b0 : Nat} {l : Launch} {ad : Nat → Nat → Nat} {σ : g_S} {r : Int32} {σ1 : g_S} (h : mF_M_ruled σ = some (r, σ1)) : g_Met gCl D dA A s0 b0 l yX6_ruled cX6_ruled 4 (some .int) 3 (0, 0) (gM false) ad σ [.ref (ad 0 0)] (gM false) ad σ1 (some (.int r)) :=
  g_Met.of pl_X6 (Nat.le_of_ble_eq_true rfl) (fun X C hQ hR _ _ hL _ es eb => mw_M_ruled C hR hL h hQ)
theorem mj_M_reachBy_32 {X : g_F} (C : g_M gCl X cX6_reachBy RX6 (some .int)) (hR : g_R X = g_rm 4 0 0) (hL : g_nL X = 6) {u0 : Nat} (hu_u0 : u0 < g_n (gM false) 1) {ad : Nat → Nat → Nat} {σ : g_S} {v2 : Int32} {v3 : Int32} {v5 : Int32} {s0 : Int32} {s1 : Int32} {o : ((Int32 × Int32) ⊕ Int32)} (h : mJ_M_reachBy_32 σ u0 v2 v3 v5 s0 s1 = some o) (kl : ∀ z, o = .inl z → g_Y gCl X (gM false) ad σ (0, 0) 6 [(0, .ref (ad 0 0)), (1, .ref (ad 1 u0)), (2, .int v2), (3, .int v3), (4, .int z.1), (5, .int z.2)] []) (kx : ∀ z, o = .inr z → g_Y gCl X (gM false) ad σ (0, 0) 44 [(0, .ref (ad 0 0)), (1, .ref (ad 1 u0)), (2, .int v2), (3, .int v3), (4, .int z)] []) : g_Y gCl X (gM false) ad σ (0, 0) 32 [(0, .ref (ad 0 0)), (1, .ref (ad 1 u0)), (2, .int v2), (3, .int v3), (5, .int v5)] [.int s1, .int s0] := by
  unfold mJ_M_reachBy_32 at h
  obtain ⟨x1, hc, h⟩ := g_bd h
  refine y_callS C (As := [.int s1]) (rest := [.int s0]) (lk_X6_154 C hR (by decide)) (ct_M_flag hc) rfl rfl (Nat.le_of_ble_eq_true rfl) ⟨Nat.zero_le _, Nat.zero_le _⟩ dX6_reachBy_32 ?_
  refine y_iadd C dX6_reachBy_35 ?_
  obtain ⟨x2, hx2, h⟩ := g_lt h
  refine y_istore (vs1 := [(4, .int x2), (0, .ref (ad 0 0)), (1, .ref (ad 1 u0)), (2, .int v2), (3, .int v3), (5, .int v5)]) C hx2 dX6_reachBy_36 (g_lL hL rfl) rfl ?_
  obtain ⟨x3, hx3, h⟩ := g_lt h
  refine y_iinc (c := (1 : Int32)) (vs1 := [(5, .int x3), (4, .int x2), (0, .ref (ad 0 0)), (1, .ref (ad 1 u0)), (2, .int v2), (3, .int v3)]) C hx3 (by decide) dX6_reachBy_38 5 rfl (g_lL hL rfl) rfl ?_
  refine y_goto (tgt := 6) C dX6_reachBy_41 rfl ?_
  refine y_sub (vs2 := [(0, .ref (ad 0 0)), (1, .ref (ad 1 u0)), (2, .int v2), (3, .int v3), (4, .int x2), (5, .int x3)]) [2, 3, 4, 5, 1, 0] rfl ?_
  exact kl _ (Option.some.inj h).symm
theorem ml_M_reachBy_6 {X : g_F} (C : g_M gCl X cX6_reachBy RX6 (some .int)) (hR : g_R X = g_rm 4 0 0) (hL : g_nL X = 6) {u0 : Nat} (hu_u0 : u0 < g_n (gM false) 1) {ad : Nat → Nat → Nat} {σ : g_S} {v2 : Int32} {v3 : Int32} (n : Nat) (v : (Int32 × Int32)) (e : Int32) (h : g_lp (fun v => mB_M_reachBy_6 σ u0 v2 v3 v.1 v.2) n v = some e) (kx : g_Y gCl X (gM false) ad σ (0, 0) 44 [(0, .ref (ad 0 0)), (1, .ref (ad 1 u0)), (2, .int v2), (3, .int v3), (4, .int e)] []) : g_Y gCl X (gM false) ad σ (0, 0) 6 [(0, .ref (ad 0 0)), (1, .ref (ad 1 u0)), (2, .int v2), (3, .int v3), (4, .int v.1), (5, .int v.2)] [] := by
  refine g_loop (P := fun v => g_Y gCl X (gM false) ad σ (0, 0) 6 [(0, .ref (ad 0 0)), (1, .ref (ad 1 u0)), (2, .int v2), (3, .int v3), (4, .int v.1), (5, .int v.2)] []) (T := fun e => g_Y gCl X (gM false) ad σ (0, 0) 44 [(0, .ref (ad 0 0)), (1, .ref (ad 1 u0)), (2, .int v2), (3, .int v3), (4, .int e)] []) ?_ n v e h kx
  clear h kx
  clear n v e
  intro v o h kl kx
  obtain ⟨v4, v5⟩ := v
  have h : mB_M_reachBy_6 σ u0 v2 v3 v4 v5 = some o := h
  unfold mB_M_reachBy_6 at h
  show g_Y gCl X (gM false) ad σ (0, 0) 6 [(0, .ref (ad 0 0)), (1, .ref (ad 1 u0)), (2, .int v2), (3, .int v3), (4, .int v4), (5, .int v5)] []
  refine y_iload C dX6_reachBy_6 5 rfl ?_
  refine y_aload_n C dX6_reachBy_8 0 rfl rfl ?_
  refine gf_M_5 C dX6_reachBy_9 ?_
  refine y_icmp_ge (tgt := 44) C dX6_reachBy_12 rfl (fun hc => ?_) (fun hc => ?_)
  · replace h := g_it h hc
    refine y_sub (vs2 := [(0, .ref (ad 0 0)), (1, .ref (ad 1 u0)), (2, .int v2), (3, .int v3), (4, .int v4)]) [0, 1, 2, 3, 4] rfl ?_
    exact kx _ (Option.some.inj h).symm
  · replace h := g_if h hc
    refine y_iload C dX6_reachBy_15 4 rfl ?_
    refine y_aload_n C dX6_reachBy_17 1 rfl rfl ?_
    refine y_iload C dX6_reachBy_18 5 rfl ?_
    obtain ⟨hg, h⟩ := g_gd h
    refine al_M_1 C hu_u0 hg dX6_reachBy_20 ?_
    refine y_aload_n C dX6_reachBy_21 1 rfl rfl ?_
    refine y_iload_n C dX6_reachBy_22 2 rfl rfl ?_
    obtain ⟨hg, h⟩ := g_gd h
    refine al_M_1 C hu_u0 hg dX6_reachBy_23 ?_
    refine y_icmp_ne (tgt := 31) C dX6_reachBy_24 rfl (fun hc => ?_) (fun hc => ?_)
    · replace h := g_if h hc
      refine y_iconst (v := (0 : Int32)) C dX6_reachBy_31 (by decide) ?_
      refine y_sub (vs2 := [(0, .ref (ad 0 0)), (1, .ref (ad 1 u0)), (2, .int v2), (3, .int v3), (5, .int v5)]) [0, 1, 2, 3, 5] rfl ?_
      exact mj_M_reachBy_32 C hR hL hu_u0 h kl kx
    · replace h := g_it h hc
      refine y_iconst (v := (1 : Int32)) C dX6_reachBy_27 (by decide) ?_
      refine y_goto (tgt := 32) C dX6_reachBy_28 rfl ?_
      refine y_sub (vs2 := [(0, .ref (ad 0 0)), (1, .ref (ad 1 u0)), (2, .int v2), (3, .int v3), (5, .int v5)]) [0, 1, 2, 3, 5] rfl ?_
      exact mj_M_reachBy_32 C hR hL hu_u0 h kl kx
theorem mw_M_reachBy {X : g_F} (C : g_M gCl X cX6_reachBy RX6 (some .int)) (hR : g_R X = g_rm 4 0 0) (hL : g_nL X = 6) {u0 : Nat} (hu_u0 : u0 < g_n (gM false) 1) {ad : Nat → Nat → Nat} {σ : g_S} {v2 : Int32} {v3 : Int32} {o : (Int32 × g_S)} (h : mF_M_reachBy σ u0 v2 v3 = some o) (hQ : g_MQ gCl X (gM false) ad o.2 (some (.int o.1)) = g_Q X) : g_Y gCl X (gM false) ad σ (0, 0) 0 [(0, .ref (ad 0 0)), (1, .ref (ad 1 u0)), (2, .int v2), (3, .int v3)] [] := by
  unfold mF_M_reachBy at h
  refine y_iconst (v := (0 : Int32)) C dX6_reachBy_0 (by decide) ?_
  refine y_istore (vs1 := [(4, .int (0 : Int32)), (0, .ref (ad 0 0)), (1, .ref (ad 1 u0)), (2, .int v2), (3, .int v3)]) C rfl dX6_reachBy_1 (g_lL hL rfl) rfl ?_
  refine y_iconst (v := (0 : Int32)) C dX6_reachBy_3 (by decide) ?_
  refine y_istore (vs1 := [(5, .int (0 : Int32)), (4, .int (0 : Int32)), (0, .ref (ad 0 0)), (1, .ref (ad 1 u0)), (2, .int v2), (3, .int v3)]) C rfl dX6_reachBy_4 (g_lL hL rfl) rfl ?_
  refine y_sub (vs2 := [(0, .ref (ad 0 0)), (1, .ref (ad 1 u0)), (2, .int v2), (3, .int v3), (4, .int (0 : Int32)), (5, .int (0 : Int32))]) [2, 3, 4, 5, 1, 0] rfl ?_
  obtain ⟨e4, he4, h⟩ := g_bd h
  refine ml_M_reachBy_6 C hR hL hu_u0 (σ := σ) _ _ _ he4 ?_
  refine y_aload_n C dX6_reachBy_44 0 rfl rfl ?_
  refine gf_M_26 C dX6_reachBy_45 ?_
  refine y_iconst (v := (0 : Int32)) C dX6_reachBy_48 (by decide) ?_
  refine y_iload_n C dX6_reachBy_49 3 rfl rfl ?_
  obtain ⟨hg, h⟩ := g_gd h
  obtain ⟨σ5, hσ5, h⟩ := g_lt h
  refine as_M_10 C nM_10_0 hσ5 hg dX6_reachBy_50 ?_
  refine y_aload_n C dX6_reachBy_51 0 rfl rfl ?_
  refine gf_M_26 C dX6_reachBy_52 ?_
  refine y_iconst (v := (1 : Int32)) C dX6_reachBy_55 (by decide) ?_
  refine y_aload_n C dX6_reachBy_56 0 rfl rfl ?_
  refine y_aload_n C dX6_reachBy_57 1 rfl rfl ?_
  refine y_bipush (v := (40 : Int32)) C dX6_reachBy_58 (by decide) ?_
  obtain ⟨hg, h⟩ := g_gd h
  refine al_M_1 C hu_u0 hg dX6_reachBy_60 ?_
  obtain ⟨x6, hc, h⟩ := g_bd h
  refine y_callV C (As := [.int (σ5.1 1 u0 (40 : Int32).toNatClampNeg)]) (rest := [.int (1 : Int32), .ref (ad 10 0)]) (hu := nM_0_0) (hc := (rfl : gCl[5]? = some (RX6, TX6, 49))) (hcell := obM_0) (lk_X6_262 C hR (by decide)) (ct_M_lightOn hc) rfl rfl (Nat.le_of_ble_eq_true rfl) ⟨Nat.zero_le _, Nat.zero_le _⟩ dX6_reachBy_61 ?_
  obtain ⟨hg, h⟩ := g_gd h
  obtain ⟨σ7, hσ7, h⟩ := g_lt h
  refine as_M_10 C nM_10_0 hσ7 hg dX6_reachBy_64 ?_
  refine y_aload_n C dX6_reachBy_65 0 rfl rfl ?_
  refine gf_M_26 C dX6_reachBy_66 ?_
  refine y_iconst (v := (2 : Int32)) C dX6_reachBy_69 (by decide) ?_
  refine y_aload_n C dX6_reachBy_70 1 rfl rfl ?_
  refine y_bipush (v := (24 : Int32)) C dX6_reachBy_71 (by decide) ?_
  refine y_iload_n C dX6_reachBy_73 2 rfl rfl ?_
  refine y_iadd C dX6_reachBy_74 ?_
  obtain ⟨hg, h⟩ := g_gd h
  refine al_M_1 C hu_u0 hg dX6_reachBy_75 ?_
  obtain ⟨x8, hc, h⟩ := g_bd h
  refine y_callS C (As := [.int (σ7.1 1 u0 ((24 : Int32) + v2).toNatClampNeg)]) (rest := [.int (2 : Int32), .ref (ad 10 0)]) (lk_X6_265 C hR (by decide)) (ct_J8_bitCount hc) rfl rfl (Nat.le_of_ble_eq_true rfl) ⟨Nat.zero_le _, Nat.zero_le _⟩ dX6_reachBy_76 ?_
  obtain ⟨hg, h⟩ := g_gd h
  obtain ⟨σ9, hσ9, h⟩ := g_lt h
  refine as_M_10 C nM_10_0 hσ9 hg dX6_reachBy_79 ?_
  refine y_aload_n C dX6_reachBy_80 0 rfl rfl ?_
  refine gf_M_26 C dX6_reachBy_81 ?_
  refine y_iconst (v := (3 : Int32)) C dX6_reachBy_84 (by decide) ?_
  refine y_aload_n C dX6_reachBy_85 1 rfl rfl ?_
  refine y_bipush (v := (8 : Int32)) C dX6_reachBy_86 (by decide) ?_
  refine y_iload_n C dX6_reachBy_88 2 rfl rfl ?_
  refine y_iadd C dX6_reachBy_89 ?_
  obtain ⟨hg, h⟩ := g_gd h
  refine al_M_1 C hu_u0 hg dX6_reachBy_90 ?_
  obtain ⟨hg, h⟩ := g_gd h
  obtain ⟨σ10, hσ10, h⟩ := g_lt h
  refine as_M_10 C nM_10_0 hσ10 hg dX6_reachBy_91 ?_
  refine y_aload_n C dX6_reachBy_92 0 rfl rfl ?_
  refine gf_M_26 C dX6_reachBy_93 ?_
  refine y_iconst (v := (4 : Int32)) C dX6_reachBy_96 (by decide) ?_
  refine y_aload_n C dX6_reachBy_97 1 rfl rfl ?_
  refine y_iload_n C dX6_reachBy_98 2 rfl rfl ?_
  obtain ⟨hg, h⟩ := g_gd h
  refine al_M_1 C hu_u0 hg dX6_reachBy_99 ?_
  refine y_aload_n C dX6_reachBy_100 0 rfl rfl ?_
  refine gf_M_4 C dX6_reachBy_101 ?_
  obtain ⟨hg, h⟩ := g_gd h
  refine y_idiv C dX6_reachBy_104 hg ?_
  obtain ⟨hg, h⟩ := g_gd h
  obtain ⟨σ11, hσ11, h⟩ := g_lt h
  refine as_M_10 C nM_10_0 hσ11 hg dX6_reachBy_105 ?_
  refine y_aload_n C dX6_reachBy_106 0 rfl rfl ?_
  refine gf_M_26 C dX6_reachBy_107 ?_
  refine y_iconst (v := (5 : Int32)) C dX6_reachBy_110 (by decide) ?_
  refine y_aload_n C dX6_reachBy_111 1 rfl rfl ?_
  refine y_iload_n C dX6_reachBy_112 2 rfl rfl ?_
  obtain ⟨hg, h⟩ := g_gd h
  refine al_M_1 C hu_u0 hg dX6_reachBy_113 ?_
  refine y_aload_n C dX6_reachBy_114 0 rfl rfl ?_
  refine gf_M_4 C dX6_reachBy_115 ?_
  obtain ⟨hg, h⟩ := g_gd h
  refine y_irem C dX6_reachBy_118 hg ?_
  obtain ⟨hg, h⟩ := g_gd h
  obtain ⟨σ12, hσ12, h⟩ := g_lt h
  refine as_M_10 C nM_10_0 hσ12 hg dX6_reachBy_119 ?_
  refine y_aload_n C dX6_reachBy_120 0 rfl rfl ?_
  refine gf_M_26 C dX6_reachBy_121 ?_
  refine y_bipush (v := (6 : Int32)) C dX6_reachBy_124 (by decide) ?_
  refine y_aload_n C dX6_reachBy_126 1 rfl rfl ?_
  refine y_bipush (v := (40 : Int32)) C dX6_reachBy_127 (by decide) ?_
  obtain ⟨hg, h⟩ := g_gd h
  refine al_M_1 C hu_u0 hg dX6_reachBy_129 ?_
  refine y_bipush (v := (7 : Int32)) C dX6_reachBy_130 (by decide) ?_
  refine y_irem C dX6_reachBy_132 (by decide) ?_
  obtain ⟨hg, h⟩ := g_gd h
  obtain ⟨σ13, hσ13, h⟩ := g_lt h
  refine as_M_10 C nM_10_0 hσ13 hg dX6_reachBy_133 ?_
  refine y_aload_n C dX6_reachBy_134 0 rfl rfl ?_
  refine gf_M_26 C dX6_reachBy_135 ?_
  refine y_bipush (v := (7 : Int32)) C dX6_reachBy_138 (by decide) ?_
  refine y_iload C dX6_reachBy_140 4 rfl ?_
  obtain ⟨hg, h⟩ := g_gd h
  obtain ⟨σ14, hσ14, h⟩ := g_lt h
  refine as_M_10 C nM_10_0 hσ14 hg dX6_reachBy_142 ?_
  refine y_iconst (v := (0 : Int32)) C dX6_reachBy_143 (by decide) ?_
  refine y_bipush (v := (9 : Int32)) C dX6_reachBy_144 (by decide) ?_
  refine y_aload_n C dX6_reachBy_146 0 rfl rfl ?_
  obtain ⟨x16, σ15, hc, h⟩ := g_bp h
  refine y_callV C (As := []) (rest := [.int (9 : Int32), .int (0 : Int32)]) (hu := nM_0_0) (hc := (rfl : gCl[5]? = some (RX6, TX6, 49))) (hcell := obM_0) (lk_X6_270 C hR (by decide)) (ct_M_ruled hc) rfl rfl (Nat.le_of_ble_eq_true rfl) ⟨Nat.zero_le _, Nat.zero_le _⟩ dX6_reachBy_147 ?_
  refine y_mmin C q1456 (g_rmM hR (by decide)) (Nat.le_of_ble_eq_true rfl) ⟨Nat.zero_le _, Nat.zero_le _⟩ dX6_reachBy_150 ?_
  refine y_mmax C q1601 (g_rmM hR (by decide)) (Nat.le_of_ble_eq_true rfl) ⟨Nat.zero_le _, Nat.zero_le _⟩ dX6_reachBy_153 ?_
  replace h := Option.some.inj h; subst h
  exact y_iret C hQ ⟨Nat.zero_le _, Nat.zero_le _⟩ dX6_reachBy_156
theorem ct_M_reachBy {D : va_G} {dA : Nat → ClassId} {A : Nat → Prop} {s0 : State} {b0 : Nat} {l : Launch} {u0 : Nat} (hu_u0 : u0 < g_n (gM false) 1) {ad : Nat → Nat → Nat} {σ : g_S} {v2 : Int32} {v3 : Int32} {r : Int32} {σ1 : g_S} (h : mF_M_reachBy σ u0 v2 v3 = some (r, σ1)) : g_Met gCl D dA A s0 b0 l yX6_reachBy cX6_reachBy 6 (some .int) 4 (0, 0) (gM false) ad σ [.ref (ad 0 0), .ref (ad 1 u0), .int v2, .int v3] (gM false) ad σ1 (some (.int r)) :=
  g_Met.of pl_X6 (Nat.le_of_ble_eq_true rfl) (fun X C hQ hR _ _ hL _ es eb => mw_M_reachBy C hR hL hu_u0 h hQ)
/-- what reachBy answers, whatever the stack and the asked were -/
theorem ct_R_reachBy {D : va_G} {dA : Nat → ClassId} {A : Nat → Prop} {s0 : State} {b0 : Nat} {l : Launch} {u0 : Nat} (hu_u0 : u0 < g_n (gM true) 1) {ad : Nat → Nat → Nat} {σ : g_S} {v2 v3 : Int32} {r : Int32} (h : mR_reachBy σ u0 v2 v3 = some r) : g_Met gCl D dA A s0 b0 l yX6_reachBy cX6_reachBy 6 (some .int) 4 (0, 0) (gM true) ad σ [.ref (ad 0 0), .ref (ad 1 u0), .int v2, .int v3] (gM true) ad σ (some (.int r)) := by
  obtain ⟨hr⟩ : Nonempty (∀ σ0, g_agM σ0 σ → ∃ σ1, g_agM σ1 σ ∧ mF_M_reachBy σ0 u0 v2 v3 = some (r, σ1)) := by
    unfold mR_reachBy at h
    split at h
    · rename_i hx
      have := Classical.choose_spec hx
      rw [Option.some.inj h] at this
      exact ⟨this⟩
    · cases h
  refine g_Met_ex (ι := g_S × g_S) (Pc := fun i => va_Pc [.ref (ad 0 0), .ref (ad 1 u0), .int v2, .int v3] (g_B gCl D dA (gM false) ad i.1 A s0 b0)) (Qc := fun i => g_E gCl D dA (gM false) ad i.2 A (some (.int r))) ?_
  intro a U hP
  obtain ⟨ha, hW, hB⟩ := hP
  obtain ⟨σ0, hag, hW0⟩ := g_hideM hW
  obtain ⟨σ1, hag1, hf⟩ := hr σ0 hag
  refine ⟨(σ0, σ1), ⟨ha, hW0, hB⟩, ct_M_reachBy hu_u0 hf, fun st o t hq => ?_⟩
  exact ⟨⟨hq.1.1, g_showM hag1 hq.1.2⟩, hq.2⟩

theorem mw_M_way {X : g_F} {LM : g_L} (C : g_M gCl X cX6_way RX6 (some .int)) (hR : g_R X = g_rm 1 0 0) (hL : g_nL X = 2) {ad : Nat → Nat → Nat} {σ : g_S} {v0 : Int32} {v1 : Int32} {o : Int32} (h : mF_M_way v0 v1 = some o) (hQ : g_MQ gCl X LM ad σ (some (.int o)) = g_Q X) : g_Y gCl X LM ad σ (0, 0) 0 [(0, .int v0), (1, .int v1)] [] := by
  unfold mF_M_way at h
  refine y_iload_n C dX6_way_0 0 rfl rfl ?_
  refine y_mabs C q1610 (g_rmM hR (by decide)) (Nat.le_of_ble_eq_true rfl) ⟨Nat.zero_le _, Nat.zero_le _⟩ dX6_way_1 ?_
  refine y_iconst (v := (2 : Int32)) C dX6_way_4 (by decide) ?_
  refine y_iload_n C dX6_way_5 1 rfl rfl ?_
  refine y_mabs C q1610 (g_rmM hR (by decide)) (Nat.le_of_ble_eq_true rfl) ⟨Nat.zero_le _, Nat.zero_le _⟩ dX6_way_6 ?_
  refine y_imul C dX6_way_9 ?_
  refine y_icmp_le (tgt := 23) C dX6_way_10 rfl (fun hc => ?_) (fun hc => ?_)
  · replace h := g_it h hc
    refine y_iload_n C dX6_way_23 1 rfl rfl ?_
    refine y_mabs C q1610 (g_rmM hR (by decide)) (Nat.le_of_ble_eq_true rfl) ⟨Nat.zero_le _, Nat.zero_le _⟩ dX6_way_24 ?_
    refine y_iconst (v := (2 : Int32)) C dX6_way_27 (by decide) ?_
    refine y_iload_n C dX6_way_28 0 rfl rfl ?_
    refine y_mabs C q1610 (g_rmM hR (by decide)) (Nat.le_of_ble_eq_true rfl) ⟨Nat.zero_le _, Nat.zero_le _⟩ dX6_way_29 ?_
    refine y_imul C dX6_way_32 ?_
    refine y_icmp_le (tgt := 47) C dX6_way_33 rfl (fun hc => ?_) (fun hc => ?_)
    · replace h := g_it h hc
      refine y_iload_n C dX6_way_47 0 rfl rfl ?_
      refine y_if_ge (tgt := 64) C dX6_way_48 rfl (fun hc => ?_) (fun hc => ?_)
      · replace h := g_it h hc
        refine y_iload_n C dX6_way_64 1 rfl rfl ?_
        refine y_if_ge (tgt := 72) C dX6_way_65 rfl (fun hc => ?_) (fun hc => ?_)
        · replace h := g_it h hc
          refine y_iconst (v := (3 : Int32)) C dX6_way_72 (by decide) ?_
          replace h := Option.some.inj h; subst h
          exact y_iret C hQ ⟨Nat.zero_le _, Nat.zero_le _⟩ dX6_way_73
        · replace h := g_if h hc
          refine y_iconst (v := (5 : Int32)) C dX6_way_68 (by decide) ?_
          refine y_goto (tgt := 73) C dX6_way_69 rfl ?_
          replace h := Option.some.inj h; subst h
          exact y_iret C hQ ⟨Nat.zero_le _, Nat.zero_le _⟩ dX6_way_73
      · replace h := g_if h hc
        refine y_iload_n C dX6_way_51 1 rfl rfl ?_
        refine y_if_ge (tgt := 60) C dX6_way_52 rfl (fun hc => ?_) (fun hc => ?_)
        · replace h := g_it h hc
          refine y_iconst (v := (1 : Int32)) C dX6_way_60 (by decide) ?_
          refine y_goto (tgt := 73) C dX6_way_61 rfl ?_
          replace h := Option.some.inj h; subst h
          exact y_iret C hQ ⟨Nat.zero_le _, Nat.zero_le _⟩ dX6_way_73
        · replace h := g_if h hc
          refine y_bipush (v := (7 : Int32)) C dX6_way_55 (by decide) ?_
          refine y_goto (tgt := 73) C dX6_way_57 rfl ?_
          replace h := Option.some.inj h; subst h
          exact y_iret C hQ ⟨Nat.zero_le _, Nat.zero_le _⟩ dX6_way_73
    · replace h := g_if h hc
      refine y_iload_n C dX6_way_36 1 rfl rfl ?_
      refine y_if_ge (tgt := 45) C dX6_way_37 rfl (fun hc => ?_) (fun hc => ?_)
      · replace h := g_it h hc
        refine y_iconst (v := (2 : Int32)) C dX6_way_45 (by decide) ?_
        replace h := Option.some.inj h; subst h
        exact y_iret C hQ ⟨Nat.zero_le _, Nat.zero_le _⟩ dX6_way_46
      · replace h := g_if h hc
        refine y_bipush (v := (6 : Int32)) C dX6_way_40 (by decide) ?_
        refine y_goto (tgt := 46) C dX6_way_42 rfl ?_
        replace h := Option.some.inj h; subst h
        exact y_iret C hQ ⟨Nat.zero_le _, Nat.zero_le _⟩ dX6_way_46
  · replace h := g_if h hc
    refine y_iload_n C dX6_way_13 0 rfl rfl ?_
    refine y_if_ge (tgt := 21) C dX6_way_14 rfl (fun hc => ?_) (fun hc => ?_)
    · replace h := g_it h hc
      refine y_iconst (v := (4 : Int32)) C dX6_way_21 (by decide) ?_
      replace h := Option.some.inj h; subst h
      exact y_iret C hQ ⟨Nat.zero_le _, Nat.zero_le _⟩ dX6_way_22
    · replace h := g_if h hc
      refine y_iconst (v := (0 : Int32)) C dX6_way_17 (by decide) ?_
      refine y_goto (tgt := 22) C dX6_way_18 rfl ?_
      replace h := Option.some.inj h; subst h
      exact y_iret C hQ ⟨Nat.zero_le _, Nat.zero_le _⟩ dX6_way_22
theorem ct_M_way {D : va_G} {dA : Nat → ClassId} {A : Nat → Prop} {s0 : State} {b0 : Nat} {l : Launch} {LM : g_L} {ad : Nat → Nat → Nat} {σ : g_S} {v0 : Int32} {v1 : Int32} {r : Int32} (h : mF_M_way v0 v1 = some r) : g_Met gCl D dA A s0 b0 l yX6_way cX6_way 2 (some .int) 1 (0, 0) LM ad σ [.int v0, .int v1] LM ad σ (some (.int r)) :=
  g_Met.of pl_X6 (Nat.le_of_ble_eq_true rfl) (fun X C hQ hR _ _ hL _ es eb => mw_M_way C hR hL h hQ)
theorem mw_M_eighthsBetween {X : g_F} {LM : g_L} (C : g_M gCl X cX6_eighthsBetween RX6 (some .int)) (hR : g_R X = g_rm 1 0 0) (hL : g_nL X = 3) {ad : Nat → Nat → Nat} {σ : g_S} {v0 : Int32} {v1 : Int32} {o : Int32} (h : mF_M_eighthsBetween v0 v1 = some o) (hQ : g_MQ gCl X LM ad σ (some (.int o)) = g_Q X) : g_Y gCl X LM ad σ (0, 0) 0 [(0, .int v0), (1, .int v1)] [] := by
  unfold mF_M_eighthsBetween at h
  refine y_iload_n C dX6_eighthsBetween_0 0 rfl rfl ?_
  refine y_iload_n C dX6_eighthsBetween_1 1 rfl rfl ?_
  refine y_isub C dX6_eighthsBetween_2 ?_
  refine y_mabs C q1610 (g_rmM hR (by decide)) (Nat.le_of_ble_eq_true rfl) ⟨Nat.zero_le _, Nat.zero_le _⟩ dX6_eighthsBetween_3 ?_
  obtain ⟨x1, hx1, h⟩ := g_lt h
  refine y_istore_n (vs1 := [(2, .int x1), (0, .int v0), (1, .int v1)]) C hx1 dX6_eighthsBetween_6 rfl (g_lL hL rfl) rfl ?_
  refine y_iload_n C dX6_eighthsBetween_7 0 rfl rfl ?_
  refine y_bipush (v := (8 : Int32)) C dX6_eighthsBetween_8 (by decide) ?_
  refine y_iload_n C dX6_eighthsBetween_10 0 rfl rfl ?_
  refine y_isub C dX6_eighthsBetween_11 ?_
  refine y_mmin C q1456 (g_rmM hR (by decide)) (Nat.le_of_ble_eq_true rfl) ⟨Nat.zero_le _, Nat.zero_le _⟩ dX6_eighthsBetween_12 ?_
  replace h := Option.some.inj h; subst h
  exact y_iret C hQ ⟨Nat.zero_le _, Nat.zero_le _⟩ dX6_eighthsBetween_15
theorem ct_M_eighthsBetween {D : va_G} {dA : Nat → ClassId} {A : Nat → Prop} {s0 : State} {b0 : Nat} {l : Launch} {LM : g_L} {ad : Nat → Nat → Nat} {σ : g_S} {v0 : Int32} {v1 : Int32} {r : Int32} (h : mF_M_eighthsBetween v0 v1 = some r) : g_Met gCl D dA A s0 b0 l yX6_eighthsBetween cX6_eighthsBetween 3 (some .int) 1 (0, 0) LM ad σ [.int v0, .int v1] LM ad σ (some (.int r)) :=
  g_Met.of pl_X6 (Nat.le_of_ble_eq_true rfl) (fun X C hQ hR _ _ hL _ es eb => mw_M_eighthsBetween C hR hL h hQ)
theorem mj_M_isClear_75 {X : g_F} {hid : Bool} (C : g_M gCl X cX6_isClear RX6 (some .boolean)) (hR : g_R X = g_rm 2 0 0) (hL : g_nL X = 7) {ad : Nat → Nat → Nat} {σ : g_S} {v2 : Int32} {v3 : Int32} {v4 : Int32} {v5 : Int32} {s0 : Int32} {o : ((Int32 × Int32 × Int32 × Int32) ⊕ Int32)} (h : mJ_M_isClear_75 σ v2 v3 v4 v5 s0 = some o) (kl : ∀ z, o = .inl z → g_Y gCl X (gM hid) ad σ (0, 0) 21 [(0, .ref (ad 0 0)), (2, .int v2), (3, .int z.1), (4, .int z.2.1), (5, .int z.2.2.1), (6, .int z.2.2.2)] []) (kx : ∀ z, o = .inr z → g_Y gCl X (gM hid) ad σ (0, 0) 114 [(5, .int z)] []) : g_Y gCl X (gM hid) ad σ (0, 0) 75 [(0, .ref (ad 0 0)), (2, .int v2), (3, .int v3), (4, .int v4), (5, .int v5)] [.int s0] := by
  unfold mJ_M_isClear_75 at h
  refine y_istore (vs1 := [(6, .int s0), (0, .ref (ad 0 0)), (2, .int v2), (3, .int v3), (4, .int v4), (5, .int v5)]) C rfl dX6_isClear_75 (g_lL hL rfl) rfl ?_
  refine y_iload C dX6_isClear_77 5 rfl ?_
  refine y_if_eq (tgt := 108) C dX6_isClear_79 rfl (fun hc => ?_) (fun hc => ?_)
  · replace h := g_it h hc
    refine y_iconst (v := (0 : Int32)) C dX6_isClear_108 (by decide) ?_
    refine y_istore (vs1 := [(5, .int (0 : Int32)), (6, .int s0), (0, .ref (ad 0 0)), (2, .int v2), (3, .int v3), (4, .int v4)]) C rfl dX6_isClear_109 (g_lL hL rfl) rfl ?_
    refine y_goto (tgt := 21) C dX6_isClear_111 rfl ?_
    refine y_sub (vs2 := [(0, .ref (ad 0 0)), (2, .int v2), (3, .int v3), (4, .int v4), (5, .int (0 : Int32)), (6, .int s0)]) [2, 3, 4, 5, 0, 1] rfl ?_
    exact kl _ (Option.some.inj h).symm
  · replace h := g_if h hc
    refine y_iload C dX6_isClear_82 0 rfl ?_
    refine y_if_eq (tgt := 104) C dX6_isClear_84 rfl (fun hc => ?_) (fun hc => ?_)
    · replace h := g_it h hc
      refine y_iconst (v := (1 : Int32)) C dX6_isClear_104 (by decide) ?_
      refine y_goto (tgt := 109) C dX6_isClear_105 rfl ?_
      refine y_istore (vs1 := [(5, .int (1 : Int32)), (6, .int s0), (0, .ref (ad 0 0)), (2, .int v2), (3, .int v3), (4, .int v4)]) C rfl dX6_isClear_109 (g_lL hL rfl) rfl ?_
      refine y_goto (tgt := 21) C dX6_isClear_111 rfl ?_
      refine y_sub (vs2 := [(0, .ref (ad 0 0)), (2, .int v2), (3, .int v3), (4, .int v4), (5, .int (1 : Int32)), (6, .int s0)]) [2, 3, 4, 5, 0, 1] rfl ?_
      exact kl _ (Option.some.inj h).symm
    · replace h := g_if h hc
      refine y_aload_n C dX6_isClear_87 1 rfl rfl ?_
      refine gf_M_9 C dX6_isClear_88 ?_
      refine y_aload_n C dX6_isClear_91 1 rfl rfl ?_
      refine gf_M_4 C dX6_isClear_92 ?_
      refine y_iload_n C dX6_isClear_95 3 rfl rfl ?_
      refine y_imul C dX6_isClear_96 ?_
      refine y_iload C dX6_isClear_97 4 rfl ?_
      refine y_iadd C dX6_isClear_99 ?_
      obtain ⟨hg, h⟩ := g_gd h
      refine al_M_3 C nM_3_0 hg dX6_isClear_100 ?_
      refine y_if_ne (tgt := 108) C dX6_isClear_101 rfl (fun hc => ?_) (fun hc => ?_)
      · replace h := g_if h hc
        refine y_iconst (v := (0 : Int32)) C dX6_isClear_108 (by decide) ?_
        refine y_istore (vs1 := [(5, .int (0 : Int32)), (6, .int s0), (0, .ref (ad 0 0)), (2, .int v2), (3, .int v3), (4, .int v4)]) C rfl dX6_isClear_109 (g_lL hL rfl) rfl ?_
        refine y_goto (tgt := 21) C dX6_isClear_111 rfl ?_
        refine y_sub (vs2 := [(0, .ref (ad 0 0)), (2, .int v2), (3, .int v3), (4, .int v4), (5, .int (0 : Int32)), (6, .int s0)]) [2, 3, 4, 5, 0, 1] rfl ?_
        exact kl _ (Option.some.inj h).symm
      · replace h := g_it h hc
        refine y_iconst (v := (1 : Int32)) C dX6_isClear_104 (by decide) ?_
        refine y_goto (tgt := 109) C dX6_isClear_105 rfl ?_
        refine y_istore (vs1 := [(5, .int (1 : Int32)), (6, .int s0), (0, .ref (ad 0 0)), (2, .int v2), (3, .int v3), (4, .int v4)]) C rfl dX6_isClear_109 (g_lL hL rfl) rfl ?_
        refine y_goto (tgt := 21) C dX6_isClear_111 rfl ?_
        refine y_sub (vs2 := [(0, .ref (ad 0 0)), (2, .int v2), (3, .int v3), (4, .int v4), (5, .int (1 : Int32)), (6, .int s0)]) [2, 3, 4, 5, 0, 1] rfl ?_
        exact kl _ (Option.some.inj h).symm
theorem ml_M_isClear_21 {X : g_F} {hid : Bool} (C : g_M gCl X cX6_isClear RX6 (some .boolean)) (hR : g_R X = g_rm 2 0 0) (hL : g_nL X = 7) {ad : Nat → Nat → Nat} {σ : g_S} {v2 : Int32} (n : Nat) (v : (Int32 × Int32 × Int32 × Int32)) (e : Int32) (h : g_lp (fun v => mB_M_isClear_21 σ v2 v.1 v.2.1 v.2.2.1 v.2.2.2) n v = some e) (kx : g_Y gCl X (gM hid) ad σ (0, 0) 114 [(5, .int e)] []) : g_Y gCl X (gM hid) ad σ (0, 0) 21 [(0, .ref (ad 0 0)), (2, .int v2), (3, .int v.1), (4, .int v.2.1), (5, .int v.2.2.1), (6, .int v.2.2.2)] [] := by
  refine g_loop (P := fun v => g_Y gCl X (gM hid) ad σ (0, 0) 21 [(0, .ref (ad 0 0)), (2, .int v2), (3, .int v.1), (4, .int v.2.1), (5, .int v.2.2.1), (6, .int v.2.2.2)] []) (T := fun e => g_Y gCl X (gM hid) ad σ (0, 0) 114 [(5, .int e)] []) ?_ n v e h kx
  clear h kx
  clear n v e
  intro v o h kl kx
  obtain ⟨v3, v4, v5, v6⟩ := v
  have h : mB_M_isClear_21 σ v2 v3 v4 v5 v6 = some o := h
  unfold mB_M_isClear_21 at h
  show g_Y gCl X (gM hid) ad σ (0, 0) 21 [(0, .ref (ad 0 0)), (2, .int v2), (3, .int v3), (4, .int v4), (5, .int v5), (6, .int v6)] []
  refine y_iload C dX6_isClear_21 5 rfl ?_
  refine y_if_eq (tgt := 114) C dX6_isClear_23 rfl (fun hc => ?_) (fun hc => ?_)
  · replace h := g_it h hc
    refine y_sub (vs2 := [(5, .int v5)]) [4] rfl ?_
    exact kx _ (Option.some.inj h).symm
  · replace h := g_if h hc
    refine y_iload_n C dX6_isClear_26 2 rfl rfl ?_
    refine y_iload_n C dX6_isClear_27 1 rfl rfl ?_
    refine y_aload_n C dX6_isClear_28 0 rfl rfl ?_
    refine gf_M_4 C dX6_isClear_29 ?_
    obtain ⟨hg, h⟩ := g_gd h
    refine y_idiv C dX6_isClear_32 hg ?_
    refine y_iload_n C dX6_isClear_33 2 rfl rfl ?_
    refine y_isub C dX6_isClear_34 ?_
    obtain ⟨x3, hc, h⟩ := g_bd h
    refine y_callS C (As := [.int ((v2 / (σ.1 0 0 4)) - v3)]) (rest := [.int v3]) (lk_X6_279 C hR (by decide)) (ct_J8_signum hc) rfl rfl (Nat.le_of_ble_eq_true rfl) ⟨Nat.zero_le _, Nat.zero_le _⟩ dX6_isClear_35 ?_
    refine y_iadd C dX6_isClear_38 ?_
    obtain ⟨x4, hx4, h⟩ := g_lt h
    refine y_istore_n (vs1 := [(3, .int x4), (0, .ref (ad 0 0)), (2, .int v2), (4, .int v4), (5, .int v5), (6, .int v6)]) C hx4 dX6_isClear_39 rfl (g_lL hL rfl) rfl ?_
    refine y_iload C dX6_isClear_40 3 rfl ?_
    refine y_iload_n C dX6_isClear_42 2 rfl rfl ?_
    refine y_aload_n C dX6_isClear_43 1 rfl rfl ?_
    refine gf_M_4 C dX6_isClear_44 ?_
    obtain ⟨hg, h⟩ := g_gd h
    refine y_irem C dX6_isClear_47 hg ?_
    refine y_iload C dX6_isClear_48 3 rfl ?_
    refine y_isub C dX6_isClear_50 ?_
    obtain ⟨x5, hc, h⟩ := g_bd h
    refine y_callS C (As := [.int ((g_rem v2 (σ.1 0 0 4)) - v4)]) (rest := [.int v4]) (lk_X6_279 C hR (by decide)) (ct_J8_signum hc) rfl rfl (Nat.le_of_ble_eq_true rfl) ⟨Nat.zero_le _, Nat.zero_le _⟩ dX6_isClear_51 ?_
    refine y_iadd C dX6_isClear_54 ?_
    obtain ⟨x6, hx6, h⟩ := g_lt h
    refine y_istore (vs1 := [(4, .int x6), (3, .int x4), (0, .ref (ad 0 0)), (2, .int v2), (5, .int v5), (6, .int v6)]) C hx6 dX6_isClear_55 (g_lL hL rfl) rfl ?_
    refine y_aload_n C dX6_isClear_57 2 rfl rfl ?_
    refine gf_M_4 C dX6_isClear_58 ?_
    refine y_iload_n C dX6_isClear_61 1 rfl rfl ?_
    refine y_imul C dX6_isClear_62 ?_
    refine y_iload C dX6_isClear_63 0 rfl ?_
    refine y_iadd C dX6_isClear_65 ?_
    refine y_iload_n C dX6_isClear_66 3 rfl rfl ?_
    refine y_icmp_eq (tgt := 74) C dX6_isClear_67 rfl (fun hc => ?_) (fun hc => ?_)
    · replace h := g_it h hc
      refine y_iconst (v := (0 : Int32)) C dX6_isClear_74 (by decide) ?_
      refine y_sub (vs2 := [(0, .ref (ad 0 0)), (2, .int v2), (3, .int x4), (4, .int x6), (5, .int v5)]) [2, 3, 1, 0, 4] rfl ?_
      exact mj_M_isClear_75 C hR hL h kl kx
    · replace h := g_if h hc
      refine y_iconst (v := (1 : Int32)) C dX6_isClear_70 (by decide) ?_
      refine y_goto (tgt := 75) C dX6_isClear_71 rfl ?_
      refine y_sub (vs2 := [(0, .ref (ad 0 0)), (2, .int v2), (3, .int x4), (4, .int x6), (5, .int v5)]) [2, 3, 1, 0, 4] rfl ?_
      exact mj_M_isClear_75 C hR hL h kl kx
theorem mw_M_isClear {X : g_F} {hid : Bool} (C : g_M gCl X cX6_isClear RX6 (some .boolean)) (hR : g_R X = g_rm 2 0 0) (hL : g_nL X = 7) {ad : Nat → Nat → Nat} {σ : g_S} {v1 : Int32} {v2 : Int32} {o : Int32} (h : mF_M_isClear σ v1 v2 = some o) (hQ : g_MQ gCl X (gM hid) ad σ (some (.int o)) = g_Q X) : g_Y gCl X (gM hid) ad σ (0, 0) 0 [(0, .ref (ad 0 0)), (1, .int v1), (2, .int v2)] [] := by
  unfold mF_M_isClear at h
  refine y_iload_n C dX6_isClear_0 1 rfl rfl ?_
  refine y_aload_n C dX6_isClear_1 0 rfl rfl ?_
  refine gf_M_4 C dX6_isClear_2 ?_
  obtain ⟨hg, h⟩ := g_gd h
  refine y_idiv C dX6_isClear_5 hg ?_
  obtain ⟨x1, hx1, h⟩ := g_lt h
  refine y_istore_n (vs1 := [(3, .int x1), (0, .ref (ad 0 0)), (1, .int v1), (2, .int v2)]) C hx1 dX6_isClear_6 rfl (g_lL hL rfl) rfl ?_
  refine y_iload_n C dX6_isClear_7 2 rfl rfl ?_
  refine y_aload_n C dX6_isClear_8 1 rfl rfl ?_
  refine gf_M_4 C dX6_isClear_9 ?_
  obtain ⟨hg, h⟩ := g_gd h
  refine y_irem C dX6_isClear_12 hg ?_
  obtain ⟨x2, hx2, h⟩ := g_lt h
  refine y_istore (vs1 := [(4, .int x2), (3, .int x1), (0, .ref (ad 0 0)), (1, .int v1), (2, .int v2)]) C hx2 dX6_isClear_13 (g_lL hL rfl) rfl ?_
  refine y_iconst (v := (1 : Int32)) C dX6_isClear_15 (by decide) ?_
  refine y_istore (vs1 := [(5, .int (1 : Int32)), (4, .int x2), (3, .int x1), (0, .ref (ad 0 0)), (1, .int v1), (2, .int v2)]) C rfl dX6_isClear_16 (g_lL hL rfl) rfl ?_
  refine y_iconst (v := (1 : Int32)) C dX6_isClear_18 (by decide) ?_
  refine y_istore (vs1 := [(6, .int (1 : Int32)), (5, .int (1 : Int32)), (4, .int x2), (3, .int x1), (0, .ref (ad 0 0)), (1, .int v1), (2, .int v2)]) C rfl dX6_isClear_19 (g_lL hL rfl) rfl ?_
  refine y_sub (vs2 := [(0, .ref (ad 0 0)), (2, .int v2), (3, .int x1), (4, .int x2), (5, .int (1 : Int32)), (6, .int (1 : Int32))]) [4, 6, 3, 2, 1, 0] rfl ?_
  obtain ⟨e7, he7, h⟩ := g_bd h
  refine ml_M_isClear_21 C hR hL (σ := σ) _ _ _ he7 ?_
  refine y_iload C dX6_isClear_114 0 rfl ?_
  obtain ⟨hg, h⟩ := g_gd h
  replace h := Option.some.inj h; subst h
  exact y_zret C (g_nz hg) hQ ⟨Nat.zero_le _, Nat.zero_le _⟩ dX6_isClear_116
theorem ct_M_isClear {D : va_G} {dA : Nat → ClassId} {A : Nat → Prop} {s0 : State} {b0 : Nat} {l : Launch} {hid : Bool} {ad : Nat → Nat → Nat} {σ : g_S} {v1 : Int32} {v2 : Int32} {r : Int32} (h : mF_M_isClear σ v1 v2 = some r) : g_Met gCl D dA A s0 b0 l yX6_isClear cX6_isClear 7 (some .boolean) 2 (0, 0) (gM hid) ad σ [.ref (ad 0 0), .int v1, .int v2] (gM hid) ad σ (some (.int r)) :=
  g_Met.of pl_X6 (Nat.le_of_ble_eq_true rfl) (fun X C hQ hR _ _ hL _ es eb => mw_M_isClear C hR hL h hQ)
theorem mj_M_seesBy_60 {X : g_F} {hid : Bool} (C : g_M gCl X cX6_seesBy RX6 (some .boolean)) (hR : g_R X = g_rm 3 0 0) (hL : g_nL X = 9) {ad : Nat → Nat → Nat} {σ : g_S} {v1 : Int32} {v2 : Int32} {v3 : Int32} {v4 : Int32} {v6 : Int32} {v7 : Int32} {s0 : Int32} {o : Int32} (h : mJ_M_seesBy_60 σ v1 v2 v3 v4 v6 v7 s0 = some o) (hQ : g_MQ gCl X (gM hid) ad σ (some (.int o)) = g_Q X) : g_Y gCl X (gM hid) ad σ (0, 0) 60 [(0, .ref (ad 0 0)), (1, .int v1), (2, .int v2), (3, .int v3), (4, .int v4), (6, .int v6), (7, .int v7)] [.int s0] := by
  unfold mJ_M_seesBy_60 at h
  refine y_istore (vs1 := [(8, .int s0), (0, .ref (ad 0 0)), (1, .int v1), (2, .int v2), (3, .int v3), (4, .int v4), (6, .int v6), (7, .int v7)]) C rfl dX6_seesBy_60 (g_lL hL rfl) rfl ?_
  refine y_iload C dX6_seesBy_62 0 rfl ?_
  refine y_if_eq (tgt := 98) C dX6_seesBy_64 rfl (fun hc => ?_) (fun hc => ?_)
  · replace h := g_it h hc
    refine y_iconst (v := (0 : Int32)) C dX6_seesBy_98 (by decide) ?_
    replace h := Option.some.inj h; subst h
    exact y_zret C (by decide) hQ ⟨Nat.zero_le _, Nat.zero_le _⟩ dX6_seesBy_99
  · replace h := g_if h hc
    refine y_iload C dX6_seesBy_67 6 rfl ?_
    refine y_iload C dX6_seesBy_69 7 rfl ?_
    obtain ⟨x3, hc, h⟩ := g_bd h
    refine y_callS C (As := [.int v6, .int v7]) (rest := []) (lk_X6_282 C hR (by decide)) (ct_M_way hc) rfl rfl (Nat.le_of_ble_eq_true rfl) ⟨Nat.zero_le _, Nat.zero_le _⟩ dX6_seesBy_71 ?_
    refine y_iload_n C dX6_seesBy_74 4 rfl rfl ?_
    obtain ⟨x4, hc, h⟩ := g_bd h
    refine y_callS C (As := [.int x3, .int v3]) (rest := []) (lk_X6_285 C hR (by decide)) (ct_M_eighthsBetween hc) rfl rfl (Nat.le_of_ble_eq_true rfl) ⟨Nat.zero_le _, Nat.zero_le _⟩ dX6_seesBy_75 ?_
    refine y_iconst (v := (4 : Int32)) C dX6_seesBy_78 (by decide) ?_
    refine y_iload C dX6_seesBy_79 5 rfl ?_
    refine y_isub C dX6_seesBy_81 ?_
    refine y_icmp_gt (tgt := 98) C dX6_seesBy_82 rfl (fun hc => ?_) (fun hc => ?_)
    · replace h := g_it h hc
      refine y_iconst (v := (0 : Int32)) C dX6_seesBy_98 (by decide) ?_
      replace h := Option.some.inj h; subst h
      exact y_zret C (by decide) hQ ⟨Nat.zero_le _, Nat.zero_le _⟩ dX6_seesBy_99
    · replace h := g_if h hc
      refine y_aload_n C dX6_seesBy_85 1 rfl rfl ?_
      refine y_iload_n C dX6_seesBy_86 2 rfl rfl ?_
      refine y_iload_n C dX6_seesBy_87 3 rfl rfl ?_
      obtain ⟨x5, hc, h⟩ := g_bd h
      refine y_callV C (As := [.int v1, .int v2]) (rest := []) (hu := nM_0_0) (hc := (rfl : gCl[5]? = some (RX6, TX6, 49))) (hcell := obM_0) (lk_X6_288 C hR (by decide)) (ct_M_isClear hc) rfl rfl (Nat.le_of_ble_eq_true rfl) ⟨Nat.zero_le _, Nat.zero_le _⟩ dX6_seesBy_88 ?_
      refine y_if_eq (tgt := 98) C dX6_seesBy_91 rfl (fun hc => ?_) (fun hc => ?_)
      · replace h := g_it h hc
        refine y_iconst (v := (0 : Int32)) C dX6_seesBy_98 (by decide) ?_
        replace h := Option.some.inj h; subst h
        exact y_zret C (by decide) hQ ⟨Nat.zero_le _, Nat.zero_le _⟩ dX6_seesBy_99
      · replace h := g_if h hc
        refine y_iconst (v := (1 : Int32)) C dX6_seesBy_94 (by decide) ?_
        refine y_goto (tgt := 99) C dX6_seesBy_95 rfl ?_
        replace h := Option.some.inj h; subst h
        exact y_zret C (by decide) hQ ⟨Nat.zero_le _, Nat.zero_le _⟩ dX6_seesBy_99
theorem mw_M_seesBy {X : g_F} {hid : Bool} (C : g_M gCl X cX6_seesBy RX6 (some .boolean)) (hR : g_R X = g_rm 3 0 0) (hL : g_nL X = 9) {ad : Nat → Nat → Nat} {σ : g_S} {v1 : Int32} {v2 : Int32} {v3 : Int32} {v4 : Int32} {v5 : Int32} {o : Int32} (h : mF_M_seesBy σ v1 v2 v3 v4 v5 = some o) (hQ : g_MQ gCl X (gM hid) ad σ (some (.int o)) = g_Q X) : g_Y gCl X (gM hid) ad σ (0, 0) 0 [(0, .ref (ad 0 0)), (1, .int v1), (2, .int v2), (3, .int v3), (4, .int v4), (5, .int v5)] [] := by
  unfold mF_M_seesBy at h
  refine y_iload_n C dX6_seesBy_0 1 rfl rfl ?_
  refine y_iload_n C dX6_seesBy_1 2 rfl rfl ?_
  refine y_icmp_ne (tgt := 7) C dX6_seesBy_2 rfl (fun hc => ?_) (fun hc => ?_)
  · replace h := g_if h hc
    refine y_iload_n C dX6_seesBy_7 2 rfl rfl ?_
    refine y_aload_n C dX6_seesBy_8 0 rfl rfl ?_
    refine gf_M_4 C dX6_seesBy_9 ?_
    obtain ⟨hg, h⟩ := g_gd h
    refine y_idiv C dX6_seesBy_12 hg ?_
    refine y_iload_n C dX6_seesBy_13 1 rfl rfl ?_
    refine y_aload_n C dX6_seesBy_14 0 rfl rfl ?_
    refine gf_M_4 C dX6_seesBy_15 ?_
    obtain ⟨hg, h⟩ := g_gd h
    refine y_idiv C dX6_seesBy_18 hg ?_
    refine y_isub C dX6_seesBy_19 ?_
    obtain ⟨x1, hx1, h⟩ := g_lt h
    refine y_istore (vs1 := [(6, .int x1), (0, .ref (ad 0 0)), (1, .int v1), (2, .int v2), (3, .int v3), (4, .int v4), (5, .int v5)]) C hx1 dX6_seesBy_20 (g_lL hL rfl) rfl ?_
    refine y_iload_n C dX6_seesBy_22 3 rfl rfl ?_
    refine y_aload_n C dX6_seesBy_23 1 rfl rfl ?_
    refine gf_M_4 C dX6_seesBy_24 ?_
    obtain ⟨hg, h⟩ := g_gd h
    refine y_irem C dX6_seesBy_27 hg ?_
    refine y_iload_n C dX6_seesBy_28 2 rfl rfl ?_
    refine y_aload_n C dX6_seesBy_29 1 rfl rfl ?_
    refine gf_M_4 C dX6_seesBy_30 ?_
    obtain ⟨hg, h⟩ := g_gd h
    refine y_irem C dX6_seesBy_33 hg ?_
    refine y_isub C dX6_seesBy_34 ?_
    obtain ⟨x2, hx2, h⟩ := g_lt h
    refine y_istore (vs1 := [(7, .int x2), (6, .int x1), (0, .ref (ad 0 0)), (1, .int v1), (2, .int v2), (3, .int v3), (4, .int v4), (5, .int v5)]) C hx2 dX6_seesBy_35 (g_lL hL rfl) rfl ?_
    refine y_iload C dX6_seesBy_37 1 rfl ?_
    refine y_mabs C q1610 (g_rmM hR (by decide)) (Nat.le_of_ble_eq_true rfl) ⟨Nat.zero_le _, Nat.zero_le _⟩ dX6_seesBy_39 ?_
    refine y_iload C dX6_seesBy_42 0 rfl ?_
    refine y_mabs C q1610 (g_rmM hR (by decide)) (Nat.le_of_ble_eq_true rfl) ⟨Nat.zero_le _, Nat.zero_le _⟩ dX6_seesBy_44 ?_
    refine y_mmax C q1601 (g_rmM hR (by decide)) (Nat.le_of_ble_eq_true rfl) ⟨Nat.zero_le _, Nat.zero_le _⟩ dX6_seesBy_47 ?_
    refine y_iload C dX6_seesBy_50 7 rfl ?_
    refine y_icmp_gt (tgt := 59) C dX6_seesBy_52 rfl (fun hc => ?_) (fun hc => ?_)
    · replace h := g_it h hc
      refine y_iconst (v := (0 : Int32)) C dX6_seesBy_59 (by decide) ?_
      refine y_sub (vs2 := [(0, .ref (ad 0 0)), (1, .int v1), (2, .int v2), (3, .int v3), (4, .int v4), (6, .int x1), (7, .int x2)]) [2, 3, 4, 5, 6, 1, 0] rfl ?_
      exact mj_M_seesBy_60 C hR hL h hQ
    · replace h := g_if h hc
      refine y_iconst (v := (1 : Int32)) C dX6_seesBy_55 (by decide) ?_
      refine y_goto (tgt := 60) C dX6_seesBy_56 rfl ?_
      refine y_sub (vs2 := [(0, .ref (ad 0 0)), (1, .int v1), (2, .int v2), (3, .int v3), (4, .int v4), (6, .int x1), (7, .int x2)]) [2, 3, 4, 5, 6, 1, 0] rfl ?_
      exact mj_M_seesBy_60 C hR hL h hQ
  · replace h := g_it h hc
    refine y_iconst (v := (1 : Int32)) C dX6_seesBy_5 (by decide) ?_
    replace h := Option.some.inj h; subst h
    exact y_zret C (by decide) hQ ⟨Nat.zero_le _, Nat.zero_le _⟩ dX6_seesBy_6
theorem ct_M_seesBy {D : va_G} {dA : Nat → ClassId} {A : Nat → Prop} {s0 : State} {b0 : Nat} {l : Launch} {hid : Bool} {ad : Nat → Nat → Nat} {σ : g_S} {v1 : Int32} {v2 : Int32} {v3 : Int32} {v4 : Int32} {v5 : Int32} {r : Int32} (h : mF_M_seesBy σ v1 v2 v3 v4 v5 = some r) : g_Met gCl D dA A s0 b0 l yX6_seesBy cX6_seesBy 9 (some .boolean) 3 (0, 0) (gM hid) ad σ [.ref (ad 0 0), .int v1, .int v2, .int v3, .int v4, .int v5] (gM hid) ad σ (some (.int r)) :=
  g_Met.of pl_X6 (Nat.le_of_ble_eq_true rfl) (fun X C hQ hR _ _ hL _ es eb => mw_M_seesBy C hR hL h hQ)
theorem ml_M_fieldsSeen_19 {X : g_F} (C : g_M gCl X cX6_fieldsSeen RX6 (some .long)) (hR : g_R X = g_rm 5 0 0) (hL : g_nL X = 7) {u0 : Nat} (hu_u0 : u0 < g_n (gM true) 1) {ad : Nat → Nat → Nat} {σ : g_S} {v2 : Int32} {v3 : Int32} (n : Nat) (v : (Int64 × Int32)) (e : Int64) (h : g_lp (fun v => mB_M_fieldsSeen_19 σ u0 v2 v3 v.1 v.2) n v = some e) (kx : g_Y gCl X (gM true) ad σ (0, 0) 72 [(4, .long e)] []) : g_Y gCl X (gM true) ad σ (0, 0) 19 [(0, .ref (ad 0 0)), (1, .ref (ad 1 u0)), (2, .int v2), (3, .int v3), (4, .long v.1), (6, .int v.2)] [] := by
  refine g_loop (P := fun v => g_Y gCl X (gM true) ad σ (0, 0) 19 [(0, .ref (ad 0 0)), (1, .ref (ad 1 u0)), (2, .int v2), (3, .int v3), (4, .long v.1), (6, .int v.2)] []) (T := fun e => g_Y gCl X (gM true) ad σ (0, 0) 72 [(4, .long e)] []) ?_ n v e h kx
  clear h kx
  clear n v e
  intro v o h kl kx
  obtain ⟨v4, v6⟩ := v
  have h : mB_M_fieldsSeen_19 σ u0 v2 v3 v4 v6 = some o := h
  unfold mB_M_fieldsSeen_19 at h
  show g_Y gCl X (gM true) ad σ (0, 0) 19 [(0, .ref (ad 0 0)), (1, .ref (ad 1 u0)), (2, .int v2), (3, .int v3), (4, .long v4), (6, .int v6)] []
  refine y_iload C dX6_fieldsSeen_19 5 rfl ?_
  refine y_aload_n C dX6_fieldsSeen_21 0 rfl rfl ?_
  obtain ⟨x2, hc, h⟩ := g_bd h
  refine y_callV C (As := []) (rest := [.int v6]) (hu := nM_0_0) (hc := (rfl : gCl[5]? = some (RX6, TX6, 49))) (hcell := obM_0) (lk_X6_122 C hR (by decide)) (ct_M_fields hc) rfl rfl (Nat.le_of_ble_eq_true rfl) ⟨Nat.zero_le _, Nat.zero_le _⟩ dX6_fieldsSeen_22 ?_
  refine y_icmp_ge (tgt := 72) C dX6_fieldsSeen_25 rfl (fun hc => ?_) (fun hc => ?_)
  · replace h := g_it h hc
    refine y_sub (vs2 := [(4, .long v4)]) [4] rfl ?_
    exact kx _ (Option.some.inj h).symm
  · replace h := g_if h hc
    refine y_lload C dX6_fieldsSeen_28 4 rfl ?_
    refine y_aload_n C dX6_fieldsSeen_30 0 rfl rfl ?_
    refine y_aload_n C dX6_fieldsSeen_31 1 rfl rfl ?_
    refine y_iload_n C dX6_fieldsSeen_32 2 rfl rfl ?_
    obtain ⟨hg, h⟩ := g_gd h
    refine al_M_1 C hu_u0 hg dX6_fieldsSeen_33 ?_
    refine y_iload C dX6_fieldsSeen_34 5 rfl ?_
    refine y_aload_n C dX6_fieldsSeen_36 1 rfl rfl ?_
    refine y_bipush (v := (8 : Int32)) C dX6_fieldsSeen_37 (by decide) ?_
    refine y_iload_n C dX6_fieldsSeen_39 2 rfl rfl ?_
    refine y_iadd C dX6_fieldsSeen_40 ?_
    obtain ⟨hg, h⟩ := g_gd h
    refine al_M_1 C hu_u0 hg dX6_fieldsSeen_41 ?_
    refine y_aload_n C dX6_fieldsSeen_42 1 rfl rfl ?_
    refine y_bipush (v := (16 : Int32)) C dX6_fieldsSeen_43 (by decide) ?_
    refine y_iload_n C dX6_fieldsSeen_45 2 rfl rfl ?_
    refine y_iadd C dX6_fieldsSeen_46 ?_
    obtain ⟨hg, h⟩ := g_gd h
    refine al_M_1 C hu_u0 hg dX6_fieldsSeen_47 ?_
    refine y_iload_n C dX6_fieldsSeen_48 3 rfl rfl ?_
    obtain ⟨x3, hc, h⟩ := g_bd h
    refine y_callV C (As := [.int (σ.1 1 u0 v2.toNatClampNeg), .int v6, .int (σ.1 1 u0 ((8 : Int32) + v2).toNatClampNeg), .int (σ.1 1 u0 ((16 : Int32) + v2).toNatClampNeg), .int v3]) (rest := [.long v4]) (hu := nM_0_0) (hc := (rfl : gCl[5]? = some (RX6, TX6, 49))) (hcell := obM_0) (lk_X6_296 C hR (by decide)) (ct_M_seesBy hc) rfl rfl (Nat.le_of_ble_eq_true rfl) ⟨Nat.zero_le _, Nat.zero_le _⟩ dX6_fieldsSeen_49 ?_
    refine y_if_eq (tgt := 62) C dX6_fieldsSeen_52 rfl (fun hc => ?_) (fun hc => ?_)
    · replace h := g_it h hc
      refine y_lconst (v := (0 : Int64)) C dX6_fieldsSeen_62 (by decide) ?_
      refine y_lor C dX6_fieldsSeen_63 ?_
      obtain ⟨x4, hx4, h⟩ := g_lt h
      refine y_lstore (vs1 := [(4, .long x4), (0, .ref (ad 0 0)), (1, .ref (ad 1 u0)), (2, .int v2), (3, .int v3), (6, .int v6)]) C hx4 dX6_fieldsSeen_64 (g_lL hL rfl) rfl ?_
      obtain ⟨x5, hx5, h⟩ := g_lt h
      refine y_iinc (c := (1 : Int32)) (vs1 := [(6, .int x5), (4, .long x4), (0, .ref (ad 0 0)), (1, .ref (ad 1 u0)), (2, .int v2), (3, .int v3)]) C hx5 (by decide) dX6_fieldsSeen_66 5 rfl (g_lL hL rfl) rfl ?_
      refine y_goto (tgt := 19) C dX6_fieldsSeen_69 rfl ?_
      refine y_sub (vs2 := [(0, .ref (ad 0 0)), (1, .ref (ad 1 u0)), (2, .int v2), (3, .int v3), (4, .long x4), (6, .int x5)]) [2, 3, 4, 5, 1, 0] rfl ?_
      exact kl _ (Option.some.inj h).symm
    · replace h := g_if h hc
      refine y_lconst (v := (1 : Int64)) C dX6_fieldsSeen_55 (by decide) ?_
      refine y_iload C dX6_fieldsSeen_56 5 rfl ?_
      refine y_lshl C dX6_fieldsSeen_58 rfl ?_
      refine y_goto (tgt := 63) C dX6_fieldsSeen_59 rfl ?_
      refine y_lor C dX6_fieldsSeen_63 ?_
      obtain ⟨x6, hx6, h⟩ := g_lt h
      refine y_lstore (vs1 := [(4, .long x6), (0, .ref (ad 0 0)), (1, .ref (ad 1 u0)), (2, .int v2), (3, .int v3), (6, .int v6)]) C hx6 dX6_fieldsSeen_64 (g_lL hL rfl) rfl ?_
      obtain ⟨x7, hx7, h⟩ := g_lt h
      refine y_iinc (c := (1 : Int32)) (vs1 := [(6, .int x7), (4, .long x6), (0, .ref (ad 0 0)), (1, .ref (ad 1 u0)), (2, .int v2), (3, .int v3)]) C hx7 (by decide) dX6_fieldsSeen_66 5 rfl (g_lL hL rfl) rfl ?_
      refine y_goto (tgt := 19) C dX6_fieldsSeen_69 rfl ?_
      refine y_sub (vs2 := [(0, .ref (ad 0 0)), (1, .ref (ad 1 u0)), (2, .int v2), (3, .int v3), (4, .long x6), (6, .int x7)]) [2, 3, 4, 5, 1, 0] rfl ?_
      exact kl _ (Option.some.inj h).symm
theorem mw_M_fieldsSeen {X : g_F} (C : g_M gCl X cX6_fieldsSeen RX6 (some .long)) (hR : g_R X = g_rm 5 0 0) (hL : g_nL X = 7) {u0 : Nat} (hu_u0 : u0 < g_n (gM true) 1) {ad : Nat → Nat → Nat} {σ : g_S} {v2 : Int32} {o : Int64} (h : mF_M_fieldsSeen σ u0 v2 = some o) (hQ : g_MQ gCl X (gM true) ad σ (some (.long o)) = g_Q X) : g_Y gCl X (gM true) ad σ (0, 0) 0 [(0, .ref (ad 0 0)), (1, .ref (ad 1 u0)), (2, .int v2)] [] := by
  unfold mF_M_fieldsSeen at h
  refine y_aload_n C dX6_fieldsSeen_0 0 rfl rfl ?_
  refine y_aload_n C dX6_fieldsSeen_1 1 rfl rfl ?_
  refine y_iload_n C dX6_fieldsSeen_2 2 rfl rfl ?_
  refine y_aload_n C dX6_fieldsSeen_3 1 rfl rfl ?_
  refine y_bipush (v := (16 : Int32)) C dX6_fieldsSeen_4 (by decide) ?_
  refine y_iload_n C dX6_fieldsSeen_6 2 rfl rfl ?_
  refine y_iadd C dX6_fieldsSeen_7 ?_
  obtain ⟨hg, h⟩ := g_gd h
  refine al_M_1 C hu_u0 hg dX6_fieldsSeen_8 ?_
  obtain ⟨x1, hc, h⟩ := g_bd h
  refine y_callV C (As := [.ref (ad 1 u0), .int v2, .int (σ.1 1 u0 ((16 : Int32) + v2).toNatClampNeg)]) (rest := []) (hu := nM_0_0) (hc := (rfl : gCl[5]? = some (RX6, TX6, 49))) (hcell := obM_0) (lk_X6_292 C hR (by decide)) (ct_R_reachBy hu_u0 hc) rfl rfl (Nat.le_of_ble_eq_true rfl) ⟨Nat.zero_le _, Nat.zero_le _⟩ dX6_fieldsSeen_9 ?_
  refine y_istore_n (vs1 := [(3, .int x1), (0, .ref (ad 0 0)), (1, .ref (ad 1 u0)), (2, .int v2)]) C rfl dX6_fieldsSeen_12 rfl (g_lL hL rfl) rfl ?_
  refine y_lconst (v := (0 : Int64)) C dX6_fieldsSeen_13 (by decide) ?_
  refine y_lstore (vs1 := [(4, .long (0 : Int64)), (3, .int x1), (0, .ref (ad 0 0)), (1, .ref (ad 1 u0)), (2, .int v2)]) C rfl dX6_fieldsSeen_14 (g_lL hL rfl) rfl ?_
  refine y_iconst (v := (0 : Int32)) C dX6_fieldsSeen_16 (by decide) ?_
  refine y_istore (vs1 := [(6, .int (0 : Int32)), (4, .long (0 : Int64)), (3, .int x1), (0, .ref (ad 0 0)), (1, .ref (ad 1 u0)), (2, .int v2)]) C rfl dX6_fieldsSeen_17 (g_lL hL rfl) rfl ?_
  refine y_sub (vs2 := [(0, .ref (ad 0 0)), (1, .ref (ad 1 u0)), (2, .int v2), (3, .int x1), (4, .long (0 : Int64)), (6, .int (0 : Int32))]) [3, 4, 5, 2, 1, 0] rfl ?_
  obtain ⟨e8, he8, h⟩ := g_bd h
  refine ml_M_fieldsSeen_19 C hR hL hu_u0 (σ := σ) _ _ _ he8 ?_
  refine y_lload C dX6_fieldsSeen_72 0 rfl ?_
  replace h := Option.some.inj h; subst h
  exact y_lret C hQ ⟨Nat.zero_le _, Nat.zero_le _⟩ dX6_fieldsSeen_74
theorem ct_M_fieldsSeen {D : va_G} {dA : Nat → ClassId} {A : Nat → Prop} {s0 : State} {b0 : Nat} {l : Launch} {u0 : Nat} (hu_u0 : u0 < g_n (gM true) 1) {ad : Nat → Nat → Nat} {σ : g_S} {v2 : Int32} {r : Int64} (h : mF_M_fieldsSeen σ u0 v2 = some r) : g_Met gCl D dA A s0 b0 l yX6_fieldsSeen cX6_fieldsSeen 7 (some .long) 5 (0, 0) (gM true) ad σ [.ref (ad 0 0), .ref (ad 1 u0), .int v2] (gM true) ad σ (some (.long r)) :=
  g_Met.of pl_X6 (Nat.le_of_ble_eq_true rfl) (fun X C hQ hR _ _ hL _ es eb => mw_M_fieldsSeen C hR hL hu_u0 h hQ)
theorem mw_M_has {X : g_F} {LM : g_L} (C : g_M gCl X cX6_has RX6 (some .boolean)) (hR : g_R X = g_rm 1 0 0) (hL : g_nL X = 3) {ad : Nat → Nat → Nat} {σ : g_S} {v0 : Int64} {v2 : Int32} {o : Int32} (h : mF_M_has v0 v2 = some o) (hQ : g_MQ gCl X LM ad σ (some (.int o)) = g_Q X) : g_Y gCl X LM ad σ (0, 0) 0 [(0, .long v0), (2, .int v2)] [] := by
  unfold mF_M_has at h
  refine y_lload_n C dX6_has_0 0 rfl rfl ?_
  refine y_iload_n C dX6_has_1 1 rfl rfl ?_
  refine y_lshr C dX6_has_2 rfl ?_
  refine y_lconst (v := (1 : Int64)) C dX6_has_3 (by decide) ?_
  refine y_land C dX6_has_4 ?_
  refine y_lconst (v := (1 : Int64)) C dX6_has_5 (by decide) ?_
  refine y_lcmp C dX6_has_6 ?_
  refine y_if_ne (tgt := 14) C dX6_has_7 rfl (fun hc => ?_) (fun hc => ?_)
  · replace h := g_if h hc
    refine y_iconst (v := (0 : Int32)) C dX6_has_14 (by decide) ?_
    replace h := Option.some.inj h; subst h
    exact y_zret C (by decide) hQ ⟨Nat.zero_le _, Nat.zero_le _⟩ dX6_has_15
  · replace h := g_it h hc
    refine y_iconst (v := (1 : Int32)) C dX6_has_10 (by decide) ?_
    refine y_goto (tgt := 15) C dX6_has_11 rfl ?_
    replace h := Option.some.inj h; subst h
    exact y_zret C (by decide) hQ ⟨Nat.zero_le _, Nat.zero_le _⟩ dX6_has_15
theorem ct_M_has {D : va_G} {dA : Nat → ClassId} {A : Nat → Prop} {s0 : State} {b0 : Nat} {l : Launch} {LM : g_L} {ad : Nat → Nat → Nat} {σ : g_S} {v0 : Int64} {v2 : Int32} {r : Int32} (h : mF_M_has v0 v2 = some r) : g_Met gCl D dA A s0 b0 l yX6_has cX6_has 3 (some .boolean) 1 (0, 0) LM ad σ [.long v0, .int v2] LM ad σ (some (.int r)) :=
  g_Met.of pl_X6 (Nat.le_of_ble_eq_true rfl) (fun X C hQ hR _ _ hL _ es eb => mw_M_has C hR hL h hQ)
theorem ml_M_thingsOn_6 {X : g_F} {hid : Bool} (C : g_M gCl X cX6_thingsOn RX6 (some .int)) (hR : g_R X = g_rm 2 0 0) (hL : g_nL X = 6) {u0 : Nat} (hu_u0 : u0 < g_n (gM hid) 1) {ad : Nat → Nat → Nat} {σ : g_S} {v2 : Int64} (n : Nat) (v : (Int32 × Int32)) (e : Int32) (h : g_lp (fun v => mB_M_thingsOn_6 σ u0 v2 v.1 v.2) n v = some e) (kx : g_Y gCl X (gM hid) ad σ (0, 0) 48 [(4, .int e)] []) : g_Y gCl X (gM hid) ad σ (0, 0) 6 [(0, .ref (ad 0 0)), (1, .ref (ad 1 u0)), (2, .long v2), (4, .int v.1), (5, .int v.2)] [] := by
  refine g_loop (P := fun v => g_Y gCl X (gM hid) ad σ (0, 0) 6 [(0, .ref (ad 0 0)), (1, .ref (ad 1 u0)), (2, .long v2), (4, .int v.1), (5, .int v.2)] []) (T := fun e => g_Y gCl X (gM hid) ad σ (0, 0) 48 [(4, .int e)] []) ?_ n v e h kx
  clear h kx
  clear n v e
  intro v o h kl kx
  obtain ⟨v4, v5⟩ := v
  have h : mB_M_thingsOn_6 σ u0 v2 v4 v5 = some o := h
  unfold mB_M_thingsOn_6 at h
  show g_Y gCl X (gM hid) ad σ (0, 0) 6 [(0, .ref (ad 0 0)), (1, .ref (ad 1 u0)), (2, .long v2), (4, .int v4), (5, .int v5)] []
  refine y_iload C dX6_thingsOn_6 4 rfl ?_
  refine y_aload_n C dX6_thingsOn_8 0 rfl rfl ?_
  refine gf_M_6 C dX6_thingsOn_9 ?_
  refine y_icmp_ge (tgt := 48) C dX6_thingsOn_12 rfl (fun hc => ?_) (fun hc => ?_)
  · replace h := g_it h hc
    refine y_sub (vs2 := [(4, .int v4)]) [3] rfl ?_
    exact kx _ (Option.some.inj h).symm
  · replace h := g_if h hc
    refine y_iload C dX6_thingsOn_15 3 rfl ?_
    refine y_lload_n C dX6_thingsOn_17 2 rfl rfl ?_
    refine y_aload_n C dX6_thingsOn_18 1 rfl rfl ?_
    refine y_bipush (v := (32 : Int32)) C dX6_thingsOn_19 (by decide) ?_
    refine y_iload C dX6_thingsOn_21 4 rfl ?_
    refine y_iadd C dX6_thingsOn_23 ?_
    obtain ⟨hg, h⟩ := g_gd h
    refine al_M_1 C hu_u0 hg dX6_thingsOn_24 ?_
    obtain ⟨x1, hc, h⟩ := g_bd h
    refine y_callS C (As := [.long v2, .int (σ.1 1 u0 ((32 : Int32) + v5).toNatClampNeg)]) (rest := [.int v4]) (lk_X6_304 C hR (by decide)) (ct_M_has hc) rfl rfl (Nat.le_of_ble_eq_true rfl) ⟨Nat.zero_le _, Nat.zero_le _⟩ dX6_thingsOn_25 ?_
    refine y_if_eq (tgt := 38) C dX6_thingsOn_28 rfl (fun hc => ?_) (fun hc => ?_)
    · replace h := g_it h hc
      refine y_iconst (v := (0 : Int32)) C dX6_thingsOn_38 (by decide) ?_
      refine y_ior C dX6_thingsOn_39 ?_
      obtain ⟨x2, hx2, h⟩ := g_lt h
      refine y_istore (vs1 := [(4, .int x2), (0, .ref (ad 0 0)), (1, .ref (ad 1 u0)), (2, .long v2), (5, .int v5)]) C hx2 dX6_thingsOn_40 (g_lL hL rfl) rfl ?_
      obtain ⟨x3, hx3, h⟩ := g_lt h
      refine y_iinc (c := (1 : Int32)) (vs1 := [(5, .int x3), (4, .int x2), (0, .ref (ad 0 0)), (1, .ref (ad 1 u0)), (2, .long v2)]) C hx3 (by decide) dX6_thingsOn_42 4 rfl (g_lL hL rfl) rfl ?_
      refine y_goto (tgt := 6) C dX6_thingsOn_45 rfl ?_
      refine y_sub (vs2 := [(0, .ref (ad 0 0)), (1, .ref (ad 1 u0)), (2, .long v2), (4, .int x2), (5, .int x3)]) [2, 3, 4, 1, 0] rfl ?_
      exact kl _ (Option.some.inj h).symm
    · replace h := g_if h hc
      refine y_iconst (v := (1 : Int32)) C dX6_thingsOn_31 (by decide) ?_
      refine y_iload C dX6_thingsOn_32 4 rfl ?_
      refine y_ishl C dX6_thingsOn_34 ?_
      refine y_goto (tgt := 39) C dX6_thingsOn_35 rfl ?_
      refine y_ior C dX6_thingsOn_39 ?_
      obtain ⟨x4, hx4, h⟩ := g_lt h
      refine y_istore (vs1 := [(4, .int x4), (0, .ref (ad 0 0)), (1, .ref (ad 1 u0)), (2, .long v2), (5, .int v5)]) C hx4 dX6_thingsOn_40 (g_lL hL rfl) rfl ?_
      obtain ⟨x5, hx5, h⟩ := g_lt h
      refine y_iinc (c := (1 : Int32)) (vs1 := [(5, .int x5), (4, .int x4), (0, .ref (ad 0 0)), (1, .ref (ad 1 u0)), (2, .long v2)]) C hx5 (by decide) dX6_thingsOn_42 4 rfl (g_lL hL rfl) rfl ?_
      refine y_goto (tgt := 6) C dX6_thingsOn_45 rfl ?_
      refine y_sub (vs2 := [(0, .ref (ad 0 0)), (1, .ref (ad 1 u0)), (2, .long v2), (4, .int x4), (5, .int x5)]) [2, 3, 4, 1, 0] rfl ?_
      exact kl _ (Option.some.inj h).symm
theorem mw_M_thingsOn {X : g_F} {hid : Bool} (C : g_M gCl X cX6_thingsOn RX6 (some .int)) (hR : g_R X = g_rm 2 0 0) (hL : g_nL X = 6) {u0 : Nat} (hu_u0 : u0 < g_n (gM hid) 1) {ad : Nat → Nat → Nat} {σ : g_S} {v2 : Int64} {o : Int32} (h : mF_M_thingsOn σ u0 v2 = some o) (hQ : g_MQ gCl X (gM hid) ad σ (some (.int o)) = g_Q X) : g_Y gCl X (gM hid) ad σ (0, 0) 0 [(0, .ref (ad 0 0)), (1, .ref (ad 1 u0)), (2, .long v2)] [] := by
  unfold mF_M_thingsOn at h
  refine y_iconst (v := (0 : Int32)) C dX6_thingsOn_0 (by decide) ?_
  refine y_istore (vs1 := [(4, .int (0 : Int32)), (0, .ref (ad 0 0)), (1, .ref (ad 1 u0)), (2, .long v2)]) C rfl dX6_thingsOn_1 (g_lL hL rfl) rfl ?_
  refine y_iconst (v := (0 : Int32)) C dX6_thingsOn_3 (by decide) ?_
  refine y_istore (vs1 := [(5, .int (0 : Int32)), (4, .int (0 : Int32)), (0, .ref (ad 0 0)), (1, .ref (ad 1 u0)), (2, .long v2)]) C rfl dX6_thingsOn_4 (g_lL hL rfl) rfl ?_
  refine y_sub (vs2 := [(0, .ref (ad 0 0)), (1, .ref (ad 1 u0)), (2, .long v2), (4, .int (0 : Int32)), (5, .int (0 : Int32))]) [2, 3, 4, 1, 0] rfl ?_
  obtain ⟨e6, he6, h⟩ := g_bd h
  refine ml_M_thingsOn_6 C hR hL hu_u0 (σ := σ) _ _ _ he6 ?_
  refine y_iload C dX6_thingsOn_48 0 rfl ?_
  replace h := Option.some.inj h; subst h
  exact y_iret C hQ ⟨Nat.zero_le _, Nat.zero_le _⟩ dX6_thingsOn_50
theorem ct_M_thingsOn {D : va_G} {dA : Nat → ClassId} {A : Nat → Prop} {s0 : State} {b0 : Nat} {l : Launch} {hid : Bool} {u0 : Nat} (hu_u0 : u0 < g_n (gM hid) 1) {ad : Nat → Nat → Nat} {σ : g_S} {v2 : Int64} {r : Int32} (h : mF_M_thingsOn σ u0 v2 = some r) : g_Met gCl D dA A s0 b0 l yX6_thingsOn cX6_thingsOn 6 (some .int) 2 (0, 0) (gM hid) ad σ [.ref (ad 0 0), .ref (ad 1 u0), .long v2] (gM hid) ad σ (some (.int r)) :=
  g_Met.of pl_X6 (Nat.le_of_ble_eq_true rfl) (fun X C hQ hR _ _ hL _ es eb => mw_M_thingsOn C hR hL hu_u0 h hQ)
theorem mj_M_person_25 {X : g_F} (C : g_M gCl X cX6_person RX6 (some .int)) (hR : g_R X = g_rm 6 0 0) (hL : g_nL X = 3) {ad : Nat → Nat → Nat} {σ : g_S} {o : (Int32 × g_S)} (h : mJ_M_person_25 σ = some o) (hQ : g_MQ gCl X (gM true) ad o.2 (some (.int o.1)) = g_Q X) : g_Y gCl X (gM true) ad σ (0, 0) 25 [(0, .ref (ad 0 0))] [] := by
  unfold mJ_M_person_25 at h
  refine y_aload_n C dX6_person_25 0 rfl rfl ?_
  obtain ⟨x4, σ3, hc, h⟩ := g_bp h
  refine y_callV C (As := []) (rest := []) (hu := nM_0_0) (hc := (rfl : gCl[5]? = some (RX6, TX6, 49))) (hcell := obM_0) (lk_X6_320 C hR (by decide)) (ct_M_refuse hc) rfl rfl (Nat.le_of_ble_eq_true rfl) ⟨Nat.zero_le _, Nat.zero_le _⟩ dX6_person_26 ?_
  replace h := Option.some.inj h; subst h
  exact y_iret C hQ ⟨Nat.zero_le _, Nat.zero_le _⟩ dX6_person_29
theorem mw_M_person {X : g_F} (C : g_M gCl X cX6_person RX6 (some .int)) (hR : g_R X = g_rm 6 0 0) (hL : g_nL X = 3) {ad : Nat → Nat → Nat} {σ : g_S} {v1 : Int32} {v2 : Int32} {o : (Int32 × g_S)} (h : mF_M_person σ v1 v2 = some o) (hQ : g_MQ gCl X (gM true) ad o.2 (some (.int o.1)) = g_Q X) : g_Y gCl X (gM true) ad σ (0, 0) 0 [(0, .ref (ad 0 0)), (1, .int v1), (2, .int v2)] [] := by
  unfold mF_M_person at h
  refine y_aload_n C dX6_person_0 0 rfl rfl ?_
  refine y_iconst (v := (0 : Int32)) C dX6_person_1 (by decide) ?_
  obtain ⟨σ1, hσ1, h⟩ := g_lt h
  refine pf_M_0 C hσ1 dX6_person_2 ?_
  refine y_aload_n C dX6_person_5 0 rfl rfl ?_
  refine y_iload_n C dX6_person_6 1 rfl rfl ?_
  obtain ⟨x2, hc, h⟩ := g_bd h
  refine y_callV C (As := [.int v1]) (rest := []) (hu := nM_0_0) (hc := (rfl : gCl[5]? = some (RX6, TX6, 49))) (hcell := obM_0) (lk_X6_315 C hR (by decide)) (ct_M_isPerson hc) rfl rfl (Nat.le_of_ble_eq_true rfl) ⟨Nat.zero_le _, Nat.zero_le _⟩ dX6_person_7 ?_
  refine y_if_eq (tgt := 25) C dX6_person_10 rfl (fun hc => ?_) (fun hc => ?_)
  · replace h := g_it h hc
    refine y_sub (vs2 := [(0, .ref (ad 0 0))]) [0] rfl ?_
    exact mj_M_person_25 C hR hL h hQ
  · replace h := g_if h hc
    refine y_iload_n C dX6_person_13 2 rfl rfl ?_
    refine y_i2l C dX6_person_14 ?_
    refine y_lconst (v := (0 : Int64)) C dX6_person_15 (by decide) ?_
    refine y_ldc2 (v := (5 : Int64)) C q1580 dX6_person_16 ?_
    obtain ⟨x5, hc, h⟩ := g_bd h
    refine y_callS C (As := [.long (v2.toInt64), .long (0 : Int64), .long (5 : Int64)]) (rest := []) (lk_X6_126 C hR (by decide)) (ct_M_in hc) rfl rfl (Nat.le_of_ble_eq_true rfl) ⟨Nat.zero_le _, Nat.zero_le _⟩ dX6_person_19 ?_
    refine y_if_ne (tgt := 30) C dX6_person_22 rfl (fun hc => ?_) (fun hc => ?_)
    · replace h := g_if h hc
      refine y_iload_n C dX6_person_30 2 rfl rfl ?_
      by_cases hc0 : v2 = (0 : Int32)
      · replace h := g_it h hc0
        refine y_tswI (tgt := 64) (off := 33) C dX6_person_31 hc0 (by decide) rfl ?_
        refine y_aload_n C dX6_person_64 0 rfl rfl ?_
        refine gf_M_11 C dX6_person_65 ?_
        refine y_iload_n C dX6_person_68 1 rfl rfl ?_
        obtain ⟨hg, h⟩ := g_gd h
        refine al_M_1 C nM_1_0 hg dX6_person_69 ?_
        replace h := Option.some.inj h; subst h
        exact y_iret C hQ ⟨Nat.zero_le _, Nat.zero_le _⟩ dX6_person_70
      replace h := g_if h hc0
      by_cases hc1 : v2 = (1 : Int32)
      · replace h := g_it h hc1
        refine y_tswI (tgt := 71) (off := 40) C dX6_person_31 hc1 (by decide) rfl ?_
        refine y_aload_n C dX6_person_71 0 rfl rfl ?_
        refine gf_M_11 C dX6_person_72 ?_
        refine y_bipush (v := (8 : Int32)) C dX6_person_75 (by decide) ?_
        refine y_iload_n C dX6_person_77 1 rfl rfl ?_
        refine y_iadd C dX6_person_78 ?_
        obtain ⟨hg, h⟩ := g_gd h
        refine al_M_1 C nM_1_0 hg dX6_person_79 ?_
        replace h := Option.some.inj h; subst h
        exact y_iret C hQ ⟨Nat.zero_le _, Nat.zero_le _⟩ dX6_person_80
      replace h := g_if h hc1
      by_cases hc2 : v2 = (2 : Int32)
      · replace h := g_it h hc2
        refine y_tswI (tgt := 81) (off := 50) C dX6_person_31 hc2 (by decide) rfl ?_
        refine y_aload_n C dX6_person_81 0 rfl rfl ?_
        refine gf_M_11 C dX6_person_82 ?_
        refine y_bipush (v := (16 : Int32)) C dX6_person_85 (by decide) ?_
        refine y_iload_n C dX6_person_87 1 rfl rfl ?_
        refine y_iadd C dX6_person_88 ?_
        obtain ⟨hg, h⟩ := g_gd h
        refine al_M_1 C nM_1_0 hg dX6_person_89 ?_
        replace h := Option.some.inj h; subst h
        exact y_iret C hQ ⟨Nat.zero_le _, Nat.zero_le _⟩ dX6_person_90
      replace h := g_if h hc2
      by_cases hc3 : v2 = (3 : Int32)
      · replace h := g_it h hc3
        refine y_tswI (tgt := 91) (off := 60) C dX6_person_31 hc3 (by decide) rfl ?_
        refine y_aload_n C dX6_person_91 0 rfl rfl ?_
        refine gf_M_11 C dX6_person_92 ?_
        refine y_bipush (v := (24 : Int32)) C dX6_person_95 (by decide) ?_
        refine y_iload_n C dX6_person_97 1 rfl rfl ?_
        refine y_iadd C dX6_person_98 ?_
        obtain ⟨hg, h⟩ := g_gd h
        refine al_M_1 C nM_1_0 hg dX6_person_99 ?_
        replace h := Option.some.inj h; subst h
        exact y_iret C hQ ⟨Nat.zero_le _, Nat.zero_le _⟩ dX6_person_100
      replace h := g_if h hc3
      by_cases hc4 : v2 = (4 : Int32)
      · replace h := g_it h hc4
        refine y_tswI (tgt := 101) (off := 70) C dX6_person_31 hc4 (by decide) rfl ?_
        refine y_aload_n C dX6_person_101 0 rfl rfl ?_
        refine y_aload_n C dX6_person_102 0 rfl rfl ?_
        refine gf_M_11 C dX6_person_103 ?_
        refine y_iload_n C dX6_person_106 1 rfl rfl ?_
        refine y_aload_n C dX6_person_107 0 rfl rfl ?_
        refine gf_M_11 C dX6_person_108 ?_
        refine y_bipush (v := (16 : Int32)) C dX6_person_111 (by decide) ?_
        refine y_iload_n C dX6_person_113 1 rfl rfl ?_
        refine y_iadd C dX6_person_114 ?_
        obtain ⟨hg, h⟩ := g_gd h
        refine al_M_1 C nM_1_0 hg dX6_person_115 ?_
        obtain ⟨x6, hc, h⟩ := g_bd h
        refine y_callV C (As := [.ref (ad 1 0), .int v1, .int (σ1.1 1 0 ((16 : Int32) + v1).toNatClampNeg)]) (rest := []) (hu := nM_0_0) (hc := (rfl : gCl[5]? = some (RX6, TX6, 49))) (hcell := obM_0) (lk_X6_292 C hR (by decide)) (ct_R_reachBy nM_1_0 hc) rfl rfl (Nat.le_of_ble_eq_true rfl) ⟨Nat.zero_le _, Nat.zero_le _⟩ dX6_person_116 ?_
        replace h := Option.some.inj h; subst h
        exact y_iret C hQ ⟨Nat.zero_le _, Nat.zero_le _⟩ dX6_person_119
      replace h := g_if h hc4
      refine y_tswO (tgt := 120) C dX6_person_31 (by have e0 := lv_neT hc0 (show (0 : Int32).toInt = 0 by decide); have e1 := lv_neT hc1 (show (1 : Int32).toInt = 1 by decide); have e2 := lv_neT hc2 (show (2 : Int32).toInt = 2 by decide); have e3 := lv_neT hc3 (show (3 : Int32).toInt = 3 by decide); have e4 := lv_neT hc4 (show (4 : Int32).toInt = 4 by decide); omega) rfl ?_
      refine y_aload_n C dX6_person_120 0 rfl rfl ?_
      refine y_aload_n C dX6_person_121 0 rfl rfl ?_
      refine gf_M_11 C dX6_person_122 ?_
      refine y_aload_n C dX6_person_125 0 rfl rfl ?_
      refine y_aload_n C dX6_person_126 0 rfl rfl ?_
      refine gf_M_11 C dX6_person_127 ?_
      refine y_iload_n C dX6_person_130 1 rfl rfl ?_
      obtain ⟨x7, hc, h⟩ := g_bd h
      refine y_callV C (As := [.ref (ad 1 0), .int v1]) (rest := [.ref (ad 1 0), .ref (ad 0 0)]) (hu := nM_0_0) (hc := (rfl : gCl[5]? = some (RX6, TX6, 49))) (hcell := obM_0) (lk_X6_300 C hR (by decide)) (ct_M_fieldsSeen nM_1_0 hc) rfl rfl (Nat.le_of_ble_eq_true rfl) ⟨Nat.zero_le _, Nat.zero_le _⟩ dX6_person_131 ?_
      obtain ⟨x8, hc, h⟩ := g_bd h
      refine y_callV C (As := [.ref (ad 1 0), .long x7]) (rest := []) (hu := nM_0_0) (hc := (rfl : gCl[5]? = some (RX6, TX6, 49))) (hcell := obM_0) (lk_X6_323 C hR (by decide)) (ct_M_thingsOn nM_1_0 hc) rfl rfl (Nat.le_of_ble_eq_true rfl) ⟨Nat.zero_le _, Nat.zero_le _⟩ dX6_person_134 ?_
      replace h := Option.some.inj h; subst h
      exact y_iret C hQ ⟨Nat.zero_le _, Nat.zero_le _⟩ dX6_person_137
    · replace h := g_it h hc
      refine y_sub (vs2 := [(0, .ref (ad 0 0))]) [0] rfl ?_
      exact mj_M_person_25 C hR hL h hQ
theorem ct_M_person {D : va_G} {dA : Nat → ClassId} {A : Nat → Prop} {s0 : State} {b0 : Nat} {l : Launch} {ad : Nat → Nat → Nat} {σ : g_S} {v1 : Int32} {v2 : Int32} {r : Int32} {σ1 : g_S} (h : mF_M_person σ v1 v2 = some (r, σ1)) : g_Met gCl D dA A s0 b0 l yX6_person cX6_person 3 (some .int) 6 (0, 0) (gM true) ad σ [.ref (ad 0 0), .int v1, .int v2] (gM true) ad σ1 (some (.int r)) :=
  g_Met.of pl_X6 (Nat.le_of_ble_eq_true rfl) (fun X C hQ hR _ _ hL _ es eb => mw_M_person C hR hL h hQ)
theorem mw_M_isThing {X : g_F} {hid : Bool} (C : g_M gCl X cX6_isThing RX6 (some .boolean)) (hR : g_R X = g_rm 2 0 0) (hL : g_nL X = 2) {ad : Nat → Nat → Nat} {σ : g_S} {v1 : Int32} {o : Int32} (h : mF_M_isThing σ v1 = some o) (hQ : g_MQ gCl X (gM hid) ad σ (some (.int o)) = g_Q X) : g_Y gCl X (gM hid) ad σ (0, 0) 0 [(0, .ref (ad 0 0)), (1, .int v1)] [] := by
  unfold mF_M_isThing at h
  refine y_iload_n C dX6_isThing_0 1 rfl rfl ?_
  refine y_i2l C dX6_isThing_1 ?_
  refine y_lconst (v := (0 : Int64)) C dX6_isThing_2 (by decide) ?_
  refine y_aload_n C dX6_isThing_3 0 rfl rfl ?_
  refine gf_M_6 C dX6_isThing_4 ?_
  refine y_iconst (v := (1 : Int32)) C dX6_isThing_7 (by decide) ?_
  refine y_isub C dX6_isThing_8 ?_
  refine y_i2l C dX6_isThing_9 ?_
  obtain ⟨x1, hc, h⟩ := g_bd h
  refine y_callS C (As := [.long (v1.toInt64), .long (0 : Int64), .long (((σ.1 0 0 6) - (1 : Int32)).toInt64)]) (rest := []) (lk_X6_126 C hR (by decide)) (ct_M_in hc) rfl rfl (Nat.le_of_ble_eq_true rfl) ⟨Nat.zero_le _, Nat.zero_le _⟩ dX6_isThing_10 ?_
  obtain ⟨hg, h⟩ := g_gd h
  replace h := Option.some.inj h; subst h
  exact y_zret C (g_nz hg) hQ ⟨Nat.zero_le _, Nat.zero_le _⟩ dX6_isThing_13
theorem ct_M_isThing {D : va_G} {dA : Nat → ClassId} {A : Nat → Prop} {s0 : State} {b0 : Nat} {l : Launch} {hid : Bool} {ad : Nat → Nat → Nat} {σ : g_S} {v1 : Int32} {r : Int32} (h : mF_M_isThing σ v1 = some r) : g_Met gCl D dA A s0 b0 l yX6_isThing cX6_isThing 2 (some .boolean) 2 (0, 0) (gM hid) ad σ [.ref (ad 0 0), .int v1] (gM hid) ad σ (some (.int r)) :=
  g_Met.of pl_X6 (Nat.le_of_ble_eq_true rfl) (fun X C hQ hR _ _ hL _ es eb => mw_M_isThing C hR hL h hQ)
theorem ml_M_knowing_5 {X : g_F} {hid : Bool} (C : g_M gCl X cX6_knowing RX6 (some .int)) (hR : g_R X = g_rm 2 0 0) (hL : g_nL X = 5) {u0 : Nat} (hu_u0 : u0 < g_n (gM hid) 1) {ad : Nat → Nat → Nat} {σ : g_S} {v2 : Int32} (n : Nat) (v : (Int32 × Int32)) (e : Int32) (h : g_lp (fun v => mB_M_knowing_5 σ u0 v2 v.1 v.2) n v = some e) (kx : g_Y gCl X (gM hid) ad σ (0, 0) 46 [(3, .int e)] []) : g_Y gCl X (gM hid) ad σ (0, 0) 5 [(0, .ref (ad 0 0)), (1, .ref (ad 1 u0)), (2, .int v2), (3, .int v.1), (4, .int v.2)] [] := by
  refine g_loop (P := fun v => g_Y gCl X (gM hid) ad σ (0, 0) 5 [(0, .ref (ad 0 0)), (1, .ref (ad 1 u0)), (2, .int v2), (3, .int v.1), (4, .int v.2)] []) (T := fun e => g_Y gCl X (gM hid) ad σ (0, 0) 46 [(3, .int e)] []) ?_ n v e h kx
  clear h kx
  clear n v e
  intro v o h kl kx
  obtain ⟨v3, v4⟩ := v
  have h : mB_M_knowing_5 σ u0 v2 v3 v4 = some o := h
  unfold mB_M_knowing_5 at h
  show g_Y gCl X (gM hid) ad σ (0, 0) 5 [(0, .ref (ad 0 0)), (1, .ref (ad 1 u0)), (2, .int v2), (3, .int v3), (4, .int v4)] []
  refine y_iload C dX6_knowing_5 4 rfl ?_
  refine y_aload_n C dX6_knowing_7 0 rfl rfl ?_
  refine gf_M_5 C dX6_knowing_8 ?_
  refine y_icmp_ge (tgt := 46) C dX6_knowing_11 rfl (fun hc => ?_) (fun hc => ?_)
  · replace h := g_it h hc
    refine y_sub (vs2 := [(3, .int v3)]) [3] rfl ?_
    exact kx _ (Option.some.inj h).symm
  · replace h := g_if h hc
    refine y_iload_n C dX6_knowing_14 3 rfl rfl ?_
    refine y_aload_n C dX6_knowing_15 1 rfl rfl ?_
    refine y_bipush (v := (24 : Int32)) C dX6_knowing_16 (by decide) ?_
    refine y_iload C dX6_knowing_18 4 rfl ?_
    refine y_iadd C dX6_knowing_20 ?_
    obtain ⟨hg, h⟩ := g_gd h
    refine al_M_1 C hu_u0 hg dX6_knowing_21 ?_
    refine y_i2l C dX6_knowing_22 ?_
    refine y_iload_n C dX6_knowing_23 2 rfl rfl ?_
    obtain ⟨x1, hc, h⟩ := g_bd h
    refine y_callS C (As := [.long ((σ.1 1 u0 ((24 : Int32) + v4).toNatClampNeg).toInt64), .int v2]) (rest := [.int v3]) (lk_X6_304 C hR (by decide)) (ct_M_has hc) rfl rfl (Nat.le_of_ble_eq_true rfl) ⟨Nat.zero_le _, Nat.zero_le _⟩ dX6_knowing_24 ?_
    refine y_if_eq (tgt := 37) C dX6_knowing_27 rfl (fun hc => ?_) (fun hc => ?_)
    · replace h := g_it h hc
      refine y_iconst (v := (0 : Int32)) C dX6_knowing_37 (by decide) ?_
      refine y_ior C dX6_knowing_38 ?_
      obtain ⟨x2, hx2, h⟩ := g_lt h
      refine y_istore_n (vs1 := [(3, .int x2), (0, .ref (ad 0 0)), (1, .ref (ad 1 u0)), (2, .int v2), (4, .int v4)]) C hx2 dX6_knowing_39 rfl (g_lL hL rfl) rfl ?_
      obtain ⟨x3, hx3, h⟩ := g_lt h
      refine y_iinc (c := (1 : Int32)) (vs1 := [(4, .int x3), (3, .int x2), (0, .ref (ad 0 0)), (1, .ref (ad 1 u0)), (2, .int v2)]) C hx3 (by decide) dX6_knowing_40 4 rfl (g_lL hL rfl) rfl ?_
      refine y_goto (tgt := 5) C dX6_knowing_43 rfl ?_
      refine y_sub (vs2 := [(0, .ref (ad 0 0)), (1, .ref (ad 1 u0)), (2, .int v2), (3, .int x2), (4, .int x3)]) [2, 3, 4, 1, 0] rfl ?_
      exact kl _ (Option.some.inj h).symm
    · replace h := g_if h hc
      refine y_iconst (v := (1 : Int32)) C dX6_knowing_30 (by decide) ?_
      refine y_iload C dX6_knowing_31 4 rfl ?_
      refine y_ishl C dX6_knowing_33 ?_
      refine y_goto (tgt := 38) C dX6_knowing_34 rfl ?_
      refine y_ior C dX6_knowing_38 ?_
      obtain ⟨x4, hx4, h⟩ := g_lt h
      refine y_istore_n (vs1 := [(3, .int x4), (0, .ref (ad 0 0)), (1, .ref (ad 1 u0)), (2, .int v2), (4, .int v4)]) C hx4 dX6_knowing_39 rfl (g_lL hL rfl) rfl ?_
      obtain ⟨x5, hx5, h⟩ := g_lt h
      refine y_iinc (c := (1 : Int32)) (vs1 := [(4, .int x5), (3, .int x4), (0, .ref (ad 0 0)), (1, .ref (ad 1 u0)), (2, .int v2)]) C hx5 (by decide) dX6_knowing_40 4 rfl (g_lL hL rfl) rfl ?_
      refine y_goto (tgt := 5) C dX6_knowing_43 rfl ?_
      refine y_sub (vs2 := [(0, .ref (ad 0 0)), (1, .ref (ad 1 u0)), (2, .int v2), (3, .int x4), (4, .int x5)]) [2, 3, 4, 1, 0] rfl ?_
      exact kl _ (Option.some.inj h).symm
theorem mw_M_knowing {X : g_F} {hid : Bool} (C : g_M gCl X cX6_knowing RX6 (some .int)) (hR : g_R X = g_rm 2 0 0) (hL : g_nL X = 5) {u0 : Nat} (hu_u0 : u0 < g_n (gM hid) 1) {ad : Nat → Nat → Nat} {σ : g_S} {v2 : Int32} {o : Int32} (h : mF_M_knowing σ u0 v2 = some o) (hQ : g_MQ gCl X (gM hid) ad σ (some (.int o)) = g_Q X) : g_Y gCl X (gM hid) ad σ (0, 0) 0 [(0, .ref (ad 0 0)), (1, .ref (ad 1 u0)), (2, .int v2)] [] := by
  unfold mF_M_knowing at h
  refine y_iconst (v := (0 : Int32)) C dX6_knowing_0 (by decide) ?_
  refine y_istore_n (vs1 := [(3, .int (0 : Int32)), (0, .ref (ad 0 0)), (1, .ref (ad 1 u0)), (2, .int v2)]) C rfl dX6_knowing_1 rfl (g_lL hL rfl) rfl ?_
  refine y_iconst (v := (0 : Int32)) C dX6_knowing_2 (by decide) ?_
  refine y_istore (vs1 := [(4, .int (0 : Int32)), (3, .int (0 : Int32)), (0, .ref (ad 0 0)), (1, .ref (ad 1 u0)), (2, .int v2)]) C rfl dX6_knowing_3 (g_lL hL rfl) rfl ?_
  refine y_sub (vs2 := [(0, .ref (ad 0 0)), (1, .ref (ad 1 u0)), (2, .int v2), (3, .int (0 : Int32)), (4, .int (0 : Int32))]) [2, 3, 4, 1, 0] rfl ?_
  obtain ⟨e6, he6, h⟩ := g_bd h
  refine ml_M_knowing_5 C hR hL hu_u0 (σ := σ) _ _ _ he6 ?_
  refine y_iload_n C dX6_knowing_46 0 rfl rfl ?_
  replace h := Option.some.inj h; subst h
  exact y_iret C hQ ⟨Nat.zero_le _, Nat.zero_le _⟩ dX6_knowing_47
theorem ct_M_knowing {D : va_G} {dA : Nat → ClassId} {A : Nat → Prop} {s0 : State} {b0 : Nat} {l : Launch} {hid : Bool} {u0 : Nat} (hu_u0 : u0 < g_n (gM hid) 1) {ad : Nat → Nat → Nat} {σ : g_S} {v2 : Int32} {r : Int32} (h : mF_M_knowing σ u0 v2 = some r) : g_Met gCl D dA A s0 b0 l yX6_knowing cX6_knowing 5 (some .int) 2 (0, 0) (gM hid) ad σ [.ref (ad 0 0), .ref (ad 1 u0), .int v2] (gM hid) ad σ (some (.int r)) :=
  g_Met.of pl_X6 (Nat.le_of_ble_eq_true rfl) (fun X C hQ hR _ _ hL _ es eb => mw_M_knowing C hR hL hu_u0 h hQ)
theorem mw_M_doesSee {X : g_F} (C : g_M gCl X cX6_doesSee RX6 (some .boolean)) (hR : g_R X = g_rm 5 0 0) (hL : g_nL X = 4) {u0 : Nat} (hu_u0 : u0 < g_n (gM true) 1) {ad : Nat → Nat → Nat} {σ : g_S} {v2 : Int32} {v3 : Int32} {o : Int32} (h : mF_M_doesSee σ u0 v2 v3 = some o) (hQ : g_MQ gCl X (gM true) ad σ (some (.int o)) = g_Q X) : g_Y gCl X (gM true) ad σ (0, 0) 0 [(0, .ref (ad 0 0)), (1, .ref (ad 1 u0)), (2, .int v2), (3, .int v3)] [] := by
  unfold mF_M_doesSee at h
  refine y_aload_n C dX6_doesSee_0 0 rfl rfl ?_
  refine y_aload_n C dX6_doesSee_1 1 rfl rfl ?_
  refine y_iload_n C dX6_doesSee_2 2 rfl rfl ?_
  obtain ⟨hg, h⟩ := g_gd h
  refine al_M_1 C hu_u0 hg dX6_doesSee_3 ?_
  refine y_iload_n C dX6_doesSee_4 3 rfl rfl ?_
  refine y_aload_n C dX6_doesSee_5 1 rfl rfl ?_
  refine y_bipush (v := (8 : Int32)) C dX6_doesSee_6 (by decide) ?_
  refine y_iload_n C dX6_doesSee_8 2 rfl rfl ?_
  refine y_iadd C dX6_doesSee_9 ?_
  obtain ⟨hg, h⟩ := g_gd h
  refine al_M_1 C hu_u0 hg dX6_doesSee_10 ?_
  refine y_aload_n C dX6_doesSee_11 1 rfl rfl ?_
  refine y_bipush (v := (16 : Int32)) C dX6_doesSee_12 (by decide) ?_
  refine y_iload_n C dX6_doesSee_14 2 rfl rfl ?_
  refine y_iadd C dX6_doesSee_15 ?_
  obtain ⟨hg, h⟩ := g_gd h
  refine al_M_1 C hu_u0 hg dX6_doesSee_16 ?_
  refine y_aload_n C dX6_doesSee_17 0 rfl rfl ?_
  refine y_aload_n C dX6_doesSee_18 1 rfl rfl ?_
  refine y_iload_n C dX6_doesSee_19 2 rfl rfl ?_
  refine y_aload_n C dX6_doesSee_20 1 rfl rfl ?_
  refine y_bipush (v := (16 : Int32)) C dX6_doesSee_21 (by decide) ?_
  refine y_iload_n C dX6_doesSee_23 2 rfl rfl ?_
  refine y_iadd C dX6_doesSee_24 ?_
  obtain ⟨hg, h⟩ := g_gd h
  refine al_M_1 C hu_u0 hg dX6_doesSee_25 ?_
  obtain ⟨x1, hc, h⟩ := g_bd h
  refine y_callV C (As := [.ref (ad 1 u0), .int v2, .int (σ.1 1 u0 ((16 : Int32) + v2).toNatClampNeg)]) (rest := [.int (σ.1 1 u0 ((16 : Int32) + v2).toNatClampNeg), .int (σ.1 1 u0 ((8 : Int32) + v2).toNatClampNeg), .int v3, .int (σ.1 1 u0 v2.toNatClampNeg), .ref (ad 0 0)]) (hu := nM_0_0) (hc := (rfl : gCl[5]? = some (RX6, TX6, 49))) (hcell := obM_0) (lk_X6_292 C hR (by decide)) (ct_R_reachBy hu_u0 hc) rfl rfl (Nat.le_of_ble_eq_true rfl) ⟨Nat.zero_le _, Nat.zero_le _⟩ dX6_doesSee_26 ?_
  obtain ⟨x2, hc, h⟩ := g_bd h
  refine y_callV C (As := [.int (σ.1 1 u0 v2.toNatClampNeg), .int v3, .int (σ.1 1 u0 ((8 : Int32) + v2).toNatClampNeg), .int (σ.1 1 u0 ((16 : Int32) + v2).toNatClampNeg), .int x1]) (rest := []) (hu := nM_0_0) (hc := (rfl : gCl[5]? = some (RX6, TX6, 49))) (hcell := obM_0) (lk_X6_296 C hR (by decide)) (ct_M_seesBy hc) rfl rfl (Nat.le_of_ble_eq_true rfl) ⟨Nat.zero_le _, Nat.zero_le _⟩ dX6_doesSee_29 ?_
  obtain ⟨hg, h⟩ := g_gd h
  replace h := Option.some.inj h; subst h
  exact y_zret C (g_nz hg) hQ ⟨Nat.zero_le _, Nat.zero_le _⟩ dX6_doesSee_32
theorem ct_M_doesSee {D : va_G} {dA : Nat → ClassId} {A : Nat → Prop} {s0 : State} {b0 : Nat} {l : Launch} {u0 : Nat} (hu_u0 : u0 < g_n (gM true) 1) {ad : Nat → Nat → Nat} {σ : g_S} {v2 : Int32} {v3 : Int32} {r : Int32} (h : mF_M_doesSee σ u0 v2 v3 = some r) : g_Met gCl D dA A s0 b0 l yX6_doesSee cX6_doesSee 4 (some .boolean) 5 (0, 0) (gM true) ad σ [.ref (ad 0 0), .ref (ad 1 u0), .int v2, .int v3] (gM true) ad σ (some (.int r)) :=
  g_Met.of pl_X6 (Nat.le_of_ble_eq_true rfl) (fun X C hQ hR _ _ hL _ es eb => mw_M_doesSee C hR hL hu_u0 h hQ)
theorem ml_M_whoSees_5 {X : g_F} (C : g_M gCl X cX6_whoSees RX6 (some .int)) (hR : g_R X = g_rm 6 0 0) (hL : g_nL X = 5) {u0 : Nat} (hu_u0 : u0 < g_n (gM true) 1) {ad : Nat → Nat → Nat} {σ : g_S} {v2 : Int32} (n : Nat) (v : (Int32 × Int32)) (e : Int32) (h : g_lp (fun v => mB_M_whoSees_5 σ u0 v2 v.1 v.2) n v = some e) (kx : g_Y gCl X (gM true) ad σ (0, 0) 42 [(3, .int e)] []) : g_Y gCl X (gM true) ad σ (0, 0) 5 [(0, .ref (ad 0 0)), (1, .ref (ad 1 u0)), (2, .int v2), (3, .int v.1), (4, .int v.2)] [] := by
  refine g_loop (P := fun v => g_Y gCl X (gM true) ad σ (0, 0) 5 [(0, .ref (ad 0 0)), (1, .ref (ad 1 u0)), (2, .int v2), (3, .int v.1), (4, .int v.2)] []) (T := fun e => g_Y gCl X (gM true) ad σ (0, 0) 42 [(3, .int e)] []) ?_ n v e h kx
  clear h kx
  clear n v e
  intro v o h kl kx
  obtain ⟨v3, v4⟩ := v
  have h : mB_M_whoSees_5 σ u0 v2 v3 v4 = some o := h
  unfold mB_M_whoSees_5 at h
  show g_Y gCl X (gM true) ad σ (0, 0) 5 [(0, .ref (ad 0 0)), (1, .ref (ad 1 u0)), (2, .int v2), (3, .int v3), (4, .int v4)] []
  refine y_iload C dX6_whoSees_5 4 rfl ?_
  refine y_aload_n C dX6_whoSees_7 0 rfl rfl ?_
  refine gf_M_5 C dX6_whoSees_8 ?_
  refine y_icmp_ge (tgt := 42) C dX6_whoSees_11 rfl (fun hc => ?_) (fun hc => ?_)
  · replace h := g_it h hc
    refine y_sub (vs2 := [(3, .int v3)]) [3] rfl ?_
    exact kx _ (Option.some.inj h).symm
  · replace h := g_if h hc
    refine y_iload_n C dX6_whoSees_14 3 rfl rfl ?_
    refine y_aload_n C dX6_whoSees_15 0 rfl rfl ?_
    refine y_aload_n C dX6_whoSees_16 1 rfl rfl ?_
    refine y_iload C dX6_whoSees_17 4 rfl ?_
    refine y_iload_n C dX6_whoSees_19 2 rfl rfl ?_
    obtain ⟨x1, hc, h⟩ := g_bd h
    refine y_callV C (As := [.ref (ad 1 u0), .int v4, .int v2]) (rest := [.int v3]) (hu := nM_0_0) (hc := (rfl : gCl[5]? = some (RX6, TX6, 49))) (hcell := obM_0) (lk_X6_308 C hR (by decide)) (ct_M_doesSee hu_u0 hc) rfl rfl (Nat.le_of_ble_eq_true rfl) ⟨Nat.zero_le _, Nat.zero_le _⟩ dX6_whoSees_20 ?_
    refine y_if_eq (tgt := 33) C dX6_whoSees_23 rfl (fun hc => ?_) (fun hc => ?_)
    · replace h := g_it h hc
      refine y_iconst (v := (0 : Int32)) C dX6_whoSees_33 (by decide) ?_
      refine y_ior C dX6_whoSees_34 ?_
      obtain ⟨x2, hx2, h⟩ := g_lt h
      refine y_istore_n (vs1 := [(3, .int x2), (0, .ref (ad 0 0)), (1, .ref (ad 1 u0)), (2, .int v2), (4, .int v4)]) C hx2 dX6_whoSees_35 rfl (g_lL hL rfl) rfl ?_
      obtain ⟨x3, hx3, h⟩ := g_lt h
      refine y_iinc (c := (1 : Int32)) (vs1 := [(4, .int x3), (3, .int x2), (0, .ref (ad 0 0)), (1, .ref (ad 1 u0)), (2, .int v2)]) C hx3 (by decide) dX6_whoSees_36 4 rfl (g_lL hL rfl) rfl ?_
      refine y_goto (tgt := 5) C dX6_whoSees_39 rfl ?_
      refine y_sub (vs2 := [(0, .ref (ad 0 0)), (1, .ref (ad 1 u0)), (2, .int v2), (3, .int x2), (4, .int x3)]) [2, 3, 4, 1, 0] rfl ?_
      exact kl _ (Option.some.inj h).symm
    · replace h := g_if h hc
      refine y_iconst (v := (1 : Int32)) C dX6_whoSees_26 (by decide) ?_
      refine y_iload C dX6_whoSees_27 4 rfl ?_
      refine y_ishl C dX6_whoSees_29 ?_
      refine y_goto (tgt := 34) C dX6_whoSees_30 rfl ?_
      refine y_ior C dX6_whoSees_34 ?_
      obtain ⟨x4, hx4, h⟩ := g_lt h
      refine y_istore_n (vs1 := [(3, .int x4), (0, .ref (ad 0 0)), (1, .ref (ad 1 u0)), (2, .int v2), (4, .int v4)]) C hx4 dX6_whoSees_35 rfl (g_lL hL rfl) rfl ?_
      obtain ⟨x5, hx5, h⟩ := g_lt h
      refine y_iinc (c := (1 : Int32)) (vs1 := [(4, .int x5), (3, .int x4), (0, .ref (ad 0 0)), (1, .ref (ad 1 u0)), (2, .int v2)]) C hx5 (by decide) dX6_whoSees_36 4 rfl (g_lL hL rfl) rfl ?_
      refine y_goto (tgt := 5) C dX6_whoSees_39 rfl ?_
      refine y_sub (vs2 := [(0, .ref (ad 0 0)), (1, .ref (ad 1 u0)), (2, .int v2), (3, .int x4), (4, .int x5)]) [2, 3, 4, 1, 0] rfl ?_
      exact kl _ (Option.some.inj h).symm
theorem mw_M_whoSees {X : g_F} (C : g_M gCl X cX6_whoSees RX6 (some .int)) (hR : g_R X = g_rm 6 0 0) (hL : g_nL X = 5) {u0 : Nat} (hu_u0 : u0 < g_n (gM true) 1) {ad : Nat → Nat → Nat} {σ : g_S} {v2 : Int32} {o : Int32} (h : mF_M_whoSees σ u0 v2 = some o) (hQ : g_MQ gCl X (gM true) ad σ (some (.int o)) = g_Q X) : g_Y gCl X (gM true) ad σ (0, 0) 0 [(0, .ref (ad 0 0)), (1, .ref (ad 1 u0)), (2, .int v2)] [] := by
  unfold mF_M_whoSees at h
  refine y_iconst (v := (0 : Int32)) C dX6_whoSees_0 (by decide) ?_
  refine y_istore_n (vs1 := [(3, .int (0 : Int32)), (0, .ref (ad 0 0)), (1, .ref (ad 1 u0)), (2, .int v2)]) C rfl dX6_whoSees_1 rfl (g_lL hL rfl) rfl ?_
  refine y_iconst (v := (0 : Int32)) C dX6_whoSees_2 (by decide) ?_
  refine y_istore (vs1 := [(4, .int (0 : Int32)), (3, .int (0 : Int32)), (0, .ref (ad 0 0)), (1, .ref (ad 1 u0)), (2, .int v2)]) C rfl dX6_whoSees_3 (g_lL hL rfl) rfl ?_
  refine y_sub (vs2 := [(0, .ref (ad 0 0)), (1, .ref (ad 1 u0)), (2, .int v2), (3, .int (0 : Int32)), (4, .int (0 : Int32))]) [2, 3, 4, 1, 0] rfl ?_
  obtain ⟨e6, he6, h⟩ := g_bd h
  refine ml_M_whoSees_5 C hR hL hu_u0 (σ := σ) _ _ _ he6 ?_
  refine y_iload_n C dX6_whoSees_42 0 rfl rfl ?_
  replace h := Option.some.inj h; subst h
  exact y_iret C hQ ⟨Nat.zero_le _, Nat.zero_le _⟩ dX6_whoSees_43
theorem ct_M_whoSees {D : va_G} {dA : Nat → ClassId} {A : Nat → Prop} {s0 : State} {b0 : Nat} {l : Launch} {u0 : Nat} (hu_u0 : u0 < g_n (gM true) 1) {ad : Nat → Nat → Nat} {σ : g_S} {v2 : Int32} {r : Int32} (h : mF_M_whoSees σ u0 v2 = some r) : g_Met gCl D dA A s0 b0 l yX6_whoSees cX6_whoSees 5 (some .int) 6 (0, 0) (gM true) ad σ [.ref (ad 0 0), .ref (ad 1 u0), .int v2] (gM true) ad σ (some (.int r)) :=
  g_Met.of pl_X6 (Nat.le_of_ble_eq_true rfl) (fun X C hQ hR _ _ hL _ es eb => mw_M_whoSees C hR hL hu_u0 h hQ)
theorem mj_M_thing_25 {X : g_F} (C : g_M gCl X cX6_thing RX6 (some .int)) (hR : g_R X = g_rm 7 0 0) (hL : g_nL X = 3) {ad : Nat → Nat → Nat} {σ : g_S} {o : (Int32 × g_S)} (h : mJ_M_thing_25 σ = some o) (hQ : g_MQ gCl X (gM true) ad o.2 (some (.int o.1)) = g_Q X) : g_Y gCl X (gM true) ad σ (0, 0) 25 [(0, .ref (ad 0 0))] [] := by
  unfold mJ_M_thing_25 at h
  refine y_aload_n C dX6_thing_25 0 rfl rfl ?_
  obtain ⟨x4, σ3, hc, h⟩ := g_bp h
  refine y_callV C (As := []) (rest := []) (hu := nM_0_0) (hc := (rfl : gCl[5]? = some (RX6, TX6, 49))) (hcell := obM_0) (lk_X6_320 C hR (by decide)) (ct_M_refuse hc) rfl rfl (Nat.le_of_ble_eq_true rfl) ⟨Nat.zero_le _, Nat.zero_le _⟩ dX6_thing_26 ?_
  replace h := Option.some.inj h; subst h
  exact y_iret C hQ ⟨Nat.zero_le _, Nat.zero_le _⟩ dX6_thing_29
theorem mw_M_thing {X : g_F} (C : g_M gCl X cX6_thing RX6 (some .int)) (hR : g_R X = g_rm 7 0 0) (hL : g_nL X = 3) {ad : Nat → Nat → Nat} {σ : g_S} {v1 : Int32} {v2 : Int32} {o : (Int32 × g_S)} (h : mF_M_thing σ v1 v2 = some o) (hQ : g_MQ gCl X (gM true) ad o.2 (some (.int o.1)) = g_Q X) : g_Y gCl X (gM true) ad σ (0, 0) 0 [(0, .ref (ad 0 0)), (1, .int v1), (2, .int v2)] [] := by
  unfold mF_M_thing at h
  refine y_aload_n C dX6_thing_0 0 rfl rfl ?_
  refine y_iconst (v := (0 : Int32)) C dX6_thing_1 (by decide) ?_
  obtain ⟨σ1, hσ1, h⟩ := g_lt h
  refine pf_M_0 C hσ1 dX6_thing_2 ?_
  refine y_aload_n C dX6_thing_5 0 rfl rfl ?_
  refine y_iload_n C dX6_thing_6 1 rfl rfl ?_
  obtain ⟨x2, hc, h⟩ := g_bd h
  refine y_callV C (As := [.int v1]) (rest := []) (hu := nM_0_0) (hc := (rfl : gCl[5]? = some (RX6, TX6, 49))) (hcell := obM_0) (lk_X6_327 C hR (by decide)) (ct_M_isThing hc) rfl rfl (Nat.le_of_ble_eq_true rfl) ⟨Nat.zero_le _, Nat.zero_le _⟩ dX6_thing_7 ?_
  refine y_if_eq (tgt := 25) C dX6_thing_10 rfl (fun hc => ?_) (fun hc => ?_)
  · replace h := g_it h hc
    refine y_sub (vs2 := [(0, .ref (ad 0 0))]) [0] rfl ?_
    exact mj_M_thing_25 C hR hL h hQ
  · replace h := g_if h hc
    refine y_iload_n C dX6_thing_13 2 rfl rfl ?_
    refine y_i2l C dX6_thing_14 ?_
    refine y_lconst (v := (0 : Int64)) C dX6_thing_15 (by decide) ?_
    refine y_ldc2 (v := (2 : Int64)) C q1637 dX6_thing_16 ?_
    obtain ⟨x5, hc, h⟩ := g_bd h
    refine y_callS C (As := [.long (v2.toInt64), .long (0 : Int64), .long (2 : Int64)]) (rest := []) (lk_X6_126 C hR (by decide)) (ct_M_in hc) rfl rfl (Nat.le_of_ble_eq_true rfl) ⟨Nat.zero_le _, Nat.zero_le _⟩ dX6_thing_19 ?_
    refine y_if_ne (tgt := 30) C dX6_thing_22 rfl (fun hc => ?_) (fun hc => ?_)
    · replace h := g_if h hc
      refine y_iload_n C dX6_thing_30 2 rfl rfl ?_
      refine y_if_ne (tgt := 46) C dX6_thing_31 rfl (fun hc => ?_) (fun hc => ?_)
      · replace h := g_if h hc
        refine y_iload_n C dX6_thing_46 2 rfl rfl ?_
        refine y_iconst (v := (1 : Int32)) C dX6_thing_47 (by decide) ?_
        refine y_icmp_ne (tgt := 63) C dX6_thing_48 rfl (fun hc => ?_) (fun hc => ?_)
        · replace h := g_if h hc
          refine y_aload_n C dX6_thing_63 0 rfl rfl ?_
          refine y_aload_n C dX6_thing_64 0 rfl rfl ?_
          refine gf_M_11 C dX6_thing_65 ?_
          refine y_aload_n C dX6_thing_68 0 rfl rfl ?_
          refine gf_M_11 C dX6_thing_69 ?_
          refine y_bipush (v := (32 : Int32)) C dX6_thing_72 (by decide) ?_
          refine y_iload_n C dX6_thing_74 1 rfl rfl ?_
          refine y_iadd C dX6_thing_75 ?_
          obtain ⟨hg, h⟩ := g_gd h
          refine al_M_1 C nM_1_0 hg dX6_thing_76 ?_
          obtain ⟨x6, hc, h⟩ := g_bd h
          refine y_callV C (As := [.ref (ad 1 0), .int (σ1.1 1 0 ((32 : Int32) + v1).toNatClampNeg)]) (rest := []) (hu := nM_0_0) (hc := (rfl : gCl[5]? = some (RX6, TX6, 49))) (hcell := obM_0) (lk_X6_336 C hR (by decide)) (ct_M_whoSees nM_1_0 hc) rfl rfl (Nat.le_of_ble_eq_true rfl) ⟨Nat.zero_le _, Nat.zero_le _⟩ dX6_thing_77 ?_
          replace h := Option.some.inj h; subst h
          exact y_iret C hQ ⟨Nat.zero_le _, Nat.zero_le _⟩ dX6_thing_80
        · replace h := g_it h hc
          refine y_aload_n C dX6_thing_51 0 rfl rfl ?_
          refine y_aload_n C dX6_thing_52 0 rfl rfl ?_
          refine gf_M_11 C dX6_thing_53 ?_
          refine y_iload_n C dX6_thing_56 1 rfl rfl ?_
          obtain ⟨x7, hc, h⟩ := g_bd h
          refine y_callV C (As := [.ref (ad 1 0), .int v1]) (rest := []) (hu := nM_0_0) (hc := (rfl : gCl[5]? = some (RX6, TX6, 49))) (hcell := obM_0) (lk_X6_332 C hR (by decide)) (ct_M_knowing nM_1_0 hc) rfl rfl (Nat.le_of_ble_eq_true rfl) ⟨Nat.zero_le _, Nat.zero_le _⟩ dX6_thing_57 ?_
          refine y_goto (tgt := 80) C dX6_thing_60 rfl ?_
          replace h := Option.some.inj h; subst h
          exact y_iret C hQ ⟨Nat.zero_le _, Nat.zero_le _⟩ dX6_thing_80
      · replace h := g_it h hc
        refine y_aload_n C dX6_thing_34 0 rfl rfl ?_
        refine gf_M_11 C dX6_thing_35 ?_
        refine y_bipush (v := (32 : Int32)) C dX6_thing_38 (by decide) ?_
        refine y_iload_n C dX6_thing_40 1 rfl rfl ?_
        refine y_iadd C dX6_thing_41 ?_
        obtain ⟨hg, h⟩ := g_gd h
        refine al_M_1 C nM_1_0 hg dX6_thing_42 ?_
        refine y_goto (tgt := 80) C dX6_thing_43 rfl ?_
        replace h := Option.some.inj h; subst h
        exact y_iret C hQ ⟨Nat.zero_le _, Nat.zero_le _⟩ dX6_thing_80
    · replace h := g_it h hc
      refine y_sub (vs2 := [(0, .ref (ad 0 0))]) [0] rfl ?_
      exact mj_M_thing_25 C hR hL h hQ
theorem ct_M_thing {D : va_G} {dA : Nat → ClassId} {A : Nat → Prop} {s0 : State} {b0 : Nat} {l : Launch} {ad : Nat → Nat → Nat} {σ : g_S} {v1 : Int32} {v2 : Int32} {r : Int32} {σ1 : g_S} (h : mF_M_thing σ v1 v2 = some (r, σ1)) : g_Met gCl D dA A s0 b0 l yX6_thing cX6_thing 3 (some .int) 7 (0, 0) (gM true) ad σ [.ref (ad 0 0), .int v1, .int v2] (gM true) ad σ1 (some (.int r)) :=
  g_Met.of pl_X6 (Nat.le_of_ble_eq_true rfl) (fun X C hQ hR _ _ hL _ es eb => mw_M_thing C hR hL h hQ)
theorem mj_M_sheet_114 {X : g_F} {hid : Bool} (C : g_M gCl X cX6_sheet RX6 (some .int)) (hR : g_R X = g_rm 2 0 0) (hL : g_nL X = 9) {ad : Nat → Nat → Nat} {σ : g_S} {v1 : Int32} {v2 : Int32} {v4 : Int32} {v5 : Int32} {v6 : Int32} {v7 : Int32} {s1 : Int32} {s2 : Int32} {o : ((Int32 × Int32 × Int32 × g_S) ⊕ (Int32 × g_S))} (h : mJ_M_sheet_114 σ v1 v2 v4 v5 v6 v7 s1 s2 = some o) (kl : ∀ z, o = .inl z → g_Y gCl X (gM hid) ad z.2.2.2 (0, 0) 46 [(0, .ref (ad 0 0)), (1, .int v1), (2, .int v2), (4, .int v4), (5, .int z.1), (6, .int z.2.1), (7, .int z.2.2.1)] []) (kx : ∀ z, o = .inr z → g_Y gCl X (gM hid) ad z.2 (0, 0) 143 [(1, .int v1), (5, .int z.1)] []) : g_Y gCl X (gM hid) ad σ (0, 0) 114 [(0, .ref (ad 0 0)), (1, .int v1), (2, .int v2), (4, .int v4), (5, .int v5), (6, .int v6), (7, .int v7)] [.int s2, .int s1, .ref (ad 1 0)] := by
  unfold mJ_M_sheet_114 at h
  obtain ⟨hg, h⟩ := g_gd h
  obtain ⟨σ3, hσ3, h⟩ := g_lt h
  refine as_M_1 C nM_1_0 hσ3 hg dX6_sheet_114 ?_
  refine y_iload C dX6_sheet_115 4 rfl ?_
  refine y_aload_n C dX6_sheet_117 0 rfl rfl ?_
  refine gf_M_11 C dX6_sheet_118 ?_
  refine y_bipush (v := (16 : Int32)) C dX6_sheet_121 (by decide) ?_
  refine y_iload C dX6_sheet_123 6 rfl ?_
  refine y_iadd C dX6_sheet_125 ?_
  obtain ⟨hg, h⟩ := g_gd h
  refine al_M_1 C nM_1_0 hg dX6_sheet_126 ?_
  refine y_iadd C dX6_sheet_127 ?_
  obtain ⟨x4, hx4, h⟩ := g_lt h
  refine y_istore (vs1 := [(5, .int x4), (0, .ref (ad 0 0)), (1, .int v1), (2, .int v2), (4, .int v4), (6, .int v6), (7, .int v7)]) C hx4 dX6_sheet_128 (g_lL hL rfl) rfl ?_
  refine y_iload C dX6_sheet_130 5 rfl ?_
  refine y_iload C dX6_sheet_132 4 rfl ?_
  refine y_iadd C dX6_sheet_134 ?_
  obtain ⟨x5, hx5, h⟩ := g_lt h
  refine y_istore (vs1 := [(6, .int x5), (5, .int x4), (0, .ref (ad 0 0)), (1, .int v1), (2, .int v2), (4, .int v4), (7, .int v7)]) C hx5 dX6_sheet_135 (g_lL hL rfl) rfl ?_
  obtain ⟨x6, hx6, h⟩ := g_lt h
  refine y_iinc (c := (1 : Int32)) (vs1 := [(7, .int x6), (6, .int x5), (5, .int x4), (0, .ref (ad 0 0)), (1, .int v1), (2, .int v2), (4, .int v4)]) C hx6 (by decide) dX6_sheet_137 6 rfl (g_lL hL rfl) rfl ?_
  refine y_goto (tgt := 46) C dX6_sheet_140 rfl ?_
  refine y_sub (vs2 := [(0, .ref (ad 0 0)), (1, .int v1), (2, .int v2), (4, .int v4), (5, .int x4), (6, .int x5), (7, .int x6)]) [3, 4, 5, 6, 2, 1, 0] rfl ?_
  exact kl _ (Option.some.inj h).symm
theorem mj_M_sheet_100 {X : g_F} {hid : Bool} (C : g_M gCl X cX6_sheet RX6 (some .int)) (hR : g_R X = g_rm 2 0 0) (hL : g_nL X = 9) {ad : Nat → Nat → Nat} {σ : g_S} {v1 : Int32} {v2 : Int32} {v4 : Int32} {v5 : Int32} {v6 : Int32} {v7 : Int32} {s1 : Int32} {o : ((Int32 × Int32 × Int32 × g_S) ⊕ (Int32 × g_S))} (h : mJ_M_sheet_100 σ v1 v2 v4 v5 v6 v7 s1 = some o) (kl : ∀ z, o = .inl z → g_Y gCl X (gM hid) ad z.2.2.2 (0, 0) 46 [(0, .ref (ad 0 0)), (1, .int v1), (2, .int v2), (4, .int v4), (5, .int z.1), (6, .int z.2.1), (7, .int z.2.2.1)] []) (kx : ∀ z, o = .inr z → g_Y gCl X (gM hid) ad z.2 (0, 0) 143 [(1, .int v1), (5, .int z.1)] []) : g_Y gCl X (gM hid) ad σ (0, 0) 100 [(0, .ref (ad 0 0)), (1, .int v1), (2, .int v2), (4, .int v4), (5, .int v5), (6, .int v6), (7, .int v7)] [.int s1, .ref (ad 1 0)] := by
  unfold mJ_M_sheet_100 at h
  refine y_iconst (v := (0 : Int32)) C dX6_sheet_100 (by decide) ?_
  refine y_goto (tgt := 114) C dX6_sheet_101 rfl ?_
  exact mj_M_sheet_114 C hR hL h kl kx
theorem mj_M_sheet_78 {X : g_F} {hid : Bool} (C : g_M gCl X cX6_sheet RX6 (some .int)) (hR : g_R X = g_rm 2 0 0) (hL : g_nL X = 9) {ad : Nat → Nat → Nat} {σ : g_S} {v1 : Int32} {v2 : Int32} {v4 : Int32} {v5 : Int32} {v6 : Int32} {v7 : Int32} {s0 : Int32} {o : ((Int32 × Int32 × Int32 × g_S) ⊕ (Int32 × g_S))} (h : mJ_M_sheet_78 σ v1 v2 v4 v5 v6 v7 s0 = some o) (kl : ∀ z, o = .inl z → g_Y gCl X (gM hid) ad z.2.2.2 (0, 0) 46 [(0, .ref (ad 0 0)), (1, .int v1), (2, .int v2), (4, .int v4), (5, .int z.1), (6, .int z.2.1), (7, .int z.2.2.1)] []) (kx : ∀ z, o = .inr z → g_Y gCl X (gM hid) ad z.2 (0, 0) 143 [(1, .int v1), (5, .int z.1)] []) : g_Y gCl X (gM hid) ad σ (0, 0) 78 [(0, .ref (ad 0 0)), (1, .int v1), (2, .int v2), (4, .int v4), (5, .int v5), (6, .int v6), (7, .int v7)] [.int s0] := by
  unfold mJ_M_sheet_78 at h
  refine y_istore (vs1 := [(8, .int s0), (0, .ref (ad 0 0)), (1, .int v1), (2, .int v2), (4, .int v4), (5, .int v5), (6, .int v6), (7, .int v7)]) C rfl dX6_sheet_78 (g_lL hL rfl) rfl ?_
  refine y_aload_n C dX6_sheet_80 1 rfl rfl ?_
  refine gf_M_11 C dX6_sheet_81 ?_
  refine y_bipush (v := (16 : Int32)) C dX6_sheet_84 (by decide) ?_
  refine y_iload C dX6_sheet_86 7 rfl ?_
  refine y_iadd C dX6_sheet_88 ?_
  refine y_iload_n C dX6_sheet_89 2 rfl rfl ?_
  refine y_iconst (v := (3 : Int32)) C dX6_sheet_90 (by decide) ?_
  refine y_icmp_eq (tgt := 100) C dX6_sheet_91 rfl (fun hc => ?_) (fun hc => ?_)
  · replace h := g_it h hc
    refine y_sub (vs2 := [(0, .ref (ad 0 0)), (1, .int v1), (2, .int v2), (4, .int v4), (5, .int v5), (6, .int v6), (7, .int v7)]) [1, 2, 3, 4, 5, 6, 7] rfl ?_
    exact mj_M_sheet_100 C hR hL h kl kx
  · replace h := g_if h hc
    refine y_iload C dX6_sheet_94 7 rfl ?_
    refine y_iload_n C dX6_sheet_96 3 rfl rfl ?_
    refine y_icmp_lt (tgt := 104) C dX6_sheet_97 rfl (fun hc => ?_) (fun hc => ?_)
    · replace h := g_it h hc
      refine y_iconst (v := (0 : Int32)) C dX6_sheet_104 (by decide) ?_
      refine y_iconst (v := (4 : Int32)) C dX6_sheet_105 (by decide) ?_
      refine y_iload C dX6_sheet_106 0 rfl ?_
      refine y_mmin C q1456 (g_rmM hR (by decide)) (Nat.le_of_ble_eq_true rfl) ⟨Nat.zero_le _, Nat.zero_le _⟩ dX6_sheet_108 ?_
      refine y_mmax C q1601 (g_rmM hR (by decide)) (Nat.le_of_ble_eq_true rfl) ⟨Nat.zero_le _, Nat.zero_le _⟩ dX6_sheet_111 ?_
      refine y_sub (vs2 := [(0, .ref (ad 0 0)), (1, .int v1), (2, .int v2), (4, .int v4), (5, .int v5), (6, .int v6), (7, .int v7)]) [1, 2, 3, 4, 5, 6, 7] rfl ?_
      exact mj_M_sheet_114 C hR hL h kl kx
    · replace h := g_if h hc
      refine y_sub (vs2 := [(0, .ref (ad 0 0)), (1, .int v1), (2, .int v2), (4, .int v4), (5, .int v5), (6, .int v6), (7, .int v7)]) [1, 2, 3, 4, 5, 6, 7] rfl ?_
      exact mj_M_sheet_100 C hR hL h kl kx
theorem ml_M_sheet_46 {X : g_F} {hid : Bool} (C : g_M gCl X cX6_sheet RX6 (some .int)) (hR : g_R X = g_rm 2 0 0) (hL : g_nL X = 9) {ad : Nat → Nat → Nat} {σ : g_S} {v1 : Int32} {v2 : Int32} {v4 : Int32} (n : Nat) (v : (Int32 × Int32 × Int32 × g_S)) (e : (Int32 × g_S)) (h : g_lp (fun v => mB_M_sheet_46 v.2.2.2 v1 v2 v4 v.1 v.2.1 v.2.2.1) n v = some e) (kx : g_Y gCl X (gM hid) ad e.2 (0, 0) 143 [(1, .int v1), (5, .int e.1)] []) : g_Y gCl X (gM hid) ad v.2.2.2 (0, 0) 46 [(0, .ref (ad 0 0)), (1, .int v1), (2, .int v2), (4, .int v4), (5, .int v.1), (6, .int v.2.1), (7, .int v.2.2.1)] [] := by
  refine g_loop (P := fun v => g_Y gCl X (gM hid) ad v.2.2.2 (0, 0) 46 [(0, .ref (ad 0 0)), (1, .int v1), (2, .int v2), (4, .int v4), (5, .int v.1), (6, .int v.2.1), (7, .int v.2.2.1)] []) (T := fun e => g_Y gCl X (gM hid) ad e.2 (0, 0) 143 [(1, .int v1), (5, .int e.1)] []) ?_ n v e h kx
  clear h kx
  clear n v e
  intro v o h kl kx
  obtain ⟨v5, v6, v7, σ⟩ := v
  have h : mB_M_sheet_46 σ v1 v2 v4 v5 v6 v7 = some o := h
  unfold mB_M_sheet_46 at h
  show g_Y gCl X (gM hid) ad σ (0, 0) 46 [(0, .ref (ad 0 0)), (1, .int v1), (2, .int v2), (4, .int v4), (5, .int v5), (6, .int v6), (7, .int v7)] []
  refine y_iload C dX6_sheet_46 6 rfl ?_
  refine y_aload_n C dX6_sheet_48 0 rfl rfl ?_
  refine gf_M_5 C dX6_sheet_49 ?_
  refine y_icmp_ge (tgt := 143) C dX6_sheet_52 rfl (fun hc => ?_) (fun hc => ?_)
  · replace h := g_it h hc
    refine y_sub (vs2 := [(1, .int v1), (5, .int v5)]) [1, 4] rfl ?_
    exact kx _ (Option.some.inj h).symm
  · replace h := g_if h hc
    refine y_iload_n C dX6_sheet_55 1 rfl rfl ?_
    refine y_if_ne (tgt := 65) C dX6_sheet_56 rfl (fun hc => ?_) (fun hc => ?_)
    · replace h := g_if h hc
      refine y_iload_n C dX6_sheet_65 1 rfl rfl ?_
      refine y_iconst (v := (1 : Int32)) C dX6_sheet_66 (by decide) ?_
      refine y_icmp_ne (tgt := 76) C dX6_sheet_67 rfl (fun hc => ?_) (fun hc => ?_)
      · replace h := g_if h hc
        refine y_iload C dX6_sheet_76 5 rfl ?_
        exact mj_M_sheet_78 C hR hL h kl kx
      · replace h := g_it h hc
        refine y_iload C dX6_sheet_70 5 rfl ?_
        refine y_i2s C dX6_sheet_72 ?_
        refine y_goto (tgt := 78) C dX6_sheet_73 rfl ?_
        exact mj_M_sheet_78 C hR hL h kl kx
    · replace h := g_it h hc
      refine y_iload C dX6_sheet_59 5 rfl ?_
      refine y_i2b C dX6_sheet_61 ?_
      refine y_goto (tgt := 78) C dX6_sheet_62 rfl ?_
      exact mj_M_sheet_78 C hR hL h kl kx
theorem mj_M_sheet_37 {X : g_F} {hid : Bool} (C : g_M gCl X cX6_sheet RX6 (some .int)) (hR : g_R X = g_rm 2 0 0) (hL : g_nL X = 9) {ad : Nat → Nat → Nat} {σ : g_S} {v1 : Int32} {v2 : Int32} {v3 : Int32} {v4 : Int32} {o : (Int32 × g_S)} (h : mJ_M_sheet_37 σ v1 v2 v3 v4 = some o) (hQ : g_MQ gCl X (gM hid) ad o.2 (some (.int o.1)) = g_Q X) : g_Y gCl X (gM hid) ad σ (0, 0) 37 [(0, .ref (ad 0 0)), (1, .int v1), (2, .int v2), (3, .int v3), (4, .int v4)] [] := by
  unfold mJ_M_sheet_37 at h
  refine y_iconst (v := (0 : Int32)) C dX6_sheet_37 (by decide) ?_
  refine y_istore (vs1 := [(5, .int (0 : Int32)), (0, .ref (ad 0 0)), (1, .int v1), (2, .int v2), (3, .int v3), (4, .int v4)]) C rfl dX6_sheet_38 (g_lL hL rfl) rfl ?_
  refine y_iload_n C dX6_sheet_40 4 rfl rfl ?_
  refine y_istore (vs1 := [(6, .int v3), (5, .int (0 : Int32)), (0, .ref (ad 0 0)), (1, .int v1), (2, .int v2), (3, .int v3), (4, .int v4)]) C rfl dX6_sheet_41 (g_lL hL rfl) rfl ?_
  refine y_iconst (v := (0 : Int32)) C dX6_sheet_43 (by decide) ?_
  refine y_istore (vs1 := [(7, .int (0 : Int32)), (6, .int v3), (5, .int (0 : Int32)), (0, .ref (ad 0 0)), (1, .int v1), (2, .int v2), (3, .int v3), (4, .int v4)]) C rfl dX6_sheet_44 (g_lL hL rfl) rfl ?_
  refine y_sub (vs2 := [(0, .ref (ad 0 0)), (1, .int v1), (2, .int v2), (4, .int v4), (5, .int (0 : Int32)), (6, .int v3), (7, .int (0 : Int32))]) [3, 4, 5, 7, 2, 1, 0] rfl ?_
  obtain ⟨e7, he7, h⟩ := g_bd h
  refine ml_M_sheet_46 C hR hL (σ := σ) _ _ _ he7 ?_
  refine y_iload_n C dX6_sheet_143 0 rfl rfl ?_
  refine y_iconst (v := (3 : Int32)) C dX6_sheet_144 (by decide) ?_
  refine y_icmp_ne (tgt := 153) C dX6_sheet_145 rfl (fun hc => ?_) (fun hc => ?_)
  · replace h := g_if h hc
    refine y_iload C dX6_sheet_153 1 rfl ?_
    replace h := Option.some.inj h; subst h
    exact y_iret C hQ ⟨Nat.zero_le _, Nat.zero_le _⟩ dX6_sheet_155
  · replace h := g_it h hc
    refine y_bipush (v := (-3 : Int32)) C dX6_sheet_148 (by decide) ?_
    refine y_goto (tgt := 155) C dX6_sheet_150 rfl ?_
    replace h := Option.some.inj h; subst h
    exact y_iret C hQ ⟨Nat.zero_le _, Nat.zero_le _⟩ dX6_sheet_155
theorem mw_M_sheet {X : g_F} {hid : Bool} (C : g_M gCl X cX6_sheet RX6 (some .int)) (hR : g_R X = g_rm 2 0 0) (hL : g_nL X = 9) {ad : Nat → Nat → Nat} {σ : g_S} {v1 : Int32} {v2 : Int32} {v3 : Int32} {v4 : Int32} {o : (Int32 × g_S)} (h : mF_M_sheet σ v1 v2 v3 v4 = some o) (hQ : g_MQ gCl X (gM hid) ad o.2 (some (.int o.1)) = g_Q X) : g_Y gCl X (gM hid) ad σ (0, 0) 0 [(0, .ref (ad 0 0)), (1, .int v1), (2, .int v2), (3, .int v3), (4, .int v4)] [] := by
  unfold mF_M_sheet at h
  refine y_aload_n C dX6_sheet_0 0 rfl rfl ?_
  refine y_iconst (v := (0 : Int32)) C dX6_sheet_1 (by decide) ?_
  obtain ⟨σ1, hσ1, h⟩ := g_lt h
  refine pf_M_0 C hσ1 dX6_sheet_2 ?_
  refine y_iload_n C dX6_sheet_5 1 rfl rfl ?_
  refine y_i2l C dX6_sheet_6 ?_
  refine y_lconst (v := (0 : Int64)) C dX6_sheet_7 (by decide) ?_
  refine y_ldc2 (v := (3 : Int64)) C q1654 dX6_sheet_8 ?_
  obtain ⟨x2, hc, h⟩ := g_bd h
  refine y_callS C (As := [.long (v1.toInt64), .long (0 : Int64), .long (3 : Int64)]) (rest := []) (lk_X6_126 C hR (by decide)) (ct_M_in hc) rfl rfl (Nat.le_of_ble_eq_true rfl) ⟨Nat.zero_le _, Nat.zero_le _⟩ dX6_sheet_11 ?_
  refine y_if_eq (tgt := 23) C dX6_sheet_14 rfl (fun hc => ?_) (fun hc => ?_)
  · replace h := g_it h hc
    refine y_iconst (v := (-1 : Int32)) C dX6_sheet_23 (by decide) ?_
    replace h := Option.some.inj h; subst h
    exact y_iret C hQ ⟨Nat.zero_le _, Nat.zero_le _⟩ dX6_sheet_24
  · replace h := g_if h hc
    refine y_iload_n C dX6_sheet_17 2 rfl rfl ?_
    refine y_bipush (v := (8 : Int32)) C dX6_sheet_18 (by decide) ?_
    refine y_icmp_le (tgt := 25) C dX6_sheet_20 rfl (fun hc => ?_) (fun hc => ?_)
    · replace h := g_it h hc
      refine y_iload_n C dX6_sheet_25 1 rfl rfl ?_
      refine y_iconst (v := (3 : Int32)) C dX6_sheet_26 (by decide) ?_
      refine y_icmp_eq (tgt := 37) C dX6_sheet_27 rfl (fun hc => ?_) (fun hc => ?_)
      · replace h := g_it h hc
        exact mj_M_sheet_37 C hR hL h hQ
      · replace h := g_if h hc
        refine y_iload_n C dX6_sheet_30 2 rfl rfl ?_
        refine y_if_ge (tgt := 37) C dX6_sheet_31 rfl (fun hc => ?_) (fun hc => ?_)
        · replace h := g_it h hc
          exact mj_M_sheet_37 C hR hL h hQ
        · replace h := g_if h hc
          refine y_bipush (v := (-2 : Int32)) C dX6_sheet_34 (by decide) ?_
          replace h := Option.some.inj h; subst h
          exact y_iret C hQ ⟨Nat.zero_le _, Nat.zero_le _⟩ dX6_sheet_36
    · replace h := g_if h hc
      refine y_iconst (v := (-1 : Int32)) C dX6_sheet_23 (by decide) ?_
      replace h := Option.some.inj h; subst h
      exact y_iret C hQ ⟨Nat.zero_le _, Nat.zero_le _⟩ dX6_sheet_24
theorem ct_M_sheet {D : va_G} {dA : Nat → ClassId} {A : Nat → Prop} {s0 : State} {b0 : Nat} {l : Launch} {hid : Bool} {ad : Nat → Nat → Nat} {σ : g_S} {v1 : Int32} {v2 : Int32} {v3 : Int32} {v4 : Int32} {r : Int32} {σ1 : g_S} (h : mF_M_sheet σ v1 v2 v3 v4 = some (r, σ1)) : g_Met gCl D dA A s0 b0 l yX6_sheet cX6_sheet 9 (some .int) 2 (0, 0) (gM hid) ad σ [.ref (ad 0 0), .int v1, .int v2, .int v3, .int v4] (gM hid) ad σ1 (some (.int r)) :=
  g_Met.of pl_X6 (Nat.le_of_ble_eq_true rfl) (fun X C hQ hR _ _ hL _ es eb => mw_M_sheet C hR hL h hQ)
theorem ml_M_undo_26 {X : g_F} {hid : Bool} (C : g_M gCl X cX6_undo RX6 (some .int)) (hR : g_R X = g_rm 1 0 0) (hL : g_nL X = 2) {ad : Nat → Nat → Nat} {σ : g_S} (n : Nat) (v : (Int32 × g_S)) (e : g_S) (h : g_lp (fun v => mB_M_undo_26 v.2 v.1) n v = some e) (kx : g_Y gCl X (gM hid) ad e (0, 0) 58 [(0, .ref (ad 0 0))] []) : g_Y gCl X (gM hid) ad v.2 (0, 0) 26 [(0, .ref (ad 0 0)), (1, .int v.1)] [] := by
  refine g_loop (P := fun v => g_Y gCl X (gM hid) ad v.2 (0, 0) 26 [(0, .ref (ad 0 0)), (1, .int v.1)] []) (T := fun e => g_Y gCl X (gM hid) ad e (0, 0) 58 [(0, .ref (ad 0 0))] []) ?_ n v e h kx
  clear h kx
  clear n v e
  intro v o h kl kx
  obtain ⟨v1, σ⟩ := v
  have h : mB_M_undo_26 σ v1 = some o := h
  unfold mB_M_undo_26 at h
  show g_Y gCl X (gM hid) ad σ (0, 0) 26 [(0, .ref (ad 0 0)), (1, .int v1)] []
  refine y_iload_n C dX6_undo_26 1 rfl rfl ?_
  refine y_bipush (v := (41 : Int32)) C dX6_undo_27 (by decide) ?_
  refine y_icmp_ge (tgt := 58) C dX6_undo_29 rfl (fun hc => ?_) (fun hc => ?_)
  · replace h := g_it h hc
    refine y_sub (vs2 := [(0, .ref (ad 0 0))]) [0] rfl ?_
    exact kx _ (Option.some.inj h).symm
  · replace h := g_if h hc
    refine y_aload_n C dX6_undo_32 0 rfl rfl ?_
    refine gf_M_11 C dX6_undo_33 ?_
    refine y_iload_n C dX6_undo_36 1 rfl rfl ?_
    refine y_aload_n C dX6_undo_37 0 rfl rfl ?_
    refine gf_M_28 C dX6_undo_38 ?_
    refine y_bipush (v := (41 : Int32)) C dX6_undo_41 (by decide) ?_
    refine y_aload_n C dX6_undo_43 0 rfl rfl ?_
    refine gf_M_27 C dX6_undo_44 ?_
    refine y_imul C dX6_undo_47 ?_
    refine y_iload_n C dX6_undo_48 1 rfl rfl ?_
    refine y_iadd C dX6_undo_49 ?_
    obtain ⟨hg, h⟩ := g_gd h
    refine al_M_11 C nM_11_0 hg dX6_undo_50 ?_
    obtain ⟨hg, h⟩ := g_gd h
    obtain ⟨σ3, hσ3, h⟩ := g_lt h
    refine as_M_1 C nM_1_0 hσ3 hg dX6_undo_51 ?_
    obtain ⟨x4, hx4, h⟩ := g_lt h
    refine y_iinc (c := (1 : Int32)) (vs1 := [(1, .int x4), (0, .ref (ad 0 0))]) C hx4 (by decide) dX6_undo_52 1 rfl (g_lL hL rfl) rfl ?_
    refine y_goto (tgt := 26) C dX6_undo_55 rfl ?_
    refine y_sub (vs2 := [(0, .ref (ad 0 0)), (1, .int x4)]) [1, 0] rfl ?_
    exact kl _ (Option.some.inj h).symm
theorem mw_M_undo {X : g_F} {hid : Bool} (C : g_M gCl X cX6_undo RX6 (some .int)) (hR : g_R X = g_rm 1 0 0) (hL : g_nL X = 2) {ad : Nat → Nat → Nat} {σ : g_S} {o : (Int32 × g_S)} (h : mF_M_undo σ = some o) (hQ : g_MQ gCl X (gM hid) ad o.2 (some (.int o.1)) = g_Q X) : g_Y gCl X (gM hid) ad σ (0, 0) 0 [(0, .ref (ad 0 0))] [] := by
  unfold mF_M_undo at h
  refine y_aload_n C dX6_undo_0 0 rfl rfl ?_
  refine y_iconst (v := (0 : Int32)) C dX6_undo_1 (by decide) ?_
  obtain ⟨σ1, hσ1, h⟩ := g_lt h
  refine pf_M_0 C hσ1 dX6_undo_2 ?_
  refine y_aload_n C dX6_undo_5 0 rfl rfl ?_
  refine gf_M_27 C dX6_undo_6 ?_
  refine y_if_ne (tgt := 14) C dX6_undo_9 rfl (fun hc => ?_) (fun hc => ?_)
  · replace h := g_if h hc
    refine y_aload_n C dX6_undo_14 0 rfl rfl ?_
    refine y_dup C dX6_undo_15 rfl ?_
    refine gf_M_27 C dX6_undo_16 ?_
    refine y_iconst (v := (1 : Int32)) C dX6_undo_19 (by decide) ?_
    refine y_isub C dX6_undo_20 ?_
    obtain ⟨σ2, hσ2, h⟩ := g_lt h
    refine pf_M_27 C hσ2 dX6_undo_21 ?_
    refine y_iconst (v := (0 : Int32)) C dX6_undo_24 (by decide) ?_
    refine y_istore_n (vs1 := [(1, .int (0 : Int32)), (0, .ref (ad 0 0))]) C rfl dX6_undo_25 rfl (g_lL hL rfl) rfl ?_
    refine y_sub (vs2 := [(0, .ref (ad 0 0)), (1, .int (0 : Int32))]) [1, 0] rfl ?_
    obtain ⟨e5, he5, h⟩ := g_bd h
    refine ml_M_undo_26 C hR hL (σ := σ2) _ _ _ he5 ?_
    refine y_aload_n C dX6_undo_58 0 rfl rfl ?_
    refine gf_M_27 C dX6_undo_59 ?_
    replace h := Option.some.inj h; subst h
    exact y_iret C hQ ⟨Nat.zero_le _, Nat.zero_le _⟩ dX6_undo_62
  · replace h := g_it h hc
    refine y_iconst (v := (-1 : Int32)) C dX6_undo_12 (by decide) ?_
    replace h := Option.some.inj h; subst h
    exact y_iret C hQ ⟨Nat.zero_le _, Nat.zero_le _⟩ dX6_undo_13
theorem ct_M_undo {D : va_G} {dA : Nat → ClassId} {A : Nat → Prop} {s0 : State} {b0 : Nat} {l : Launch} {hid : Bool} {ad : Nat → Nat → Nat} {σ : g_S} {r : Int32} {σ1 : g_S} (h : mF_M_undo σ = some (r, σ1)) : g_Met gCl D dA A s0 b0 l yX6_undo cX6_undo 2 (some .int) 1 (0, 0) (gM hid) ad σ [.ref (ad 0 0)] (gM hid) ad σ1 (some (.int r)) :=
  g_Met.of pl_X6 (Nat.le_of_ble_eq_true rfl) (fun X C hQ hR _ _ hL _ es eb => mw_M_undo C hR hL h hQ)
theorem ml_M_putsBy_2 {X : g_F} {hid : Bool} (C : g_M gCl X cX6_putsBy RX6 none) (hR : g_R X = g_rm 1 0 0) (hL : g_nL X = 2) {ad : Nat → Nat → Nat} {σ : g_S} (n : Nat) (v : (Int32 × g_S)) (e : g_S) (h : g_lp (fun v => mB_M_putsBy_2 v.2 v.1) n v = some e) (kx : g_Y gCl X (gM hid) ad e (0, 0) 34 [] []) : g_Y gCl X (gM hid) ad v.2 (0, 0) 2 [(0, .ref (ad 0 0)), (1, .int v.1)] [] := by
  refine g_loop (P := fun v => g_Y gCl X (gM hid) ad v.2 (0, 0) 2 [(0, .ref (ad 0 0)), (1, .int v.1)] []) (T := fun e => g_Y gCl X (gM hid) ad e (0, 0) 34 [] []) ?_ n v e h kx
  clear h kx
  clear n v e
  intro v o h kl kx
  obtain ⟨v1, σ⟩ := v
  have h : mB_M_putsBy_2 σ v1 = some o := h
  unfold mB_M_putsBy_2 at h
  show g_Y gCl X (gM hid) ad σ (0, 0) 2 [(0, .ref (ad 0 0)), (1, .int v1)] []
  refine y_iload_n C dX6_putsBy_2 1 rfl rfl ?_
  refine y_bipush (v := (41 : Int32)) C dX6_putsBy_3 (by decide) ?_
  refine y_icmp_ge (tgt := 34) C dX6_putsBy_5 rfl (fun hc => ?_) (fun hc => ?_)
  · replace h := g_it h hc
    refine y_sub (vs2 := []) [] rfl ?_
    exact kx _ (Option.some.inj h).symm
  · replace h := g_if h hc
    refine y_aload_n C dX6_putsBy_8 0 rfl rfl ?_
    refine gf_M_28 C dX6_putsBy_9 ?_
    refine y_bipush (v := (41 : Int32)) C dX6_putsBy_12 (by decide) ?_
    refine y_aload_n C dX6_putsBy_14 0 rfl rfl ?_
    refine gf_M_27 C dX6_putsBy_15 ?_
    refine y_imul C dX6_putsBy_18 ?_
    refine y_iload_n C dX6_putsBy_19 1 rfl rfl ?_
    refine y_iadd C dX6_putsBy_20 ?_
    refine y_aload_n C dX6_putsBy_21 0 rfl rfl ?_
    refine gf_M_11 C dX6_putsBy_22 ?_
    refine y_iload_n C dX6_putsBy_25 1 rfl rfl ?_
    obtain ⟨hg, h⟩ := g_gd h
    refine al_M_1 C nM_1_0 hg dX6_putsBy_26 ?_
    obtain ⟨hg, h⟩ := g_gd h
    obtain ⟨σ1, hσ1, h⟩ := g_lt h
    refine as_M_11 C nM_11_0 hσ1 hg dX6_putsBy_27 ?_
    obtain ⟨x2, hx2, h⟩ := g_lt h
    refine y_iinc (c := (1 : Int32)) (vs1 := [(1, .int x2), (0, .ref (ad 0 0))]) C hx2 (by decide) dX6_putsBy_28 1 rfl (g_lL hL rfl) rfl ?_
    refine y_goto (tgt := 2) C dX6_putsBy_31 rfl ?_
    refine y_sub (vs2 := [(0, .ref (ad 0 0)), (1, .int x2)]) [1, 0] rfl ?_
    exact kl _ (Option.some.inj h).symm
theorem mw_M_putsBy {X : g_F} {hid : Bool} (C : g_M gCl X cX6_putsBy RX6 none) (hR : g_R X = g_rm 1 0 0) (hL : g_nL X = 2) {ad : Nat → Nat → Nat} {σ : g_S} {o : g_S} (h : mF_M_putsBy σ = some o) (hQ : g_MQ gCl X (gM hid) ad o none = g_Q X) : g_Y gCl X (gM hid) ad σ (0, 0) 0 [(0, .ref (ad 0 0))] [] := by
  unfold mF_M_putsBy at h
  refine y_iconst (v := (0 : Int32)) C dX6_putsBy_0 (by decide) ?_
  refine y_istore_n (vs1 := [(1, .int (0 : Int32)), (0, .ref (ad 0 0))]) C rfl dX6_putsBy_1 rfl (g_lL hL rfl) rfl ?_
  refine y_sub (vs2 := [(0, .ref (ad 0 0)), (1, .int (0 : Int32))]) [1, 0] rfl ?_
  obtain ⟨e3, he3, h⟩ := g_bd h
  refine ml_M_putsBy_2 C hR hL (σ := σ) _ _ _ he3 ?_
  replace h := Option.some.inj h; subst h
  exact y_vret C hQ ⟨Nat.zero_le _, Nat.zero_le _⟩ dX6_putsBy_34
theorem ct_M_putsBy {D : va_G} {dA : Nat → ClassId} {A : Nat → Prop} {s0 : State} {b0 : Nat} {l : Launch} {hid : Bool} {ad : Nat → Nat → Nat} {σ : g_S} {σ1 : g_S} (h : mF_M_putsBy σ = some σ1) : g_Met gCl D dA A s0 b0 l yX6_putsBy cX6_putsBy 2 none 1 (0, 0) (gM hid) ad σ [.ref (ad 0 0)] (gM hid) ad σ1 none :=
  g_Met.of pl_X6 (Nat.le_of_ble_eq_true rfl) (fun X C hQ hR _ _ hL _ es eb => mw_M_putsBy C hR hL h hQ)
theorem ml_M_known_4 {X : g_F} {hid : Bool} (C : g_M gCl X cX6_known RX6 (some .int)) (hR : g_R X = g_rm 2 0 0) (hL : g_nL X = 4) {u0 : Nat} (hu_u0 : u0 < g_n (gM hid) 1) {ad : Nat → Nat → Nat} {σ : g_S} (n : Nat) (v : (Int32 × Int32)) (e : Int32) (h : g_lp (fun v => mB_M_known_4 σ u0 v.1 v.2) n v = some e) (kx : g_Y gCl X (gM hid) ad σ (0, 0) 30 [(2, .int e)] []) : g_Y gCl X (gM hid) ad σ (0, 0) 4 [(0, .ref (ad 0 0)), (1, .ref (ad 1 u0)), (2, .int v.1), (3, .int v.2)] [] := by
  refine g_loop (P := fun v => g_Y gCl X (gM hid) ad σ (0, 0) 4 [(0, .ref (ad 0 0)), (1, .ref (ad 1 u0)), (2, .int v.1), (3, .int v.2)] []) (T := fun e => g_Y gCl X (gM hid) ad σ (0, 0) 30 [(2, .int e)] []) ?_ n v e h kx
  clear h kx
  clear n v e
  intro v o h kl kx
  obtain ⟨v2, v3⟩ := v
  have h : mB_M_known_4 σ u0 v2 v3 = some o := h
  unfold mB_M_known_4 at h
  show g_Y gCl X (gM hid) ad σ (0, 0) 4 [(0, .ref (ad 0 0)), (1, .ref (ad 1 u0)), (2, .int v2), (3, .int v3)] []
  refine y_iload_n C dX6_known_4 3 rfl rfl ?_
  refine y_aload_n C dX6_known_5 0 rfl rfl ?_
  refine gf_M_5 C dX6_known_6 ?_
  refine y_icmp_ge (tgt := 30) C dX6_known_9 rfl (fun hc => ?_) (fun hc => ?_)
  · replace h := g_it h hc
    refine y_sub (vs2 := [(2, .int v2)]) [2] rfl ?_
    exact kx _ (Option.some.inj h).symm
  · replace h := g_if h hc
    refine y_iload_n C dX6_known_12 2 rfl rfl ?_
    refine y_aload_n C dX6_known_13 1 rfl rfl ?_
    refine y_bipush (v := (24 : Int32)) C dX6_known_14 (by decide) ?_
    refine y_iload_n C dX6_known_16 3 rfl rfl ?_
    refine y_iadd C dX6_known_17 ?_
    obtain ⟨hg, h⟩ := g_gd h
    refine al_M_1 C hu_u0 hg dX6_known_18 ?_
    obtain ⟨x1, hc, h⟩ := g_bd h
    refine y_callS C (As := [.int (σ.1 1 u0 ((24 : Int32) + v3).toNatClampNeg)]) (rest := [.int v2]) (lk_X6_265 C hR (by decide)) (ct_J8_bitCount hc) rfl rfl (Nat.le_of_ble_eq_true rfl) ⟨Nat.zero_le _, Nat.zero_le _⟩ dX6_known_19 ?_
    refine y_iadd C dX6_known_22 ?_
    obtain ⟨x2, hx2, h⟩ := g_lt h
    refine y_istore_n (vs1 := [(2, .int x2), (0, .ref (ad 0 0)), (1, .ref (ad 1 u0)), (3, .int v3)]) C hx2 dX6_known_23 rfl (g_lL hL rfl) rfl ?_
    obtain ⟨x3, hx3, h⟩ := g_lt h
    refine y_iinc (c := (1 : Int32)) (vs1 := [(3, .int x3), (2, .int x2), (0, .ref (ad 0 0)), (1, .ref (ad 1 u0))]) C hx3 (by decide) dX6_known_24 3 rfl (g_lL hL rfl) rfl ?_
    refine y_goto (tgt := 4) C dX6_known_27 rfl ?_
    refine y_sub (vs2 := [(0, .ref (ad 0 0)), (1, .ref (ad 1 u0)), (2, .int x2), (3, .int x3)]) [2, 3, 1, 0] rfl ?_
    exact kl _ (Option.some.inj h).symm
theorem mw_M_known {X : g_F} {hid : Bool} (C : g_M gCl X cX6_known RX6 (some .int)) (hR : g_R X = g_rm 2 0 0) (hL : g_nL X = 4) {u0 : Nat} (hu_u0 : u0 < g_n (gM hid) 1) {ad : Nat → Nat → Nat} {σ : g_S} {o : Int32} (h : mF_M_known σ u0 = some o) (hQ : g_MQ gCl X (gM hid) ad σ (some (.int o)) = g_Q X) : g_Y gCl X (gM hid) ad σ (0, 0) 0 [(0, .ref (ad 0 0)), (1, .ref (ad 1 u0))] [] := by
  unfold mF_M_known at h
  refine y_iconst (v := (0 : Int32)) C dX6_known_0 (by decide) ?_
  refine y_istore_n (vs1 := [(2, .int (0 : Int32)), (0, .ref (ad 0 0)), (1, .ref (ad 1 u0))]) C rfl dX6_known_1 rfl (g_lL hL rfl) rfl ?_
  refine y_iconst (v := (0 : Int32)) C dX6_known_2 (by decide) ?_
  refine y_istore_n (vs1 := [(3, .int (0 : Int32)), (2, .int (0 : Int32)), (0, .ref (ad 0 0)), (1, .ref (ad 1 u0))]) C rfl dX6_known_3 rfl (g_lL hL rfl) rfl ?_
  refine y_sub (vs2 := [(0, .ref (ad 0 0)), (1, .ref (ad 1 u0)), (2, .int (0 : Int32)), (3, .int (0 : Int32))]) [2, 3, 1, 0] rfl ?_
  obtain ⟨e4, he4, h⟩ := g_bd h
  refine ml_M_known_4 C hR hL hu_u0 (σ := σ) _ _ _ he4 ?_
  refine y_iload_n C dX6_known_30 0 rfl rfl ?_
  replace h := Option.some.inj h; subst h
  exact y_iret C hQ ⟨Nat.zero_le _, Nat.zero_le _⟩ dX6_known_31
theorem ct_M_known {D : va_G} {dA : Nat → ClassId} {A : Nat → Prop} {s0 : State} {b0 : Nat} {l : Launch} {hid : Bool} {u0 : Nat} (hu_u0 : u0 < g_n (gM hid) 1) {ad : Nat → Nat → Nat} {σ : g_S} {r : Int32} (h : mF_M_known σ u0 = some r) : g_Met gCl D dA A s0 b0 l yX6_known cX6_known 4 (some .int) 2 (0, 0) (gM hid) ad σ [.ref (ad 0 0), .ref (ad 1 u0)] (gM hid) ad σ (some (.int r)) :=
  g_Met.of pl_X6 (Nat.le_of_ble_eq_true rfl) (fun X C hQ hR _ _ hL _ es eb => mw_M_known C hR hL hu_u0 h hQ)
theorem mw_M_seeEachOther {X : g_F} (C : g_M gCl X cX6_seeEachOther RX6 (some .boolean)) (hR : g_R X = g_rm 6 0 0) (hL : g_nL X = 4) {u0 : Nat} (hu_u0 : u0 < g_n (gM true) 1) {ad : Nat → Nat → Nat} {σ : g_S} {v2 : Int32} {v3 : Int32} {o : Int32} (h : mF_M_seeEachOther σ u0 v2 v3 = some o) (hQ : g_MQ gCl X (gM true) ad σ (some (.int o)) = g_Q X) : g_Y gCl X (gM true) ad σ (0, 0) 0 [(0, .ref (ad 0 0)), (1, .ref (ad 1 u0)), (2, .int v2), (3, .int v3)] [] := by
  unfold mF_M_seeEachOther at h
  refine y_aload_n C dX6_seeEachOther_0 0 rfl rfl ?_
  refine y_aload_n C dX6_seeEachOther_1 1 rfl rfl ?_
  refine y_iload_n C dX6_seeEachOther_2 2 rfl rfl ?_
  refine y_aload_n C dX6_seeEachOther_3 1 rfl rfl ?_
  refine y_iload_n C dX6_seeEachOther_4 3 rfl rfl ?_
  obtain ⟨hg, h⟩ := g_gd h
  refine al_M_1 C hu_u0 hg dX6_seeEachOther_5 ?_
  obtain ⟨x1, hc, h⟩ := g_bd h
  refine y_callV C (As := [.ref (ad 1 u0), .int v2, .int (σ.1 1 u0 v3.toNatClampNeg)]) (rest := []) (hu := nM_0_0) (hc := (rfl : gCl[5]? = some (RX6, TX6, 49))) (hcell := obM_0) (lk_X6_308 C hR (by decide)) (ct_M_doesSee hu_u0 hc) rfl rfl (Nat.le_of_ble_eq_true rfl) ⟨Nat.zero_le _, Nat.zero_le _⟩ dX6_seeEachOther_6 ?_
  refine y_if_eq (tgt := 28) C dX6_seeEachOther_9 rfl (fun hc => ?_) (fun hc => ?_)
  · replace h := g_it h hc
    refine y_iconst (v := (0 : Int32)) C dX6_seeEachOther_28 (by decide) ?_
    replace h := Option.some.inj h; subst h
    exact y_zret C (by decide) hQ ⟨Nat.zero_le _, Nat.zero_le _⟩ dX6_seeEachOther_29
  · replace h := g_if h hc
    refine y_aload_n C dX6_seeEachOther_12 0 rfl rfl ?_
    refine y_aload_n C dX6_seeEachOther_13 1 rfl rfl ?_
    refine y_iload_n C dX6_seeEachOther_14 3 rfl rfl ?_
    refine y_aload_n C dX6_seeEachOther_15 1 rfl rfl ?_
    refine y_iload_n C dX6_seeEachOther_16 2 rfl rfl ?_
    obtain ⟨hg, h⟩ := g_gd h
    refine al_M_1 C hu_u0 hg dX6_seeEachOther_17 ?_
    obtain ⟨x2, hc, h⟩ := g_bd h
    refine y_callV C (As := [.ref (ad 1 u0), .int v3, .int (σ.1 1 u0 v2.toNatClampNeg)]) (rest := []) (hu := nM_0_0) (hc := (rfl : gCl[5]? = some (RX6, TX6, 49))) (hcell := obM_0) (lk_X6_308 C hR (by decide)) (ct_M_doesSee hu_u0 hc) rfl rfl (Nat.le_of_ble_eq_true rfl) ⟨Nat.zero_le _, Nat.zero_le _⟩ dX6_seeEachOther_18 ?_
    refine y_if_eq (tgt := 28) C dX6_seeEachOther_21 rfl (fun hc => ?_) (fun hc => ?_)
    · replace h := g_it h hc
      refine y_iconst (v := (0 : Int32)) C dX6_seeEachOther_28 (by decide) ?_
      replace h := Option.some.inj h; subst h
      exact y_zret C (by decide) hQ ⟨Nat.zero_le _, Nat.zero_le _⟩ dX6_seeEachOther_29
    · replace h := g_if h hc
      refine y_iconst (v := (1 : Int32)) C dX6_seeEachOther_24 (by decide) ?_
      refine y_goto (tgt := 29) C dX6_seeEachOther_25 rfl ?_
      replace h := Option.some.inj h; subst h
      exact y_zret C (by decide) hQ ⟨Nat.zero_le _, Nat.zero_le _⟩ dX6_seeEachOther_29
theorem ct_M_seeEachOther {D : va_G} {dA : Nat → ClassId} {A : Nat → Prop} {s0 : State} {b0 : Nat} {l : Launch} {u0 : Nat} (hu_u0 : u0 < g_n (gM true) 1) {ad : Nat → Nat → Nat} {σ : g_S} {v2 : Int32} {v3 : Int32} {r : Int32} (h : mF_M_seeEachOther σ u0 v2 v3 = some r) : g_Met gCl D dA A s0 b0 l yX6_seeEachOther cX6_seeEachOther 4 (some .boolean) 6 (0, 0) (gM true) ad σ [.ref (ad 0 0), .ref (ad 1 u0), .int v2, .int v3] (gM true) ad σ (some (.int r)) :=
  g_Met.of pl_X6 (Nat.le_of_ble_eq_true rfl) (fun X C hQ hR _ _ hL _ es eb => mw_M_seeEachOther C hR hL hu_u0 h hQ)
theorem mj_M_tellEachOther_53 {X : g_F} (C : g_M gCl X cX6_tellEachOther RX6 (some .boolean)) (hR : g_R X = g_rm 7 0 0) (hL : g_nL X = 5) {u0 : Nat} (hu_u0 : u0 < g_n (gM true) 1) {ad : Nat → Nat → Nat} {σ : g_S} {v2 : Int32} {v3 : Int32} {s0 : Int32} {o : Int32} (h : mJ_M_tellEachOther_53 σ u0 v2 v3 s0 = some o) (hQ : g_MQ gCl X (gM true) ad σ (some (.int o)) = g_Q X) : g_Y gCl X (gM true) ad σ (0, 0) 53 [(0, .ref (ad 0 0)), (1, .ref (ad 1 u0)), (2, .int v2), (3, .int v3)] [.int s0] := by
  unfold mJ_M_tellEachOther_53 at h
  refine y_istore (vs1 := [(4, .int s0), (0, .ref (ad 0 0)), (1, .ref (ad 1 u0)), (2, .int v2), (3, .int v3)]) C rfl dX6_tellEachOther_53 (g_lL hL rfl) rfl ?_
  refine y_iload C dX6_tellEachOther_55 0 rfl ?_
  refine y_if_eq (tgt := 74) C dX6_tellEachOther_57 rfl (fun hc => ?_) (fun hc => ?_)
  · replace h := g_it h hc
    refine y_iconst (v := (0 : Int32)) C dX6_tellEachOther_74 (by decide) ?_
    replace h := Option.some.inj h; subst h
    exact y_zret C (by decide) hQ ⟨Nat.zero_le _, Nat.zero_le _⟩ dX6_tellEachOther_75
  · replace h := g_if h hc
    refine y_aload_n C dX6_tellEachOther_60 1 rfl rfl ?_
    refine y_aload_n C dX6_tellEachOther_61 2 rfl rfl ?_
    refine y_iload_n C dX6_tellEachOther_62 3 rfl rfl ?_
    refine y_iload_n C dX6_tellEachOther_63 4 rfl rfl ?_
    obtain ⟨x1, hc, h⟩ := g_bd h
    refine y_callV C (As := [.ref (ad 1 u0), .int v2, .int v3]) (rest := []) (hu := nM_0_0) (hc := (rfl : gCl[5]? = some (RX6, TX6, 49))) (hcell := obM_0) (lk_X6_312 C hR (by decide)) (ct_M_seeEachOther hu_u0 hc) rfl rfl (Nat.le_of_ble_eq_true rfl) ⟨Nat.zero_le _, Nat.zero_le _⟩ dX6_tellEachOther_64 ?_
    refine y_if_eq (tgt := 74) C dX6_tellEachOther_67 rfl (fun hc => ?_) (fun hc => ?_)
    · replace h := g_it h hc
      refine y_iconst (v := (0 : Int32)) C dX6_tellEachOther_74 (by decide) ?_
      replace h := Option.some.inj h; subst h
      exact y_zret C (by decide) hQ ⟨Nat.zero_le _, Nat.zero_le _⟩ dX6_tellEachOther_75
    · replace h := g_if h hc
      refine y_iconst (v := (1 : Int32)) C dX6_tellEachOther_70 (by decide) ?_
      refine y_goto (tgt := 75) C dX6_tellEachOther_71 rfl ?_
      replace h := Option.some.inj h; subst h
      exact y_zret C (by decide) hQ ⟨Nat.zero_le _, Nat.zero_le _⟩ dX6_tellEachOther_75
theorem mj_M_tellEachOther_52 {X : g_F} (C : g_M gCl X cX6_tellEachOther RX6 (some .boolean)) (hR : g_R X = g_rm 7 0 0) (hL : g_nL X = 5) {u0 : Nat} (hu_u0 : u0 < g_n (gM true) 1) {ad : Nat → Nat → Nat} {σ : g_S} {v2 : Int32} {v3 : Int32} {o : Int32} (h : mJ_M_tellEachOther_52 σ u0 v2 v3 = some o) (hQ : g_MQ gCl X (gM true) ad σ (some (.int o)) = g_Q X) : g_Y gCl X (gM true) ad σ (0, 0) 52 [(0, .ref (ad 0 0)), (1, .ref (ad 1 u0)), (2, .int v2), (3, .int v3)] [] := by
  unfold mJ_M_tellEachOther_52 at h
  refine y_iconst (v := (0 : Int32)) C dX6_tellEachOther_52 (by decide) ?_
  exact mj_M_tellEachOther_53 C hR hL hu_u0 h hQ
theorem mw_M_tellEachOther {X : g_F} (C : g_M gCl X cX6_tellEachOther RX6 (some .boolean)) (hR : g_R X = g_rm 7 0 0) (hL : g_nL X = 5) {u0 : Nat} (hu_u0 : u0 < g_n (gM true) 1) {ad : Nat → Nat → Nat} {σ : g_S} {v2 : Int32} {v3 : Int32} {o : Int32} (h : mF_M_tellEachOther σ u0 v2 v3 = some o) (hQ : g_MQ gCl X (gM true) ad σ (some (.int o)) = g_Q X) : g_Y gCl X (gM true) ad σ (0, 0) 0 [(0, .ref (ad 0 0)), (1, .ref (ad 1 u0)), (2, .int v2), (3, .int v3)] [] := by
  unfold mF_M_tellEachOther at h
  refine y_aload_n C dX6_tellEachOther_0 1 rfl rfl ?_
  refine y_iload_n C dX6_tellEachOther_1 2 rfl rfl ?_
  obtain ⟨hg, h⟩ := g_gd h
  refine al_M_1 C hu_u0 hg dX6_tellEachOther_2 ?_
  refine y_aload_n C dX6_tellEachOther_3 0 rfl rfl ?_
  refine gf_M_4 C dX6_tellEachOther_4 ?_
  obtain ⟨hg, h⟩ := g_gd h
  refine y_idiv C dX6_tellEachOther_7 hg ?_
  refine y_aload_n C dX6_tellEachOther_8 1 rfl rfl ?_
  refine y_iload_n C dX6_tellEachOther_9 3 rfl rfl ?_
  obtain ⟨hg, h⟩ := g_gd h
  refine al_M_1 C hu_u0 hg dX6_tellEachOther_10 ?_
  refine y_aload_n C dX6_tellEachOther_11 0 rfl rfl ?_
  refine gf_M_4 C dX6_tellEachOther_12 ?_
  obtain ⟨hg, h⟩ := g_gd h
  refine y_idiv C dX6_tellEachOther_15 hg ?_
  refine y_isub C dX6_tellEachOther_16 ?_
  refine y_mabs C q1610 (g_rmM hR (by decide)) (Nat.le_of_ble_eq_true rfl) ⟨Nat.zero_le _, Nat.zero_le _⟩ dX6_tellEachOther_17 ?_
  refine y_iconst (v := (2 : Int32)) C dX6_tellEachOther_20 (by decide) ?_
  refine y_icmp_ge (tgt := 52) C dX6_tellEachOther_21 rfl (fun hc => ?_) (fun hc => ?_)
  · replace h := g_it h hc
    exact mj_M_tellEachOther_52 C hR hL hu_u0 h hQ
  · replace h := g_if h hc
    refine y_aload_n C dX6_tellEachOther_24 1 rfl rfl ?_
    refine y_iload_n C dX6_tellEachOther_25 2 rfl rfl ?_
    obtain ⟨hg, h⟩ := g_gd h
    refine al_M_1 C hu_u0 hg dX6_tellEachOther_26 ?_
    refine y_aload_n C dX6_tellEachOther_27 0 rfl rfl ?_
    refine gf_M_4 C dX6_tellEachOther_28 ?_
    obtain ⟨hg, h⟩ := g_gd h
    refine y_irem C dX6_tellEachOther_31 hg ?_
    refine y_aload_n C dX6_tellEachOther_32 1 rfl rfl ?_
    refine y_iload_n C dX6_tellEachOther_33 3 rfl rfl ?_
    obtain ⟨hg, h⟩ := g_gd h
    refine al_M_1 C hu_u0 hg dX6_tellEachOther_34 ?_
    refine y_aload_n C dX6_tellEachOther_35 0 rfl rfl ?_
    refine gf_M_4 C dX6_tellEachOther_36 ?_
    obtain ⟨hg, h⟩ := g_gd h
    refine y_irem C dX6_tellEachOther_39 hg ?_
    refine y_isub C dX6_tellEachOther_40 ?_
    refine y_mabs C q1610 (g_rmM hR (by decide)) (Nat.le_of_ble_eq_true rfl) ⟨Nat.zero_le _, Nat.zero_le _⟩ dX6_tellEachOther_41 ?_
    refine y_iconst (v := (2 : Int32)) C dX6_tellEachOther_44 (by decide) ?_
    refine y_icmp_ge (tgt := 52) C dX6_tellEachOther_45 rfl (fun hc => ?_) (fun hc => ?_)
    · replace h := g_it h hc
      exact mj_M_tellEachOther_52 C hR hL hu_u0 h hQ
    · replace h := g_if h hc
      refine y_iconst (v := (1 : Int32)) C dX6_tellEachOther_48 (by decide) ?_
      refine y_goto (tgt := 53) C dX6_tellEachOther_49 rfl ?_
      exact mj_M_tellEachOther_53 C hR hL hu_u0 h hQ
theorem ct_M_tellEachOther {D : va_G} {dA : Nat → ClassId} {A : Nat → Prop} {s0 : State} {b0 : Nat} {l : Launch} {u0 : Nat} (hu_u0 : u0 < g_n (gM true) 1) {ad : Nat → Nat → Nat} {σ : g_S} {v2 : Int32} {v3 : Int32} {r : Int32} (h : mF_M_tellEachOther σ u0 v2 v3 = some r) : g_Met gCl D dA A s0 b0 l yX6_tellEachOther cX6_tellEachOther 5 (some .boolean) 7 (0, 0) (gM true) ad σ [.ref (ad 0 0), .ref (ad 1 u0), .int v2, .int v3] (gM true) ad σ (some (.int r)) :=
  g_Met.of pl_X6 (Nat.le_of_ble_eq_true rfl) (fun X C hQ hR _ _ hL _ es eb => mw_M_tellEachOther C hR hL hu_u0 h hQ)
theorem ml_M_hourGoes_2 {X : g_F} (C : g_M gCl X cX6_hourGoes RX6 none) (hR : g_R X = g_rm 8 0 0) (hL : g_nL X = 4) {u0 : Nat} (hu_u0 : u0 < g_n (gM true) 1) {ad : Nat → Nat → Nat} {σ : g_S} (n : Nat) (v : (Int32 × g_S)) (e : g_S) (h : g_lp (fun v => mB_M_hourGoes_2 v.2 u0 v.1) n v = some e) (kx : g_Y gCl X (gM true) ad e (0, 0) 40 [(0, .ref (ad 0 0)), (1, .ref (ad 1 u0))] []) : g_Y gCl X (gM true) ad v.2 (0, 0) 2 [(0, .ref (ad 0 0)), (1, .ref (ad 1 u0)), (2, .int v.1)] [] := by
  refine g_loop (P := fun v => g_Y gCl X (gM true) ad v.2 (0, 0) 2 [(0, .ref (ad 0 0)), (1, .ref (ad 1 u0)), (2, .int v.1)] []) (T := fun e => g_Y gCl X (gM true) ad e (0, 0) 40 [(0, .ref (ad 0 0)), (1, .ref (ad 1 u0))] []) ?_ n v e h kx
  clear h kx
  clear n v e
  intro v o h kl kx
  obtain ⟨v2, σ⟩ := v
  have h : mB_M_hourGoes_2 σ u0 v2 = some o := h
  unfold mB_M_hourGoes_2 at h
  show g_Y gCl X (gM true) ad σ (0, 0) 2 [(0, .ref (ad 0 0)), (1, .ref (ad 1 u0)), (2, .int v2)] []
  refine y_iload_n C dX6_hourGoes_2 2 rfl rfl ?_
  refine y_aload_n C dX6_hourGoes_3 0 rfl rfl ?_
  refine gf_M_5 C dX6_hourGoes_4 ?_
  refine y_icmp_ge (tgt := 40) C dX6_hourGoes_7 rfl (fun hc => ?_) (fun hc => ?_)
  · replace h := g_it h hc
    refine y_sub (vs2 := [(0, .ref (ad 0 0)), (1, .ref (ad 1 u0))]) [0, 1] rfl ?_
    exact kx _ (Option.some.inj h).symm
  · replace h := g_if h hc
    refine y_aload_n C dX6_hourGoes_10 0 rfl rfl ?_
    refine gf_M_29 C dX6_hourGoes_11 ?_
    refine y_iload_n C dX6_hourGoes_14 2 rfl rfl ?_
    refine y_aload_n C dX6_hourGoes_15 1 rfl rfl ?_
    refine y_bipush (v := (24 : Int32)) C dX6_hourGoes_16 (by decide) ?_
    refine y_iload_n C dX6_hourGoes_18 2 rfl rfl ?_
    refine y_iadd C dX6_hourGoes_19 ?_
    obtain ⟨hg, h⟩ := g_gd h
    refine al_M_1 C hu_u0 hg dX6_hourGoes_20 ?_
    refine y_aload_n C dX6_hourGoes_21 0 rfl rfl ?_
    refine y_aload_n C dX6_hourGoes_22 1 rfl rfl ?_
    refine y_aload_n C dX6_hourGoes_23 0 rfl rfl ?_
    refine y_aload_n C dX6_hourGoes_24 1 rfl rfl ?_
    refine y_iload_n C dX6_hourGoes_25 2 rfl rfl ?_
    obtain ⟨x1, hc, h⟩ := g_bd h
    refine y_callV C (As := [.ref (ad 1 u0), .int v2]) (rest := [.ref (ad 1 u0), .ref (ad 0 0), .int (σ.1 1 u0 ((24 : Int32) + v2).toNatClampNeg), .int v2, .ref (ad 12 0)]) (hu := nM_0_0) (hc := (rfl : gCl[5]? = some (RX6, TX6, 49))) (hcell := obM_0) (lk_X6_300 C hR (by decide)) (ct_M_fieldsSeen hu_u0 hc) rfl rfl (Nat.le_of_ble_eq_true rfl) ⟨Nat.zero_le _, Nat.zero_le _⟩ dX6_hourGoes_26 ?_
    obtain ⟨x2, hc, h⟩ := g_bd h
    refine y_callV C (As := [.ref (ad 1 u0), .long x1]) (rest := [.int (σ.1 1 u0 ((24 : Int32) + v2).toNatClampNeg), .int v2, .ref (ad 12 0)]) (hu := nM_0_0) (hc := (rfl : gCl[5]? = some (RX6, TX6, 49))) (hcell := obM_0) (lk_X6_323 C hR (by decide)) (ct_M_thingsOn hu_u0 hc) rfl rfl (Nat.le_of_ble_eq_true rfl) ⟨Nat.zero_le _, Nat.zero_le _⟩ dX6_hourGoes_29 ?_
    refine y_ior C dX6_hourGoes_32 ?_
    obtain ⟨hg, h⟩ := g_gd h
    obtain ⟨σ3, hσ3, h⟩ := g_lt h
    refine as_M_12 C nM_12_0 hσ3 hg dX6_hourGoes_33 ?_
    obtain ⟨x4, hx4, h⟩ := g_lt h
    refine y_iinc (c := (1 : Int32)) (vs1 := [(2, .int x4), (0, .ref (ad 0 0)), (1, .ref (ad 1 u0))]) C hx4 (by decide) dX6_hourGoes_34 2 rfl (g_lL hL rfl) rfl ?_
    refine y_goto (tgt := 2) C dX6_hourGoes_37 rfl ?_
    refine y_sub (vs2 := [(0, .ref (ad 0 0)), (1, .ref (ad 1 u0)), (2, .int x4)]) [1, 2, 0] rfl ?_
    exact kl _ (Option.some.inj h).symm
theorem ml_M_hourGoes_54 {X : g_F} (C : g_M gCl X cX6_hourGoes RX6 none) (hR : g_R X = g_rm 8 0 0) (hL : g_nL X = 4) {u0 : Nat} (hu_u0 : u0 < g_n (gM true) 1) {ad : Nat → Nat → Nat} {σ : g_S} {v2 : Int32} (n : Nat) (v : (Int32 × g_S)) (e : g_S) (h : g_lp (fun v => mB_M_hourGoes_54 v.2 u0 v2 v.1) n v = some e) (kx : g_Y gCl X (gM true) ad e (0, 0) 108 [(0, .ref (ad 0 0)), (1, .ref (ad 1 u0)), (2, .int v2)] []) : g_Y gCl X (gM true) ad v.2 (0, 0) 54 [(0, .ref (ad 0 0)), (1, .ref (ad 1 u0)), (2, .int v2), (3, .int v.1)] [] := by
  refine g_loop (P := fun v => g_Y gCl X (gM true) ad v.2 (0, 0) 54 [(0, .ref (ad 0 0)), (1, .ref (ad 1 u0)), (2, .int v2), (3, .int v.1)] []) (T := fun e => g_Y gCl X (gM true) ad e (0, 0) 108 [(0, .ref (ad 0 0)), (1, .ref (ad 1 u0)), (2, .int v2)] []) ?_ n v e h kx
  clear h kx
  clear n v e
  intro v o h kl kx
  obtain ⟨v3, σ⟩ := v
  have h : mB_M_hourGoes_54 σ u0 v2 v3 = some o := h
  unfold mB_M_hourGoes_54 at h
  show g_Y gCl X (gM true) ad σ (0, 0) 54 [(0, .ref (ad 0 0)), (1, .ref (ad 1 u0)), (2, .int v2), (3, .int v3)] []
  refine y_iload_n C dX6_hourGoes_54 3 rfl rfl ?_
  refine y_aload_n C dX6_hourGoes_55 0 rfl rfl ?_
  refine gf_M_5 C dX6_hourGoes_56 ?_
  refine y_icmp_ge (tgt := 108) C dX6_hourGoes_59 rfl (fun hc => ?_) (fun hc => ?_)
  · replace h := g_it h hc
    refine y_sub (vs2 := [(0, .ref (ad 0 0)), (1, .ref (ad 1 u0)), (2, .int v2)]) [0, 1, 2] rfl ?_
    exact kx _ (Option.some.inj h).symm
  · replace h := g_if h hc
    refine y_aload_n C dX6_hourGoes_62 0 rfl rfl ?_
    refine y_aload_n C dX6_hourGoes_63 1 rfl rfl ?_
    refine y_iload_n C dX6_hourGoes_64 2 rfl rfl ?_
    refine y_iload_n C dX6_hourGoes_65 3 rfl rfl ?_
    obtain ⟨x7, hc, h⟩ := g_bd h
    refine y_callV C (As := [.ref (ad 1 u0), .int v2, .int v3]) (rest := []) (hu := nM_0_0) (hc := (rfl : gCl[5]? = some (RX6, TX6, 49))) (hcell := obM_0) (lk_X6_344 C hR (by decide)) (ct_M_tellEachOther hu_u0 hc) rfl rfl (Nat.le_of_ble_eq_true rfl) ⟨Nat.zero_le _, Nat.zero_le _⟩ dX6_hourGoes_66 ?_
    refine y_if_eq (tgt := 102) C dX6_hourGoes_69 rfl (fun hc => ?_) (fun hc => ?_)
    · replace h := g_it h hc
      obtain ⟨x8, hx8, h⟩ := g_lt h
      refine y_iinc (c := (1 : Int32)) (vs1 := [(3, .int x8), (0, .ref (ad 0 0)), (1, .ref (ad 1 u0)), (2, .int v2)]) C hx8 (by decide) dX6_hourGoes_102 3 rfl (g_lL hL rfl) rfl ?_
      refine y_goto (tgt := 54) C dX6_hourGoes_105 rfl ?_
      refine y_sub (vs2 := [(0, .ref (ad 0 0)), (1, .ref (ad 1 u0)), (2, .int v2), (3, .int x8)]) [1, 2, 3, 0] rfl ?_
      exact kl _ (Option.some.inj h).symm
    · replace h := g_if h hc
      refine y_aload_n C dX6_hourGoes_72 0 rfl rfl ?_
      refine gf_M_29 C dX6_hourGoes_73 ?_
      refine y_iload_n C dX6_hourGoes_76 2 rfl rfl ?_
      refine y_dup2_11 C dX6_hourGoes_77 rfl rfl ?_
      obtain ⟨hg, h⟩ := g_gd h
      refine al_M_12 C nM_12_0 hg dX6_hourGoes_78 ?_
      refine y_aload_n C dX6_hourGoes_79 1 rfl rfl ?_
      refine y_bipush (v := (24 : Int32)) C dX6_hourGoes_80 (by decide) ?_
      refine y_iload_n C dX6_hourGoes_82 3 rfl rfl ?_
      refine y_iadd C dX6_hourGoes_83 ?_
      obtain ⟨hg, h⟩ := g_gd h
      refine al_M_1 C hu_u0 hg dX6_hourGoes_84 ?_
      refine y_ior C dX6_hourGoes_85 ?_
      obtain ⟨hg, h⟩ := g_gd h
      obtain ⟨σ9, hσ9, h⟩ := g_lt h
      refine as_M_12 C nM_12_0 hσ9 hg dX6_hourGoes_86 ?_
      refine y_aload_n C dX6_hourGoes_87 0 rfl rfl ?_
      refine gf_M_29 C dX6_hourGoes_88 ?_
      refine y_iload_n C dX6_hourGoes_91 3 rfl rfl ?_
      refine y_dup2_11 C dX6_hourGoes_92 rfl rfl ?_
      obtain ⟨hg, h⟩ := g_gd h
      refine al_M_12 C nM_12_0 hg dX6_hourGoes_93 ?_
      refine y_aload_n C dX6_hourGoes_94 1 rfl rfl ?_
      refine y_bipush (v := (24 : Int32)) C dX6_hourGoes_95 (by decide) ?_
      refine y_iload_n C dX6_hourGoes_97 2 rfl rfl ?_
      refine y_iadd C dX6_hourGoes_98 ?_
      obtain ⟨hg, h⟩ := g_gd h
      refine al_M_1 C hu_u0 hg dX6_hourGoes_99 ?_
      refine y_ior C dX6_hourGoes_100 ?_
      obtain ⟨hg, h⟩ := g_gd h
      obtain ⟨σ10, hσ10, h⟩ := g_lt h
      refine as_M_12 C nM_12_0 hσ10 hg dX6_hourGoes_101 ?_
      obtain ⟨x11, hx11, h⟩ := g_lt h
      refine y_iinc (c := (1 : Int32)) (vs1 := [(3, .int x11), (0, .ref (ad 0 0)), (1, .ref (ad 1 u0)), (2, .int v2)]) C hx11 (by decide) dX6_hourGoes_102 3 rfl (g_lL hL rfl) rfl ?_
      refine y_goto (tgt := 54) C dX6_hourGoes_105 rfl ?_
      refine y_sub (vs2 := [(0, .ref (ad 0 0)), (1, .ref (ad 1 u0)), (2, .int v2), (3, .int x11)]) [1, 2, 3, 0] rfl ?_
      exact kl _ (Option.some.inj h).symm
theorem ml_M_hourGoes_42 {X : g_F} (C : g_M gCl X cX6_hourGoes RX6 none) (hR : g_R X = g_rm 8 0 0) (hL : g_nL X = 4) {u0 : Nat} (hu_u0 : u0 < g_n (gM true) 1) {ad : Nat → Nat → Nat} {σ : g_S} (n : Nat) (v : (Int32 × g_S)) (e : g_S) (h : g_lp (fun v => mB_M_hourGoes_42 v.2 u0 v.1) n v = some e) (kx : g_Y gCl X (gM true) ad e (0, 0) 114 [(0, .ref (ad 0 0)), (1, .ref (ad 1 u0))] []) : g_Y gCl X (gM true) ad v.2 (0, 0) 42 [(0, .ref (ad 0 0)), (1, .ref (ad 1 u0)), (2, .int v.1)] [] := by
  refine g_loop (P := fun v => g_Y gCl X (gM true) ad v.2 (0, 0) 42 [(0, .ref (ad 0 0)), (1, .ref (ad 1 u0)), (2, .int v.1)] []) (T := fun e => g_Y gCl X (gM true) ad e (0, 0) 114 [(0, .ref (ad 0 0)), (1, .ref (ad 1 u0))] []) ?_ n v e h kx
  clear h kx
  clear n v e
  intro v o h kl kx
  obtain ⟨v2, σ⟩ := v
  have h : mB_M_hourGoes_42 σ u0 v2 = some o := h
  unfold mB_M_hourGoes_42 at h
  show g_Y gCl X (gM true) ad σ (0, 0) 42 [(0, .ref (ad 0 0)), (1, .ref (ad 1 u0)), (2, .int v2)] []
  refine y_iload_n C dX6_hourGoes_42 2 rfl rfl ?_
  refine y_aload_n C dX6_hourGoes_43 0 rfl rfl ?_
  refine gf_M_5 C dX6_hourGoes_44 ?_
  refine y_icmp_ge (tgt := 114) C dX6_hourGoes_47 rfl (fun hc => ?_) (fun hc => ?_)
  · replace h := g_it h hc
    refine y_sub (vs2 := [(0, .ref (ad 0 0)), (1, .ref (ad 1 u0))]) [0, 1] rfl ?_
    exact kx _ (Option.some.inj h).symm
  · replace h := g_if h hc
    refine y_iload_n C dX6_hourGoes_50 2 rfl rfl ?_
    refine y_iconst (v := (1 : Int32)) C dX6_hourGoes_51 (by decide) ?_
    refine y_iadd C dX6_hourGoes_52 ?_
    obtain ⟨x6, hx6, h⟩ := g_lt h
    refine y_istore_n (vs1 := [(3, .int x6), (0, .ref (ad 0 0)), (1, .ref (ad 1 u0)), (2, .int v2)]) C hx6 dX6_hourGoes_53 rfl (g_lL hL rfl) rfl ?_
    refine y_sub (vs2 := [(0, .ref (ad 0 0)), (1, .ref (ad 1 u0)), (2, .int v2), (3, .int x6)]) [1, 2, 3, 0] rfl ?_
    obtain ⟨e12, he12, h⟩ := g_bd h
    refine ml_M_hourGoes_54 C hR hL hu_u0 (σ := σ) _ _ _ he12 ?_
    obtain ⟨x13, hx13, h⟩ := g_lt h
    refine y_iinc (c := (1 : Int32)) (vs1 := [(2, .int x13), (0, .ref (ad 0 0)), (1, .ref (ad 1 u0))]) C hx13 (by decide) dX6_hourGoes_108 2 rfl (g_lL hL rfl) rfl ?_
    refine y_goto (tgt := 42) C dX6_hourGoes_111 rfl ?_
    refine y_sub (vs2 := [(0, .ref (ad 0 0)), (1, .ref (ad 1 u0)), (2, .int x13)]) [1, 2, 0] rfl ?_
    exact kl _ (Option.some.inj h).symm
theorem ml_M_hourGoes_116 {X : g_F} (C : g_M gCl X cX6_hourGoes RX6 none) (hR : g_R X = g_rm 8 0 0) (hL : g_nL X = 4) {u0 : Nat} (hu_u0 : u0 < g_n (gM true) 1) {ad : Nat → Nat → Nat} {σ : g_S} (n : Nat) (v : (Int32 × g_S)) (e : g_S) (h : g_lp (fun v => mB_M_hourGoes_116 v.2 u0 v.1) n v = some e) (kx : g_Y gCl X (gM true) ad e (0, 0) 142 [(1, .ref (ad 1 u0))] []) : g_Y gCl X (gM true) ad v.2 (0, 0) 116 [(0, .ref (ad 0 0)), (1, .ref (ad 1 u0)), (2, .int v.1)] [] := by
  refine g_loop (P := fun v => g_Y gCl X (gM true) ad v.2 (0, 0) 116 [(0, .ref (ad 0 0)), (1, .ref (ad 1 u0)), (2, .int v.1)] []) (T := fun e => g_Y gCl X (gM true) ad e (0, 0) 142 [(1, .ref (ad 1 u0))] []) ?_ n v e h kx
  clear h kx
  clear n v e
  intro v o h kl kx
  obtain ⟨v2, σ⟩ := v
  have h : mB_M_hourGoes_116 σ u0 v2 = some o := h
  unfold mB_M_hourGoes_116 at h
  show g_Y gCl X (gM true) ad σ (0, 0) 116 [(0, .ref (ad 0 0)), (1, .ref (ad 1 u0)), (2, .int v2)] []
  refine y_iload_n C dX6_hourGoes_116 2 rfl rfl ?_
  refine y_aload_n C dX6_hourGoes_117 0 rfl rfl ?_
  refine gf_M_5 C dX6_hourGoes_118 ?_
  refine y_icmp_ge (tgt := 142) C dX6_hourGoes_121 rfl (fun hc => ?_) (fun hc => ?_)
  · replace h := g_it h hc
    refine y_sub (vs2 := [(1, .ref (ad 1 u0))]) [1] rfl ?_
    exact kx _ (Option.some.inj h).symm
  · replace h := g_if h hc
    refine y_aload_n C dX6_hourGoes_124 1 rfl rfl ?_
    refine y_bipush (v := (24 : Int32)) C dX6_hourGoes_125 (by decide) ?_
    refine y_iload_n C dX6_hourGoes_127 2 rfl rfl ?_
    refine y_iadd C dX6_hourGoes_128 ?_
    refine y_aload_n C dX6_hourGoes_129 0 rfl rfl ?_
    refine gf_M_29 C dX6_hourGoes_130 ?_
    refine y_iload_n C dX6_hourGoes_133 2 rfl rfl ?_
    obtain ⟨hg, h⟩ := g_gd h
    refine al_M_12 C nM_12_0 hg dX6_hourGoes_134 ?_
    obtain ⟨hg, h⟩ := g_gd h
    obtain ⟨σ15, hσ15, h⟩ := g_lt h
    refine as_M_1 C hu_u0 hσ15 hg dX6_hourGoes_135 ?_
    obtain ⟨x16, hx16, h⟩ := g_lt h
    refine y_iinc (c := (1 : Int32)) (vs1 := [(2, .int x16), (0, .ref (ad 0 0)), (1, .ref (ad 1 u0))]) C hx16 (by decide) dX6_hourGoes_136 2 rfl (g_lL hL rfl) rfl ?_
    refine y_goto (tgt := 116) C dX6_hourGoes_139 rfl ?_
    refine y_sub (vs2 := [(0, .ref (ad 0 0)), (1, .ref (ad 1 u0)), (2, .int x16)]) [1, 2, 0] rfl ?_
    exact kl _ (Option.some.inj h).symm
theorem mw_M_hourGoes {X : g_F} (C : g_M gCl X cX6_hourGoes RX6 none) (hR : g_R X = g_rm 8 0 0) (hL : g_nL X = 4) {u0 : Nat} (hu_u0 : u0 < g_n (gM true) 1) {ad : Nat → Nat → Nat} {σ : g_S} {o : g_S} (h : mF_M_hourGoes σ u0 = some o) (hQ : g_MQ gCl X (gM true) ad o none = g_Q X) : g_Y gCl X (gM true) ad σ (0, 0) 0 [(0, .ref (ad 0 0)), (1, .ref (ad 1 u0))] [] := by
  unfold mF_M_hourGoes at h
  refine y_iconst (v := (0 : Int32)) C dX6_hourGoes_0 (by decide) ?_
  refine y_istore_n (vs1 := [(2, .int (0 : Int32)), (0, .ref (ad 0 0)), (1, .ref (ad 1 u0))]) C rfl dX6_hourGoes_1 rfl (g_lL hL rfl) rfl ?_
  refine y_sub (vs2 := [(0, .ref (ad 0 0)), (1, .ref (ad 1 u0)), (2, .int (0 : Int32))]) [1, 2, 0] rfl ?_
  obtain ⟨e5, he5, h⟩ := g_bd h
  refine ml_M_hourGoes_2 C hR hL hu_u0 (σ := σ) _ _ _ he5 ?_
  refine y_iconst (v := (0 : Int32)) C dX6_hourGoes_40 (by decide) ?_
  refine y_istore_n (vs1 := [(2, .int (0 : Int32)), (0, .ref (ad 0 0)), (1, .ref (ad 1 u0))]) C rfl dX6_hourGoes_41 rfl (g_lL hL rfl) rfl ?_
  refine y_sub (vs2 := [(0, .ref (ad 0 0)), (1, .ref (ad 1 u0)), (2, .int (0 : Int32))]) [1, 2, 0] rfl ?_
  obtain ⟨e14, he14, h⟩ := g_bd h
  refine ml_M_hourGoes_42 C hR hL hu_u0 (σ := e5) _ _ _ he14 ?_
  refine y_iconst (v := (0 : Int32)) C dX6_hourGoes_114 (by decide) ?_
  refine y_istore_n (vs1 := [(2, .int (0 : Int32)), (0, .ref (ad 0 0)), (1, .ref (ad 1 u0))]) C rfl dX6_hourGoes_115 rfl (g_lL hL rfl) rfl ?_
  refine y_sub (vs2 := [(0, .ref (ad 0 0)), (1, .ref (ad 1 u0)), (2, .int (0 : Int32))]) [1, 2, 0] rfl ?_
  obtain ⟨e17, he17, h⟩ := g_bd h
  refine ml_M_hourGoes_116 C hR hL hu_u0 (σ := e14) _ _ _ he17 ?_
  refine y_aload_n C dX6_hourGoes_142 0 rfl rfl ?_
  refine y_bipush (v := (40 : Int32)) C dX6_hourGoes_143 (by decide) ?_
  refine y_dup2_11 C dX6_hourGoes_145 rfl rfl ?_
  obtain ⟨hg, h⟩ := g_gd h
  refine al_M_1 C hu_u0 hg dX6_hourGoes_146 ?_
  refine y_iconst (v := (1 : Int32)) C dX6_hourGoes_147 (by decide) ?_
  refine y_iadd C dX6_hourGoes_148 ?_
  obtain ⟨hg, h⟩ := g_gd h
  obtain ⟨σ18, hσ18, h⟩ := g_lt h
  refine as_M_1 C hu_u0 hσ18 hg dX6_hourGoes_149 ?_
  replace h := Option.some.inj h; subst h
  exact y_vret C hQ ⟨Nat.zero_le _, Nat.zero_le _⟩ dX6_hourGoes_150
theorem ct_M_hourGoes {D : va_G} {dA : Nat → ClassId} {A : Nat → Prop} {s0 : State} {b0 : Nat} {l : Launch} {u0 : Nat} (hu_u0 : u0 < g_n (gM true) 1) {ad : Nat → Nat → Nat} {σ : g_S} {σ1 : g_S} (h : mF_M_hourGoes σ u0 = some σ1) : g_Met gCl D dA A s0 b0 l yX6_hourGoes cX6_hourGoes 4 none 8 (0, 0) (gM true) ad σ [.ref (ad 0 0), .ref (ad 1 u0)] (gM true) ad σ1 none :=
  g_Met.of pl_X6 (Nat.le_of_ble_eq_true rfl) (fun X C hQ hR _ _ hL _ es eb => mw_M_hourGoes C hR hL hu_u0 h hQ)
theorem ml_M_goesOn_2 {X : g_F} (C : g_M gCl X cX6_goesOn RX6 none) (hR : g_R X = g_rm 9 0 0) (hL : g_nL X = 4) {u0 : Nat} (hu_u0 : u0 < g_n (gM true) 1) {ad : Nat → Nat → Nat} {σ : g_S} {v2 : Int32} (n : Nat) (v : (Int32 × g_S)) (e : g_S) (h : g_lp (fun v => mB_M_goesOn_2 v.2 u0 v2 v.1) n v = some e) (kx : g_Y gCl X (gM true) ad e (0, 0) 18 [] []) : g_Y gCl X (gM true) ad v.2 (0, 0) 2 [(0, .ref (ad 0 0)), (1, .ref (ad 1 u0)), (2, .int v2), (3, .int v.1)] [] := by
  refine g_loop (P := fun v => g_Y gCl X (gM true) ad v.2 (0, 0) 2 [(0, .ref (ad 0 0)), (1, .ref (ad 1 u0)), (2, .int v2), (3, .int v.1)] []) (T := fun e => g_Y gCl X (gM true) ad e (0, 0) 18 [] []) ?_ n v e h kx
  clear h kx
  clear n v e
  intro v o h kl kx
  obtain ⟨v3, σ⟩ := v
  have h : mB_M_goesOn_2 σ u0 v2 v3 = some o := h
  unfold mB_M_goesOn_2 at h
  show g_Y gCl X (gM true) ad σ (0, 0) 2 [(0, .ref (ad 0 0)), (1, .ref (ad 1 u0)), (2, .int v2), (3, .int v3)] []
  refine y_iload_n C dX6_goesOn_2 3 rfl rfl ?_
  refine y_iload_n C dX6_goesOn_3 2 rfl rfl ?_
  refine y_icmp_ge (tgt := 18) C dX6_goesOn_4 rfl (fun hc => ?_) (fun hc => ?_)
  · replace h := g_it h hc
    refine y_sub (vs2 := []) [] rfl ?_
    exact kx _ (Option.some.inj h).symm
  · replace h := g_if h hc
    refine y_aload_n C dX6_goesOn_7 0 rfl rfl ?_
    refine y_aload_n C dX6_goesOn_8 1 rfl rfl ?_
    obtain ⟨σ1, hc, h⟩ := g_bd h
    refine y_callVv C (As := [.ref (ad 1 u0)]) (rest := []) (hu := nM_0_0) (hc := (rfl : gCl[5]? = some (RX6, TX6, 49))) (hcell := obM_0) (lk_X6_347 C hR (by decide)) (ct_M_hourGoes hu_u0 hc) rfl rfl (Nat.le_of_ble_eq_true rfl) ⟨Nat.zero_le _, Nat.zero_le _⟩ dX6_goesOn_9 ?_
    obtain ⟨x2, hx2, h⟩ := g_lt h
    refine y_iinc (c := (1 : Int32)) (vs1 := [(3, .int x2), (0, .ref (ad 0 0)), (1, .ref (ad 1 u0)), (2, .int v2)]) C hx2 (by decide) dX6_goesOn_12 3 rfl (g_lL hL rfl) rfl ?_
    refine y_goto (tgt := 2) C dX6_goesOn_15 rfl ?_
    refine y_sub (vs2 := [(0, .ref (ad 0 0)), (1, .ref (ad 1 u0)), (2, .int v2), (3, .int x2)]) [1, 2, 3, 0] rfl ?_
    exact kl _ (Option.some.inj h).symm
theorem mw_M_goesOn {X : g_F} (C : g_M gCl X cX6_goesOn RX6 none) (hR : g_R X = g_rm 9 0 0) (hL : g_nL X = 4) {u0 : Nat} (hu_u0 : u0 < g_n (gM true) 1) {ad : Nat → Nat → Nat} {σ : g_S} {v2 : Int32} {o : g_S} (h : mF_M_goesOn σ u0 v2 = some o) (hQ : g_MQ gCl X (gM true) ad o none = g_Q X) : g_Y gCl X (gM true) ad σ (0, 0) 0 [(0, .ref (ad 0 0)), (1, .ref (ad 1 u0)), (2, .int v2)] [] := by
  unfold mF_M_goesOn at h
  refine y_iconst (v := (0 : Int32)) C dX6_goesOn_0 (by decide) ?_
  refine y_istore_n (vs1 := [(3, .int (0 : Int32)), (0, .ref (ad 0 0)), (1, .ref (ad 1 u0)), (2, .int v2)]) C rfl dX6_goesOn_1 rfl (g_lL hL rfl) rfl ?_
  refine y_sub (vs2 := [(0, .ref (ad 0 0)), (1, .ref (ad 1 u0)), (2, .int v2), (3, .int (0 : Int32))]) [1, 2, 3, 0] rfl ?_
  obtain ⟨e3, he3, h⟩ := g_bd h
  refine ml_M_goesOn_2 C hR hL hu_u0 (σ := σ) _ _ _ he3 ?_
  replace h := Option.some.inj h; subst h
  exact y_vret C hQ ⟨Nat.zero_le _, Nat.zero_le _⟩ dX6_goesOn_18
theorem ct_M_goesOn {D : va_G} {dA : Nat → ClassId} {A : Nat → Prop} {s0 : State} {b0 : Nat} {l : Launch} {u0 : Nat} (hu_u0 : u0 < g_n (gM true) 1) {ad : Nat → Nat → Nat} {σ : g_S} {v2 : Int32} {σ1 : g_S} (h : mF_M_goesOn σ u0 v2 = some σ1) : g_Met gCl D dA A s0 b0 l yX6_goesOn cX6_goesOn 4 none 9 (0, 0) (gM true) ad σ [.ref (ad 0 0), .ref (ad 1 u0), .int v2] (gM true) ad σ1 none :=
  g_Met.of pl_X6 (Nat.le_of_ble_eq_true rfl) (fun X C hQ hR _ _ hL _ es eb => mw_M_goesOn C hR hL hu_u0 h hQ)
theorem mw_M_enters {X : g_F} {hid : Bool} (C : g_M gCl X cX6_enters RX6 none) (hR : g_R X = g_rm 1 0 0) (hL : g_nL X = 3) {ad : Nat → Nat → Nat} {σ : g_S} {v1 : Int64} {o : g_S} (h : mF_M_enters σ v1 = some o) (hQ : g_MQ gCl X (gM hid) ad o none = g_Q X) : g_Y gCl X (gM hid) ad σ (0, 0) 0 [(0, .ref (ad 0 0)), (1, .long v1)] [] := by
  unfold mF_M_enters at h
  refine y_aload_n C dX6_enters_0 0 rfl rfl ?_
  refine gf_M_2 C dX6_enters_1 ?_
  refine y_aload_n C dX6_enters_4 0 rfl rfl ?_
  refine gf_M_1 C dX6_enters_5 ?_
  refine y_lload_n C dX6_enters_8 1 rfl rfl ?_
  obtain ⟨hg, h⟩ := g_gd h
  obtain ⟨σ1, hσ1, h⟩ := g_lt h
  refine as_M_2 C nM_2_0 hσ1 hg dX6_enters_9 ?_
  refine y_aload_n C dX6_enters_10 0 rfl rfl ?_
  refine y_dup C dX6_enters_11 rfl ?_
  refine gf_M_1 C dX6_enters_12 ?_
  refine y_iconst (v := (1 : Int32)) C dX6_enters_15 (by decide) ?_
  refine y_iadd C dX6_enters_16 ?_
  obtain ⟨σ2, hσ2, h⟩ := g_lt h
  refine pf_M_1 C hσ2 dX6_enters_17 ?_
  replace h := Option.some.inj h; subst h
  exact y_vret C hQ ⟨Nat.zero_le _, Nat.zero_le _⟩ dX6_enters_20
theorem ct_M_enters {D : va_G} {dA : Nat → ClassId} {A : Nat → Prop} {s0 : State} {b0 : Nat} {l : Launch} {hid : Bool} {ad : Nat → Nat → Nat} {σ : g_S} {v1 : Int64} {σ1 : g_S} (h : mF_M_enters σ v1 = some σ1) : g_Met gCl D dA A s0 b0 l yX6_enters cX6_enters 3 none 1 (0, 0) (gM hid) ad σ [.ref (ad 0 0), .long v1] (gM hid) ad σ1 none :=
  g_Met.of pl_X6 (Nat.le_of_ble_eq_true rfl) (fun X C hQ hR _ _ hL _ es eb => mw_M_enters C hR hL h hQ)
theorem ml_M_adds_21 {X : g_F} {hid : Bool} (C : g_M gCl X cX6_adds RX6 (some .int)) (hR : g_R X = g_rm 1 0 0) (hL : g_nL X = 3) {ad : Nat → Nat → Nat} {σ : g_S} {v1 : Int32} (n : Nat) (v : (Int32 × g_S)) (e : g_S) (h : g_lp (fun v => mB_M_adds_21 v.2 v1 v.1) n v = some e) (kx : g_Y gCl X (gM hid) ad e (0, 0) 49 [(0, .ref (ad 0 0)), (1, .int v1)] []) : g_Y gCl X (gM hid) ad v.2 (0, 0) 21 [(0, .ref (ad 0 0)), (1, .int v1), (2, .int v.1)] [] := by
  refine g_loop (P := fun v => g_Y gCl X (gM hid) ad v.2 (0, 0) 21 [(0, .ref (ad 0 0)), (1, .int v1), (2, .int v.1)] []) (T := fun e => g_Y gCl X (gM hid) ad e (0, 0) 49 [(0, .ref (ad 0 0)), (1, .int v1)] []) ?_ n v e h kx
  clear h kx
  clear n v e
  intro v o h kl kx
  obtain ⟨v2, σ⟩ := v
  have h : mB_M_adds_21 σ v1 v2 = some o := h
  unfold mB_M_adds_21 at h
  show g_Y gCl X (gM hid) ad σ (0, 0) 21 [(0, .ref (ad 0 0)), (1, .int v1), (2, .int v2)] []
  refine y_iload_n C dX6_adds_21 2 rfl rfl ?_
  refine y_sipush (v := (615 : Int32)) C dX6_adds_22 (by decide) ?_
  refine y_icmp_ge (tgt := 49) C dX6_adds_25 rfl (fun hc => ?_) (fun hc => ?_)
  · replace h := g_it h hc
    refine y_sub (vs2 := [(0, .ref (ad 0 0)), (1, .int v1)]) [0, 1] rfl ?_
    exact kx _ (Option.some.inj h).symm
  · replace h := g_if h hc
    refine y_aload_n C dX6_adds_28 0 rfl rfl ?_
    refine gf_M_28 C dX6_adds_29 ?_
    refine y_iload_n C dX6_adds_32 2 rfl rfl ?_
    refine y_aload_n C dX6_adds_33 0 rfl rfl ?_
    refine gf_M_28 C dX6_adds_34 ?_
    refine y_iload_n C dX6_adds_37 2 rfl rfl ?_
    refine y_bipush (v := (41 : Int32)) C dX6_adds_38 (by decide) ?_
    refine y_iadd C dX6_adds_40 ?_
    obtain ⟨hg, h⟩ := g_gd h
    refine al_M_11 C nM_11_0 hg dX6_adds_41 ?_
    obtain ⟨hg, h⟩ := g_gd h
    obtain ⟨σ2, hσ2, h⟩ := g_lt h
    refine as_M_11 C nM_11_0 hσ2 hg dX6_adds_42 ?_
    obtain ⟨x3, hx3, h⟩ := g_lt h
    refine y_iinc (c := (1 : Int32)) (vs1 := [(2, .int x3), (0, .ref (ad 0 0)), (1, .int v1)]) C hx3 (by decide) dX6_adds_43 2 rfl (g_lL hL rfl) rfl ?_
    refine y_goto (tgt := 21) C dX6_adds_46 rfl ?_
    refine y_sub (vs2 := [(0, .ref (ad 0 0)), (1, .int v1), (2, .int x3)]) [1, 2, 0] rfl ?_
    exact kl _ (Option.some.inj h).symm
theorem mw_M_adds {X : g_F} {hid : Bool} (C : g_M gCl X cX6_adds RX6 (some .int)) (hR : g_R X = g_rm 1 0 0) (hL : g_nL X = 3) {ad : Nat → Nat → Nat} {σ : g_S} {v1 : Int32} {o : (Int32 × g_S)} (h : mF_M_adds σ v1 = some o) (hQ : g_MQ gCl X (gM hid) ad o.2 (some (.int o.1)) = g_Q X) : g_Y gCl X (gM hid) ad σ (0, 0) 0 [(0, .ref (ad 0 0)), (1, .int v1)] [] := by
  unfold mF_M_adds at h
  refine y_aload_n C dX6_adds_0 0 rfl rfl ?_
  refine y_dup C dX6_adds_1 rfl ?_
  refine gf_M_27 C dX6_adds_2 ?_
  refine y_iconst (v := (1 : Int32)) C dX6_adds_5 (by decide) ?_
  refine y_iadd C dX6_adds_6 ?_
  obtain ⟨σ1, hσ1, h⟩ := g_lt h
  refine pf_M_27 C hσ1 dX6_adds_7 ?_
  refine y_aload_n C dX6_adds_10 0 rfl rfl ?_
  refine gf_M_27 C dX6_adds_11 ?_
  refine y_bipush (v := (15 : Int32)) C dX6_adds_14 (by decide) ?_
  refine y_icmp_le (tgt := 59) C dX6_adds_16 rfl (fun hc => ?_) (fun hc => ?_)
  · replace h := g_it h hc
    refine y_iload_n C dX6_adds_59 1 rfl rfl ?_
    replace h := Option.some.inj h; subst h
    exact y_iret C hQ ⟨Nat.zero_le _, Nat.zero_le _⟩ dX6_adds_60
  · replace h := g_if h hc
    refine y_iconst (v := (0 : Int32)) C dX6_adds_19 (by decide) ?_
    refine y_istore_n (vs1 := [(2, .int (0 : Int32)), (0, .ref (ad 0 0)), (1, .int v1)]) C rfl dX6_adds_20 rfl (g_lL hL rfl) rfl ?_
    refine y_sub (vs2 := [(0, .ref (ad 0 0)), (1, .int v1), (2, .int (0 : Int32))]) [1, 2, 0] rfl ?_
    obtain ⟨e4, he4, h⟩ := g_bd h
    refine ml_M_adds_21 C hR hL (σ := σ1) _ _ _ he4 ?_
    refine y_aload_n C dX6_adds_49 0 rfl rfl ?_
    refine y_dup C dX6_adds_50 rfl ?_
    refine gf_M_27 C dX6_adds_51 ?_
    refine y_iconst (v := (1 : Int32)) C dX6_adds_54 (by decide) ?_
    refine y_isub C dX6_adds_55 ?_
    obtain ⟨σ5, hσ5, h⟩ := g_lt h
    refine pf_M_27 C hσ5 dX6_adds_56 ?_
    refine y_iload_n C dX6_adds_59 1 rfl rfl ?_
    replace h := Option.some.inj h; subst h
    exact y_iret C hQ ⟨Nat.zero_le _, Nat.zero_le _⟩ dX6_adds_60
theorem ct_M_adds {D : va_G} {dA : Nat → ClassId} {A : Nat → Prop} {s0 : State} {b0 : Nat} {l : Launch} {hid : Bool} {ad : Nat → Nat → Nat} {σ : g_S} {v1 : Int32} {r : Int32} {σ1 : g_S} (h : mF_M_adds σ v1 = some (r, σ1)) : g_Met gCl D dA A s0 b0 l yX6_adds cX6_adds 3 (some .int) 1 (0, 0) (gM hid) ad σ [.ref (ad 0 0), .int v1] (gM hid) ad σ1 (some (.int r)) :=
  g_Met.of pl_X6 (Nat.le_of_ble_eq_true rfl) (fun X C hQ hR _ _ hL _ es eb => mw_M_adds C hR hL h hQ)
theorem ml_M_hours_46 {X : g_F} (C : g_M gCl X cX6_hours RX6 (some .int)) (hR : g_R X = g_rm 10 0 0) (hL : g_nL X = 5) {ad : Nat → Nat → Nat} {σ : g_S} {v2 : Int32} (n : Nat) (v : (Int32 × Int32)) (e : Int32) (h : g_lp (fun v => mB_M_hours_46 σ v2 v.1 v.2) n v = some e) (kx : g_Y gCl X (gM true) ad σ (0, 0) 74 [(0, .ref (ad 0 0)), (2, .int v2), (3, .int e)] []) : g_Y gCl X (gM true) ad σ (0, 0) 46 [(0, .ref (ad 0 0)), (2, .int v2), (3, .int v.1), (4, .int v.2)] [] := by
  refine g_loop (P := fun v => g_Y gCl X (gM true) ad σ (0, 0) 46 [(0, .ref (ad 0 0)), (2, .int v2), (3, .int v.1), (4, .int v.2)] []) (T := fun e => g_Y gCl X (gM true) ad σ (0, 0) 74 [(0, .ref (ad 0 0)), (2, .int v2), (3, .int e)] []) ?_ n v e h kx
  clear h kx
  clear n v e
  intro v o h kl kx
  obtain ⟨v3, v4⟩ := v
  have h : mB_M_hours_46 σ v2 v3 v4 = some o := h
  unfold mB_M_hours_46 at h
  show g_Y gCl X (gM true) ad σ (0, 0) 46 [(0, .ref (ad 0 0)), (2, .int v2), (3, .int v3), (4, .int v4)] []
  refine y_iload C dX6_hours_46 3 rfl ?_
  refine y_aload_n C dX6_hours_48 0 rfl rfl ?_
  refine gf_M_5 C dX6_hours_49 ?_
  refine y_icmp_ge (tgt := 74) C dX6_hours_52 rfl (fun hc => ?_) (fun hc => ?_)
  · replace h := g_it h hc
    refine y_sub (vs2 := [(0, .ref (ad 0 0)), (2, .int v2), (3, .int v3)]) [0, 1, 2] rfl ?_
    exact kx _ (Option.some.inj h).symm
  · replace h := g_if h hc
    refine y_iload_n C dX6_hours_55 2 rfl rfl ?_
    refine y_aload_n C dX6_hours_56 0 rfl rfl ?_
    refine gf_M_11 C dX6_hours_57 ?_
    refine y_bipush (v := (24 : Int32)) C dX6_hours_60 (by decide) ?_
    refine y_iload C dX6_hours_62 3 rfl ?_
    refine y_iadd C dX6_hours_64 ?_
    obtain ⟨hg, h⟩ := g_gd h
    refine al_M_1 C nM_1_0 hg dX6_hours_65 ?_
    refine y_ior C dX6_hours_66 ?_
    obtain ⟨x6, hx6, h⟩ := g_lt h
    refine y_istore_n (vs1 := [(3, .int x6), (0, .ref (ad 0 0)), (2, .int v2), (4, .int v4)]) C hx6 dX6_hours_67 rfl (g_lL hL rfl) rfl ?_
    obtain ⟨x7, hx7, h⟩ := g_lt h
    refine y_iinc (c := (1 : Int32)) (vs1 := [(4, .int x7), (3, .int x6), (0, .ref (ad 0 0)), (2, .int v2)]) C hx7 (by decide) dX6_hours_68 3 rfl (g_lL hL rfl) rfl ?_
    refine y_goto (tgt := 46) C dX6_hours_71 rfl ?_
    refine y_sub (vs2 := [(0, .ref (ad 0 0)), (2, .int v2), (3, .int x6), (4, .int x7)]) [2, 3, 1, 0] rfl ?_
    exact kl _ (Option.some.inj h).symm
theorem mw_M_hours {X : g_F} (C : g_M gCl X cX6_hours RX6 (some .int)) (hR : g_R X = g_rm 10 0 0) (hL : g_nL X = 5) {ad : Nat → Nat → Nat} {σ : g_S} {v1 : Int32} {o : (Int32 × g_S)} (h : mF_M_hours σ v1 = some o) (hQ : g_MQ gCl X (gM true) ad o.2 (some (.int o.1)) = g_Q X) : g_Y gCl X (gM true) ad σ (0, 0) 0 [(0, .ref (ad 0 0)), (1, .int v1)] [] := by
  unfold mF_M_hours at h
  refine y_aload_n C dX6_hours_0 0 rfl rfl ?_
  refine y_iconst (v := (0 : Int32)) C dX6_hours_1 (by decide) ?_
  obtain ⟨σ1, hσ1, h⟩ := g_lt h
  refine pf_M_0 C hσ1 dX6_hours_2 ?_
  refine y_iload_n C dX6_hours_5 1 rfl rfl ?_
  refine y_i2l C dX6_hours_6 ?_
  refine y_lconst (v := (0 : Int64)) C dX6_hours_7 (by decide) ?_
  refine y_ldc2 (v := (60 : Int64)) C q1663 dX6_hours_8 ?_
  obtain ⟨x2, hc, h⟩ := g_bd h
  refine y_callS C (As := [.long (v1.toInt64), .long (0 : Int64), .long (60 : Int64)]) (rest := []) (lk_X6_126 C hR (by decide)) (ct_M_in hc) rfl rfl (Nat.le_of_ble_eq_true rfl) ⟨Nat.zero_le _, Nat.zero_le _⟩ dX6_hours_11 ?_
  refine y_if_ne (tgt := 19) C dX6_hours_14 rfl (fun hc => ?_) (fun hc => ?_)
  · replace h := g_if h hc
    refine y_aload_n C dX6_hours_19 0 rfl rfl ?_
    obtain ⟨σ3, hc, h⟩ := g_bd h
    refine y_callVv C (As := []) (rest := []) (hu := nM_0_0) (hc := (rfl : gCl[5]? = some (RX6, TX6, 49))) (hcell := obM_0) (lk_X6_363 C hR (by decide)) (ct_M_putsBy hc) rfl rfl (Nat.le_of_ble_eq_true rfl) ⟨Nat.zero_le _, Nat.zero_le _⟩ dX6_hours_20 ?_
    refine y_aload_n C dX6_hours_23 0 rfl rfl ?_
    refine y_aload_n C dX6_hours_24 0 rfl rfl ?_
    refine gf_M_11 C dX6_hours_25 ?_
    obtain ⟨x4, hc, h⟩ := g_bd h
    refine y_callV C (As := [.ref (ad 1 0)]) (rest := []) (hu := nM_0_0) (hc := (rfl : gCl[5]? = some (RX6, TX6, 49))) (hcell := obM_0) (lk_X6_366 C hR (by decide)) (ct_M_known nM_1_0 hc) rfl rfl (Nat.le_of_ble_eq_true rfl) ⟨Nat.zero_le _, Nat.zero_le _⟩ dX6_hours_28 ?_
    refine y_istore_n (vs1 := [(2, .int x4), (0, .ref (ad 0 0)), (1, .int v1)]) C rfl dX6_hours_31 rfl (g_lL hL rfl) rfl ?_
    refine y_aload_n C dX6_hours_32 1 rfl rfl ?_
    refine y_aload_n C dX6_hours_33 1 rfl rfl ?_
    refine gf_M_11 C dX6_hours_34 ?_
    refine y_iload_n C dX6_hours_37 2 rfl rfl ?_
    obtain ⟨σ5, hc, h⟩ := g_bd h
    refine y_callVv C (As := [.ref (ad 1 0), .int v1]) (rest := []) (hu := nM_0_0) (hc := (rfl : gCl[5]? = some (RX6, TX6, 49))) (hcell := obM_0) (lk_X6_370 C hR (by decide)) (ct_M_goesOn nM_1_0 hc) rfl rfl (Nat.le_of_ble_eq_true rfl) ⟨Nat.zero_le _, Nat.zero_le _⟩ dX6_hours_38 ?_
    refine y_iconst (v := (0 : Int32)) C dX6_hours_41 (by decide) ?_
    refine y_istore_n (vs1 := [(3, .int (0 : Int32)), (2, .int x4), (0, .ref (ad 0 0)), (1, .int v1)]) C rfl dX6_hours_42 rfl (g_lL hL rfl) rfl ?_
    refine y_iconst (v := (0 : Int32)) C dX6_hours_43 (by decide) ?_
    refine y_istore (vs1 := [(4, .int (0 : Int32)), (3, .int (0 : Int32)), (2, .int x4), (0, .ref (ad 0 0)), (1, .int v1)]) C rfl dX6_hours_44 (g_lL hL rfl) rfl ?_
    refine y_sub (vs2 := [(0, .ref (ad 0 0)), (2, .int x4), (3, .int (0 : Int32)), (4, .int (0 : Int32))]) [3, 2, 1, 0] rfl ?_
    obtain ⟨e8, he8, h⟩ := g_bd h
    refine ml_M_hours_46 C hR hL (σ := σ5) _ _ _ he8 ?_
    refine y_aload_n C dX6_hours_74 0 rfl rfl ?_
    refine y_iconst (v := (0 : Int32)) C dX6_hours_75 (by decide) ?_
    obtain ⟨σ9, hσ9, h⟩ := g_lt h
    refine pf_M_1 C hσ9 dX6_hours_76 ?_
    refine y_aload_n C dX6_hours_79 0 rfl rfl ?_
    refine y_aload_n C dX6_hours_80 0 rfl rfl ?_
    refine y_aload_n C dX6_hours_81 0 rfl rfl ?_
    refine gf_M_11 C dX6_hours_82 ?_
    obtain ⟨x10, hc, h⟩ := g_bd h
    refine y_callV C (As := [.ref (ad 1 0)]) (rest := [.ref (ad 0 0)]) (hu := nM_0_0) (hc := (rfl : gCl[5]? = some (RX6, TX6, 49))) (hcell := obM_0) (lk_X6_366 C hR (by decide)) (ct_M_known nM_1_0 hc) rfl rfl (Nat.le_of_ble_eq_true rfl) ⟨Nat.zero_le _, Nat.zero_le _⟩ dX6_hours_85 ?_
    refine y_iload_n C dX6_hours_88 1 rfl rfl ?_
    refine y_isub C dX6_hours_89 ?_
    refine y_i2l C dX6_hours_90 ?_
    obtain ⟨σ11, hc, h⟩ := g_bd h
    refine y_callVv C (As := [.long ((x10 - x4).toInt64)]) (rest := []) (hu := nM_0_0) (hc := (rfl : gCl[5]? = some (RX6, TX6, 49))) (hcell := obM_0) (lk_X6_373 C hR (by decide)) (ct_M_enters hc) rfl rfl (Nat.le_of_ble_eq_true rfl) ⟨Nat.zero_le _, Nat.zero_le _⟩ dX6_hours_91 ?_
    refine y_aload_n C dX6_hours_94 0 rfl rfl ?_
    refine y_iload_n C dX6_hours_95 2 rfl rfl ?_
    refine y_i2l C dX6_hours_96 ?_
    obtain ⟨σ12, hc, h⟩ := g_bd h
    refine y_callVv C (As := [.long (e8.toInt64)]) (rest := []) (hu := nM_0_0) (hc := (rfl : gCl[5]? = some (RX6, TX6, 49))) (hcell := obM_0) (lk_X6_373 C hR (by decide)) (ct_M_enters hc) rfl rfl (Nat.le_of_ble_eq_true rfl) ⟨Nat.zero_le _, Nat.zero_le _⟩ dX6_hours_97 ?_
    refine y_aload_n C dX6_hours_100 0 rfl rfl ?_
    refine y_aload_n C dX6_hours_101 0 rfl rfl ?_
    refine y_aload_n C dX6_hours_102 0 rfl rfl ?_
    refine gf_M_11 C dX6_hours_103 ?_
    obtain ⟨x13, hc, h⟩ := g_bd h
    refine y_callV C (As := [.ref (ad 1 0)]) (rest := [.ref (ad 0 0)]) (hu := nM_0_0) (hc := (rfl : gCl[5]? = some (RX6, TX6, 49))) (hcell := obM_0) (lk_X6_366 C hR (by decide)) (ct_M_known nM_1_0 hc) rfl rfl (Nat.le_of_ble_eq_true rfl) ⟨Nat.zero_le _, Nat.zero_le _⟩ dX6_hours_106 ?_
    obtain ⟨x15, σ14, hc, h⟩ := g_bp h
    refine y_callV C (As := [.int x13]) (rest := []) (hu := nM_0_0) (hc := (rfl : gCl[5]? = some (RX6, TX6, 49))) (hcell := obM_0) (lk_X6_341 C hR (by decide)) (ct_M_adds hc) rfl rfl (Nat.le_of_ble_eq_true rfl) ⟨Nat.zero_le _, Nat.zero_le _⟩ dX6_hours_109 ?_
    replace h := Option.some.inj h; subst h
    exact y_iret C hQ ⟨Nat.zero_le _, Nat.zero_le _⟩ dX6_hours_112
  · replace h := g_it h hc
    refine y_iconst (v := (-1 : Int32)) C dX6_hours_17 (by decide) ?_
    replace h := Option.some.inj h; subst h
    exact y_iret C hQ ⟨Nat.zero_le _, Nat.zero_le _⟩ dX6_hours_18
theorem ct_M_hours {D : va_G} {dA : Nat → ClassId} {A : Nat → Prop} {s0 : State} {b0 : Nat} {l : Launch} {ad : Nat → Nat → Nat} {σ : g_S} {v1 : Int32} {r : Int32} {σ1 : g_S} (h : mF_M_hours σ v1 = some (r, σ1)) : g_Met gCl D dA A s0 b0 l yX6_hours cX6_hours 5 (some .int) 10 (0, 0) (gM true) ad σ [.ref (ad 0 0), .int v1] (gM true) ad σ1 (some (.int r)) :=
  g_Met.of pl_X6 (Nat.le_of_ble_eq_true rfl) (fun X C hQ hR _ _ hL _ es eb => mw_M_hours C hR hL h hQ)
theorem mw_M_facesOne {X : g_F} {hid : Bool} (C : g_M gCl X cX6_facesOne RX6 (some .int)) (hR : g_R X = g_rm 3 0 0) (hL : g_nL X = 5) {u0 : Nat} (hu_u0 : u0 < g_n (gM hid) 1) {ad : Nat → Nat → Nat} {σ : g_S} {v2 : Int32} {v3 : Int32} {o : (Int32 × g_S)} (h : mF_M_facesOne σ u0 v2 v3 = some o) (hQ : g_MQ gCl X (gM hid) ad o.2 (some (.int o.1)) = g_Q X) : g_Y gCl X (gM hid) ad σ (0, 0) 0 [(0, .ref (ad 0 0)), (1, .ref (ad 1 u0)), (2, .int v2), (3, .int v3)] [] := by
  unfold mF_M_facesOne at h
  refine y_aload_n C dX6_facesOne_0 0 rfl rfl ?_
  refine y_iload_n C dX6_facesOne_1 2 rfl rfl ?_
  obtain ⟨x1, hc, h⟩ := g_bd h
  refine y_callV C (As := [.int v2]) (rest := []) (hu := nM_0_0) (hc := (rfl : gCl[5]? = some (RX6, TX6, 49))) (hcell := obM_0) (lk_X6_315 C hR (by decide)) (ct_M_isPerson hc) rfl rfl (Nat.le_of_ble_eq_true rfl) ⟨Nat.zero_le _, Nat.zero_le _⟩ dX6_facesOne_2 ?_
  refine y_if_eq (tgt := 20) C dX6_facesOne_5 rfl (fun hc => ?_) (fun hc => ?_)
  · replace h := g_it h hc
    refine y_iconst (v := (-1 : Int32)) C dX6_facesOne_20 (by decide) ?_
    replace h := Option.some.inj h; subst h
    exact y_iret C hQ ⟨Nat.zero_le _, Nat.zero_le _⟩ dX6_facesOne_21
  · replace h := g_if h hc
    refine y_iload_n C dX6_facesOne_8 3 rfl rfl ?_
    refine y_i2l C dX6_facesOne_9 ?_
    refine y_lconst (v := (0 : Int64)) C dX6_facesOne_10 (by decide) ?_
    refine y_ldc2 (v := (7 : Int64)) C q1704 dX6_facesOne_11 ?_
    obtain ⟨x2, hc, h⟩ := g_bd h
    refine y_callS C (As := [.long (v3.toInt64), .long (0 : Int64), .long (7 : Int64)]) (rest := []) (lk_X6_126 C hR (by decide)) (ct_M_in hc) rfl rfl (Nat.le_of_ble_eq_true rfl) ⟨Nat.zero_le _, Nat.zero_le _⟩ dX6_facesOne_14 ?_
    refine y_if_ne (tgt := 22) C dX6_facesOne_17 rfl (fun hc => ?_) (fun hc => ?_)
    · replace h := g_if h hc
      refine y_aload_n C dX6_facesOne_22 1 rfl rfl ?_
      refine y_bipush (v := (8 : Int32)) C dX6_facesOne_23 (by decide) ?_
      refine y_iload_n C dX6_facesOne_25 2 rfl rfl ?_
      refine y_iadd C dX6_facesOne_26 ?_
      obtain ⟨hg, h⟩ := g_gd h
      refine al_M_1 C hu_u0 hg dX6_facesOne_27 ?_
      refine y_iload_n C dX6_facesOne_28 3 rfl rfl ?_
      obtain ⟨x3, hc, h⟩ := g_bd h
      refine y_callS C (As := [.int (σ.1 1 u0 ((8 : Int32) + v2).toNatClampNeg), .int v3]) (rest := []) (lk_X6_285 C hR (by decide)) (ct_M_eighthsBetween hc) rfl rfl (Nat.le_of_ble_eq_true rfl) ⟨Nat.zero_le _, Nat.zero_le _⟩ dX6_facesOne_29 ?_
      refine y_istore (vs1 := [(4, .int x3), (0, .ref (ad 0 0)), (1, .ref (ad 1 u0)), (2, .int v2), (3, .int v3)]) C rfl dX6_facesOne_32 (g_lL hL rfl) rfl ?_
      refine y_aload_n C dX6_facesOne_34 2 rfl rfl ?_
      refine y_bipush (v := (8 : Int32)) C dX6_facesOne_35 (by decide) ?_
      refine y_iload_n C dX6_facesOne_37 3 rfl rfl ?_
      refine y_iadd C dX6_facesOne_38 ?_
      refine y_iload_n C dX6_facesOne_39 4 rfl rfl ?_
      obtain ⟨hg, h⟩ := g_gd h
      obtain ⟨σ4, hσ4, h⟩ := g_lt h
      refine as_M_1 C hu_u0 hσ4 hg dX6_facesOne_40 ?_
      refine y_iload C dX6_facesOne_41 0 rfl ?_
      replace h := Option.some.inj h; subst h
      exact y_iret C hQ ⟨Nat.zero_le _, Nat.zero_le _⟩ dX6_facesOne_43
    · replace h := g_it h hc
      refine y_iconst (v := (-1 : Int32)) C dX6_facesOne_20 (by decide) ?_
      replace h := Option.some.inj h; subst h
      exact y_iret C hQ ⟨Nat.zero_le _, Nat.zero_le _⟩ dX6_facesOne_21
theorem ct_M_facesOne {D : va_G} {dA : Nat → ClassId} {A : Nat → Prop} {s0 : State} {b0 : Nat} {l : Launch} {hid : Bool} {u0 : Nat} (hu_u0 : u0 < g_n (gM hid) 1) {ad : Nat → Nat → Nat} {σ : g_S} {v2 : Int32} {v3 : Int32} {r : Int32} {σ1 : g_S} (h : mF_M_facesOne σ u0 v2 v3 = some (r, σ1)) : g_Met gCl D dA A s0 b0 l yX6_facesOne cX6_facesOne 5 (some .int) 3 (0, 0) (gM hid) ad σ [.ref (ad 0 0), .ref (ad 1 u0), .int v2, .int v3] (gM hid) ad σ1 (some (.int r)) :=
  g_Met.of pl_X6 (Nat.le_of_ble_eq_true rfl) (fun X C hQ hR _ _ hL _ es eb => mw_M_facesOne C hR hL hu_u0 h hQ)
theorem mw_M_counted {X : g_F} {hid : Bool} (C : g_M gCl X cX6_counted RX6 (some .int)) (hR : g_R X = g_rm 2 0 0) (hL : g_nL X = 2) {ad : Nat → Nat → Nat} {σ : g_S} {v1 : Int32} {o : (Int32 × g_S)} (h : mF_M_counted σ v1 = some o) (hQ : g_MQ gCl X (gM hid) ad o.2 (some (.int o.1)) = g_Q X) : g_Y gCl X (gM hid) ad σ (0, 0) 0 [(0, .ref (ad 0 0)), (1, .int v1)] [] := by
  unfold mF_M_counted at h
  refine y_iload_n C dX6_counted_0 1 rfl rfl ?_
  refine y_if_ge (tgt := 8) C dX6_counted_1 rfl (fun hc => ?_) (fun hc => ?_)
  · replace h := g_it h hc
    refine y_aload_n C dX6_counted_8 0 rfl rfl ?_
    refine y_iload_n C dX6_counted_9 1 rfl rfl ?_
    obtain ⟨x2, σ1, hc, h⟩ := g_bp h
    refine y_callV C (As := [.int v1]) (rest := []) (hu := nM_0_0) (hc := (rfl : gCl[5]? = some (RX6, TX6, 49))) (hcell := obM_0) (lk_X6_341 C hR (by decide)) (ct_M_adds hc) rfl rfl (Nat.le_of_ble_eq_true rfl) ⟨Nat.zero_le _, Nat.zero_le _⟩ dX6_counted_10 ?_
    replace h := Option.some.inj h; subst h
    exact y_iret C hQ ⟨Nat.zero_le _, Nat.zero_le _⟩ dX6_counted_13
  · replace h := g_if h hc
    refine y_iload_n C dX6_counted_4 1 rfl rfl ?_
    refine y_goto (tgt := 13) C dX6_counted_5 rfl ?_
    replace h := Option.some.inj h; subst h
    exact y_iret C hQ ⟨Nat.zero_le _, Nat.zero_le _⟩ dX6_counted_13
theorem ct_M_counted {D : va_G} {dA : Nat → ClassId} {A : Nat → Prop} {s0 : State} {b0 : Nat} {l : Launch} {hid : Bool} {ad : Nat → Nat → Nat} {σ : g_S} {v1 : Int32} {r : Int32} {σ1 : g_S} (h : mF_M_counted σ v1 = some (r, σ1)) : g_Met gCl D dA A s0 b0 l yX6_counted cX6_counted 2 (some .int) 2 (0, 0) (gM hid) ad σ [.ref (ad 0 0), .int v1] (gM hid) ad σ1 (some (.int r)) :=
  g_Met.of pl_X6 (Nat.le_of_ble_eq_true rfl) (fun X C hQ hR _ _ hL _ es eb => mw_M_counted C hR hL h hQ)
theorem mw_M_faces {X : g_F} {hid : Bool} (C : g_M gCl X cX6_faces RX6 (some .int)) (hR : g_R X = g_rm 4 0 0) (hL : g_nL X = 3) {ad : Nat → Nat → Nat} {σ : g_S} {v1 : Int32} {v2 : Int32} {o : (Int32 × g_S)} (h : mF_M_faces σ v1 v2 = some o) (hQ : g_MQ gCl X (gM hid) ad o.2 (some (.int o.1)) = g_Q X) : g_Y gCl X (gM hid) ad σ (0, 0) 0 [(0, .ref (ad 0 0)), (1, .int v1), (2, .int v2)] [] := by
  unfold mF_M_faces at h
  refine y_aload_n C dX6_faces_0 0 rfl rfl ?_
  refine y_iconst (v := (0 : Int32)) C dX6_faces_1 (by decide) ?_
  obtain ⟨σ1, hσ1, h⟩ := g_lt h
  refine pf_M_0 C hσ1 dX6_faces_2 ?_
  refine y_aload_n C dX6_faces_5 0 rfl rfl ?_
  obtain ⟨σ2, hc, h⟩ := g_bd h
  refine y_callVv C (As := []) (rest := []) (hu := nM_0_0) (hc := (rfl : gCl[5]? = some (RX6, TX6, 49))) (hcell := obM_0) (lk_X6_363 C hR (by decide)) (ct_M_putsBy hc) rfl rfl (Nat.le_of_ble_eq_true rfl) ⟨Nat.zero_le _, Nat.zero_le _⟩ dX6_faces_6 ?_
  refine y_aload_n C dX6_faces_9 0 rfl rfl ?_
  refine y_aload_n C dX6_faces_10 0 rfl rfl ?_
  refine y_aload_n C dX6_faces_11 0 rfl rfl ?_
  refine gf_M_11 C dX6_faces_12 ?_
  refine y_iload_n C dX6_faces_15 1 rfl rfl ?_
  refine y_iload_n C dX6_faces_16 2 rfl rfl ?_
  obtain ⟨x4, σ3, hc, h⟩ := g_bp h
  refine y_callV C (As := [.ref (ad 1 0), .int v1, .int v2]) (rest := [.ref (ad 0 0)]) (hu := nM_0_0) (hc := (rfl : gCl[5]? = some (RX6, TX6, 49))) (hcell := obM_0) (lk_X6_377 C hR (by decide)) (ct_M_facesOne nM_1_0 hc) rfl rfl (Nat.le_of_ble_eq_true rfl) ⟨Nat.zero_le _, Nat.zero_le _⟩ dX6_faces_17 ?_
  obtain ⟨x6, σ5, hc, h⟩ := g_bp h
  refine y_callV C (As := [.int x4]) (rest := []) (hu := nM_0_0) (hc := (rfl : gCl[5]? = some (RX6, TX6, 49))) (hcell := obM_0) (lk_X6_380 C hR (by decide)) (ct_M_counted hc) rfl rfl (Nat.le_of_ble_eq_true rfl) ⟨Nat.zero_le _, Nat.zero_le _⟩ dX6_faces_20 ?_
  replace h := Option.some.inj h; subst h
  exact y_iret C hQ ⟨Nat.zero_le _, Nat.zero_le _⟩ dX6_faces_23
theorem ct_M_faces {D : va_G} {dA : Nat → ClassId} {A : Nat → Prop} {s0 : State} {b0 : Nat} {l : Launch} {hid : Bool} {ad : Nat → Nat → Nat} {σ : g_S} {v1 : Int32} {v2 : Int32} {r : Int32} {σ1 : g_S} (h : mF_M_faces σ v1 v2 = some (r, σ1)) : g_Met gCl D dA A s0 b0 l yX6_faces cX6_faces 3 (some .int) 4 (0, 0) (gM hid) ad σ [.ref (ad 0 0), .int v1, .int v2] (gM hid) ad σ1 (some (.int r)) :=
  g_Met.of pl_X6 (Nat.le_of_ble_eq_true rfl) (fun X C hQ hR _ _ hL _ es eb => mw_M_faces C hR hL h hQ)
theorem mj_M_beside_68 {X : g_F} {hid : Bool} (C : g_M gCl X cX6_beside RX6 (some .int)) (hR : g_R X = g_rm 2 0 0) (hL : g_nL X = 5) {ad : Nat → Nat → Nat} {σ : g_S} {v3 : Int32} {s0 : Int32} {s1 : Int32} {o : Int32} (h : mJ_M_beside_68 σ v3 s0 s1 = some o) (hQ : g_MQ gCl X (gM hid) ad σ (some (.int o)) = g_Q X) : g_Y gCl X (gM hid) ad σ (0, 0) 68 [(0, .ref (ad 0 0)), (3, .int v3)] [.int s1, .int s0] := by
  unfold mJ_M_beside_68 at h
  refine y_iadd C dX6_beside_68 ?_
  obtain ⟨x2, hx2, h⟩ := g_lt h
  refine y_istore (vs1 := [(4, .int x2), (0, .ref (ad 0 0)), (3, .int v3)]) C hx2 dX6_beside_69 (g_lL hL rfl) rfl ?_
  refine y_iload_n C dX6_beside_71 2 rfl rfl ?_
  refine y_i2l C dX6_beside_72 ?_
  refine y_lconst (v := (0 : Int64)) C dX6_beside_73 (by decide) ?_
  refine y_aload_n C dX6_beside_74 1 rfl rfl ?_
  refine gf_M_3 C dX6_beside_75 ?_
  refine y_iconst (v := (1 : Int32)) C dX6_beside_78 (by decide) ?_
  refine y_isub C dX6_beside_79 ?_
  refine y_i2l C dX6_beside_80 ?_
  obtain ⟨x3, hc, h⟩ := g_bd h
  refine y_callS C (As := [.long (v3.toInt64), .long (0 : Int64), .long (((σ.1 0 0 3) - (1 : Int32)).toInt64)]) (rest := []) (lk_X6_126 C hR (by decide)) (ct_M_in hc) rfl rfl (Nat.le_of_ble_eq_true rfl) ⟨Nat.zero_le _, Nat.zero_le _⟩ dX6_beside_81 ?_
  refine y_if_eq (tgt := 116) C dX6_beside_84 rfl (fun hc => ?_) (fun hc => ?_)
  · replace h := g_it h hc
    refine y_iconst (v := (-1 : Int32)) C dX6_beside_116 (by decide) ?_
    replace h := Option.some.inj h; subst h
    exact y_iret C hQ ⟨Nat.zero_le _, Nat.zero_le _⟩ dX6_beside_117
  · replace h := g_if h hc
    refine y_iload C dX6_beside_87 0 rfl ?_
    refine y_i2l C dX6_beside_89 ?_
    refine y_lconst (v := (0 : Int64)) C dX6_beside_90 (by decide) ?_
    refine y_aload_n C dX6_beside_91 1 rfl rfl ?_
    refine gf_M_4 C dX6_beside_92 ?_
    refine y_iconst (v := (1 : Int32)) C dX6_beside_95 (by decide) ?_
    refine y_isub C dX6_beside_96 ?_
    refine y_i2l C dX6_beside_97 ?_
    obtain ⟨x4, hc, h⟩ := g_bd h
    refine y_callS C (As := [.long (x2.toInt64), .long (0 : Int64), .long (((σ.1 0 0 4) - (1 : Int32)).toInt64)]) (rest := []) (lk_X6_126 C hR (by decide)) (ct_M_in hc) rfl rfl (Nat.le_of_ble_eq_true rfl) ⟨Nat.zero_le _, Nat.zero_le _⟩ dX6_beside_98 ?_
    refine y_if_eq (tgt := 116) C dX6_beside_101 rfl (fun hc => ?_) (fun hc => ?_)
    · replace h := g_it h hc
      refine y_iconst (v := (-1 : Int32)) C dX6_beside_116 (by decide) ?_
      replace h := Option.some.inj h; subst h
      exact y_iret C hQ ⟨Nat.zero_le _, Nat.zero_le _⟩ dX6_beside_117
    · replace h := g_if h hc
      refine y_aload_n C dX6_beside_104 1 rfl rfl ?_
      refine gf_M_4 C dX6_beside_105 ?_
      refine y_iload_n C dX6_beside_108 2 rfl rfl ?_
      refine y_imul C dX6_beside_109 ?_
      refine y_iload C dX6_beside_110 0 rfl ?_
      refine y_iadd C dX6_beside_112 ?_
      refine y_goto (tgt := 117) C dX6_beside_113 rfl ?_
      replace h := Option.some.inj h; subst h
      exact y_iret C hQ ⟨Nat.zero_le _, Nat.zero_le _⟩ dX6_beside_117
theorem mj_M_beside_58 {X : g_F} {hid : Bool} (C : g_M gCl X cX6_beside RX6 (some .int)) (hR : g_R X = g_rm 2 0 0) (hL : g_nL X = 5) {ad : Nat → Nat → Nat} {σ : g_S} {v2 : Int32} {v3 : Int32} {s0 : Int32} {o : Int32} (h : mJ_M_beside_58 σ v2 v3 s0 = some o) (hQ : g_MQ gCl X (gM hid) ad σ (some (.int o)) = g_Q X) : g_Y gCl X (gM hid) ad σ (0, 0) 58 [(0, .ref (ad 0 0)), (2, .int v2), (3, .int v3)] [.int s0] := by
  unfold mJ_M_beside_58 at h
  refine y_iload_n C dX6_beside_58 1 rfl rfl ?_
  refine y_iconst (v := (4 : Int32)) C dX6_beside_59 (by decide) ?_
  refine y_icmp_le (tgt := 67) C dX6_beside_60 rfl (fun hc => ?_) (fun hc => ?_)
  · replace h := g_it h hc
    refine y_iconst (v := (0 : Int32)) C dX6_beside_67 (by decide) ?_
    refine y_sub (vs2 := [(0, .ref (ad 0 0)), (3, .int v3)]) [0, 2] rfl ?_
    exact mj_M_beside_68 C hR hL h hQ
  · replace h := g_if h hc
    refine y_iconst (v := (-1 : Int32)) C dX6_beside_63 (by decide) ?_
    refine y_goto (tgt := 68) C dX6_beside_64 rfl ?_
    refine y_sub (vs2 := [(0, .ref (ad 0 0)), (3, .int v3)]) [0, 2] rfl ?_
    exact mj_M_beside_68 C hR hL h hQ
theorem mj_M_beside_37 {X : g_F} {hid : Bool} (C : g_M gCl X cX6_beside RX6 (some .int)) (hR : g_R X = g_rm 2 0 0) (hL : g_nL X = 5) {ad : Nat → Nat → Nat} {σ : g_S} {v1 : Int32} {v2 : Int32} {s0 : Int32} {s1 : Int32} {o : Int32} (h : mJ_M_beside_37 σ v1 v2 s0 s1 = some o) (hQ : g_MQ gCl X (gM hid) ad σ (some (.int o)) = g_Q X) : g_Y gCl X (gM hid) ad σ (0, 0) 37 [(0, .ref (ad 0 0)), (1, .int v1), (2, .int v2)] [.int s1, .int s0] := by
  unfold mJ_M_beside_37 at h
  refine y_iadd C dX6_beside_37 ?_
  obtain ⟨x1, hx1, h⟩ := g_lt h
  refine y_istore_n (vs1 := [(3, .int x1), (0, .ref (ad 0 0)), (1, .int v1), (2, .int v2)]) C hx1 dX6_beside_38 rfl (g_lL hL rfl) rfl ?_
  refine y_iload_n C dX6_beside_39 2 rfl rfl ?_
  refine y_aload_n C dX6_beside_40 1 rfl rfl ?_
  refine gf_M_4 C dX6_beside_41 ?_
  obtain ⟨hg, h⟩ := g_gd h
  refine y_irem C dX6_beside_44 hg ?_
  refine y_iload_n C dX6_beside_45 3 rfl rfl ?_
  refine y_if_le (tgt := 58) C dX6_beside_46 rfl (fun hc => ?_) (fun hc => ?_)
  · replace h := g_it h hc
    refine y_sub (vs2 := [(0, .ref (ad 0 0)), (2, .int v2), (3, .int x1)]) [1, 3, 0] rfl ?_
    exact mj_M_beside_58 C hR hL h hQ
  · replace h := g_if h hc
    refine y_iload_n C dX6_beside_49 3 rfl rfl ?_
    refine y_iconst (v := (4 : Int32)) C dX6_beside_50 (by decide) ?_
    refine y_icmp_ge (tgt := 58) C dX6_beside_51 rfl (fun hc => ?_) (fun hc => ?_)
    · replace h := g_it h hc
      refine y_sub (vs2 := [(0, .ref (ad 0 0)), (2, .int v2), (3, .int x1)]) [1, 3, 0] rfl ?_
      exact mj_M_beside_58 C hR hL h hQ
    · replace h := g_if h hc
      refine y_iconst (v := (1 : Int32)) C dX6_beside_54 (by decide) ?_
      refine y_goto (tgt := 68) C dX6_beside_55 rfl ?_
      refine y_sub (vs2 := [(0, .ref (ad 0 0)), (3, .int x1)]) [1, 0] rfl ?_
      exact mj_M_beside_68 C hR hL h hQ
theorem mj_M_beside_17 {X : g_F} {hid : Bool} (C : g_M gCl X cX6_beside RX6 (some .int)) (hR : g_R X = g_rm 2 0 0) (hL : g_nL X = 5) {ad : Nat → Nat → Nat} {σ : g_S} {v1 : Int32} {v2 : Int32} {s0 : Int32} {o : Int32} (h : mJ_M_beside_17 σ v1 v2 s0 = some o) (hQ : g_MQ gCl X (gM hid) ad σ (some (.int o)) = g_Q X) : g_Y gCl X (gM hid) ad σ (0, 0) 17 [(0, .ref (ad 0 0)), (1, .int v1), (2, .int v2)] [.int s0] := by
  unfold mJ_M_beside_17 at h
  refine y_iconst (v := (-1 : Int32)) C dX6_beside_17 (by decide) ?_
  refine y_goto (tgt := 37) C dX6_beside_18 rfl ?_
  exact mj_M_beside_37 C hR hL h hQ
theorem mj_M_beside_36 {X : g_F} {hid : Bool} (C : g_M gCl X cX6_beside RX6 (some .int)) (hR : g_R X = g_rm 2 0 0) (hL : g_nL X = 5) {ad : Nat → Nat → Nat} {σ : g_S} {v1 : Int32} {v2 : Int32} {s0 : Int32} {o : Int32} (h : mJ_M_beside_36 σ v1 v2 s0 = some o) (hQ : g_MQ gCl X (gM hid) ad σ (some (.int o)) = g_Q X) : g_Y gCl X (gM hid) ad σ (0, 0) 36 [(0, .ref (ad 0 0)), (1, .int v1), (2, .int v2)] [.int s0] := by
  unfold mJ_M_beside_36 at h
  refine y_iconst (v := (0 : Int32)) C dX6_beside_36 (by decide) ?_
  exact mj_M_beside_37 C hR hL h hQ
theorem mw_M_beside {X : g_F} {hid : Bool} (C : g_M gCl X cX6_beside RX6 (some .int)) (hR : g_R X = g_rm 2 0 0) (hL : g_nL X = 5) {ad : Nat → Nat → Nat} {σ : g_S} {v1 : Int32} {v2 : Int32} {o : Int32} (h : mF_M_beside σ v1 v2 = some o) (hQ : g_MQ gCl X (gM hid) ad σ (some (.int o)) = g_Q X) : g_Y gCl X (gM hid) ad σ (0, 0) 0 [(0, .ref (ad 0 0)), (1, .int v1), (2, .int v2)] [] := by
  unfold mF_M_beside at h
  refine y_iload_n C dX6_beside_0 1 rfl rfl ?_
  refine y_aload_n C dX6_beside_1 0 rfl rfl ?_
  refine gf_M_4 C dX6_beside_2 ?_
  obtain ⟨hg, h⟩ := g_gd h
  refine y_idiv C dX6_beside_5 hg ?_
  refine y_iload_n C dX6_beside_6 2 rfl rfl ?_
  refine y_bipush (v := (7 : Int32)) C dX6_beside_7 (by decide) ?_
  refine y_icmp_eq (tgt := 17) C dX6_beside_9 rfl (fun hc => ?_) (fun hc => ?_)
  · replace h := g_it h hc
    exact mj_M_beside_17 C hR hL h hQ
  · replace h := g_if h hc
    refine y_iload_n C dX6_beside_12 2 rfl rfl ?_
    refine y_iconst (v := (2 : Int32)) C dX6_beside_13 (by decide) ?_
    refine y_icmp_ge (tgt := 21) C dX6_beside_14 rfl (fun hc => ?_) (fun hc => ?_)
    · replace h := g_it h hc
      refine y_iload_n C dX6_beside_21 2 rfl rfl ?_
      refine y_iconst (v := (2 : Int32)) C dX6_beside_22 (by decide) ?_
      refine y_icmp_le (tgt := 36) C dX6_beside_23 rfl (fun hc => ?_) (fun hc => ?_)
      · replace h := g_it h hc
        exact mj_M_beside_36 C hR hL h hQ
      · replace h := g_if h hc
        refine y_iload_n C dX6_beside_26 2 rfl rfl ?_
        refine y_bipush (v := (6 : Int32)) C dX6_beside_27 (by decide) ?_
        refine y_icmp_ge (tgt := 36) C dX6_beside_29 rfl (fun hc => ?_) (fun hc => ?_)
        · replace h := g_it h hc
          exact mj_M_beside_36 C hR hL h hQ
        · replace h := g_if h hc
          refine y_iconst (v := (1 : Int32)) C dX6_beside_32 (by decide) ?_
          refine y_goto (tgt := 37) C dX6_beside_33 rfl ?_
          exact mj_M_beside_37 C hR hL h hQ
    · replace h := g_if h hc
      exact mj_M_beside_17 C hR hL h hQ
theorem ct_M_beside {D : va_G} {dA : Nat → ClassId} {A : Nat → Prop} {s0 : State} {b0 : Nat} {l : Launch} {hid : Bool} {ad : Nat → Nat → Nat} {σ : g_S} {v1 : Int32} {v2 : Int32} {r : Int32} (h : mF_M_beside σ v1 v2 = some r) : g_Met gCl D dA A s0 b0 l yX6_beside cX6_beside 5 (some .int) 2 (0, 0) (gM hid) ad σ [.ref (ad 0 0), .int v1, .int v2] (gM hid) ad σ (some (.int r)) :=
  g_Met.of pl_X6 (Nat.le_of_ble_eq_true rfl) (fun X C hQ hR _ _ hL _ es eb => mw_M_beside C hR hL h hQ)
theorem mw_M_stepsOne {X : g_F} {hid : Bool} (C : g_M gCl X cX6_stepsOne RX6 (some .int)) (hR : g_R X = g_rm 3 0 0) (hL : g_nL X = 5) {u0 : Nat} (hu_u0 : u0 < g_n (gM hid) 1) {ad : Nat → Nat → Nat} {σ : g_S} {v2 : Int32} {v3 : Int32} {o : (Int32 × g_S)} (h : mF_M_stepsOne σ u0 v2 v3 = some o) (hQ : g_MQ gCl X (gM hid) ad o.2 (some (.int o.1)) = g_Q X) : g_Y gCl X (gM hid) ad σ (0, 0) 0 [(0, .ref (ad 0 0)), (1, .ref (ad 1 u0)), (2, .int v2), (3, .int v3)] [] := by
  unfold mF_M_stepsOne at h
  refine y_aload_n C dX6_stepsOne_0 0 rfl rfl ?_
  refine y_iload_n C dX6_stepsOne_1 2 rfl rfl ?_
  obtain ⟨x1, hc, h⟩ := g_bd h
  refine y_callV C (As := [.int v2]) (rest := []) (hu := nM_0_0) (hc := (rfl : gCl[5]? = some (RX6, TX6, 49))) (hcell := obM_0) (lk_X6_315 C hR (by decide)) (ct_M_isPerson hc) rfl rfl (Nat.le_of_ble_eq_true rfl) ⟨Nat.zero_le _, Nat.zero_le _⟩ dX6_stepsOne_2 ?_
  refine y_if_eq (tgt := 20) C dX6_stepsOne_5 rfl (fun hc => ?_) (fun hc => ?_)
  · replace h := g_it h hc
    refine y_iconst (v := (-1 : Int32)) C dX6_stepsOne_20 (by decide) ?_
    replace h := Option.some.inj h; subst h
    exact y_iret C hQ ⟨Nat.zero_le _, Nat.zero_le _⟩ dX6_stepsOne_21
  · replace h := g_if h hc
    refine y_iload_n C dX6_stepsOne_8 3 rfl rfl ?_
    refine y_i2l C dX6_stepsOne_9 ?_
    refine y_lconst (v := (0 : Int64)) C dX6_stepsOne_10 (by decide) ?_
    refine y_ldc2 (v := (7 : Int64)) C q1704 dX6_stepsOne_11 ?_
    obtain ⟨x2, hc, h⟩ := g_bd h
    refine y_callS C (As := [.long (v3.toInt64), .long (0 : Int64), .long (7 : Int64)]) (rest := []) (lk_X6_126 C hR (by decide)) (ct_M_in hc) rfl rfl (Nat.le_of_ble_eq_true rfl) ⟨Nat.zero_le _, Nat.zero_le _⟩ dX6_stepsOne_14 ?_
    refine y_if_ne (tgt := 22) C dX6_stepsOne_17 rfl (fun hc => ?_) (fun hc => ?_)
    · replace h := g_if h hc
      refine y_aload_n C dX6_stepsOne_22 0 rfl rfl ?_
      refine y_aload_n C dX6_stepsOne_23 1 rfl rfl ?_
      refine y_iload_n C dX6_stepsOne_24 2 rfl rfl ?_
      obtain ⟨hg, h⟩ := g_gd h
      refine al_M_1 C hu_u0 hg dX6_stepsOne_25 ?_
      refine y_iload_n C dX6_stepsOne_26 3 rfl rfl ?_
      obtain ⟨x3, hc, h⟩ := g_bd h
      refine y_callV C (As := [.int (σ.1 1 u0 v2.toNatClampNeg), .int v3]) (rest := []) (hu := nM_0_0) (hc := (rfl : gCl[5]? = some (RX6, TX6, 49))) (hcell := obM_0) (lk_X6_353 C hR (by decide)) (ct_M_beside hc) rfl rfl (Nat.le_of_ble_eq_true rfl) ⟨Nat.zero_le _, Nat.zero_le _⟩ dX6_stepsOne_27 ?_
      refine y_istore (vs1 := [(4, .int x3), (0, .ref (ad 0 0)), (1, .ref (ad 1 u0)), (2, .int v2), (3, .int v3)]) C rfl dX6_stepsOne_30 (g_lL hL rfl) rfl ?_
      refine y_iload C dX6_stepsOne_32 0 rfl ?_
      refine y_if_lt (tgt := 47) C dX6_stepsOne_34 rfl (fun hc => ?_) (fun hc => ?_)
      · replace h := g_it h hc
        refine y_bipush (v := (-2 : Int32)) C dX6_stepsOne_47 (by decide) ?_
        replace h := Option.some.inj h; subst h
        exact y_iret C hQ ⟨Nat.zero_le _, Nat.zero_le _⟩ dX6_stepsOne_49
      · replace h := g_if h hc
        refine y_aload_n C dX6_stepsOne_37 1 rfl rfl ?_
        refine gf_M_9 C dX6_stepsOne_38 ?_
        refine y_iload C dX6_stepsOne_41 0 rfl ?_
        obtain ⟨hg, h⟩ := g_gd h
        refine al_M_3 C nM_3_0 hg dX6_stepsOne_43 ?_
        refine y_if_eq (tgt := 50) C dX6_stepsOne_44 rfl (fun hc => ?_) (fun hc => ?_)
        · replace h := g_it h hc
          refine y_aload_n C dX6_stepsOne_50 2 rfl rfl ?_
          refine y_iload_n C dX6_stepsOne_51 3 rfl rfl ?_
          refine y_iload C dX6_stepsOne_52 0 rfl ?_
          obtain ⟨hg, h⟩ := g_gd h
          obtain ⟨σ4, hσ4, h⟩ := g_lt h
          refine as_M_1 C hu_u0 hσ4 hg dX6_stepsOne_54 ?_
          refine y_iload C dX6_stepsOne_55 0 rfl ?_
          replace h := Option.some.inj h; subst h
          exact y_iret C hQ ⟨Nat.zero_le _, Nat.zero_le _⟩ dX6_stepsOne_57
        · replace h := g_if h hc
          refine y_bipush (v := (-2 : Int32)) C dX6_stepsOne_47 (by decide) ?_
          replace h := Option.some.inj h; subst h
          exact y_iret C hQ ⟨Nat.zero_le _, Nat.zero_le _⟩ dX6_stepsOne_49
    · replace h := g_it h hc
      refine y_iconst (v := (-1 : Int32)) C dX6_stepsOne_20 (by decide) ?_
      replace h := Option.some.inj h; subst h
      exact y_iret C hQ ⟨Nat.zero_le _, Nat.zero_le _⟩ dX6_stepsOne_21
theorem ct_M_stepsOne {D : va_G} {dA : Nat → ClassId} {A : Nat → Prop} {s0 : State} {b0 : Nat} {l : Launch} {hid : Bool} {u0 : Nat} (hu_u0 : u0 < g_n (gM hid) 1) {ad : Nat → Nat → Nat} {σ : g_S} {v2 : Int32} {v3 : Int32} {r : Int32} {σ1 : g_S} (h : mF_M_stepsOne σ u0 v2 v3 = some (r, σ1)) : g_Met gCl D dA A s0 b0 l yX6_stepsOne cX6_stepsOne 5 (some .int) 3 (0, 0) (gM hid) ad σ [.ref (ad 0 0), .ref (ad 1 u0), .int v2, .int v3] (gM hid) ad σ1 (some (.int r)) :=
  g_Met.of pl_X6 (Nat.le_of_ble_eq_true rfl) (fun X C hQ hR _ _ hL _ es eb => mw_M_stepsOne C hR hL hu_u0 h hQ)
theorem mw_M_steps {X : g_F} {hid : Bool} (C : g_M gCl X cX6_steps RX6 (some .int)) (hR : g_R X = g_rm 4 0 0) (hL : g_nL X = 3) {ad : Nat → Nat → Nat} {σ : g_S} {v1 : Int32} {v2 : Int32} {o : (Int32 × g_S)} (h : mF_M_steps σ v1 v2 = some o) (hQ : g_MQ gCl X (gM hid) ad o.2 (some (.int o.1)) = g_Q X) : g_Y gCl X (gM hid) ad σ (0, 0) 0 [(0, .ref (ad 0 0)), (1, .int v1), (2, .int v2)] [] := by
  unfold mF_M_steps at h
  refine y_aload_n C dX6_steps_0 0 rfl rfl ?_
  refine y_iconst (v := (0 : Int32)) C dX6_steps_1 (by decide) ?_
  obtain ⟨σ1, hσ1, h⟩ := g_lt h
  refine pf_M_0 C hσ1 dX6_steps_2 ?_
  refine y_aload_n C dX6_steps_5 0 rfl rfl ?_
  obtain ⟨σ2, hc, h⟩ := g_bd h
  refine y_callVv C (As := []) (rest := []) (hu := nM_0_0) (hc := (rfl : gCl[5]? = some (RX6, TX6, 49))) (hcell := obM_0) (lk_X6_363 C hR (by decide)) (ct_M_putsBy hc) rfl rfl (Nat.le_of_ble_eq_true rfl) ⟨Nat.zero_le _, Nat.zero_le _⟩ dX6_steps_6 ?_
  refine y_aload_n C dX6_steps_9 0 rfl rfl ?_
  refine y_aload_n C dX6_steps_10 0 rfl rfl ?_
  refine y_aload_n C dX6_steps_11 0 rfl rfl ?_
  refine gf_M_11 C dX6_steps_12 ?_
  refine y_iload_n C dX6_steps_15 1 rfl rfl ?_
  refine y_iload_n C dX6_steps_16 2 rfl rfl ?_
  obtain ⟨x4, σ3, hc, h⟩ := g_bp h
  refine y_callV C (As := [.ref (ad 1 0), .int v1, .int v2]) (rest := [.ref (ad 0 0)]) (hu := nM_0_0) (hc := (rfl : gCl[5]? = some (RX6, TX6, 49))) (hcell := obM_0) (lk_X6_383 C hR (by decide)) (ct_M_stepsOne nM_1_0 hc) rfl rfl (Nat.le_of_ble_eq_true rfl) ⟨Nat.zero_le _, Nat.zero_le _⟩ dX6_steps_17 ?_
  obtain ⟨x6, σ5, hc, h⟩ := g_bp h
  refine y_callV C (As := [.int x4]) (rest := []) (hu := nM_0_0) (hc := (rfl : gCl[5]? = some (RX6, TX6, 49))) (hcell := obM_0) (lk_X6_380 C hR (by decide)) (ct_M_counted hc) rfl rfl (Nat.le_of_ble_eq_true rfl) ⟨Nat.zero_le _, Nat.zero_le _⟩ dX6_steps_20 ?_
  replace h := Option.some.inj h; subst h
  exact y_iret C hQ ⟨Nat.zero_le _, Nat.zero_le _⟩ dX6_steps_23
theorem ct_M_steps {D : va_G} {dA : Nat → ClassId} {A : Nat → Prop} {s0 : State} {b0 : Nat} {l : Launch} {hid : Bool} {ad : Nat → Nat → Nat} {σ : g_S} {v1 : Int32} {v2 : Int32} {r : Int32} {σ1 : g_S} (h : mF_M_steps σ v1 v2 = some (r, σ1)) : g_Met gCl D dA A s0 b0 l yX6_steps cX6_steps 3 (some .int) 4 (0, 0) (gM hid) ad σ [.ref (ad 0 0), .int v1, .int v2] (gM hid) ad σ1 (some (.int r)) :=
  g_Met.of pl_X6 (Nat.le_of_ble_eq_true rfl) (fun X C hQ hR _ _ hL _ es eb => mw_M_steps C hR hL h hQ)
theorem mw_M_trimsOne {X : g_F} {hid : Bool} (C : g_M gCl X cX6_trimsOne RX6 (some .int)) (hR : g_R X = g_rm 3 0 0) (hL : g_nL X = 4) {ad : Nat → Nat → Nat} {σ : g_S} {v1 : Int32} {v2 : Int32} {o : (Int32 × g_S)} (h : mF_M_trimsOne σ v1 v2 = some o) (hQ : g_MQ gCl X (gM hid) ad o.2 (some (.int o.1)) = g_Q X) : g_Y gCl X (gM hid) ad σ (0, 0) 0 [(0, .ref (ad 0 0)), (1, .int v1), (2, .int v2)] [] := by
  unfold mF_M_trimsOne at h
  refine y_aload_n C dX6_trimsOne_0 0 rfl rfl ?_
  refine y_iload_n C dX6_trimsOne_1 1 rfl rfl ?_
  obtain ⟨x1, hc, h⟩ := g_bd h
  refine y_callV C (As := [.int v1]) (rest := []) (hu := nM_0_0) (hc := (rfl : gCl[5]? = some (RX6, TX6, 49))) (hcell := obM_0) (lk_X6_315 C hR (by decide)) (ct_M_isPerson hc) rfl rfl (Nat.le_of_ble_eq_true rfl) ⟨Nat.zero_le _, Nat.zero_le _⟩ dX6_trimsOne_2 ?_
  refine y_if_eq (tgt := 20) C dX6_trimsOne_5 rfl (fun hc => ?_) (fun hc => ?_)
  · replace h := g_it h hc
    refine y_iconst (v := (-1 : Int32)) C dX6_trimsOne_20 (by decide) ?_
    replace h := Option.some.inj h; subst h
    exact y_iret C hQ ⟨Nat.zero_le _, Nat.zero_le _⟩ dX6_trimsOne_21
  · replace h := g_if h hc
    refine y_iload_n C dX6_trimsOne_8 2 rfl rfl ?_
    refine y_i2l C dX6_trimsOne_9 ?_
    refine y_lconst (v := (0 : Int64)) C dX6_trimsOne_10 (by decide) ?_
    refine y_ldc2 (v := (4 : Int64)) C q1729 dX6_trimsOne_11 ?_
    obtain ⟨x2, hc, h⟩ := g_bd h
    refine y_callS C (As := [.long (v2.toInt64), .long (0 : Int64), .long (4 : Int64)]) (rest := []) (lk_X6_126 C hR (by decide)) (ct_M_in hc) rfl rfl (Nat.le_of_ble_eq_true rfl) ⟨Nat.zero_le _, Nat.zero_le _⟩ dX6_trimsOne_14 ?_
    refine y_if_ne (tgt := 22) C dX6_trimsOne_17 rfl (fun hc => ?_) (fun hc => ?_)
    · replace h := g_if h hc
      refine y_aload_n C dX6_trimsOne_22 0 rfl rfl ?_
      refine gf_M_11 C dX6_trimsOne_23 ?_
      refine y_bipush (v := (16 : Int32)) C dX6_trimsOne_26 (by decide) ?_
      refine y_iload_n C dX6_trimsOne_28 1 rfl rfl ?_
      refine y_iadd C dX6_trimsOne_29 ?_
      obtain ⟨hg, h⟩ := g_gd h
      refine al_M_1 C nM_1_0 hg dX6_trimsOne_30 ?_
      obtain ⟨x3, hx3, h⟩ := g_lt h
      refine y_istore_n (vs1 := [(3, .int x3), (0, .ref (ad 0 0)), (1, .int v1), (2, .int v2)]) C hx3 dX6_trimsOne_31 rfl (g_lL hL rfl) rfl ?_
      refine y_aload_n C dX6_trimsOne_32 1 rfl rfl ?_
      refine gf_M_11 C dX6_trimsOne_33 ?_
      refine y_bipush (v := (16 : Int32)) C dX6_trimsOne_36 (by decide) ?_
      refine y_iload_n C dX6_trimsOne_38 2 rfl rfl ?_
      refine y_iadd C dX6_trimsOne_39 ?_
      refine y_iload_n C dX6_trimsOne_40 3 rfl rfl ?_
      obtain ⟨hg, h⟩ := g_gd h
      obtain ⟨σ4, hσ4, h⟩ := g_lt h
      refine as_M_1 C nM_1_0 hσ4 hg dX6_trimsOne_41 ?_
      refine y_iload_n C dX6_trimsOne_42 0 rfl rfl ?_
      replace h := Option.some.inj h; subst h
      exact y_iret C hQ ⟨Nat.zero_le _, Nat.zero_le _⟩ dX6_trimsOne_43
    · replace h := g_it h hc
      refine y_iconst (v := (-1 : Int32)) C dX6_trimsOne_20 (by decide) ?_
      replace h := Option.some.inj h; subst h
      exact y_iret C hQ ⟨Nat.zero_le _, Nat.zero_le _⟩ dX6_trimsOne_21
theorem ct_M_trimsOne {D : va_G} {dA : Nat → ClassId} {A : Nat → Prop} {s0 : State} {b0 : Nat} {l : Launch} {hid : Bool} {ad : Nat → Nat → Nat} {σ : g_S} {v1 : Int32} {v2 : Int32} {r : Int32} {σ1 : g_S} (h : mF_M_trimsOne σ v1 v2 = some (r, σ1)) : g_Met gCl D dA A s0 b0 l yX6_trimsOne cX6_trimsOne 4 (some .int) 3 (0, 0) (gM hid) ad σ [.ref (ad 0 0), .int v1, .int v2] (gM hid) ad σ1 (some (.int r)) :=
  g_Met.of pl_X6 (Nat.le_of_ble_eq_true rfl) (fun X C hQ hR _ _ hL _ es eb => mw_M_trimsOne C hR hL h hQ)
theorem mw_M_trims {X : g_F} {hid : Bool} (C : g_M gCl X cX6_trims RX6 (some .int)) (hR : g_R X = g_rm 4 0 0) (hL : g_nL X = 3) {ad : Nat → Nat → Nat} {σ : g_S} {v1 : Int32} {v2 : Int32} {o : (Int32 × g_S)} (h : mF_M_trims σ v1 v2 = some o) (hQ : g_MQ gCl X (gM hid) ad o.2 (some (.int o.1)) = g_Q X) : g_Y gCl X (gM hid) ad σ (0, 0) 0 [(0, .ref (ad 0 0)), (1, .int v1), (2, .int v2)] [] := by
  unfold mF_M_trims at h
  refine y_aload_n C dX6_trims_0 0 rfl rfl ?_
  refine y_iconst (v := (0 : Int32)) C dX6_trims_1 (by decide) ?_
  obtain ⟨σ1, hσ1, h⟩ := g_lt h
  refine pf_M_0 C hσ1 dX6_trims_2 ?_
  refine y_aload_n C dX6_trims_5 0 rfl rfl ?_
  obtain ⟨σ2, hc, h⟩ := g_bd h
  refine y_callVv C (As := []) (rest := []) (hu := nM_0_0) (hc := (rfl : gCl[5]? = some (RX6, TX6, 49))) (hcell := obM_0) (lk_X6_363 C hR (by decide)) (ct_M_putsBy hc) rfl rfl (Nat.le_of_ble_eq_true rfl) ⟨Nat.zero_le _, Nat.zero_le _⟩ dX6_trims_6 ?_
  refine y_aload_n C dX6_trims_9 0 rfl rfl ?_
  refine y_aload_n C dX6_trims_10 0 rfl rfl ?_
  refine y_iload_n C dX6_trims_11 1 rfl rfl ?_
  refine y_iload_n C dX6_trims_12 2 rfl rfl ?_
  obtain ⟨x4, σ3, hc, h⟩ := g_bp h
  refine y_callV C (As := [.int v1, .int v2]) (rest := [.ref (ad 0 0)]) (hu := nM_0_0) (hc := (rfl : gCl[5]? = some (RX6, TX6, 49))) (hcell := obM_0) (lk_X6_386 C hR (by decide)) (ct_M_trimsOne hc) rfl rfl (Nat.le_of_ble_eq_true rfl) ⟨Nat.zero_le _, Nat.zero_le _⟩ dX6_trims_13 ?_
  obtain ⟨x6, σ5, hc, h⟩ := g_bp h
  refine y_callV C (As := [.int x4]) (rest := []) (hu := nM_0_0) (hc := (rfl : gCl[5]? = some (RX6, TX6, 49))) (hcell := obM_0) (lk_X6_380 C hR (by decide)) (ct_M_counted hc) rfl rfl (Nat.le_of_ble_eq_true rfl) ⟨Nat.zero_le _, Nat.zero_le _⟩ dX6_trims_16 ?_
  replace h := Option.some.inj h; subst h
  exact y_iret C hQ ⟨Nat.zero_le _, Nat.zero_le _⟩ dX6_trims_19
theorem ct_M_trims {D : va_G} {dA : Nat → ClassId} {A : Nat → Prop} {s0 : State} {b0 : Nat} {l : Launch} {hid : Bool} {ad : Nat → Nat → Nat} {σ : g_S} {v1 : Int32} {v2 : Int32} {r : Int32} {σ1 : g_S} (h : mF_M_trims σ v1 v2 = some (r, σ1)) : g_Met gCl D dA A s0 b0 l yX6_trims cX6_trims 3 (some .int) 4 (0, 0) (gM hid) ad σ [.ref (ad 0 0), .int v1, .int v2] (gM hid) ad σ1 (some (.int r)) :=
  g_Met.of pl_X6 (Nat.le_of_ble_eq_true rfl) (fun X C hQ hR _ _ hL _ es eb => mw_M_trims C hR hL h hQ)
theorem mw_M_isField {X : g_F} {hid : Bool} (C : g_M gCl X cX6_isField RX6 (some .boolean)) (hR : g_R X = g_rm 2 0 0) (hL : g_nL X = 2) {ad : Nat → Nat → Nat} {σ : g_S} {v1 : Int32} {o : Int32} (h : mF_M_isField σ v1 = some o) (hQ : g_MQ gCl X (gM hid) ad σ (some (.int o)) = g_Q X) : g_Y gCl X (gM hid) ad σ (0, 0) 0 [(0, .ref (ad 0 0)), (1, .int v1)] [] := by
  unfold mF_M_isField at h
  refine y_iload_n C dX6_isField_0 1 rfl rfl ?_
  refine y_i2l C dX6_isField_1 ?_
  refine y_lconst (v := (0 : Int64)) C dX6_isField_2 (by decide) ?_
  refine y_aload_n C dX6_isField_3 0 rfl rfl ?_
  obtain ⟨x1, hc, h⟩ := g_bd h
  refine y_callV C (As := []) (rest := [.long (0 : Int64), .long (v1.toInt64)]) (hu := nM_0_0) (hc := (rfl : gCl[5]? = some (RX6, TX6, 49))) (hcell := obM_0) (lk_X6_122 C hR (by decide)) (ct_M_fields hc) rfl rfl (Nat.le_of_ble_eq_true rfl) ⟨Nat.zero_le _, Nat.zero_le _⟩ dX6_isField_4 ?_
  refine y_iconst (v := (1 : Int32)) C dX6_isField_7 (by decide) ?_
  refine y_isub C dX6_isField_8 ?_
  refine y_i2l C dX6_isField_9 ?_
  obtain ⟨x2, hc, h⟩ := g_bd h
  refine y_callS C (As := [.long (v1.toInt64), .long (0 : Int64), .long ((x1 - (1 : Int32)).toInt64)]) (rest := []) (lk_X6_126 C hR (by decide)) (ct_M_in hc) rfl rfl (Nat.le_of_ble_eq_true rfl) ⟨Nat.zero_le _, Nat.zero_le _⟩ dX6_isField_10 ?_
  obtain ⟨hg, h⟩ := g_gd h
  replace h := Option.some.inj h; subst h
  exact y_zret C (g_nz hg) hQ ⟨Nat.zero_le _, Nat.zero_le _⟩ dX6_isField_13
theorem ct_M_isField {D : va_G} {dA : Nat → ClassId} {A : Nat → Prop} {s0 : State} {b0 : Nat} {l : Launch} {hid : Bool} {ad : Nat → Nat → Nat} {σ : g_S} {v1 : Int32} {r : Int32} (h : mF_M_isField σ v1 = some r) : g_Met gCl D dA A s0 b0 l yX6_isField cX6_isField 2 (some .boolean) 2 (0, 0) (gM hid) ad σ [.ref (ad 0 0), .int v1] (gM hid) ad σ (some (.int r)) :=
  g_Met.of pl_X6 (Nat.le_of_ble_eq_true rfl) (fun X C hQ hR _ _ hL _ es eb => mw_M_isField C hR hL h hQ)
theorem mw_M_putsOne {X : g_F} {hid : Bool} (C : g_M gCl X cX6_putsOne RX6 (some .int)) (hR : g_R X = g_rm 3 0 0) (hL : g_nL X = 4) {ad : Nat → Nat → Nat} {σ : g_S} {v1 : Int32} {v2 : Int32} {o : (Int32 × g_S)} (h : mF_M_putsOne σ v1 v2 = some o) (hQ : g_MQ gCl X (gM hid) ad o.2 (some (.int o.1)) = g_Q X) : g_Y gCl X (gM hid) ad σ (0, 0) 0 [(0, .ref (ad 0 0)), (1, .int v1), (2, .int v2)] [] := by
  unfold mF_M_putsOne at h
  refine y_aload_n C dX6_putsOne_0 0 rfl rfl ?_
  refine y_iload_n C dX6_putsOne_1 1 rfl rfl ?_
  obtain ⟨x1, hc, h⟩ := g_bd h
  refine y_callV C (As := [.int v1]) (rest := []) (hu := nM_0_0) (hc := (rfl : gCl[5]? = some (RX6, TX6, 49))) (hcell := obM_0) (lk_X6_327 C hR (by decide)) (ct_M_isThing hc) rfl rfl (Nat.le_of_ble_eq_true rfl) ⟨Nat.zero_le _, Nat.zero_le _⟩ dX6_putsOne_2 ?_
  refine y_if_eq (tgt := 16) C dX6_putsOne_5 rfl (fun hc => ?_) (fun hc => ?_)
  · replace h := g_it h hc
    refine y_iconst (v := (-1 : Int32)) C dX6_putsOne_16 (by decide) ?_
    replace h := Option.some.inj h; subst h
    exact y_iret C hQ ⟨Nat.zero_le _, Nat.zero_le _⟩ dX6_putsOne_17
  · replace h := g_if h hc
    refine y_aload_n C dX6_putsOne_8 0 rfl rfl ?_
    refine y_iload_n C dX6_putsOne_9 2 rfl rfl ?_
    obtain ⟨x2, hc, h⟩ := g_bd h
    refine y_callV C (As := [.int v2]) (rest := []) (hu := nM_0_0) (hc := (rfl : gCl[5]? = some (RX6, TX6, 49))) (hcell := obM_0) (lk_X6_358 C hR (by decide)) (ct_M_isField hc) rfl rfl (Nat.le_of_ble_eq_true rfl) ⟨Nat.zero_le _, Nat.zero_le _⟩ dX6_putsOne_10 ?_
    refine y_if_ne (tgt := 18) C dX6_putsOne_13 rfl (fun hc => ?_) (fun hc => ?_)
    · replace h := g_if h hc
      refine y_aload_n C dX6_putsOne_18 0 rfl rfl ?_
      refine gf_M_11 C dX6_putsOne_19 ?_
      refine y_bipush (v := (32 : Int32)) C dX6_putsOne_22 (by decide) ?_
      refine y_iload_n C dX6_putsOne_24 1 rfl rfl ?_
      refine y_iadd C dX6_putsOne_25 ?_
      obtain ⟨hg, h⟩ := g_gd h
      refine al_M_1 C nM_1_0 hg dX6_putsOne_26 ?_
      obtain ⟨x3, hx3, h⟩ := g_lt h
      refine y_istore_n (vs1 := [(3, .int x3), (0, .ref (ad 0 0)), (1, .int v1), (2, .int v2)]) C hx3 dX6_putsOne_27 rfl (g_lL hL rfl) rfl ?_
      refine y_aload_n C dX6_putsOne_28 1 rfl rfl ?_
      refine gf_M_11 C dX6_putsOne_29 ?_
      refine y_bipush (v := (32 : Int32)) C dX6_putsOne_32 (by decide) ?_
      refine y_iload_n C dX6_putsOne_34 2 rfl rfl ?_
      refine y_iadd C dX6_putsOne_35 ?_
      refine y_iload_n C dX6_putsOne_36 3 rfl rfl ?_
      obtain ⟨hg, h⟩ := g_gd h
      obtain ⟨σ4, hσ4, h⟩ := g_lt h
      refine as_M_1 C nM_1_0 hσ4 hg dX6_putsOne_37 ?_
      refine y_iload_n C dX6_putsOne_38 0 rfl rfl ?_
      refine y_iload_n C dX6_putsOne_39 3 rfl rfl ?_
      refine y_icmp_ne (tgt := 48) C dX6_putsOne_40 rfl (fun hc => ?_) (fun hc => ?_)
      · replace h := g_if h hc
        refine y_iload_n C dX6_putsOne_48 0 rfl rfl ?_
        replace h := Option.some.inj h; subst h
        exact y_iret C hQ ⟨Nat.zero_le _, Nat.zero_le _⟩ dX6_putsOne_49
      · replace h := g_it h hc
        refine y_bipush (v := (-2 : Int32)) C dX6_putsOne_43 (by decide) ?_
        refine y_goto (tgt := 49) C dX6_putsOne_45 rfl ?_
        replace h := Option.some.inj h; subst h
        exact y_iret C hQ ⟨Nat.zero_le _, Nat.zero_le _⟩ dX6_putsOne_49
    · replace h := g_it h hc
      refine y_iconst (v := (-1 : Int32)) C dX6_putsOne_16 (by decide) ?_
      replace h := Option.some.inj h; subst h
      exact y_iret C hQ ⟨Nat.zero_le _, Nat.zero_le _⟩ dX6_putsOne_17
theorem ct_M_putsOne {D : va_G} {dA : Nat → ClassId} {A : Nat → Prop} {s0 : State} {b0 : Nat} {l : Launch} {hid : Bool} {ad : Nat → Nat → Nat} {σ : g_S} {v1 : Int32} {v2 : Int32} {r : Int32} {σ1 : g_S} (h : mF_M_putsOne σ v1 v2 = some (r, σ1)) : g_Met gCl D dA A s0 b0 l yX6_putsOne cX6_putsOne 4 (some .int) 3 (0, 0) (gM hid) ad σ [.ref (ad 0 0), .int v1, .int v2] (gM hid) ad σ1 (some (.int r)) :=
  g_Met.of pl_X6 (Nat.le_of_ble_eq_true rfl) (fun X C hQ hR _ _ hL _ es eb => mw_M_putsOne C hR hL h hQ)
theorem mw_M_puts {X : g_F} {hid : Bool} (C : g_M gCl X cX6_puts RX6 (some .int)) (hR : g_R X = g_rm 4 0 0) (hL : g_nL X = 3) {ad : Nat → Nat → Nat} {σ : g_S} {v1 : Int32} {v2 : Int32} {o : (Int32 × g_S)} (h : mF_M_puts σ v1 v2 = some o) (hQ : g_MQ gCl X (gM hid) ad o.2 (some (.int o.1)) = g_Q X) : g_Y gCl X (gM hid) ad σ (0, 0) 0 [(0, .ref (ad 0 0)), (1, .int v1), (2, .int v2)] [] := by
  unfold mF_M_puts at h
  refine y_aload_n C dX6_puts_0 0 rfl rfl ?_
  refine y_iconst (v := (0 : Int32)) C dX6_puts_1 (by decide) ?_
  obtain ⟨σ1, hσ1, h⟩ := g_lt h
  refine pf_M_0 C hσ1 dX6_puts_2 ?_
  refine y_aload_n C dX6_puts_5 0 rfl rfl ?_
  obtain ⟨σ2, hc, h⟩ := g_bd h
  refine y_callVv C (As := []) (rest := []) (hu := nM_0_0) (hc := (rfl : gCl[5]? = some (RX6, TX6, 49))) (hcell := obM_0) (lk_X6_363 C hR (by decide)) (ct_M_putsBy hc) rfl rfl (Nat.le_of_ble_eq_true rfl) ⟨Nat.zero_le _, Nat.zero_le _⟩ dX6_puts_6 ?_
  refine y_aload_n C dX6_puts_9 0 rfl rfl ?_
  refine y_aload_n C dX6_puts_10 0 rfl rfl ?_
  refine y_iload_n C dX6_puts_11 1 rfl rfl ?_
  refine y_iload_n C dX6_puts_12 2 rfl rfl ?_
  obtain ⟨x4, σ3, hc, h⟩ := g_bp h
  refine y_callV C (As := [.int v1, .int v2]) (rest := [.ref (ad 0 0)]) (hu := nM_0_0) (hc := (rfl : gCl[5]? = some (RX6, TX6, 49))) (hcell := obM_0) (lk_X6_389 C hR (by decide)) (ct_M_putsOne hc) rfl rfl (Nat.le_of_ble_eq_true rfl) ⟨Nat.zero_le _, Nat.zero_le _⟩ dX6_puts_13 ?_
  obtain ⟨x6, σ5, hc, h⟩ := g_bp h
  refine y_callV C (As := [.int x4]) (rest := []) (hu := nM_0_0) (hc := (rfl : gCl[5]? = some (RX6, TX6, 49))) (hcell := obM_0) (lk_X6_380 C hR (by decide)) (ct_M_counted hc) rfl rfl (Nat.le_of_ble_eq_true rfl) ⟨Nat.zero_le _, Nat.zero_le _⟩ dX6_puts_16 ?_
  replace h := Option.some.inj h; subst h
  exact y_iret C hQ ⟨Nat.zero_le _, Nat.zero_le _⟩ dX6_puts_19
theorem ct_M_puts {D : va_G} {dA : Nat → ClassId} {A : Nat → Prop} {s0 : State} {b0 : Nat} {l : Launch} {hid : Bool} {ad : Nat → Nat → Nat} {σ : g_S} {v1 : Int32} {v2 : Int32} {r : Int32} {σ1 : g_S} (h : mF_M_puts σ v1 v2 = some (r, σ1)) : g_Met gCl D dA A s0 b0 l yX6_puts cX6_puts 3 (some .int) 4 (0, 0) (gM hid) ad σ [.ref (ad 0 0), .int v1, .int v2] (gM hid) ad σ1 (some (.int r)) :=
  g_Met.of pl_X6 (Nat.le_of_ble_eq_true rfl) (fun X C hQ hR _ _ hL _ es eb => mw_M_puts C hR hL h hQ)
theorem mj_M_readsAct_68 {X : g_F} {hid : Bool} (C : g_M gCl X cX6_readsAct RX6 (some .boolean)) (hR : g_R X = g_rm 6 0 0) (hL : g_nL X = 2) {ad : Nat → Nat → Nat} {σ : g_S} {v1 : Int32} {o : (Int32 × g_S)} (h : mJ_M_readsAct_68 σ v1 = some o) (hQ : g_MQ gCl X (gM hid) ad o.2 (some (.int o.1)) = g_Q X) : g_Y gCl X (gM hid) ad σ (0, 0) 68 [(0, .ref (ad 0 0)), (1, .int v1)] [] := by
  unfold mJ_M_readsAct_68 at h
  refine y_aload_n C dX6_readsAct_68 0 rfl rfl ?_
  refine gf_M_31 C dX6_readsAct_69 ?_
  refine y_iload_n C dX6_readsAct_72 1 rfl rfl ?_
  obtain ⟨hg, h⟩ := g_gd h
  refine al_M_14 C nM_14_0 hg dX6_readsAct_73 ?_
  refine y_if_lt (tgt := 81) C dX6_readsAct_74 rfl (fun hc => ?_) (fun hc => ?_)
  · replace h := g_it h hc
    refine y_iconst (v := (0 : Int32)) C dX6_readsAct_81 (by decide) ?_
    replace h := Option.some.inj h; subst h
    exact y_zret C (by decide) hQ ⟨Nat.zero_le _, Nat.zero_le _⟩ dX6_readsAct_82
  · replace h := g_if h hc
    refine y_iconst (v := (1 : Int32)) C dX6_readsAct_77 (by decide) ?_
    refine y_goto (tgt := 82) C dX6_readsAct_78 rfl ?_
    replace h := Option.some.inj h; subst h
    exact y_zret C (by decide) hQ ⟨Nat.zero_le _, Nat.zero_le _⟩ dX6_readsAct_82
theorem mj_M_readsAct_113 {X : g_F} {hid : Bool} (C : g_M gCl X cX6_readsAct RX6 (some .boolean)) (hR : g_R X = g_rm 6 0 0) (hL : g_nL X = 2) {ad : Nat → Nat → Nat} {σ : g_S} {v1 : Int32} {o : (Int32 × g_S)} (h : mJ_M_readsAct_113 σ v1 = some o) (hQ : g_MQ gCl X (gM hid) ad o.2 (some (.int o.1)) = g_Q X) : g_Y gCl X (gM hid) ad σ (0, 0) 113 [(0, .ref (ad 0 0)), (1, .int v1)] [] := by
  unfold mJ_M_readsAct_113 at h
  refine y_aload_n C dX6_readsAct_113 0 rfl rfl ?_
  refine gf_M_32 C dX6_readsAct_114 ?_
  refine y_iload_n C dX6_readsAct_117 1 rfl rfl ?_
  obtain ⟨hg, h⟩ := g_gd h
  refine al_M_15 C nM_15_0 hg dX6_readsAct_118 ?_
  refine y_if_lt (tgt := 126) C dX6_readsAct_119 rfl (fun hc => ?_) (fun hc => ?_)
  · replace h := g_it h hc
    refine y_iconst (v := (0 : Int32)) C dX6_readsAct_126 (by decide) ?_
    replace h := Option.some.inj h; subst h
    exact y_zret C (by decide) hQ ⟨Nat.zero_le _, Nat.zero_le _⟩ dX6_readsAct_127
  · replace h := g_if h hc
    refine y_iconst (v := (1 : Int32)) C dX6_readsAct_122 (by decide) ?_
    refine y_goto (tgt := 127) C dX6_readsAct_123 rfl ?_
    replace h := Option.some.inj h; subst h
    exact y_zret C (by decide) hQ ⟨Nat.zero_le _, Nat.zero_le _⟩ dX6_readsAct_127
theorem mw_M_readsAct {X : g_F} {hid : Bool} (C : g_M gCl X cX6_readsAct RX6 (some .boolean)) (hR : g_R X = g_rm 6 0 0) (hL : g_nL X = 2) {ad : Nat → Nat → Nat} {σ : g_S} {o : (Int32 × g_S)} (h : mF_M_readsAct σ = some o) (hQ : g_MQ gCl X (gM hid) ad o.2 (some (.int o.1)) = g_Q X) : g_Y gCl X (gM hid) ad σ (0, 0) 0 [(0, .ref (ad 0 0))] [] := by
  unfold mF_M_readsAct at h
  refine y_aload_n C dX6_readsAct_0 0 rfl rfl ?_
  refine gf_M_34 C dX6_readsAct_1 ?_
  obtain ⟨x1, hx1, h⟩ := g_lt h
  refine y_istore_n (vs1 := [(1, .int x1), (0, .ref (ad 0 0))]) C hx1 dX6_readsAct_4 rfl (g_lL hL rfl) rfl ?_
  refine y_aload_n C dX6_readsAct_5 1 rfl rfl ?_
  refine gf_M_30 C dX6_readsAct_6 ?_
  refine y_iload_n C dX6_readsAct_9 0 rfl rfl ?_
  refine y_aload_n C dX6_readsAct_10 1 rfl rfl ?_
  refine y_ldcSw (i := 5) C q1750 (g_strEv (i := 5) C.2.2.2.2.2.2.2.2.2.1 (by decide)) dX6_readsAct_11 ?_
  obtain ⟨x3, σ2, hc, h⟩ := g_bp h
  refine y_callV C (As := [.ref (g_str (g_s0 X) (g_b0 X) 5)]) (rest := [.int x1, .ref (ad 13 0)]) (hu := nM_0_0) (hc := (rfl : gCl[5]? = some (RX6, TX6, 49))) (hcell := obM_0) (lk_X6_184 C hR (by decide)) (ct_M_takesOf (by decide) hc) rfl rfl (Nat.le_of_ble_eq_true rfl) ⟨Nat.zero_le _, Nat.zero_le _⟩ dX6_readsAct_14 ?_
  obtain ⟨hg, h⟩ := g_gd h
  obtain ⟨σ4, hσ4, h⟩ := g_lt h
  refine as_M_13 C nM_13_0 hσ4 hg dX6_readsAct_17 ?_
  refine y_aload_n C dX6_readsAct_18 1 rfl rfl ?_
  refine y_dup C dX6_readsAct_19 rfl ?_
  refine gf_M_34 C dX6_readsAct_20 ?_
  refine y_iconst (v := (1 : Int32)) C dX6_readsAct_23 (by decide) ?_
  refine y_iadd C dX6_readsAct_24 ?_
  obtain ⟨σ5, hσ5, h⟩ := g_lt h
  refine pf_M_34 C hσ5 dX6_readsAct_25 ?_
  refine y_aload_n C dX6_readsAct_28 1 rfl rfl ?_
  refine gf_M_30 C dX6_readsAct_29 ?_
  refine y_iload_n C dX6_readsAct_32 0 rfl rfl ?_
  obtain ⟨hg, h⟩ := g_gd h
  refine al_M_13 C nM_13_0 hg dX6_readsAct_33 ?_
  refine y_if_ge (tgt := 39) C dX6_readsAct_34 rfl (fun hc => ?_) (fun hc => ?_)
  · replace h := g_it h hc
    refine y_aload_n C dX6_readsAct_39 1 rfl rfl ?_
    refine gf_M_31 C dX6_readsAct_40 ?_
    refine y_iload_n C dX6_readsAct_43 0 rfl rfl ?_
    refine y_aload_n C dX6_readsAct_44 1 rfl rfl ?_
    refine y_iconst (v := (1 : Int32)) C dX6_readsAct_45 (by decide) ?_
    obtain ⟨x7, σ6, hc, h⟩ := g_bp h
    refine y_callV C (As := [.int (1 : Int32)]) (rest := [.int x1, .ref (ad 14 0)]) (hu := nM_0_0) (hc := (rfl : gCl[5]? = some (RX6, TX6, 49))) (hcell := obM_0) (lk_X6_224 C hR (by decide)) (ct_M_number hc) rfl rfl (Nat.le_of_ble_eq_true rfl) ⟨Nat.zero_le _, Nat.zero_le _⟩ dX6_readsAct_46 ?_
    obtain ⟨hg, h⟩ := g_gd h
    obtain ⟨σ8, hσ8, h⟩ := g_lt h
    refine as_M_14 C nM_14_0 hσ8 hg dX6_readsAct_49 ?_
    refine y_aload_n C dX6_readsAct_50 1 rfl rfl ?_
    refine gf_M_31 C dX6_readsAct_51 ?_
    refine y_iload_n C dX6_readsAct_54 0 rfl rfl ?_
    obtain ⟨hg, h⟩ := g_gd h
    refine al_M_14 C nM_14_0 hg dX6_readsAct_55 ?_
    refine y_if_lt (tgt := 68) C dX6_readsAct_56 rfl (fun hc => ?_) (fun hc => ?_)
    · replace h := g_it h hc
      refine y_sub (vs2 := [(0, .ref (ad 0 0)), (1, .int x1)]) [1, 0] rfl ?_
      exact mj_M_readsAct_68 C hR hL h hQ
    · replace h := g_if h hc
      refine y_aload_n C dX6_readsAct_59 1 rfl rfl ?_
      refine gf_M_30 C dX6_readsAct_60 ?_
      refine y_iload_n C dX6_readsAct_63 0 rfl rfl ?_
      obtain ⟨hg, h⟩ := g_gd h
      refine al_M_13 C nM_13_0 hg dX6_readsAct_64 ?_
      refine y_if_ne (tgt := 83) C dX6_readsAct_65 rfl (fun hc => ?_) (fun hc => ?_)
      · replace h := g_if h hc
        refine y_aload_n C dX6_readsAct_83 1 rfl rfl ?_
        refine gf_M_32 C dX6_readsAct_84 ?_
        refine y_iload_n C dX6_readsAct_87 0 rfl rfl ?_
        refine y_aload_n C dX6_readsAct_88 1 rfl rfl ?_
        refine y_iconst (v := (1 : Int32)) C dX6_readsAct_89 (by decide) ?_
        obtain ⟨x10, σ9, hc, h⟩ := g_bp h
        refine y_callV C (As := [.int (1 : Int32)]) (rest := [.int x1, .ref (ad 15 0)]) (hu := nM_0_0) (hc := (rfl : gCl[5]? = some (RX6, TX6, 49))) (hcell := obM_0) (lk_X6_224 C hR (by decide)) (ct_M_number hc) rfl rfl (Nat.le_of_ble_eq_true rfl) ⟨Nat.zero_le _, Nat.zero_le _⟩ dX6_readsAct_90 ?_
        obtain ⟨hg, h⟩ := g_gd h
        obtain ⟨σ11, hσ11, h⟩ := g_lt h
        refine as_M_15 C nM_15_0 hσ11 hg dX6_readsAct_93 ?_
        refine y_aload_n C dX6_readsAct_94 1 rfl rfl ?_
        refine gf_M_32 C dX6_readsAct_95 ?_
        refine y_iload_n C dX6_readsAct_98 0 rfl rfl ?_
        obtain ⟨hg, h⟩ := g_gd h
        refine al_M_15 C nM_15_0 hg dX6_readsAct_99 ?_
        refine y_if_lt (tgt := 113) C dX6_readsAct_100 rfl (fun hc => ?_) (fun hc => ?_)
        · replace h := g_it h hc
          refine y_sub (vs2 := [(0, .ref (ad 0 0)), (1, .int x1)]) [1, 0] rfl ?_
          exact mj_M_readsAct_113 C hR hL h hQ
        · replace h := g_if h hc
          refine y_aload_n C dX6_readsAct_103 1 rfl rfl ?_
          refine gf_M_30 C dX6_readsAct_104 ?_
          refine y_iload_n C dX6_readsAct_107 0 rfl rfl ?_
          obtain ⟨hg, h⟩ := g_gd h
          refine al_M_13 C nM_13_0 hg dX6_readsAct_108 ?_
          refine y_iconst (v := (4 : Int32)) C dX6_readsAct_109 (by decide) ?_
          refine y_icmp_ge (tgt := 128) C dX6_readsAct_110 rfl (fun hc => ?_) (fun hc => ?_)
          · replace h := g_it h hc
            refine y_aload_n C dX6_readsAct_128 1 rfl rfl ?_
            refine gf_M_33 C dX6_readsAct_129 ?_
            refine y_iload_n C dX6_readsAct_132 0 rfl rfl ?_
            refine y_aload_n C dX6_readsAct_133 1 rfl rfl ?_
            refine y_iconst (v := (1 : Int32)) C dX6_readsAct_134 (by decide) ?_
            obtain ⟨x13, σ12, hc, h⟩ := g_bp h
            refine y_callV C (As := [.int (1 : Int32)]) (rest := [.int x1, .ref (ad 16 0)]) (hu := nM_0_0) (hc := (rfl : gCl[5]? = some (RX6, TX6, 49))) (hcell := obM_0) (lk_X6_224 C hR (by decide)) (ct_M_number hc) rfl rfl (Nat.le_of_ble_eq_true rfl) ⟨Nat.zero_le _, Nat.zero_le _⟩ dX6_readsAct_135 ?_
            obtain ⟨hg, h⟩ := g_gd h
            obtain ⟨σ14, hσ14, h⟩ := g_lt h
            refine as_M_16 C nM_16_0 hσ14 hg dX6_readsAct_138 ?_
            refine y_aload_n C dX6_readsAct_139 1 rfl rfl ?_
            refine gf_M_33 C dX6_readsAct_140 ?_
            refine y_iload_n C dX6_readsAct_143 0 rfl rfl ?_
            obtain ⟨hg, h⟩ := g_gd h
            refine al_M_16 C nM_16_0 hg dX6_readsAct_144 ?_
            refine y_if_lt (tgt := 152) C dX6_readsAct_145 rfl (fun hc => ?_) (fun hc => ?_)
            · replace h := g_it h hc
              refine y_iconst (v := (0 : Int32)) C dX6_readsAct_152 (by decide) ?_
              replace h := Option.some.inj h; subst h
              exact y_zret C (by decide) hQ ⟨Nat.zero_le _, Nat.zero_le _⟩ dX6_readsAct_153
            · replace h := g_if h hc
              refine y_iconst (v := (1 : Int32)) C dX6_readsAct_148 (by decide) ?_
              refine y_goto (tgt := 153) C dX6_readsAct_149 rfl ?_
              replace h := Option.some.inj h; subst h
              exact y_zret C (by decide) hQ ⟨Nat.zero_le _, Nat.zero_le _⟩ dX6_readsAct_153
          · replace h := g_if h hc
            refine y_sub (vs2 := [(0, .ref (ad 0 0)), (1, .int x1)]) [1, 0] rfl ?_
            exact mj_M_readsAct_113 C hR hL h hQ
      · replace h := g_it h hc
        refine y_sub (vs2 := [(0, .ref (ad 0 0)), (1, .int x1)]) [1, 0] rfl ?_
        exact mj_M_readsAct_68 C hR hL h hQ
  · replace h := g_if h hc
    refine y_iconst (v := (0 : Int32)) C dX6_readsAct_37 (by decide) ?_
    replace h := Option.some.inj h; subst h
    exact y_zret C (by decide) hQ ⟨Nat.zero_le _, Nat.zero_le _⟩ dX6_readsAct_38
theorem ct_M_readsAct {D : va_G} {dA : Nat → ClassId} {A : Nat → Prop} {s0 : State} {b0 : Nat} {l : Launch} {hid : Bool} {ad : Nat → Nat → Nat} {σ : g_S} {r : Int32} {σ1 : g_S} (h : mF_M_readsAct σ = some (r, σ1)) : g_Met gCl D dA A s0 b0 l yX6_readsAct cX6_readsAct 2 (some .boolean) 6 (0, 0) (gM hid) ad σ [.ref (ad 0 0)] (gM hid) ad σ1 (some (.int r)) :=
  g_Met.of pl_X6 (Nat.le_of_ble_eq_true rfl) (fun X C hQ hR _ _ hL _ es eb => mw_M_readsAct C hR hL h hQ)
theorem mj_M_does_154 {X : g_F} (C : g_M gCl X cX6_does RX6 (some .boolean)) (hR : g_R X = g_rm 10 0 0) (hL : g_nL X = 4) {ad : Nat → Nat → Nat} {σ : g_S} {v1 : Int32} {v2 : Int32} {s0 : Int32} {o : (Int32 × g_S)} (h : mJ_M_does_154 σ v1 v2 s0 = some o) (hQ : g_MQ gCl X (gM true) ad o.2 (some (.int o.1)) = g_Q X) : g_Y gCl X (gM true) ad σ (0, 0) 154 [(0, .ref (ad 0 0)), (1, .int v1), (2, .int v2)] [.int s0] := by
  unfold mJ_M_does_154 at h
  refine y_istore_n (vs1 := [(3, .int s0), (0, .ref (ad 0 0)), (1, .int v1), (2, .int v2)]) C rfl dX6_does_154 rfl (g_lL hL rfl) rfl ?_
  refine y_iload_n C dX6_does_155 0 rfl rfl ?_
  refine y_if_eq (tgt := 189) C dX6_does_156 rfl (fun hc => ?_) (fun hc => ?_)
  · replace h := g_it h hc
    refine y_iconst (v := (0 : Int32)) C dX6_does_189 (by decide) ?_
    replace h := Option.some.inj h; subst h
    exact y_zret C (by decide) hQ ⟨Nat.zero_le _, Nat.zero_le _⟩ dX6_does_190
  · replace h := g_if h hc
    refine y_aload_n C dX6_does_159 1 rfl rfl ?_
    refine y_iload_n C dX6_does_160 3 rfl rfl ?_
    refine y_aload_n C dX6_does_161 1 rfl rfl ?_
    refine gf_M_4 C dX6_does_162 ?_
    refine y_aload_n C dX6_does_165 1 rfl rfl ?_
    refine gf_M_32 C dX6_does_166 ?_
    refine y_iload_n C dX6_does_169 2 rfl rfl ?_
    obtain ⟨hg, h⟩ := g_gd h
    refine al_M_15 C nM_15_0 hg dX6_does_170 ?_
    refine y_imul C dX6_does_171 ?_
    refine y_aload_n C dX6_does_172 1 rfl rfl ?_
    refine gf_M_33 C dX6_does_173 ?_
    refine y_iload_n C dX6_does_176 2 rfl rfl ?_
    obtain ⟨hg, h⟩ := g_gd h
    refine al_M_16 C nM_16_0 hg dX6_does_177 ?_
    refine y_iadd C dX6_does_178 ?_
    obtain ⟨x10, σ9, hc, h⟩ := g_bp h
    refine y_callV C (As := [.int v2, .int (((σ.1 0 0 4) * (σ.1 15 0 v1.toNatClampNeg)) + (σ.1 16 0 v1.toNatClampNeg))]) (rest := []) (hu := nM_0_0) (hc := (rfl : gCl[5]? = some (RX6, TX6, 49))) (hcell := obM_0) (lk_X6_389 C hR (by decide)) (ct_M_putsOne hc) rfl rfl (Nat.le_of_ble_eq_true rfl) ⟨Nat.zero_le _, Nat.zero_le _⟩ dX6_does_179 ?_
    refine y_if_lt (tgt := 189) C dX6_does_182 rfl (fun hc => ?_) (fun hc => ?_)
    · replace h := g_it h hc
      refine y_iconst (v := (0 : Int32)) C dX6_does_189 (by decide) ?_
      replace h := Option.some.inj h; subst h
      exact y_zret C (by decide) hQ ⟨Nat.zero_le _, Nat.zero_le _⟩ dX6_does_190
    · replace h := g_if h hc
      refine y_iconst (v := (1 : Int32)) C dX6_does_185 (by decide) ?_
      refine y_goto (tgt := 190) C dX6_does_186 rfl ?_
      replace h := Option.some.inj h; subst h
      exact y_zret C (by decide) hQ ⟨Nat.zero_le _, Nat.zero_le _⟩ dX6_does_190
theorem mj_M_does_153 {X : g_F} (C : g_M gCl X cX6_does RX6 (some .boolean)) (hR : g_R X = g_rm 10 0 0) (hL : g_nL X = 4) {ad : Nat → Nat → Nat} {σ : g_S} {v1 : Int32} {v2 : Int32} {o : (Int32 × g_S)} (h : mJ_M_does_153 σ v1 v2 = some o) (hQ : g_MQ gCl X (gM true) ad o.2 (some (.int o.1)) = g_Q X) : g_Y gCl X (gM true) ad σ (0, 0) 153 [(0, .ref (ad 0 0)), (1, .int v1), (2, .int v2)] [] := by
  unfold mJ_M_does_153 at h
  refine y_iconst (v := (0 : Int32)) C dX6_does_153 (by decide) ?_
  exact mj_M_does_154 C hR hL h hQ
theorem mw_M_does {X : g_F} (C : g_M gCl X cX6_does RX6 (some .boolean)) (hR : g_R X = g_rm 10 0 0) (hL : g_nL X = 4) {ad : Nat → Nat → Nat} {σ : g_S} {v1 : Int32} {o : (Int32 × g_S)} (h : mF_M_does σ v1 = some o) (hQ : g_MQ gCl X (gM true) ad o.2 (some (.int o.1)) = g_Q X) : g_Y gCl X (gM true) ad σ (0, 0) 0 [(0, .ref (ad 0 0)), (1, .int v1)] [] := by
  unfold mF_M_does at h
  refine y_aload_n C dX6_does_0 0 rfl rfl ?_
  refine gf_M_31 C dX6_does_1 ?_
  refine y_iload_n C dX6_does_4 1 rfl rfl ?_
  obtain ⟨hg, h⟩ := g_gd h
  refine al_M_14 C nM_14_0 hg dX6_does_5 ?_
  obtain ⟨x1, hx1, h⟩ := g_lt h
  refine y_istore_n (vs1 := [(2, .int x1), (0, .ref (ad 0 0)), (1, .int v1)]) C hx1 dX6_does_6 rfl (g_lL hL rfl) rfl ?_
  refine y_aload_n C dX6_does_7 1 rfl rfl ?_
  refine gf_M_30 C dX6_does_8 ?_
  refine y_iload_n C dX6_does_11 2 rfl rfl ?_
  obtain ⟨hg, h⟩ := g_gd h
  refine al_M_13 C nM_13_0 hg dX6_does_12 ?_
  by_cases hc0 : (σ.1 13 0 v1.toNatClampNeg) = (0 : Int32)
  · replace h := g_it h hc0
    refine y_tswI (tgt := 44) (off := 31) C dX6_does_13 hc0 (by decide) rfl ?_
    refine y_aload_n C dX6_does_44 1 rfl rfl ?_
    refine y_aload_n C dX6_does_45 1 rfl rfl ?_
    refine gf_M_11 C dX6_does_46 ?_
    refine y_iload_n C dX6_does_49 0 rfl rfl ?_
    obtain ⟨σ2, hc, h⟩ := g_bd h
    refine y_callVv C (As := [.ref (ad 1 0), .int x1]) (rest := []) (hu := nM_0_0) (hc := (rfl : gCl[5]? = some (RX6, TX6, 49))) (hcell := obM_0) (lk_X6_370 C hR (by decide)) (ct_M_goesOn nM_1_0 hc) rfl rfl (Nat.le_of_ble_eq_true rfl) ⟨Nat.zero_le _, Nat.zero_le _⟩ dX6_does_50 ?_
    refine y_iconst (v := (1 : Int32)) C dX6_does_53 (by decide) ?_
    replace h := Option.some.inj h; subst h
    exact y_zret C (by decide) hQ ⟨Nat.zero_le _, Nat.zero_le _⟩ dX6_does_54
  replace h := g_if h hc0
  by_cases hc1 : (σ.1 13 0 v1.toNatClampNeg) = (1 : Int32)
  · replace h := g_it h hc1
    refine y_tswI (tgt := 55) (off := 42) C dX6_does_13 hc1 (by decide) rfl ?_
    refine y_aload_n C dX6_does_55 1 rfl rfl ?_
    refine y_aload_n C dX6_does_56 1 rfl rfl ?_
    refine gf_M_11 C dX6_does_57 ?_
    refine y_iload_n C dX6_does_60 0 rfl rfl ?_
    refine y_aload_n C dX6_does_61 1 rfl rfl ?_
    refine gf_M_32 C dX6_does_62 ?_
    refine y_iload_n C dX6_does_65 2 rfl rfl ?_
    obtain ⟨hg, h⟩ := g_gd h
    refine al_M_15 C nM_15_0 hg dX6_does_66 ?_
    obtain ⟨x4, σ3, hc, h⟩ := g_bp h
    refine y_callV C (As := [.ref (ad 1 0), .int x1, .int (σ.1 15 0 v1.toNatClampNeg)]) (rest := []) (hu := nM_0_0) (hc := (rfl : gCl[5]? = some (RX6, TX6, 49))) (hcell := obM_0) (lk_X6_377 C hR (by decide)) (ct_M_facesOne nM_1_0 hc) rfl rfl (Nat.le_of_ble_eq_true rfl) ⟨Nat.zero_le _, Nat.zero_le _⟩ dX6_does_67 ?_
    refine y_if_lt (tgt := 77) C dX6_does_70 rfl (fun hc => ?_) (fun hc => ?_)
    · replace h := g_it h hc
      refine y_iconst (v := (0 : Int32)) C dX6_does_77 (by decide) ?_
      replace h := Option.some.inj h; subst h
      exact y_zret C (by decide) hQ ⟨Nat.zero_le _, Nat.zero_le _⟩ dX6_does_78
    · replace h := g_if h hc
      refine y_iconst (v := (1 : Int32)) C dX6_does_73 (by decide) ?_
      refine y_goto (tgt := 78) C dX6_does_74 rfl ?_
      replace h := Option.some.inj h; subst h
      exact y_zret C (by decide) hQ ⟨Nat.zero_le _, Nat.zero_le _⟩ dX6_does_78
  replace h := g_if h hc1
  by_cases hc2 : (σ.1 13 0 v1.toNatClampNeg) = (2 : Int32)
  · replace h := g_it h hc2
    refine y_tswI (tgt := 79) (off := 66) C dX6_does_13 hc2 (by decide) rfl ?_
    refine y_aload_n C dX6_does_79 1 rfl rfl ?_
    refine y_aload_n C dX6_does_80 1 rfl rfl ?_
    refine gf_M_11 C dX6_does_81 ?_
    refine y_iload_n C dX6_does_84 0 rfl rfl ?_
    refine y_aload_n C dX6_does_85 1 rfl rfl ?_
    refine gf_M_32 C dX6_does_86 ?_
    refine y_iload_n C dX6_does_89 2 rfl rfl ?_
    obtain ⟨hg, h⟩ := g_gd h
    refine al_M_15 C nM_15_0 hg dX6_does_90 ?_
    obtain ⟨x6, σ5, hc, h⟩ := g_bp h
    refine y_callV C (As := [.ref (ad 1 0), .int x1, .int (σ.1 15 0 v1.toNatClampNeg)]) (rest := []) (hu := nM_0_0) (hc := (rfl : gCl[5]? = some (RX6, TX6, 49))) (hcell := obM_0) (lk_X6_383 C hR (by decide)) (ct_M_stepsOne nM_1_0 hc) rfl rfl (Nat.le_of_ble_eq_true rfl) ⟨Nat.zero_le _, Nat.zero_le _⟩ dX6_does_91 ?_
    refine y_if_lt (tgt := 101) C dX6_does_94 rfl (fun hc => ?_) (fun hc => ?_)
    · replace h := g_it h hc
      refine y_iconst (v := (0 : Int32)) C dX6_does_101 (by decide) ?_
      replace h := Option.some.inj h; subst h
      exact y_zret C (by decide) hQ ⟨Nat.zero_le _, Nat.zero_le _⟩ dX6_does_102
    · replace h := g_if h hc
      refine y_iconst (v := (1 : Int32)) C dX6_does_97 (by decide) ?_
      refine y_goto (tgt := 102) C dX6_does_98 rfl ?_
      replace h := Option.some.inj h; subst h
      exact y_zret C (by decide) hQ ⟨Nat.zero_le _, Nat.zero_le _⟩ dX6_does_102
  replace h := g_if h hc2
  by_cases hc3 : (σ.1 13 0 v1.toNatClampNeg) = (3 : Int32)
  · replace h := g_it h hc3
    refine y_tswI (tgt := 103) (off := 90) C dX6_does_13 hc3 (by decide) rfl ?_
    refine y_aload_n C dX6_does_103 1 rfl rfl ?_
    refine y_iload_n C dX6_does_104 0 rfl rfl ?_
    refine y_aload_n C dX6_does_105 1 rfl rfl ?_
    refine gf_M_32 C dX6_does_106 ?_
    refine y_iload_n C dX6_does_109 2 rfl rfl ?_
    obtain ⟨hg, h⟩ := g_gd h
    refine al_M_15 C nM_15_0 hg dX6_does_110 ?_
    obtain ⟨x8, σ7, hc, h⟩ := g_bp h
    refine y_callV C (As := [.int x1, .int (σ.1 15 0 v1.toNatClampNeg)]) (rest := []) (hu := nM_0_0) (hc := (rfl : gCl[5]? = some (RX6, TX6, 49))) (hcell := obM_0) (lk_X6_386 C hR (by decide)) (ct_M_trimsOne hc) rfl rfl (Nat.le_of_ble_eq_true rfl) ⟨Nat.zero_le _, Nat.zero_le _⟩ dX6_does_111 ?_
    refine y_if_lt (tgt := 121) C dX6_does_114 rfl (fun hc => ?_) (fun hc => ?_)
    · replace h := g_it h hc
      refine y_iconst (v := (0 : Int32)) C dX6_does_121 (by decide) ?_
      replace h := Option.some.inj h; subst h
      exact y_zret C (by decide) hQ ⟨Nat.zero_le _, Nat.zero_le _⟩ dX6_does_122
    · replace h := g_if h hc
      refine y_iconst (v := (1 : Int32)) C dX6_does_117 (by decide) ?_
      refine y_goto (tgt := 122) C dX6_does_118 rfl ?_
      replace h := Option.some.inj h; subst h
      exact y_zret C (by decide) hQ ⟨Nat.zero_le _, Nat.zero_le _⟩ dX6_does_122
  replace h := g_if h hc3
  refine y_tswO (tgt := 123) C dX6_does_13 (by have e0 := lv_neT hc0 (show (0 : Int32).toInt = 0 by decide); have e1 := lv_neT hc1 (show (1 : Int32).toInt = 1 by decide); have e2 := lv_neT hc2 (show (2 : Int32).toInt = 2 by decide); have e3 := lv_neT hc3 (show (3 : Int32).toInt = 3 by decide); omega) rfl ?_
  refine y_aload_n C dX6_does_123 1 rfl rfl ?_
  refine gf_M_32 C dX6_does_124 ?_
  refine y_iload_n C dX6_does_127 2 rfl rfl ?_
  obtain ⟨hg, h⟩ := g_gd h
  refine al_M_15 C nM_15_0 hg dX6_does_128 ?_
  refine y_aload_n C dX6_does_129 1 rfl rfl ?_
  refine gf_M_3 C dX6_does_130 ?_
  refine y_icmp_ge (tgt := 153) C dX6_does_133 rfl (fun hc => ?_) (fun hc => ?_)
  · replace h := g_it h hc
    refine y_sub (vs2 := [(0, .ref (ad 0 0)), (1, .int v1), (2, .int x1)]) [1, 2, 0] rfl ?_
    exact mj_M_does_153 C hR hL h hQ
  · replace h := g_if h hc
    refine y_aload_n C dX6_does_136 1 rfl rfl ?_
    refine gf_M_33 C dX6_does_137 ?_
    refine y_iload_n C dX6_does_140 2 rfl rfl ?_
    obtain ⟨hg, h⟩ := g_gd h
    refine al_M_16 C nM_16_0 hg dX6_does_141 ?_
    refine y_aload_n C dX6_does_142 1 rfl rfl ?_
    refine gf_M_4 C dX6_does_143 ?_
    refine y_icmp_ge (tgt := 153) C dX6_does_146 rfl (fun hc => ?_) (fun hc => ?_)
    · replace h := g_it h hc
      refine y_sub (vs2 := [(0, .ref (ad 0 0)), (1, .int v1), (2, .int x1)]) [1, 2, 0] rfl ?_
      exact mj_M_does_153 C hR hL h hQ
    · replace h := g_if h hc
      refine y_iconst (v := (1 : Int32)) C dX6_does_149 (by decide) ?_
      refine y_goto (tgt := 154) C dX6_does_150 rfl ?_
      refine y_sub (vs2 := [(0, .ref (ad 0 0)), (1, .int v1), (2, .int x1)]) [1, 2, 0] rfl ?_
      exact mj_M_does_154 C hR hL h hQ
theorem ct_M_does {D : va_G} {dA : Nat → ClassId} {A : Nat → Prop} {s0 : State} {b0 : Nat} {l : Launch} {ad : Nat → Nat → Nat} {σ : g_S} {v1 : Int32} {r : Int32} {σ1 : g_S} (h : mF_M_does σ v1 = some (r, σ1)) : g_Met gCl D dA A s0 b0 l yX6_does cX6_does 4 (some .boolean) 10 (0, 0) (gM true) ad σ [.ref (ad 0 0), .int v1] (gM true) ad σ1 (some (.int r)) :=
  g_Met.of pl_X6 (Nat.le_of_ble_eq_true rfl) (fun X C hQ hR _ _ hL _ es eb => mw_M_does C hR hL h hQ)
theorem ml_M_day_19 {X : g_F} (C : g_M gCl X cX6_day RX6 (some .int)) (hR : g_R X = g_rm 11 0 0) (hL : g_nL X = 5) {ad : Nat → Nat → Nat} {σ : g_S} {v1 : Int32} (n : Nat) (v : (Int32 × g_S)) (e : (Int32 × g_S)) (h : g_lp (fun v => mB_M_day_19 v.2 v1 v.1) n v = some e) (kx : g_Y gCl X (gM true) ad e.2 (0, 0) 42 [(0, .ref (ad 0 0)), (1, .int v1), (2, .int e.1)] []) : g_Y gCl X (gM true) ad v.2 (0, 0) 19 [(0, .ref (ad 0 0)), (1, .int v1), (2, .int v.1)] [] := by
  refine g_loop (P := fun v => g_Y gCl X (gM true) ad v.2 (0, 0) 19 [(0, .ref (ad 0 0)), (1, .int v1), (2, .int v.1)] []) (T := fun e => g_Y gCl X (gM true) ad e.2 (0, 0) 42 [(0, .ref (ad 0 0)), (1, .int v1), (2, .int e.1)] []) ?_ n v e h kx
  clear h kx
  clear n v e
  intro v o h kl kx
  obtain ⟨v2, σ⟩ := v
  have h : mB_M_day_19 σ v1 v2 = some o := h
  unfold mB_M_day_19 at h
  show g_Y gCl X (gM true) ad σ (0, 0) 19 [(0, .ref (ad 0 0)), (1, .int v1), (2, .int v2)] []
  refine y_iload_n C dX6_day_19 2 rfl rfl ?_
  refine y_if_eq (tgt := 42) C dX6_day_20 rfl (fun hc => ?_) (fun hc => ?_)
  · replace h := g_it h hc
    exact kx _ (Option.some.inj h).symm
  · replace h := g_if h hc
    refine y_aload_n C dX6_day_23 0 rfl rfl ?_
    refine gf_M_15 C dX6_day_24 ?_
    refine y_aload_n C dX6_day_27 0 rfl rfl ?_
    refine gf_M_16 C dX6_day_28 ?_
    refine y_icmp_ge (tgt := 42) C dX6_day_31 rfl (fun hc => ?_) (fun hc => ?_)
    · replace h := g_it h hc
      exact kx _ (Option.some.inj h).symm
    · replace h := g_if h hc
      refine y_aload_n C dX6_day_34 0 rfl rfl ?_
      obtain ⟨x6, σ5, hc, h⟩ := g_bp h
      refine y_callV C (As := []) (rest := []) (hu := nM_0_0) (hc := (rfl : gCl[5]? = some (RX6, TX6, 49))) (hcell := obM_0) (lk_X6_397 C hR (by decide)) (ct_M_readsAct hc) rfl rfl (Nat.le_of_ble_eq_true rfl) ⟨Nat.zero_le _, Nat.zero_le _⟩ dX6_day_35 ?_
      refine y_istore_n (vs1 := [(2, .int x6), (0, .ref (ad 0 0)), (1, .int v1)]) C rfl dX6_day_38 rfl (g_lL hL rfl) rfl ?_
      refine y_goto (tgt := 19) C dX6_day_39 rfl ?_
      refine y_sub (vs2 := [(0, .ref (ad 0 0)), (1, .int v1), (2, .int x6)]) [1, 2, 0] rfl ?_
      exact kl _ (Option.some.inj h).symm
theorem ml_M_day_64 {X : g_F} (C : g_M gCl X cX6_day RX6 (some .int)) (hR : g_R X = g_rm 11 0 0) (hL : g_nL X = 5) {ad : Nat → Nat → Nat} {σ : g_S} (n : Nat) (v : (Int32 × g_S)) (e : (Int32 × g_S)) (h : g_lp (fun v => mB_M_day_64 v.2 v.1) n v = some e) (kx : g_Y gCl X (gM true) ad e.2 (0, 0) 88 [(0, .ref (ad 0 0)), (4, .int e.1)] []) : g_Y gCl X (gM true) ad v.2 (0, 0) 64 [(0, .ref (ad 0 0)), (4, .int v.1)] [] := by
  refine g_loop (P := fun v => g_Y gCl X (gM true) ad v.2 (0, 0) 64 [(0, .ref (ad 0 0)), (4, .int v.1)] []) (T := fun e => g_Y gCl X (gM true) ad e.2 (0, 0) 88 [(0, .ref (ad 0 0)), (4, .int e.1)] []) ?_ n v e h kx
  clear h kx
  clear n v e
  intro v o h kl kx
  obtain ⟨v4, σ⟩ := v
  have h : mB_M_day_64 σ v4 = some o := h
  unfold mB_M_day_64 at h
  show g_Y gCl X (gM true) ad σ (0, 0) 64 [(0, .ref (ad 0 0)), (4, .int v4)] []
  refine y_iload C dX6_day_64 1 rfl ?_
  refine y_aload_n C dX6_day_66 0 rfl rfl ?_
  refine gf_M_34 C dX6_day_67 ?_
  refine y_icmp_ge (tgt := 88) C dX6_day_70 rfl (fun hc => ?_) (fun hc => ?_)
  · replace h := g_it h hc
    exact kx _ (Option.some.inj h).symm
  · replace h := g_if h hc
    refine y_aload_n C dX6_day_73 0 rfl rfl ?_
    refine y_iload C dX6_day_74 1 rfl ?_
    obtain ⟨x11, σ10, hc, h⟩ := g_bp h
    refine y_callV C (As := [.int v4]) (rest := []) (hu := nM_0_0) (hc := (rfl : gCl[5]? = some (RX6, TX6, 49))) (hcell := obM_0) (lk_X6_400 C hR (by decide)) (ct_M_does hc) rfl rfl (Nat.le_of_ble_eq_true rfl) ⟨Nat.zero_le _, Nat.zero_le _⟩ dX6_day_76 ?_
    refine y_if_eq (tgt := 88) C dX6_day_79 rfl (fun hc => ?_) (fun hc => ?_)
    · replace h := g_it h hc
      exact kx _ (Option.some.inj h).symm
    · replace h := g_if h hc
      obtain ⟨x12, hx12, h⟩ := g_lt h
      refine y_iinc (c := (1 : Int32)) (vs1 := [(4, .int x12), (0, .ref (ad 0 0))]) C hx12 (by decide) dX6_day_82 1 rfl (g_lL hL rfl) rfl ?_
      refine y_goto (tgt := 64) C dX6_day_85 rfl ?_
      refine y_sub (vs2 := [(0, .ref (ad 0 0)), (4, .int x12)]) [1, 0] rfl ?_
      exact kl _ (Option.some.inj h).symm
theorem mj_M_day_108 {X : g_F} (C : g_M gCl X cX6_day RX6 (some .int)) (hR : g_R X = g_rm 11 0 0) (hL : g_nL X = 5) {ad : Nat → Nat → Nat} {σ : g_S} {v4 : Int32} {s1 : Int32} {o : (Int32 × g_S)} (h : mJ_M_day_108 σ v4 s1 = some o) (hQ : g_MQ gCl X (gM true) ad o.2 (some (.int o.1)) = g_Q X) : g_Y gCl X (gM true) ad σ (0, 0) 108 [(0, .ref (ad 0 0)), (4, .int v4)] [.int s1, .ref (ad 0 0)] := by
  unfold mJ_M_day_108 at h
  obtain ⟨x15, hc, h⟩ := g_bd h
  refine y_callS C (As := [.int s1]) (rest := [.ref (ad 0 0)]) (lk_X6_154 C hR (by decide)) (ct_M_flag hc) rfl rfl (Nat.le_of_ble_eq_true rfl) ⟨Nat.zero_le _, Nat.zero_le _⟩ dX6_day_108 ?_
  refine y_i2l C dX6_day_111 ?_
  obtain ⟨σ16, hc, h⟩ := g_bd h
  refine y_callVv C (As := [.long (x15.toInt64)]) (rest := []) (hu := nM_0_0) (hc := (rfl : gCl[5]? = some (RX6, TX6, 49))) (hcell := obM_0) (lk_X6_373 C hR (by decide)) (ct_M_enters hc) rfl rfl (Nat.le_of_ble_eq_true rfl) ⟨Nat.zero_le _, Nat.zero_le _⟩ dX6_day_112 ?_
  refine y_aload_n C dX6_day_115 0 rfl rfl ?_
  refine y_aload_n C dX6_day_116 0 rfl rfl ?_
  refine gf_M_11 C dX6_day_117 ?_
  refine y_bipush (v := (40 : Int32)) C dX6_day_120 (by decide) ?_
  obtain ⟨hg, h⟩ := g_gd h
  refine al_M_1 C nM_1_0 hg dX6_day_122 ?_
  refine y_i2l C dX6_day_123 ?_
  obtain ⟨σ17, hc, h⟩ := g_bd h
  refine y_callVv C (As := [.long ((σ16.1 1 0 (40 : Int32).toNatClampNeg).toInt64)]) (rest := []) (hu := nM_0_0) (hc := (rfl : gCl[5]? = some (RX6, TX6, 49))) (hcell := obM_0) (lk_X6_373 C hR (by decide)) (ct_M_enters hc) rfl rfl (Nat.le_of_ble_eq_true rfl) ⟨Nat.zero_le _, Nat.zero_le _⟩ dX6_day_124 ?_
  refine y_iload C dX6_day_127 1 rfl ?_
  refine y_if_le (tgt := 141) C dX6_day_129 rfl (fun hc => ?_) (fun hc => ?_)
  · replace h := g_it h hc
    refine y_iconst (v := (0 : Int32)) C dX6_day_141 (by decide) ?_
    replace h := Option.some.inj h; subst h
    exact y_iret C hQ ⟨Nat.zero_le _, Nat.zero_le _⟩ dX6_day_142
  · replace h := g_if h hc
    refine y_aload_n C dX6_day_132 0 rfl rfl ?_
    refine y_iload C dX6_day_133 1 rfl ?_
    obtain ⟨x19, σ18, hc, h⟩ := g_bp h
    refine y_callV C (As := [.int v4]) (rest := []) (hu := nM_0_0) (hc := (rfl : gCl[5]? = some (RX6, TX6, 49))) (hcell := obM_0) (lk_X6_341 C hR (by decide)) (ct_M_adds hc) rfl rfl (Nat.le_of_ble_eq_true rfl) ⟨Nat.zero_le _, Nat.zero_le _⟩ dX6_day_135 ?_
    refine y_goto (tgt := 142) C dX6_day_138 rfl ?_
    replace h := Option.some.inj h; subst h
    exact y_iret C hQ ⟨Nat.zero_le _, Nat.zero_le _⟩ dX6_day_142
theorem mw_M_day {X : g_F} (C : g_M gCl X cX6_day RX6 (some .int)) (hR : g_R X = g_rm 11 0 0) (hL : g_nL X = 5) {ad : Nat → Nat → Nat} {σ : g_S} {o : (Int32 × g_S)} (h : mF_M_day σ = some o) (hQ : g_MQ gCl X (gM true) ad o.2 (some (.int o.1)) = g_Q X) : g_Y gCl X (gM true) ad σ (0, 0) 0 [(0, .ref (ad 0 0))] [] := by
  unfold mF_M_day at h
  refine y_aload_n C dX6_day_0 0 rfl rfl ?_
  refine y_iconst (v := (0 : Int32)) C dX6_day_1 (by decide) ?_
  obtain ⟨σ1, hσ1, h⟩ := g_lt h
  refine pf_M_0 C hσ1 dX6_day_2 ?_
  refine y_aload_n C dX6_day_5 0 rfl rfl ?_
  refine y_bipush (v := (60 : Int32)) C dX6_day_6 (by decide) ?_
  obtain ⟨x3, σ2, hc, h⟩ := g_bp h
  refine y_callV C (As := [.int (60 : Int32)]) (rest := []) (hu := nM_0_0) (hc := (rfl : gCl[5]? = some (RX6, TX6, 49))) (hcell := obM_0) (lk_X6_175 C hR (by decide)) (ct_M_begins hc) rfl rfl (Nat.le_of_ble_eq_true rfl) ⟨Nat.zero_le _, Nat.zero_le _⟩ dX6_day_8 ?_
  refine y_istore_n (vs1 := [(1, .int x3), (0, .ref (ad 0 0))]) C rfl dX6_day_11 rfl (g_lL hL rfl) rfl ?_
  refine y_aload_n C dX6_day_12 1 rfl rfl ?_
  refine y_iconst (v := (0 : Int32)) C dX6_day_13 (by decide) ?_
  obtain ⟨σ4, hσ4, h⟩ := g_lt h
  refine pf_M_34 C hσ4 dX6_day_14 ?_
  refine y_iconst (v := (1 : Int32)) C dX6_day_17 (by decide) ?_
  refine y_istore_n (vs1 := [(2, .int (1 : Int32)), (1, .int x3), (0, .ref (ad 0 0))]) C rfl dX6_day_18 rfl (g_lL hL rfl) rfl ?_
  refine y_sub (vs2 := [(0, .ref (ad 0 0)), (1, .int x3), (2, .int (1 : Int32))]) [2, 1, 0] rfl ?_
  obtain ⟨e7, he7, h⟩ := g_bd h
  refine ml_M_day_19 C hR hL (σ := σ4) _ _ _ he7 ?_
  refine y_aload_n C dX6_day_42 0 rfl rfl ?_
  refine y_iload_n C dX6_day_43 1 rfl rfl ?_
  refine y_bipush (v := (60 : Int32)) C dX6_day_44 (by decide) ?_
  refine y_iload_n C dX6_day_46 2 rfl rfl ?_
  obtain ⟨x8, hc, h⟩ := g_bd h
  refine y_callV C (As := [.int x3, .int (60 : Int32), .int e7.1]) (rest := []) (hu := nM_0_0) (hc := (rfl : gCl[5]? = some (RX6, TX6, 49))) (hcell := obM_0) (lk_X6_213 C hR (by decide)) (ct_M_faultOf hc) rfl rfl (Nat.le_of_ble_eq_true rfl) ⟨Nat.zero_le _, Nat.zero_le _⟩ dX6_day_47 ?_
  refine y_istore_n (vs1 := [(3, .int x8), (0, .ref (ad 0 0)), (1, .int x3), (2, .int e7.1)]) C rfl dX6_day_50 rfl (g_lL hL rfl) rfl ?_
  refine y_iload_n C dX6_day_51 0 rfl rfl ?_
  refine y_if_ge (tgt := 57) C dX6_day_52 rfl (fun hc => ?_) (fun hc => ?_)
  · replace h := g_it h hc
    refine y_aload_n C dX6_day_57 1 rfl rfl ?_
    obtain ⟨σ9, hc, h⟩ := g_bd h
    refine y_callVv C (As := []) (rest := []) (hu := nM_0_0) (hc := (rfl : gCl[5]? = some (RX6, TX6, 49))) (hcell := obM_0) (lk_X6_363 C hR (by decide)) (ct_M_putsBy hc) rfl rfl (Nat.le_of_ble_eq_true rfl) ⟨Nat.zero_le _, Nat.zero_le _⟩ dX6_day_58 ?_
    refine y_iconst (v := (0 : Int32)) C dX6_day_61 (by decide) ?_
    refine y_istore (vs1 := [(4, .int (0 : Int32)), (3, .int x8), (0, .ref (ad 0 0)), (1, .int x3), (2, .int e7.1)]) C rfl dX6_day_62 (g_lL hL rfl) rfl ?_
    refine y_sub (vs2 := [(0, .ref (ad 0 0)), (4, .int (0 : Int32))]) [2, 0] rfl ?_
    obtain ⟨e13, he13, h⟩ := g_bd h
    refine ml_M_day_64 C hR hL (σ := σ9) _ _ _ he13 ?_
    refine y_aload_n C dX6_day_88 0 rfl rfl ?_
    refine y_iconst (v := (0 : Int32)) C dX6_day_89 (by decide) ?_
    obtain ⟨σ14, hσ14, h⟩ := g_lt h
    refine pf_M_1 C hσ14 dX6_day_90 ?_
    refine y_aload_n C dX6_day_93 0 rfl rfl ?_
    refine y_iload C dX6_day_94 1 rfl ?_
    refine y_aload_n C dX6_day_96 0 rfl rfl ?_
    refine gf_M_34 C dX6_day_97 ?_
    refine y_icmp_ge (tgt := 107) C dX6_day_100 rfl (fun hc => ?_) (fun hc => ?_)
    · replace h := g_it h hc
      refine y_iconst (v := (0 : Int32)) C dX6_day_107 (by decide) ?_
      exact mj_M_day_108 C hR hL h hQ
    · replace h := g_if h hc
      refine y_iconst (v := (1 : Int32)) C dX6_day_103 (by decide) ?_
      refine y_goto (tgt := 108) C dX6_day_104 rfl ?_
      exact mj_M_day_108 C hR hL h hQ
  · replace h := g_if h hc
    refine y_iload_n C dX6_day_55 0 rfl rfl ?_
    replace h := Option.some.inj h; subst h
    exact y_iret C hQ ⟨Nat.zero_le _, Nat.zero_le _⟩ dX6_day_56
theorem ct_M_day {D : va_G} {dA : Nat → ClassId} {A : Nat → Prop} {s0 : State} {b0 : Nat} {l : Launch} {ad : Nat → Nat → Nat} {σ : g_S} {r : Int32} {σ1 : g_S} (h : mF_M_day σ = some (r, σ1)) : g_Met gCl D dA A s0 b0 l yX6_day cX6_day 5 (some .int) 11 (0, 0) (gM true) ad σ [.ref (ad 0 0)] (gM true) ad σ1 (some (.int r)) :=
  g_Met.of pl_X6 (Nat.le_of_ble_eq_true rfl) (fun X C hQ hR _ _ hL _ es eb => mw_M_day C hR hL h hQ)
theorem ml_M_peopleOn_6 {X : g_F} {hid : Bool} (C : g_M gCl X cX6_peopleOn RX6 (some .int)) (hR : g_R X = g_rm 2 0 0) (hL : g_nL X = 6) {u0 : Nat} (hu_u0 : u0 < g_n (gM hid) 1) {ad : Nat → Nat → Nat} {σ : g_S} {v2 : Int64} (n : Nat) (v : (Int32 × Int32)) (e : Int32) (h : g_lp (fun v => mB_M_peopleOn_6 σ u0 v2 v.1 v.2) n v = some e) (kx : g_Y gCl X (gM hid) ad σ (0, 0) 45 [(4, .int e)] []) : g_Y gCl X (gM hid) ad σ (0, 0) 6 [(0, .ref (ad 0 0)), (1, .ref (ad 1 u0)), (2, .long v2), (4, .int v.1), (5, .int v.2)] [] := by
  refine g_loop (P := fun v => g_Y gCl X (gM hid) ad σ (0, 0) 6 [(0, .ref (ad 0 0)), (1, .ref (ad 1 u0)), (2, .long v2), (4, .int v.1), (5, .int v.2)] []) (T := fun e => g_Y gCl X (gM hid) ad σ (0, 0) 45 [(4, .int e)] []) ?_ n v e h kx
  clear h kx
  clear n v e
  intro v o h kl kx
  obtain ⟨v4, v5⟩ := v
  have h : mB_M_peopleOn_6 σ u0 v2 v4 v5 = some o := h
  unfold mB_M_peopleOn_6 at h
  show g_Y gCl X (gM hid) ad σ (0, 0) 6 [(0, .ref (ad 0 0)), (1, .ref (ad 1 u0)), (2, .long v2), (4, .int v4), (5, .int v5)] []
  refine y_iload C dX6_peopleOn_6 4 rfl ?_
  refine y_aload_n C dX6_peopleOn_8 0 rfl rfl ?_
  refine gf_M_5 C dX6_peopleOn_9 ?_
  refine y_icmp_ge (tgt := 45) C dX6_peopleOn_12 rfl (fun hc => ?_) (fun hc => ?_)
  · replace h := g_it h hc
    refine y_sub (vs2 := [(4, .int v4)]) [3] rfl ?_
    exact kx _ (Option.some.inj h).symm
  · replace h := g_if h hc
    refine y_iload C dX6_peopleOn_15 3 rfl ?_
    refine y_lload_n C dX6_peopleOn_17 2 rfl rfl ?_
    refine y_aload_n C dX6_peopleOn_18 1 rfl rfl ?_
    refine y_iload C dX6_peopleOn_19 4 rfl ?_
    obtain ⟨hg, h⟩ := g_gd h
    refine al_M_1 C hu_u0 hg dX6_peopleOn_21 ?_
    obtain ⟨x1, hc, h⟩ := g_bd h
    refine y_callS C (As := [.long v2, .int (σ.1 1 u0 v5.toNatClampNeg)]) (rest := [.int v4]) (lk_X6_304 C hR (by decide)) (ct_M_has hc) rfl rfl (Nat.le_of_ble_eq_true rfl) ⟨Nat.zero_le _, Nat.zero_le _⟩ dX6_peopleOn_22 ?_
    refine y_if_eq (tgt := 35) C dX6_peopleOn_25 rfl (fun hc => ?_) (fun hc => ?_)
    · replace h := g_it h hc
      refine y_iconst (v := (0 : Int32)) C dX6_peopleOn_35 (by decide) ?_
      refine y_ior C dX6_peopleOn_36 ?_
      obtain ⟨x2, hx2, h⟩ := g_lt h
      refine y_istore (vs1 := [(4, .int x2), (0, .ref (ad 0 0)), (1, .ref (ad 1 u0)), (2, .long v2), (5, .int v5)]) C hx2 dX6_peopleOn_37 (g_lL hL rfl) rfl ?_
      obtain ⟨x3, hx3, h⟩ := g_lt h
      refine y_iinc (c := (1 : Int32)) (vs1 := [(5, .int x3), (4, .int x2), (0, .ref (ad 0 0)), (1, .ref (ad 1 u0)), (2, .long v2)]) C hx3 (by decide) dX6_peopleOn_39 4 rfl (g_lL hL rfl) rfl ?_
      refine y_goto (tgt := 6) C dX6_peopleOn_42 rfl ?_
      refine y_sub (vs2 := [(0, .ref (ad 0 0)), (1, .ref (ad 1 u0)), (2, .long v2), (4, .int x2), (5, .int x3)]) [2, 3, 4, 1, 0] rfl ?_
      exact kl _ (Option.some.inj h).symm
    · replace h := g_if h hc
      refine y_iconst (v := (1 : Int32)) C dX6_peopleOn_28 (by decide) ?_
      refine y_iload C dX6_peopleOn_29 4 rfl ?_
      refine y_ishl C dX6_peopleOn_31 ?_
      refine y_goto (tgt := 36) C dX6_peopleOn_32 rfl ?_
      refine y_ior C dX6_peopleOn_36 ?_
      obtain ⟨x4, hx4, h⟩ := g_lt h
      refine y_istore (vs1 := [(4, .int x4), (0, .ref (ad 0 0)), (1, .ref (ad 1 u0)), (2, .long v2), (5, .int v5)]) C hx4 dX6_peopleOn_37 (g_lL hL rfl) rfl ?_
      obtain ⟨x5, hx5, h⟩ := g_lt h
      refine y_iinc (c := (1 : Int32)) (vs1 := [(5, .int x5), (4, .int x4), (0, .ref (ad 0 0)), (1, .ref (ad 1 u0)), (2, .long v2)]) C hx5 (by decide) dX6_peopleOn_39 4 rfl (g_lL hL rfl) rfl ?_
      refine y_goto (tgt := 6) C dX6_peopleOn_42 rfl ?_
      refine y_sub (vs2 := [(0, .ref (ad 0 0)), (1, .ref (ad 1 u0)), (2, .long v2), (4, .int x4), (5, .int x5)]) [2, 3, 4, 1, 0] rfl ?_
      exact kl _ (Option.some.inj h).symm
theorem mw_M_peopleOn {X : g_F} {hid : Bool} (C : g_M gCl X cX6_peopleOn RX6 (some .int)) (hR : g_R X = g_rm 2 0 0) (hL : g_nL X = 6) {u0 : Nat} (hu_u0 : u0 < g_n (gM hid) 1) {ad : Nat → Nat → Nat} {σ : g_S} {v2 : Int64} {o : Int32} (h : mF_M_peopleOn σ u0 v2 = some o) (hQ : g_MQ gCl X (gM hid) ad σ (some (.int o)) = g_Q X) : g_Y gCl X (gM hid) ad σ (0, 0) 0 [(0, .ref (ad 0 0)), (1, .ref (ad 1 u0)), (2, .long v2)] [] := by
  unfold mF_M_peopleOn at h
  refine y_iconst (v := (0 : Int32)) C dX6_peopleOn_0 (by decide) ?_
  refine y_istore (vs1 := [(4, .int (0 : Int32)), (0, .ref (ad 0 0)), (1, .ref (ad 1 u0)), (2, .long v2)]) C rfl dX6_peopleOn_1 (g_lL hL rfl) rfl ?_
  refine y_iconst (v := (0 : Int32)) C dX6_peopleOn_3 (by decide) ?_
  refine y_istore (vs1 := [(5, .int (0 : Int32)), (4, .int (0 : Int32)), (0, .ref (ad 0 0)), (1, .ref (ad 1 u0)), (2, .long v2)]) C rfl dX6_peopleOn_4 (g_lL hL rfl) rfl ?_
  refine y_sub (vs2 := [(0, .ref (ad 0 0)), (1, .ref (ad 1 u0)), (2, .long v2), (4, .int (0 : Int32)), (5, .int (0 : Int32))]) [2, 3, 4, 1, 0] rfl ?_
  obtain ⟨e6, he6, h⟩ := g_bd h
  refine ml_M_peopleOn_6 C hR hL hu_u0 (σ := σ) _ _ _ he6 ?_
  refine y_iload C dX6_peopleOn_45 0 rfl ?_
  replace h := Option.some.inj h; subst h
  exact y_iret C hQ ⟨Nat.zero_le _, Nat.zero_le _⟩ dX6_peopleOn_47
theorem ct_M_peopleOn {D : va_G} {dA : Nat → ClassId} {A : Nat → Prop} {s0 : State} {b0 : Nat} {l : Launch} {hid : Bool} {u0 : Nat} (hu_u0 : u0 < g_n (gM hid) 1) {ad : Nat → Nat → Nat} {σ : g_S} {v2 : Int64} {r : Int32} (h : mF_M_peopleOn σ u0 v2 = some r) : g_Met gCl D dA A s0 b0 l yX6_peopleOn cX6_peopleOn 6 (some .int) 2 (0, 0) (gM hid) ad σ [.ref (ad 0 0), .ref (ad 1 u0), .long v2] (gM hid) ad σ (some (.int r)) :=
  g_Met.of pl_X6 (Nat.le_of_ble_eq_true rfl) (fun X C hQ hR _ _ hL _ es eb => mw_M_peopleOn C hR hL hu_u0 h hQ)
theorem mw_M_sees {X : g_F} (C : g_M gCl X cX6_sees RX6 (some .long)) (hR : g_R X = g_rm 6 0 0) (hL : g_nL X = 4) {ad : Nat → Nat → Nat} {σ : g_S} {v1 : Int32} {o : (Int64 × g_S)} (h : mF_M_sees σ v1 = some o) (hQ : g_MQ gCl X (gM true) ad o.2 (some (.long o.1)) = g_Q X) : g_Y gCl X (gM true) ad σ (0, 0) 0 [(0, .ref (ad 0 0)), (1, .int v1)] [] := by
  unfold mF_M_sees at h
  refine y_aload_n C dX6_sees_0 0 rfl rfl ?_
  refine y_iconst (v := (0 : Int32)) C dX6_sees_1 (by decide) ?_
  obtain ⟨σ1, hσ1, h⟩ := g_lt h
  refine pf_M_0 C hσ1 dX6_sees_2 ?_
  refine y_aload_n C dX6_sees_5 0 rfl rfl ?_
  refine y_iload_n C dX6_sees_6 1 rfl rfl ?_
  obtain ⟨x2, hc, h⟩ := g_bd h
  refine y_callV C (As := [.int v1]) (rest := []) (hu := nM_0_0) (hc := (rfl : gCl[5]? = some (RX6, TX6, 49))) (hcell := obM_0) (lk_X6_315 C hR (by decide)) (ct_M_isPerson hc) rfl rfl (Nat.le_of_ble_eq_true rfl) ⟨Nat.zero_le _, Nat.zero_le _⟩ dX6_sees_7 ?_
  refine y_if_ne (tgt := 17) C dX6_sees_10 rfl (fun hc => ?_) (fun hc => ?_)
  · replace h := g_if h hc
    refine y_aload_n C dX6_sees_17 0 rfl rfl ?_
    refine y_aload_n C dX6_sees_18 0 rfl rfl ?_
    refine gf_M_11 C dX6_sees_19 ?_
    refine y_iload_n C dX6_sees_22 1 rfl rfl ?_
    obtain ⟨x3, hc, h⟩ := g_bd h
    refine y_callV C (As := [.ref (ad 1 0), .int v1]) (rest := []) (hu := nM_0_0) (hc := (rfl : gCl[5]? = some (RX6, TX6, 49))) (hcell := obM_0) (lk_X6_300 C hR (by decide)) (ct_M_fieldsSeen nM_1_0 hc) rfl rfl (Nat.le_of_ble_eq_true rfl) ⟨Nat.zero_le _, Nat.zero_le _⟩ dX6_sees_23 ?_
    refine y_lstore_n (vs1 := [(2, .long x3), (0, .ref (ad 0 0)), (1, .int v1)]) C rfl dX6_sees_26 rfl (g_lL hL rfl) rfl ?_
    refine y_aload_n C dX6_sees_27 1 rfl rfl ?_
    refine y_iconst (v := (0 : Int32)) C dX6_sees_28 (by decide) ?_
    obtain ⟨σ4, hσ4, h⟩ := g_lt h
    refine pf_M_1 C hσ4 dX6_sees_29 ?_
    refine y_aload_n C dX6_sees_32 1 rfl rfl ?_
    refine y_lload_n C dX6_sees_33 0 rfl rfl ?_
    obtain ⟨x5, hc, h⟩ := g_bd h
    refine y_callS C (As := [.long x3]) (rest := [.ref (ad 0 0)]) (lk_X6_405 C hR (by decide)) (ct_J12_bitCount hc) rfl rfl (Nat.le_of_ble_eq_true rfl) ⟨Nat.zero_le _, Nat.zero_le _⟩ dX6_sees_34 ?_
    refine y_i2l C dX6_sees_37 ?_
    obtain ⟨σ6, hc, h⟩ := g_bd h
    refine y_callVv C (As := [.long (x5.toInt64)]) (rest := []) (hu := nM_0_0) (hc := (rfl : gCl[5]? = some (RX6, TX6, 49))) (hcell := obM_0) (lk_X6_373 C hR (by decide)) (ct_M_enters hc) rfl rfl (Nat.le_of_ble_eq_true rfl) ⟨Nat.zero_le _, Nat.zero_le _⟩ dX6_sees_38 ?_
    refine y_aload_n C dX6_sees_41 1 rfl rfl ?_
    refine y_aload_n C dX6_sees_42 1 rfl rfl ?_
    refine y_aload_n C dX6_sees_43 1 rfl rfl ?_
    refine gf_M_11 C dX6_sees_44 ?_
    refine y_lload_n C dX6_sees_47 0 rfl rfl ?_
    obtain ⟨x7, hc, h⟩ := g_bd h
    refine y_callV C (As := [.ref (ad 1 0), .long x3]) (rest := [.ref (ad 0 0)]) (hu := nM_0_0) (hc := (rfl : gCl[5]? = some (RX6, TX6, 49))) (hcell := obM_0) (lk_X6_410 C hR (by decide)) (ct_M_peopleOn nM_1_0 hc) rfl rfl (Nat.le_of_ble_eq_true rfl) ⟨Nat.zero_le _, Nat.zero_le _⟩ dX6_sees_48 ?_
    refine y_iconst (v := (1 : Int32)) C dX6_sees_51 (by decide) ?_
    refine y_iload_n C dX6_sees_52 2 rfl rfl ?_
    refine y_ishl C dX6_sees_53 ?_
    refine y_iconst (v := (-1 : Int32)) C dX6_sees_54 (by decide) ?_
    refine y_ixor C dX6_sees_55 ?_
    refine y_iand C dX6_sees_56 ?_
    refine y_i2l C dX6_sees_57 ?_
    obtain ⟨σ8, hc, h⟩ := g_bd h
    refine y_callVv C (As := [.long ((x7 &&& (((1 : Int32) <<< (v1 &&& 31)) ^^^ (-1 : Int32))).toInt64)]) (rest := []) (hu := nM_0_0) (hc := (rfl : gCl[5]? = some (RX6, TX6, 49))) (hcell := obM_0) (lk_X6_373 C hR (by decide)) (ct_M_enters hc) rfl rfl (Nat.le_of_ble_eq_true rfl) ⟨Nat.zero_le _, Nat.zero_le _⟩ dX6_sees_58 ?_
    refine y_lload_n C dX6_sees_61 0 rfl rfl ?_
    replace h := Option.some.inj h; subst h
    exact y_lret C hQ ⟨Nat.zero_le _, Nat.zero_le _⟩ dX6_sees_62
  · replace h := g_it h hc
    refine y_ldc2 (v := (-1 : Int64)) C q1759 dX6_sees_13 ?_
    replace h := Option.some.inj h; subst h
    exact y_lret C hQ ⟨Nat.zero_le _, Nat.zero_le _⟩ dX6_sees_16
theorem ct_M_sees {D : va_G} {dA : Nat → ClassId} {A : Nat → Prop} {s0 : State} {b0 : Nat} {l : Launch} {ad : Nat → Nat → Nat} {σ : g_S} {v1 : Int32} {r : Int64} {σ1 : g_S} (h : mF_M_sees σ v1 = some (r, σ1)) : g_Met gCl D dA A s0 b0 l yX6_sees cX6_sees 4 (some .long) 6 (0, 0) (gM true) ad σ [.ref (ad 0 0), .int v1] (gM true) ad σ1 (some (.long r)) :=
  g_Met.of pl_X6 (Nat.le_of_ble_eq_true rfl) (fun X C hQ hR _ _ hL _ es eb => mw_M_sees C hR hL h hQ)
theorem mw_M_seers {X : g_F} (C : g_M gCl X cX6_seers RX6 (some .int)) (hR : g_R X = g_rm 7 0 0) (hL : g_nL X = 3) {ad : Nat → Nat → Nat} {σ : g_S} {v1 : Int32} {o : (Int32 × g_S)} (h : mF_M_seers σ v1 = some o) (hQ : g_MQ gCl X (gM true) ad o.2 (some (.int o.1)) = g_Q X) : g_Y gCl X (gM true) ad σ (0, 0) 0 [(0, .ref (ad 0 0)), (1, .int v1)] [] := by
  unfold mF_M_seers at h
  refine y_aload_n C dX6_seers_0 0 rfl rfl ?_
  refine y_iconst (v := (0 : Int32)) C dX6_seers_1 (by decide) ?_
  obtain ⟨σ1, hσ1, h⟩ := g_lt h
  refine pf_M_0 C hσ1 dX6_seers_2 ?_
  refine y_aload_n C dX6_seers_5 0 rfl rfl ?_
  refine y_iload_n C dX6_seers_6 1 rfl rfl ?_
  obtain ⟨x2, hc, h⟩ := g_bd h
  refine y_callV C (As := [.int v1]) (rest := []) (hu := nM_0_0) (hc := (rfl : gCl[5]? = some (RX6, TX6, 49))) (hcell := obM_0) (lk_X6_358 C hR (by decide)) (ct_M_isField hc) rfl rfl (Nat.le_of_ble_eq_true rfl) ⟨Nat.zero_le _, Nat.zero_le _⟩ dX6_seers_7 ?_
  refine y_if_ne (tgt := 15) C dX6_seers_10 rfl (fun hc => ?_) (fun hc => ?_)
  · replace h := g_if h hc
    refine y_aload_n C dX6_seers_15 0 rfl rfl ?_
    refine y_aload_n C dX6_seers_16 0 rfl rfl ?_
    refine gf_M_11 C dX6_seers_17 ?_
    refine y_iload_n C dX6_seers_20 1 rfl rfl ?_
    obtain ⟨x3, hc, h⟩ := g_bd h
    refine y_callV C (As := [.ref (ad 1 0), .int v1]) (rest := []) (hu := nM_0_0) (hc := (rfl : gCl[5]? = some (RX6, TX6, 49))) (hcell := obM_0) (lk_X6_336 C hR (by decide)) (ct_M_whoSees nM_1_0 hc) rfl rfl (Nat.le_of_ble_eq_true rfl) ⟨Nat.zero_le _, Nat.zero_le _⟩ dX6_seers_21 ?_
    refine y_istore_n (vs1 := [(2, .int x3), (0, .ref (ad 0 0)), (1, .int v1)]) C rfl dX6_seers_24 rfl (g_lL hL rfl) rfl ?_
    refine y_aload_n C dX6_seers_25 1 rfl rfl ?_
    refine y_iconst (v := (0 : Int32)) C dX6_seers_26 (by decide) ?_
    obtain ⟨σ4, hσ4, h⟩ := g_lt h
    refine pf_M_1 C hσ4 dX6_seers_27 ?_
    refine y_aload_n C dX6_seers_30 1 rfl rfl ?_
    refine y_iload_n C dX6_seers_31 0 rfl rfl ?_
    obtain ⟨x5, hc, h⟩ := g_bd h
    refine y_callS C (As := [.int x3]) (rest := [.ref (ad 0 0)]) (lk_X6_265 C hR (by decide)) (ct_J8_bitCount hc) rfl rfl (Nat.le_of_ble_eq_true rfl) ⟨Nat.zero_le _, Nat.zero_le _⟩ dX6_seers_32 ?_
    refine y_i2l C dX6_seers_35 ?_
    obtain ⟨σ6, hc, h⟩ := g_bd h
    refine y_callVv C (As := [.long (x5.toInt64)]) (rest := []) (hu := nM_0_0) (hc := (rfl : gCl[5]? = some (RX6, TX6, 49))) (hcell := obM_0) (lk_X6_373 C hR (by decide)) (ct_M_enters hc) rfl rfl (Nat.le_of_ble_eq_true rfl) ⟨Nat.zero_le _, Nat.zero_le _⟩ dX6_seers_36 ?_
    refine y_aload_n C dX6_seers_39 1 rfl rfl ?_
    refine y_aload_n C dX6_seers_40 1 rfl rfl ?_
    refine y_aload_n C dX6_seers_41 1 rfl rfl ?_
    refine gf_M_11 C dX6_seers_42 ?_
    refine y_lconst (v := (1 : Int64)) C dX6_seers_45 (by decide) ?_
    refine y_iload_n C dX6_seers_46 2 rfl rfl ?_
    refine y_lshl C dX6_seers_47 rfl ?_
    obtain ⟨x7, hc, h⟩ := g_bd h
    refine y_callV C (As := [.ref (ad 1 0), .long ((1 : Int64) <<< (v1.toInt64 &&& 63))]) (rest := [.ref (ad 0 0)]) (hu := nM_0_0) (hc := (rfl : gCl[5]? = some (RX6, TX6, 49))) (hcell := obM_0) (lk_X6_323 C hR (by decide)) (ct_M_thingsOn nM_1_0 hc) rfl rfl (Nat.le_of_ble_eq_true rfl) ⟨Nat.zero_le _, Nat.zero_le _⟩ dX6_seers_48 ?_
    refine y_i2l C dX6_seers_51 ?_
    obtain ⟨σ8, hc, h⟩ := g_bd h
    refine y_callVv C (As := [.long (x7.toInt64)]) (rest := []) (hu := nM_0_0) (hc := (rfl : gCl[5]? = some (RX6, TX6, 49))) (hcell := obM_0) (lk_X6_373 C hR (by decide)) (ct_M_enters hc) rfl rfl (Nat.le_of_ble_eq_true rfl) ⟨Nat.zero_le _, Nat.zero_le _⟩ dX6_seers_52 ?_
    refine y_iload_n C dX6_seers_55 0 rfl rfl ?_
    replace h := Option.some.inj h; subst h
    exact y_iret C hQ ⟨Nat.zero_le _, Nat.zero_le _⟩ dX6_seers_56
  · replace h := g_it h hc
    refine y_iconst (v := (-1 : Int32)) C dX6_seers_13 (by decide) ?_
    replace h := Option.some.inj h; subst h
    exact y_iret C hQ ⟨Nat.zero_le _, Nat.zero_le _⟩ dX6_seers_14
theorem ct_M_seers {D : va_G} {dA : Nat → ClassId} {A : Nat → Prop} {s0 : State} {b0 : Nat} {l : Launch} {ad : Nat → Nat → Nat} {σ : g_S} {v1 : Int32} {r : Int32} {σ1 : g_S} (h : mF_M_seers σ v1 = some (r, σ1)) : g_Met gCl D dA A s0 b0 l yX6_seers cX6_seers 3 (some .int) 7 (0, 0) (gM true) ad σ [.ref (ad 0 0), .int v1] (gM true) ad σ1 (some (.int r)) :=
  g_Met.of pl_X6 (Nat.le_of_ble_eq_true rfl) (fun X C hQ hR _ _ hL _ es eb => mw_M_seers C hR hL h hQ)
theorem ml_M_free_4 {X : g_F} {hid : Bool} (C : g_M gCl X cX6_free RX6 (some .long)) (hR : g_R X = g_rm 2 0 0) (hL : g_nL X = 4) {ad : Nat → Nat → Nat} {σ : g_S} (n : Nat) (v : (Int64 × Int32)) (e : Int64) (h : g_lp (fun v => mB_M_free_4 σ v.1 v.2) n v = some e) (kx : g_Y gCl X (gM hid) ad σ (0, 0) 37 [(1, .long e)] []) : g_Y gCl X (gM hid) ad σ (0, 0) 4 [(0, .ref (ad 0 0)), (1, .long v.1), (3, .int v.2)] [] := by
  refine g_loop (P := fun v => g_Y gCl X (gM hid) ad σ (0, 0) 4 [(0, .ref (ad 0 0)), (1, .long v.1), (3, .int v.2)] []) (T := fun e => g_Y gCl X (gM hid) ad σ (0, 0) 37 [(1, .long e)] []) ?_ n v e h kx
  clear h kx
  clear n v e
  intro v o h kl kx
  obtain ⟨v1, v3⟩ := v
  have h : mB_M_free_4 σ v1 v3 = some o := h
  unfold mB_M_free_4 at h
  show g_Y gCl X (gM hid) ad σ (0, 0) 4 [(0, .ref (ad 0 0)), (1, .long v1), (3, .int v3)] []
  refine y_iload_n C dX6_free_4 2 rfl rfl ?_
  refine y_aload_n C dX6_free_5 0 rfl rfl ?_
  obtain ⟨x1, hc, h⟩ := g_bd h
  refine y_callV C (As := []) (rest := [.int v3]) (hu := nM_0_0) (hc := (rfl : gCl[5]? = some (RX6, TX6, 49))) (hcell := obM_0) (lk_X6_122 C hR (by decide)) (ct_M_fields hc) rfl rfl (Nat.le_of_ble_eq_true rfl) ⟨Nat.zero_le _, Nat.zero_le _⟩ dX6_free_6 ?_
  refine y_icmp_ge (tgt := 37) C dX6_free_9 rfl (fun hc => ?_) (fun hc => ?_)
  · replace h := g_it h hc
    refine y_sub (vs2 := [(1, .long v1)]) [1] rfl ?_
    exact kx _ (Option.some.inj h).symm
  · replace h := g_if h hc
    refine y_lload_n C dX6_free_12 1 rfl rfl ?_
    refine y_aload_n C dX6_free_13 0 rfl rfl ?_
    refine gf_M_9 C dX6_free_14 ?_
    refine y_iload_n C dX6_free_17 2 rfl rfl ?_
    obtain ⟨hg, h⟩ := g_gd h
    refine al_M_3 C nM_3_0 hg dX6_free_18 ?_
    refine y_if_eq (tgt := 26) C dX6_free_19 rfl (fun hc => ?_) (fun hc => ?_)
    · replace h := g_it h hc
      refine y_lconst (v := (1 : Int64)) C dX6_free_26 (by decide) ?_
      refine y_iload_n C dX6_free_27 2 rfl rfl ?_
      refine y_lshl C dX6_free_28 rfl ?_
      refine y_lor C dX6_free_29 ?_
      obtain ⟨x2, hx2, h⟩ := g_lt h
      refine y_lstore_n (vs1 := [(1, .long x2), (0, .ref (ad 0 0)), (3, .int v3)]) C hx2 dX6_free_30 rfl (g_lL hL rfl) rfl ?_
      obtain ⟨x3, hx3, h⟩ := g_lt h
      refine y_iinc (c := (1 : Int32)) (vs1 := [(3, .int x3), (1, .long x2), (0, .ref (ad 0 0))]) C hx3 (by decide) dX6_free_31 2 rfl (g_lL hL rfl) rfl ?_
      refine y_goto (tgt := 4) C dX6_free_34 rfl ?_
      refine y_sub (vs2 := [(0, .ref (ad 0 0)), (1, .long x2), (3, .int x3)]) [2, 1, 0] rfl ?_
      exact kl _ (Option.some.inj h).symm
    · replace h := g_if h hc
      refine y_lconst (v := (0 : Int64)) C dX6_free_22 (by decide) ?_
      refine y_goto (tgt := 29) C dX6_free_23 rfl ?_
      refine y_lor C dX6_free_29 ?_
      obtain ⟨x4, hx4, h⟩ := g_lt h
      refine y_lstore_n (vs1 := [(1, .long x4), (0, .ref (ad 0 0)), (3, .int v3)]) C hx4 dX6_free_30 rfl (g_lL hL rfl) rfl ?_
      obtain ⟨x5, hx5, h⟩ := g_lt h
      refine y_iinc (c := (1 : Int32)) (vs1 := [(3, .int x5), (1, .long x4), (0, .ref (ad 0 0))]) C hx5 (by decide) dX6_free_31 2 rfl (g_lL hL rfl) rfl ?_
      refine y_goto (tgt := 4) C dX6_free_34 rfl ?_
      refine y_sub (vs2 := [(0, .ref (ad 0 0)), (1, .long x4), (3, .int x5)]) [2, 1, 0] rfl ?_
      exact kl _ (Option.some.inj h).symm
theorem mw_M_free {X : g_F} {hid : Bool} (C : g_M gCl X cX6_free RX6 (some .long)) (hR : g_R X = g_rm 2 0 0) (hL : g_nL X = 4) {ad : Nat → Nat → Nat} {σ : g_S} {o : Int64} (h : mF_M_free σ = some o) (hQ : g_MQ gCl X (gM hid) ad σ (some (.long o)) = g_Q X) : g_Y gCl X (gM hid) ad σ (0, 0) 0 [(0, .ref (ad 0 0))] [] := by
  unfold mF_M_free at h
  refine y_lconst (v := (0 : Int64)) C dX6_free_0 (by decide) ?_
  refine y_lstore_n (vs1 := [(1, .long (0 : Int64)), (0, .ref (ad 0 0))]) C rfl dX6_free_1 rfl (g_lL hL rfl) rfl ?_
  refine y_iconst (v := (0 : Int32)) C dX6_free_2 (by decide) ?_
  refine y_istore_n (vs1 := [(3, .int (0 : Int32)), (1, .long (0 : Int64)), (0, .ref (ad 0 0))]) C rfl dX6_free_3 rfl (g_lL hL rfl) rfl ?_
  refine y_sub (vs2 := [(0, .ref (ad 0 0)), (1, .long (0 : Int64)), (3, .int (0 : Int32))]) [2, 1, 0] rfl ?_
  obtain ⟨e6, he6, h⟩ := g_bd h
  refine ml_M_free_4 C hR hL (σ := σ) _ _ _ he6 ?_
  refine y_lload_n C dX6_free_37 0 rfl rfl ?_
  replace h := Option.some.inj h; subst h
  exact y_lret C hQ ⟨Nat.zero_le _, Nat.zero_le _⟩ dX6_free_38
theorem ct_M_free {D : va_G} {dA : Nat → ClassId} {A : Nat → Prop} {s0 : State} {b0 : Nat} {l : Launch} {hid : Bool} {ad : Nat → Nat → Nat} {σ : g_S} {r : Int64} (h : mF_M_free σ = some r) : g_Met gCl D dA A s0 b0 l yX6_free cX6_free 4 (some .long) 2 (0, 0) (gM hid) ad σ [.ref (ad 0 0)] (gM hid) ad σ (some (.long r)) :=
  g_Met.of pl_X6 (Nat.le_of_ble_eq_true rfl) (fun X C hQ hR _ _ hL _ es eb => mw_M_free C hR hL h hQ)
theorem ml_M_allSeen_5 {X : g_F} (C : g_M gCl X cX6_allSeen RX6 (some .long)) (hR : g_R X = g_rm 6 0 0) (hL : g_nL X = 5) {u0 : Nat} (hu_u0 : u0 < g_n (gM true) 1) {ad : Nat → Nat → Nat} {σ : g_S} (n : Nat) (v : (Int64 × Int32)) (e : Int64) (h : g_lp (fun v => mB_M_allSeen_5 σ u0 v.1 v.2) n v = some e) (kx : g_Y gCl X (gM true) ad σ (0, 0) 30 [(2, .long e)] []) : g_Y gCl X (gM true) ad σ (0, 0) 5 [(0, .ref (ad 0 0)), (1, .ref (ad 1 u0)), (2, .long v.1), (4, .int v.2)] [] := by
  refine g_loop (P := fun v => g_Y gCl X (gM true) ad σ (0, 0) 5 [(0, .ref (ad 0 0)), (1, .ref (ad 1 u0)), (2, .long v.1), (4, .int v.2)] []) (T := fun e => g_Y gCl X (gM true) ad σ (0, 0) 30 [(2, .long e)] []) ?_ n v e h kx
  clear h kx
  clear n v e
  intro v o h kl kx
  obtain ⟨v2, v4⟩ := v
  have h : mB_M_allSeen_5 σ u0 v2 v4 = some o := h
  unfold mB_M_allSeen_5 at h
  show g_Y gCl X (gM true) ad σ (0, 0) 5 [(0, .ref (ad 0 0)), (1, .ref (ad 1 u0)), (2, .long v2), (4, .int v4)] []
  refine y_iload C dX6_allSeen_5 3 rfl ?_
  refine y_aload_n C dX6_allSeen_7 0 rfl rfl ?_
  refine gf_M_5 C dX6_allSeen_8 ?_
  refine y_icmp_ge (tgt := 30) C dX6_allSeen_11 rfl (fun hc => ?_) (fun hc => ?_)
  · replace h := g_it h hc
    refine y_sub (vs2 := [(2, .long v2)]) [2] rfl ?_
    exact kx _ (Option.some.inj h).symm
  · replace h := g_if h hc
    refine y_lload_n C dX6_allSeen_14 2 rfl rfl ?_
    refine y_aload_n C dX6_allSeen_15 0 rfl rfl ?_
    refine y_aload_n C dX6_allSeen_16 1 rfl rfl ?_
    refine y_iload C dX6_allSeen_17 3 rfl ?_
    obtain ⟨x1, hc, h⟩ := g_bd h
    refine y_callV C (As := [.ref (ad 1 u0), .int v4]) (rest := [.long v2]) (hu := nM_0_0) (hc := (rfl : gCl[5]? = some (RX6, TX6, 49))) (hcell := obM_0) (lk_X6_300 C hR (by decide)) (ct_M_fieldsSeen hu_u0 hc) rfl rfl (Nat.le_of_ble_eq_true rfl) ⟨Nat.zero_le _, Nat.zero_le _⟩ dX6_allSeen_19 ?_
    refine y_lor C dX6_allSeen_22 ?_
    obtain ⟨x2, hx2, h⟩ := g_lt h
    refine y_lstore_n (vs1 := [(2, .long x2), (0, .ref (ad 0 0)), (1, .ref (ad 1 u0)), (4, .int v4)]) C hx2 dX6_allSeen_23 rfl (g_lL hL rfl) rfl ?_
    obtain ⟨x3, hx3, h⟩ := g_lt h
    refine y_iinc (c := (1 : Int32)) (vs1 := [(4, .int x3), (2, .long x2), (0, .ref (ad 0 0)), (1, .ref (ad 1 u0))]) C hx3 (by decide) dX6_allSeen_24 3 rfl (g_lL hL rfl) rfl ?_
    refine y_goto (tgt := 5) C dX6_allSeen_27 rfl ?_
    refine y_sub (vs2 := [(0, .ref (ad 0 0)), (1, .ref (ad 1 u0)), (2, .long x2), (4, .int x3)]) [2, 3, 1, 0] rfl ?_
    exact kl _ (Option.some.inj h).symm
theorem mw_M_allSeen {X : g_F} (C : g_M gCl X cX6_allSeen RX6 (some .long)) (hR : g_R X = g_rm 6 0 0) (hL : g_nL X = 5) {u0 : Nat} (hu_u0 : u0 < g_n (gM true) 1) {ad : Nat → Nat → Nat} {σ : g_S} {o : Int64} (h : mF_M_allSeen σ u0 = some o) (hQ : g_MQ gCl X (gM true) ad σ (some (.long o)) = g_Q X) : g_Y gCl X (gM true) ad σ (0, 0) 0 [(0, .ref (ad 0 0)), (1, .ref (ad 1 u0))] [] := by
  unfold mF_M_allSeen at h
  refine y_lconst (v := (0 : Int64)) C dX6_allSeen_0 (by decide) ?_
  refine y_lstore_n (vs1 := [(2, .long (0 : Int64)), (0, .ref (ad 0 0)), (1, .ref (ad 1 u0))]) C rfl dX6_allSeen_1 rfl (g_lL hL rfl) rfl ?_
  refine y_iconst (v := (0 : Int32)) C dX6_allSeen_2 (by decide) ?_
  refine y_istore (vs1 := [(4, .int (0 : Int32)), (2, .long (0 : Int64)), (0, .ref (ad 0 0)), (1, .ref (ad 1 u0))]) C rfl dX6_allSeen_3 (g_lL hL rfl) rfl ?_
  refine y_sub (vs2 := [(0, .ref (ad 0 0)), (1, .ref (ad 1 u0)), (2, .long (0 : Int64)), (4, .int (0 : Int32))]) [2, 3, 1, 0] rfl ?_
  obtain ⟨e4, he4, h⟩ := g_bd h
  refine ml_M_allSeen_5 C hR hL hu_u0 (σ := σ) _ _ _ he4 ?_
  refine y_lload_n C dX6_allSeen_30 0 rfl rfl ?_
  replace h := Option.some.inj h; subst h
  exact y_lret C hQ ⟨Nat.zero_le _, Nat.zero_le _⟩ dX6_allSeen_31
theorem ct_M_allSeen {D : va_G} {dA : Nat → ClassId} {A : Nat → Prop} {s0 : State} {b0 : Nat} {l : Launch} {u0 : Nat} (hu_u0 : u0 < g_n (gM true) 1) {ad : Nat → Nat → Nat} {σ : g_S} {r : Int64} (h : mF_M_allSeen σ u0 = some r) : g_Met gCl D dA A s0 b0 l yX6_allSeen cX6_allSeen 5 (some .long) 6 (0, 0) (gM true) ad σ [.ref (ad 0 0), .ref (ad 1 u0)] (gM true) ad σ (some (.long r)) :=
  g_Met.of pl_X6 (Nat.le_of_ble_eq_true rfl) (fun X C hQ hR _ _ hL _ es eb => mw_M_allSeen C hR hL hu_u0 h hQ)
theorem mw_M_hidden {X : g_F} (C : g_M gCl X cX6_hidden RX6 (some .long)) (hR : g_R X = g_rm 7 0 0) (hL : g_nL X = 3) {ad : Nat → Nat → Nat} {σ : g_S} {o : (Int64 × g_S)} (h : mF_M_hidden σ = some o) (hQ : g_MQ gCl X (gM true) ad o.2 (some (.long o.1)) = g_Q X) : g_Y gCl X (gM true) ad σ (0, 0) 0 [(0, .ref (ad 0 0))] [] := by
  unfold mF_M_hidden at h
  refine y_aload_n C dX6_hidden_0 0 rfl rfl ?_
  refine y_iconst (v := (0 : Int32)) C dX6_hidden_1 (by decide) ?_
  obtain ⟨σ1, hσ1, h⟩ := g_lt h
  refine pf_M_0 C hσ1 dX6_hidden_2 ?_
  refine y_aload_n C dX6_hidden_5 0 rfl rfl ?_
  obtain ⟨x2, hc, h⟩ := g_bd h
  refine y_callV C (As := []) (rest := []) (hu := nM_0_0) (hc := (rfl : gCl[5]? = some (RX6, TX6, 49))) (hcell := obM_0) (lk_X6_413 C hR (by decide)) (ct_M_free hc) rfl rfl (Nat.le_of_ble_eq_true rfl) ⟨Nat.zero_le _, Nat.zero_le _⟩ dX6_hidden_6 ?_
  refine y_aload_n C dX6_hidden_9 0 rfl rfl ?_
  refine y_aload_n C dX6_hidden_10 0 rfl rfl ?_
  refine gf_M_11 C dX6_hidden_11 ?_
  obtain ⟨x3, hc, h⟩ := g_bd h
  refine y_callV C (As := [.ref (ad 1 0)]) (rest := [.long x2]) (hu := nM_0_0) (hc := (rfl : gCl[5]? = some (RX6, TX6, 49))) (hcell := obM_0) (lk_X6_417 C hR (by decide)) (ct_M_allSeen nM_1_0 hc) rfl rfl (Nat.le_of_ble_eq_true rfl) ⟨Nat.zero_le _, Nat.zero_le _⟩ dX6_hidden_14 ?_
  refine y_ldc2 (v := (-1 : Int64)) C q1759 dX6_hidden_17 ?_
  refine y_lxor C dX6_hidden_20 ?_
  refine y_land C dX6_hidden_21 ?_
  obtain ⟨x4, hx4, h⟩ := g_lt h
  refine y_lstore_n (vs1 := [(1, .long x4), (0, .ref (ad 0 0))]) C hx4 dX6_hidden_22 rfl (g_lL hL rfl) rfl ?_
  refine y_aload_n C dX6_hidden_23 1 rfl rfl ?_
  refine y_iconst (v := (0 : Int32)) C dX6_hidden_24 (by decide) ?_
  obtain ⟨σ5, hσ5, h⟩ := g_lt h
  refine pf_M_1 C hσ5 dX6_hidden_25 ?_
  refine y_aload_n C dX6_hidden_28 1 rfl rfl ?_
  refine y_lload_n C dX6_hidden_29 0 rfl rfl ?_
  obtain ⟨x6, hc, h⟩ := g_bd h
  refine y_callS C (As := [.long x4]) (rest := [.ref (ad 0 0)]) (lk_X6_405 C hR (by decide)) (ct_J12_bitCount hc) rfl rfl (Nat.le_of_ble_eq_true rfl) ⟨Nat.zero_le _, Nat.zero_le _⟩ dX6_hidden_30 ?_
  refine y_i2l C dX6_hidden_33 ?_
  obtain ⟨σ7, hc, h⟩ := g_bd h
  refine y_callVv C (As := [.long (x6.toInt64)]) (rest := []) (hu := nM_0_0) (hc := (rfl : gCl[5]? = some (RX6, TX6, 49))) (hcell := obM_0) (lk_X6_373 C hR (by decide)) (ct_M_enters hc) rfl rfl (Nat.le_of_ble_eq_true rfl) ⟨Nat.zero_le _, Nat.zero_le _⟩ dX6_hidden_34 ?_
  refine y_aload_n C dX6_hidden_37 1 rfl rfl ?_
  refine y_aload_n C dX6_hidden_38 1 rfl rfl ?_
  refine y_aload_n C dX6_hidden_39 1 rfl rfl ?_
  refine gf_M_11 C dX6_hidden_40 ?_
  refine y_lload_n C dX6_hidden_43 0 rfl rfl ?_
  obtain ⟨x8, hc, h⟩ := g_bd h
  refine y_callV C (As := [.ref (ad 1 0), .long x4]) (rest := [.ref (ad 0 0)]) (hu := nM_0_0) (hc := (rfl : gCl[5]? = some (RX6, TX6, 49))) (hcell := obM_0) (lk_X6_323 C hR (by decide)) (ct_M_thingsOn nM_1_0 hc) rfl rfl (Nat.le_of_ble_eq_true rfl) ⟨Nat.zero_le _, Nat.zero_le _⟩ dX6_hidden_44 ?_
  refine y_i2l C dX6_hidden_47 ?_
  obtain ⟨σ9, hc, h⟩ := g_bd h
  refine y_callVv C (As := [.long (x8.toInt64)]) (rest := []) (hu := nM_0_0) (hc := (rfl : gCl[5]? = some (RX6, TX6, 49))) (hcell := obM_0) (lk_X6_373 C hR (by decide)) (ct_M_enters hc) rfl rfl (Nat.le_of_ble_eq_true rfl) ⟨Nat.zero_le _, Nat.zero_le _⟩ dX6_hidden_48 ?_
  refine y_lload_n C dX6_hidden_51 0 rfl rfl ?_
  replace h := Option.some.inj h; subst h
  exact y_lret C hQ ⟨Nat.zero_le _, Nat.zero_le _⟩ dX6_hidden_52
theorem ct_M_hidden {D : va_G} {dA : Nat → ClassId} {A : Nat → Prop} {s0 : State} {b0 : Nat} {l : Launch} {ad : Nat → Nat → Nat} {σ : g_S} {r : Int64} {σ1 : g_S} (h : mF_M_hidden σ = some (r, σ1)) : g_Met gCl D dA A s0 b0 l yX6_hidden cX6_hidden 3 (some .long) 7 (0, 0) (gM true) ad σ [.ref (ad 0 0)] (gM true) ad σ1 (some (.long r)) :=
  g_Met.of pl_X6 (Nat.le_of_ble_eq_true rfl) (fun X C hQ hR _ _ hL _ es eb => mw_M_hidden C hR hL h hQ)
theorem mj_M_pairs_78 {X : g_F} (C : g_M gCl X cX6_pairs RX6 (some .int)) (hR : g_R X = g_rm 8 0 0) (hL : g_nL X = 7) {ad : Nat → Nat → Nat} {σ : g_S} {v1 : Int32} {v2 : Int32} {v3 : Int32} {v5 : Int32} {v6 : Int32} {s0 : Int32} {o : ((Int32 × Int32 × Int32 × Int32 × Int32) ⊕ (Int32 × Int32 × Int32 × Int32))} (h : mJ_M_pairs_78 σ v1 v2 v3 v5 v6 s0 = some o) (kl : ∀ z, o = .inl z → g_Y gCl X (gM true) ad σ (0, 0) 32 [(0, .ref (ad 0 0)), (1, .int z.1), (2, .int z.2.1), (3, .int z.2.2.1), (4, .int z.2.2.2.1), (5, .int v5), (6, .int z.2.2.2.2)] []) (kx : ∀ z, o = .inr z → g_Y gCl X (gM true) ad σ (0, 0) 107 [(0, .ref (ad 0 0)), (1, .int z.1), (2, .int z.2.1), (3, .int z.2.2.1), (4, .int z.2.2.2), (5, .int v5)] []) : g_Y gCl X (gM true) ad σ (0, 0) 78 [(0, .ref (ad 0 0)), (1, .int v1), (2, .int v2), (3, .int v3), (5, .int v5), (6, .int v6)] [.int s0] := by
  unfold mJ_M_pairs_78 at h
  refine y_istore (vs1 := [(4, .int s0), (0, .ref (ad 0 0)), (1, .int v1), (2, .int v2), (3, .int v3), (5, .int v5), (6, .int v6)]) C rfl dX6_pairs_78 (g_lL hL rfl) rfl ?_
  obtain ⟨x5, hx5, h⟩ := g_lt h
  refine y_iinc (c := (1 : Int32)) (vs1 := [(1, .int x5), (4, .int s0), (0, .ref (ad 0 0)), (2, .int v2), (3, .int v3), (5, .int v5), (6, .int v6)]) C hx5 (by decide) dX6_pairs_80 2 rfl (g_lL hL rfl) rfl ?_
  refine y_iload_n C dX6_pairs_83 3 rfl rfl ?_
  refine y_aload_n C dX6_pairs_84 2 rfl rfl ?_
  refine y_aload_n C dX6_pairs_85 2 rfl rfl ?_
  refine gf_M_11 C dX6_pairs_86 ?_
  refine y_iload C dX6_pairs_89 5 rfl ?_
  refine y_iload C dX6_pairs_91 6 rfl ?_
  obtain ⟨x6, hc, h⟩ := g_bd h
  refine y_callV C (As := [.ref (ad 1 0), .int v5, .int v6]) (rest := [.int v2]) (hu := nM_0_0) (hc := (rfl : gCl[5]? = some (RX6, TX6, 49))) (hcell := obM_0) (lk_X6_344 C hR (by decide)) (ct_M_tellEachOther nM_1_0 hc) rfl rfl (Nat.le_of_ble_eq_true rfl) ⟨Nat.zero_le _, Nat.zero_le _⟩ dX6_pairs_93 ?_
  obtain ⟨x7, hc, h⟩ := g_bd h
  refine y_callS C (As := [.int x6]) (rest := [.int v2]) (lk_X6_154 C hR (by decide)) (ct_M_flag hc) rfl rfl (Nat.le_of_ble_eq_true rfl) ⟨Nat.zero_le _, Nat.zero_le _⟩ dX6_pairs_96 ?_
  refine y_iadd C dX6_pairs_99 ?_
  obtain ⟨x8, hx8, h⟩ := g_lt h
  refine y_istore_n (vs1 := [(2, .int x8), (1, .int x5), (4, .int s0), (0, .ref (ad 0 0)), (3, .int v3), (5, .int v5), (6, .int v6)]) C hx8 dX6_pairs_100 rfl (g_lL hL rfl) rfl ?_
  obtain ⟨x9, hx9, h⟩ := g_lt h
  refine y_iinc (c := (1 : Int32)) (vs1 := [(6, .int x9), (2, .int x8), (1, .int x5), (4, .int s0), (0, .ref (ad 0 0)), (3, .int v3), (5, .int v5)]) C hx9 (by decide) dX6_pairs_101 6 rfl (g_lL hL rfl) rfl ?_
  refine y_goto (tgt := 32) C dX6_pairs_104 rfl ?_
  refine y_sub (vs2 := [(0, .ref (ad 0 0)), (1, .int x5), (2, .int x8), (3, .int v3), (4, .int s0), (5, .int v5), (6, .int x9)]) [4, 2, 1, 5, 3, 6, 0] rfl ?_
  exact kl _ (Option.some.inj h).symm
theorem mj_M_pairs_66 {X : g_F} (C : g_M gCl X cX6_pairs RX6 (some .int)) (hR : g_R X = g_rm 8 0 0) (hL : g_nL X = 7) {ad : Nat → Nat → Nat} {σ : g_S} {v1 : Int32} {v2 : Int32} {v4 : Int32} {v5 : Int32} {v6 : Int32} {s0 : Int32} {o : ((Int32 × Int32 × Int32 × Int32 × Int32) ⊕ (Int32 × Int32 × Int32 × Int32))} (h : mJ_M_pairs_66 σ v1 v2 v4 v5 v6 s0 = some o) (kl : ∀ z, o = .inl z → g_Y gCl X (gM true) ad σ (0, 0) 32 [(0, .ref (ad 0 0)), (1, .int z.1), (2, .int z.2.1), (3, .int z.2.2.1), (4, .int z.2.2.2.1), (5, .int v5), (6, .int z.2.2.2.2)] []) (kx : ∀ z, o = .inr z → g_Y gCl X (gM true) ad σ (0, 0) 107 [(0, .ref (ad 0 0)), (1, .int z.1), (2, .int z.2.1), (3, .int z.2.2.1), (4, .int z.2.2.2), (5, .int v5)] []) : g_Y gCl X (gM true) ad σ (0, 0) 66 [(0, .ref (ad 0 0)), (1, .int v1), (2, .int v2), (4, .int v4), (5, .int v5), (6, .int v6)] [.int s0] := by
  unfold mJ_M_pairs_66 at h
  refine y_istore_n (vs1 := [(3, .int s0), (0, .ref (ad 0 0)), (1, .int v1), (2, .int v2), (4, .int v4), (5, .int v5), (6, .int v6)]) C rfl dX6_pairs_66 rfl (g_lL hL rfl) rfl ?_
  refine y_iload_n C dX6_pairs_67 2 rfl rfl ?_
  refine y_if_ne (tgt := 76) C dX6_pairs_68 rfl (fun hc => ?_) (fun hc => ?_)
  · replace h := g_if h hc
    refine y_iload C dX6_pairs_76 4 rfl ?_
    refine y_sub (vs2 := [(0, .ref (ad 0 0)), (1, .int v1), (2, .int v2), (3, .int s0), (5, .int v5), (6, .int v6)]) [1, 2, 3, 0, 5, 6] rfl ?_
    exact mj_M_pairs_78 C hR hL h kl kx
  · replace h := g_it h hc
    refine y_iload C dX6_pairs_71 6 rfl ?_
    refine y_goto (tgt := 78) C dX6_pairs_73 rfl ?_
    refine y_sub (vs2 := [(0, .ref (ad 0 0)), (1, .int v1), (2, .int v2), (3, .int s0), (5, .int v5), (6, .int v6)]) [1, 2, 3, 0, 5, 6] rfl ?_
    exact mj_M_pairs_78 C hR hL h kl kx
theorem ml_M_pairs_32 {X : g_F} (C : g_M gCl X cX6_pairs RX6 (some .int)) (hR : g_R X = g_rm 8 0 0) (hL : g_nL X = 7) {ad : Nat → Nat → Nat} {σ : g_S} {v5 : Int32} (n : Nat) (v : (Int32 × Int32 × Int32 × Int32 × Int32)) (e : (Int32 × Int32 × Int32 × Int32)) (h : g_lp (fun v => mB_M_pairs_32 σ v5 v.1 v.2.1 v.2.2.1 v.2.2.2.1 v.2.2.2.2) n v = some e) (kx : g_Y gCl X (gM true) ad σ (0, 0) 107 [(0, .ref (ad 0 0)), (1, .int e.1), (2, .int e.2.1), (3, .int e.2.2.1), (4, .int e.2.2.2), (5, .int v5)] []) : g_Y gCl X (gM true) ad σ (0, 0) 32 [(0, .ref (ad 0 0)), (1, .int v.1), (2, .int v.2.1), (3, .int v.2.2.1), (4, .int v.2.2.2.1), (5, .int v5), (6, .int v.2.2.2.2)] [] := by
  refine g_loop (P := fun v => g_Y gCl X (gM true) ad σ (0, 0) 32 [(0, .ref (ad 0 0)), (1, .int v.1), (2, .int v.2.1), (3, .int v.2.2.1), (4, .int v.2.2.2.1), (5, .int v5), (6, .int v.2.2.2.2)] []) (T := fun e => g_Y gCl X (gM true) ad σ (0, 0) 107 [(0, .ref (ad 0 0)), (1, .int e.1), (2, .int e.2.1), (3, .int e.2.2.1), (4, .int e.2.2.2), (5, .int v5)] []) ?_ n v e h kx
  clear h kx
  clear n v e
  intro v o h kl kx
  obtain ⟨v1, v2, v3, v4, v6⟩ := v
  have h : mB_M_pairs_32 σ v5 v1 v2 v3 v4 v6 = some o := h
  unfold mB_M_pairs_32 at h
  show g_Y gCl X (gM true) ad σ (0, 0) 32 [(0, .ref (ad 0 0)), (1, .int v1), (2, .int v2), (3, .int v3), (4, .int v4), (5, .int v5), (6, .int v6)] []
  refine y_iload C dX6_pairs_32 6 rfl ?_
  refine y_aload_n C dX6_pairs_34 0 rfl rfl ?_
  refine gf_M_5 C dX6_pairs_35 ?_
  refine y_icmp_ge (tgt := 107) C dX6_pairs_38 rfl (fun hc => ?_) (fun hc => ?_)
  · replace h := g_it h hc
    refine y_sub (vs2 := [(0, .ref (ad 0 0)), (1, .int v1), (2, .int v2), (3, .int v3), (4, .int v4), (5, .int v5)]) [0, 1, 2, 3, 4, 5] rfl ?_
    exact kx _ (Option.some.inj h).symm
  · replace h := g_if h hc
    refine y_aload_n C dX6_pairs_41 0 rfl rfl ?_
    refine y_aload_n C dX6_pairs_42 0 rfl rfl ?_
    refine gf_M_11 C dX6_pairs_43 ?_
    refine y_iload C dX6_pairs_46 5 rfl ?_
    refine y_iload C dX6_pairs_48 6 rfl ?_
    obtain ⟨x3, hc, h⟩ := g_bd h
    refine y_callV C (As := [.ref (ad 1 0), .int v5, .int v6]) (rest := []) (hu := nM_0_0) (hc := (rfl : gCl[5]? = some (RX6, TX6, 49))) (hcell := obM_0) (lk_X6_312 C hR (by decide)) (ct_M_seeEachOther nM_1_0 hc) rfl rfl (Nat.le_of_ble_eq_true rfl) ⟨Nat.zero_le _, Nat.zero_le _⟩ dX6_pairs_50 ?_
    refine y_if_eq (tgt := 101) C dX6_pairs_53 rfl (fun hc => ?_) (fun hc => ?_)
    · replace h := g_it h hc
      obtain ⟨x4, hx4, h⟩ := g_lt h
      refine y_iinc (c := (1 : Int32)) (vs1 := [(6, .int x4), (0, .ref (ad 0 0)), (1, .int v1), (2, .int v2), (3, .int v3), (4, .int v4), (5, .int v5)]) C hx4 (by decide) dX6_pairs_101 6 rfl (g_lL hL rfl) rfl ?_
      refine y_goto (tgt := 32) C dX6_pairs_104 rfl ?_
      refine y_sub (vs2 := [(0, .ref (ad 0 0)), (1, .int v1), (2, .int v2), (3, .int v3), (4, .int v4), (5, .int v5), (6, .int x4)]) [1, 2, 3, 4, 5, 6, 0] rfl ?_
      exact kl _ (Option.some.inj h).symm
    · replace h := g_if h hc
      refine y_iload_n C dX6_pairs_56 1 rfl rfl ?_
      refine y_if_ne (tgt := 65) C dX6_pairs_57 rfl (fun hc => ?_) (fun hc => ?_)
      · replace h := g_if h hc
        refine y_iload_n C dX6_pairs_65 3 rfl rfl ?_
        refine y_sub (vs2 := [(0, .ref (ad 0 0)), (1, .int v1), (2, .int v2), (4, .int v4), (5, .int v5), (6, .int v6)]) [0, 1, 2, 4, 5, 6] rfl ?_
        exact mj_M_pairs_66 C hR hL h kl kx
      · replace h := g_it h hc
        refine y_iload C dX6_pairs_60 5 rfl ?_
        refine y_goto (tgt := 66) C dX6_pairs_62 rfl ?_
        refine y_sub (vs2 := [(0, .ref (ad 0 0)), (1, .int v1), (2, .int v2), (4, .int v4), (5, .int v5), (6, .int v6)]) [0, 1, 2, 4, 5, 6] rfl ?_
        exact mj_M_pairs_66 C hR hL h kl kx
theorem ml_M_pairs_17 {X : g_F} (C : g_M gCl X cX6_pairs RX6 (some .int)) (hR : g_R X = g_rm 8 0 0) (hL : g_nL X = 7) {ad : Nat → Nat → Nat} {σ : g_S} (n : Nat) (v : (Int32 × Int32 × Int32 × Int32 × Int32)) (e : (Int32 × Int32 × Int32 × Int32)) (h : g_lp (fun v => mB_M_pairs_17 σ v.1 v.2.1 v.2.2.1 v.2.2.2.1 v.2.2.2.2) n v = some e) (kx : g_Y gCl X (gM true) ad σ (0, 0) 113 [(0, .ref (ad 0 0)), (1, .int e.1), (2, .int e.2.1), (3, .int e.2.2.1), (4, .int e.2.2.2)] []) : g_Y gCl X (gM true) ad σ (0, 0) 17 [(0, .ref (ad 0 0)), (1, .int v.1), (2, .int v.2.1), (3, .int v.2.2.1), (4, .int v.2.2.2.1), (5, .int v.2.2.2.2)] [] := by
  refine g_loop (P := fun v => g_Y gCl X (gM true) ad σ (0, 0) 17 [(0, .ref (ad 0 0)), (1, .int v.1), (2, .int v.2.1), (3, .int v.2.2.1), (4, .int v.2.2.2.1), (5, .int v.2.2.2.2)] []) (T := fun e => g_Y gCl X (gM true) ad σ (0, 0) 113 [(0, .ref (ad 0 0)), (1, .int e.1), (2, .int e.2.1), (3, .int e.2.2.1), (4, .int e.2.2.2)] []) ?_ n v e h kx
  clear h kx
  clear n v e
  intro v o h kl kx
  obtain ⟨v1, v2, v3, v4, v5⟩ := v
  have h : mB_M_pairs_17 σ v1 v2 v3 v4 v5 = some o := h
  unfold mB_M_pairs_17 at h
  show g_Y gCl X (gM true) ad σ (0, 0) 17 [(0, .ref (ad 0 0)), (1, .int v1), (2, .int v2), (3, .int v3), (4, .int v4), (5, .int v5)] []
  refine y_iload C dX6_pairs_17 5 rfl ?_
  refine y_aload_n C dX6_pairs_19 0 rfl rfl ?_
  refine gf_M_5 C dX6_pairs_20 ?_
  refine y_icmp_ge (tgt := 113) C dX6_pairs_23 rfl (fun hc => ?_) (fun hc => ?_)
  · replace h := g_it h hc
    refine y_sub (vs2 := [(0, .ref (ad 0 0)), (1, .int v1), (2, .int v2), (3, .int v3), (4, .int v4)]) [0, 1, 2, 3, 4] rfl ?_
    exact kx _ (Option.some.inj h).symm
  · replace h := g_if h hc
    refine y_iload C dX6_pairs_26 5 rfl ?_
    refine y_iconst (v := (1 : Int32)) C dX6_pairs_28 (by decide) ?_
    refine y_iadd C dX6_pairs_29 ?_
    obtain ⟨x2, hx2, h⟩ := g_lt h
    refine y_istore (vs1 := [(6, .int x2), (0, .ref (ad 0 0)), (1, .int v1), (2, .int v2), (3, .int v3), (4, .int v4), (5, .int v5)]) C hx2 dX6_pairs_30 (g_lL hL rfl) rfl ?_
    refine y_sub (vs2 := [(0, .ref (ad 0 0)), (1, .int v1), (2, .int v2), (3, .int v3), (4, .int v4), (5, .int v5), (6, .int x2)]) [1, 2, 3, 4, 5, 6, 0] rfl ?_
    obtain ⟨e10, he10, h⟩ := g_bd h
    refine ml_M_pairs_32 C hR hL (σ := σ) _ _ _ he10 ?_
    obtain ⟨x11, hx11, h⟩ := g_lt h
    refine y_iinc (c := (1 : Int32)) (vs1 := [(5, .int x11), (0, .ref (ad 0 0)), (1, .int e10.1), (2, .int e10.2.1), (3, .int e10.2.2.1), (4, .int e10.2.2.2)]) C hx11 (by decide) dX6_pairs_107 5 rfl (g_lL hL rfl) rfl ?_
    refine y_goto (tgt := 17) C dX6_pairs_110 rfl ?_
    refine y_sub (vs2 := [(0, .ref (ad 0 0)), (1, .int e10.1), (2, .int e10.2.1), (3, .int e10.2.2.1), (4, .int e10.2.2.2), (5, .int x11)]) [1, 2, 3, 4, 5, 0] rfl ?_
    exact kl _ (Option.some.inj h).symm
theorem mw_M_pairs {X : g_F} (C : g_M gCl X cX6_pairs RX6 (some .int)) (hR : g_R X = g_rm 8 0 0) (hL : g_nL X = 7) {ad : Nat → Nat → Nat} {σ : g_S} {o : (Int32 × g_S)} (h : mF_M_pairs σ = some o) (hQ : g_MQ gCl X (gM true) ad o.2 (some (.int o.1)) = g_Q X) : g_Y gCl X (gM true) ad σ (0, 0) 0 [(0, .ref (ad 0 0))] [] := by
  unfold mF_M_pairs at h
  refine y_aload_n C dX6_pairs_0 0 rfl rfl ?_
  refine y_iconst (v := (0 : Int32)) C dX6_pairs_1 (by decide) ?_
  obtain ⟨σ1, hσ1, h⟩ := g_lt h
  refine pf_M_0 C hσ1 dX6_pairs_2 ?_
  refine y_iconst (v := (0 : Int32)) C dX6_pairs_5 (by decide) ?_
  refine y_istore_n (vs1 := [(1, .int (0 : Int32)), (0, .ref (ad 0 0))]) C rfl dX6_pairs_6 rfl (g_lL hL rfl) rfl ?_
  refine y_iconst (v := (0 : Int32)) C dX6_pairs_7 (by decide) ?_
  refine y_istore_n (vs1 := [(2, .int (0 : Int32)), (1, .int (0 : Int32)), (0, .ref (ad 0 0))]) C rfl dX6_pairs_8 rfl (g_lL hL rfl) rfl ?_
  refine y_iconst (v := (-1 : Int32)) C dX6_pairs_9 (by decide) ?_
  refine y_istore_n (vs1 := [(3, .int (-1 : Int32)), (2, .int (0 : Int32)), (1, .int (0 : Int32)), (0, .ref (ad 0 0))]) C rfl dX6_pairs_10 rfl (g_lL hL rfl) rfl ?_
  refine y_iconst (v := (-1 : Int32)) C dX6_pairs_11 (by decide) ?_
  refine y_istore (vs1 := [(4, .int (-1 : Int32)), (3, .int (-1 : Int32)), (2, .int (0 : Int32)), (1, .int (0 : Int32)), (0, .ref (ad 0 0))]) C rfl dX6_pairs_12 (g_lL hL rfl) rfl ?_
  refine y_iconst (v := (0 : Int32)) C dX6_pairs_14 (by decide) ?_
  refine y_istore (vs1 := [(5, .int (0 : Int32)), (4, .int (-1 : Int32)), (3, .int (-1 : Int32)), (2, .int (0 : Int32)), (1, .int (0 : Int32)), (0, .ref (ad 0 0))]) C rfl dX6_pairs_15 (g_lL hL rfl) rfl ?_
  refine y_sub (vs2 := [(0, .ref (ad 0 0)), (1, .int (0 : Int32)), (2, .int (0 : Int32)), (3, .int (-1 : Int32)), (4, .int (-1 : Int32)), (5, .int (0 : Int32))]) [5, 4, 3, 2, 1, 0] rfl ?_
  obtain ⟨e12, he12, h⟩ := g_bd h
  refine ml_M_pairs_17 C hR hL (σ := σ1) _ _ _ he12 ?_
  refine y_aload_n C dX6_pairs_113 0 rfl rfl ?_
  refine y_iconst (v := (0 : Int32)) C dX6_pairs_114 (by decide) ?_
  obtain ⟨σ13, hσ13, h⟩ := g_lt h
  refine pf_M_1 C hσ13 dX6_pairs_115 ?_
  refine y_aload_n C dX6_pairs_118 0 rfl rfl ?_
  refine y_iload_n C dX6_pairs_119 2 rfl rfl ?_
  refine y_i2l C dX6_pairs_120 ?_
  obtain ⟨σ14, hc, h⟩ := g_bd h
  refine y_callVv C (As := [.long (e12.2.1.toInt64)]) (rest := []) (hu := nM_0_0) (hc := (rfl : gCl[5]? = some (RX6, TX6, 49))) (hcell := obM_0) (lk_X6_373 C hR (by decide)) (ct_M_enters hc) rfl rfl (Nat.le_of_ble_eq_true rfl) ⟨Nat.zero_le _, Nat.zero_le _⟩ dX6_pairs_121 ?_
  refine y_iload_n C dX6_pairs_124 1 rfl rfl ?_
  refine y_if_le (tgt := 141) C dX6_pairs_125 rfl (fun hc => ?_) (fun hc => ?_)
  · replace h := g_it h hc
    refine y_iload_n C dX6_pairs_141 1 rfl rfl ?_
    replace h := Option.some.inj h; subst h
    exact y_iret C hQ ⟨Nat.zero_le _, Nat.zero_le _⟩ dX6_pairs_142
  · replace h := g_if h hc
    refine y_aload_n C dX6_pairs_128 0 rfl rfl ?_
    refine y_iload_n C dX6_pairs_129 3 rfl rfl ?_
    refine y_i2l C dX6_pairs_130 ?_
    obtain ⟨σ15, hc, h⟩ := g_bd h
    refine y_callVv C (As := [.long (e12.2.2.1.toInt64)]) (rest := []) (hu := nM_0_0) (hc := (rfl : gCl[5]? = some (RX6, TX6, 49))) (hcell := obM_0) (lk_X6_373 C hR (by decide)) (ct_M_enters hc) rfl rfl (Nat.le_of_ble_eq_true rfl) ⟨Nat.zero_le _, Nat.zero_le _⟩ dX6_pairs_131 ?_
    refine y_aload_n C dX6_pairs_134 0 rfl rfl ?_
    refine y_iload C dX6_pairs_135 4 rfl ?_
    refine y_i2l C dX6_pairs_137 ?_
    obtain ⟨σ16, hc, h⟩ := g_bd h
    refine y_callVv C (As := [.long (e12.2.2.2.toInt64)]) (rest := []) (hu := nM_0_0) (hc := (rfl : gCl[5]? = some (RX6, TX6, 49))) (hcell := obM_0) (lk_X6_373 C hR (by decide)) (ct_M_enters hc) rfl rfl (Nat.le_of_ble_eq_true rfl) ⟨Nat.zero_le _, Nat.zero_le _⟩ dX6_pairs_138 ?_
    refine y_iload_n C dX6_pairs_141 1 rfl rfl ?_
    replace h := Option.some.inj h; subst h
    exact y_iret C hQ ⟨Nat.zero_le _, Nat.zero_le _⟩ dX6_pairs_142
theorem ct_M_pairs {D : va_G} {dA : Nat → ClassId} {A : Nat → Prop} {s0 : State} {b0 : Nat} {l : Launch} {ad : Nat → Nat → Nat} {σ : g_S} {r : Int32} {σ1 : g_S} (h : mF_M_pairs σ = some (r, σ1)) : g_Met gCl D dA A s0 b0 l yX6_pairs cX6_pairs 7 (some .int) 8 (0, 0) (gM true) ad σ [.ref (ad 0 0)] (gM true) ad σ1 (some (.int r)) :=
  g_Met.of pl_X6 (Nat.le_of_ble_eq_true rfl) (fun X C hQ hR _ _ hL _ es eb => mw_M_pairs C hR hL h hQ)
theorem mw_M_behind {X : g_F} (C : g_M gCl X cX6_behind RX6 (some .int)) (hR : g_R X = g_rm 7 0 0) (hL : g_nL X = 3) {ad : Nat → Nat → Nat} {σ : g_S} {v1 : Int32} {o : (Int32 × g_S)} (h : mF_M_behind σ v1 = some o) (hQ : g_MQ gCl X (gM true) ad o.2 (some (.int o.1)) = g_Q X) : g_Y gCl X (gM true) ad σ (0, 0) 0 [(0, .ref (ad 0 0)), (1, .int v1)] [] := by
  unfold mF_M_behind at h
  refine y_aload_n C dX6_behind_0 0 rfl rfl ?_
  refine y_iconst (v := (0 : Int32)) C dX6_behind_1 (by decide) ?_
  obtain ⟨σ1, hσ1, h⟩ := g_lt h
  refine pf_M_0 C hσ1 dX6_behind_2 ?_
  refine y_aload_n C dX6_behind_5 0 rfl rfl ?_
  refine y_iload_n C dX6_behind_6 1 rfl rfl ?_
  obtain ⟨x2, hc, h⟩ := g_bd h
  refine y_callV C (As := [.int v1]) (rest := []) (hu := nM_0_0) (hc := (rfl : gCl[5]? = some (RX6, TX6, 49))) (hcell := obM_0) (lk_X6_315 C hR (by decide)) (ct_M_isPerson hc) rfl rfl (Nat.le_of_ble_eq_true rfl) ⟨Nat.zero_le _, Nat.zero_le _⟩ dX6_behind_7 ?_
  refine y_if_ne (tgt := 15) C dX6_behind_10 rfl (fun hc => ?_) (fun hc => ?_)
  · replace h := g_if h hc
    refine y_aload_n C dX6_behind_15 0 rfl rfl ?_
    refine y_aload_n C dX6_behind_16 0 rfl rfl ?_
    refine gf_M_11 C dX6_behind_17 ?_
    refine y_aload_n C dX6_behind_20 0 rfl rfl ?_
    refine gf_M_11 C dX6_behind_21 ?_
    refine y_iload_n C dX6_behind_24 1 rfl rfl ?_
    obtain ⟨hg, h⟩ := g_gd h
    refine al_M_1 C nM_1_0 hg dX6_behind_25 ?_
    obtain ⟨x3, hc, h⟩ := g_bd h
    refine y_callV C (As := [.ref (ad 1 0), .int (σ1.1 1 0 v1.toNatClampNeg)]) (rest := []) (hu := nM_0_0) (hc := (rfl : gCl[5]? = some (RX6, TX6, 49))) (hcell := obM_0) (lk_X6_336 C hR (by decide)) (ct_M_whoSees nM_1_0 hc) rfl rfl (Nat.le_of_ble_eq_true rfl) ⟨Nat.zero_le _, Nat.zero_le _⟩ dX6_behind_26 ?_
    refine y_aload_n C dX6_behind_29 0 rfl rfl ?_
    refine y_aload_n C dX6_behind_30 0 rfl rfl ?_
    refine gf_M_11 C dX6_behind_31 ?_
    refine y_aload_n C dX6_behind_34 0 rfl rfl ?_
    refine y_aload_n C dX6_behind_35 0 rfl rfl ?_
    refine gf_M_11 C dX6_behind_36 ?_
    refine y_iload_n C dX6_behind_39 1 rfl rfl ?_
    obtain ⟨x4, hc, h⟩ := g_bd h
    refine y_callV C (As := [.ref (ad 1 0), .int v1]) (rest := [.ref (ad 1 0), .ref (ad 0 0), .int x3]) (hu := nM_0_0) (hc := (rfl : gCl[5]? = some (RX6, TX6, 49))) (hcell := obM_0) (lk_X6_300 C hR (by decide)) (ct_M_fieldsSeen nM_1_0 hc) rfl rfl (Nat.le_of_ble_eq_true rfl) ⟨Nat.zero_le _, Nat.zero_le _⟩ dX6_behind_40 ?_
    obtain ⟨x5, hc, h⟩ := g_bd h
    refine y_callV C (As := [.ref (ad 1 0), .long x4]) (rest := [.int x3]) (hu := nM_0_0) (hc := (rfl : gCl[5]? = some (RX6, TX6, 49))) (hcell := obM_0) (lk_X6_410 C hR (by decide)) (ct_M_peopleOn nM_1_0 hc) rfl rfl (Nat.le_of_ble_eq_true rfl) ⟨Nat.zero_le _, Nat.zero_le _⟩ dX6_behind_43 ?_
    refine y_iconst (v := (-1 : Int32)) C dX6_behind_46 (by decide) ?_
    refine y_ixor C dX6_behind_47 ?_
    refine y_iand C dX6_behind_48 ?_
    obtain ⟨x6, hx6, h⟩ := g_lt h
    refine y_istore_n (vs1 := [(2, .int x6), (0, .ref (ad 0 0)), (1, .int v1)]) C hx6 dX6_behind_49 rfl (g_lL hL rfl) rfl ?_
    refine y_aload_n C dX6_behind_50 1 rfl rfl ?_
    refine y_iconst (v := (0 : Int32)) C dX6_behind_51 (by decide) ?_
    obtain ⟨σ7, hσ7, h⟩ := g_lt h
    refine pf_M_1 C hσ7 dX6_behind_52 ?_
    refine y_aload_n C dX6_behind_55 1 rfl rfl ?_
    refine y_iload_n C dX6_behind_56 0 rfl rfl ?_
    obtain ⟨x8, hc, h⟩ := g_bd h
    refine y_callS C (As := [.int x6]) (rest := [.ref (ad 0 0)]) (lk_X6_265 C hR (by decide)) (ct_J8_bitCount hc) rfl rfl (Nat.le_of_ble_eq_true rfl) ⟨Nat.zero_le _, Nat.zero_le _⟩ dX6_behind_57 ?_
    refine y_i2l C dX6_behind_60 ?_
    obtain ⟨σ9, hc, h⟩ := g_bd h
    refine y_callVv C (As := [.long (x8.toInt64)]) (rest := []) (hu := nM_0_0) (hc := (rfl : gCl[5]? = some (RX6, TX6, 49))) (hcell := obM_0) (lk_X6_373 C hR (by decide)) (ct_M_enters hc) rfl rfl (Nat.le_of_ble_eq_true rfl) ⟨Nat.zero_le _, Nat.zero_le _⟩ dX6_behind_61 ?_
    refine y_iload_n C dX6_behind_64 0 rfl rfl ?_
    replace h := Option.some.inj h; subst h
    exact y_iret C hQ ⟨Nat.zero_le _, Nat.zero_le _⟩ dX6_behind_65
  · replace h := g_it h hc
    refine y_iconst (v := (-1 : Int32)) C dX6_behind_13 (by decide) ?_
    replace h := Option.some.inj h; subst h
    exact y_iret C hQ ⟨Nat.zero_le _, Nat.zero_le _⟩ dX6_behind_14
theorem ct_M_behind {D : va_G} {dA : Nat → ClassId} {A : Nat → Prop} {s0 : State} {b0 : Nat} {l : Launch} {ad : Nat → Nat → Nat} {σ : g_S} {v1 : Int32} {r : Int32} {σ1 : g_S} (h : mF_M_behind σ v1 = some (r, σ1)) : g_Met gCl D dA A s0 b0 l yX6_behind cX6_behind 3 (some .int) 7 (0, 0) (gM true) ad σ [.ref (ad 0 0), .int v1] (gM true) ad σ1 (some (.int r)) :=
  g_Met.of pl_X6 (Nat.le_of_ble_eq_true rfl) (fun X C hQ hR _ _ hL _ es eb => mw_M_behind C hR hL h hQ)
theorem mj_M_widest_65 {X : g_F} (C : g_M gCl X cX6_widest RX6 (some .int)) (hR : g_R X = g_rm 6 0 0) (hL : g_nL X = 5) {ad : Nat → Nat → Nat} {σ : g_S} {v2 : Int32} {v3 : Int32} {v4 : Int32} {s0 : Int32} {o : ((Int32 × Int32 × Int32) ⊕ (Int32 × Int32))} (h : mJ_M_widest_65 σ v2 v3 v4 s0 = some o) (kl : ∀ z, o = .inl z → g_Y gCl X (gM true) ad σ (0, 0) 21 [(0, .ref (ad 0 0)), (1, .int z.1), (2, .int z.2.1), (3, .int z.2.2)] []) (kx : ∀ z, o = .inr z → g_Y gCl X (gM true) ad σ (0, 0) 95 [(0, .ref (ad 0 0)), (1, .int z.1), (2, .int z.2)] []) : g_Y gCl X (gM true) ad σ (0, 0) 65 [(0, .ref (ad 0 0)), (2, .int v2), (3, .int v3), (4, .int v4)] [.int s0] := by
  unfold mJ_M_widest_65 at h
  refine y_istore_n (vs1 := [(1, .int s0), (0, .ref (ad 0 0)), (2, .int v2), (3, .int v3), (4, .int v4)]) C rfl dX6_widest_65 rfl (g_lL hL rfl) rfl ?_
  refine y_iload C dX6_widest_66 4 rfl ?_
  refine y_aload_n C dX6_widest_68 1 rfl rfl ?_
  refine y_aload_n C dX6_widest_69 1 rfl rfl ?_
  refine gf_M_11 C dX6_widest_70 ?_
  refine y_iload_n C dX6_widest_73 2 rfl rfl ?_
  obtain ⟨x6, hc, h⟩ := g_bd h
  refine y_callV C (As := [.ref (ad 1 0), .int v2]) (rest := [.int v4]) (hu := nM_0_0) (hc := (rfl : gCl[5]? = some (RX6, TX6, 49))) (hcell := obM_0) (lk_X6_300 C hR (by decide)) (ct_M_fieldsSeen nM_1_0 hc) rfl rfl (Nat.le_of_ble_eq_true rfl) ⟨Nat.zero_le _, Nat.zero_le _⟩ dX6_widest_74 ?_
  obtain ⟨x7, hc, h⟩ := g_bd h
  refine y_callS C (As := [.long x6]) (rest := [.int v4]) (lk_X6_405 C hR (by decide)) (ct_J12_bitCount hc) rfl rfl (Nat.le_of_ble_eq_true rfl) ⟨Nat.zero_le _, Nat.zero_le _⟩ dX6_widest_77 ?_
  refine y_icmp_ge (tgt := 87) C dX6_widest_80 rfl (fun hc => ?_) (fun hc => ?_)
  · replace h := g_it h hc
    refine y_iload_n C dX6_widest_87 2 rfl rfl ?_
    refine y_istore_n (vs1 := [(2, .int v2), (1, .int s0), (0, .ref (ad 0 0)), (3, .int v3), (4, .int v4)]) C rfl dX6_widest_88 rfl (g_lL hL rfl) rfl ?_
    obtain ⟨x8, hx8, h⟩ := g_lt h
    refine y_iinc (c := (1 : Int32)) (vs1 := [(3, .int x8), (2, .int v2), (1, .int s0), (0, .ref (ad 0 0)), (4, .int v4)]) C hx8 (by decide) dX6_widest_89 3 rfl (g_lL hL rfl) rfl ?_
    refine y_goto (tgt := 21) C dX6_widest_92 rfl ?_
    refine y_sub (vs2 := [(0, .ref (ad 0 0)), (1, .int s0), (2, .int v2), (3, .int x8)]) [3, 2, 1, 0] rfl ?_
    exact kl _ (Option.some.inj h).symm
  · replace h := g_if h hc
    refine y_iload_n C dX6_widest_83 3 rfl rfl ?_
    refine y_goto (tgt := 88) C dX6_widest_84 rfl ?_
    refine y_istore_n (vs1 := [(2, .int v3), (1, .int s0), (0, .ref (ad 0 0)), (3, .int v3), (4, .int v4)]) C rfl dX6_widest_88 rfl (g_lL hL rfl) rfl ?_
    obtain ⟨x9, hx9, h⟩ := g_lt h
    refine y_iinc (c := (1 : Int32)) (vs1 := [(3, .int x9), (2, .int v3), (1, .int s0), (0, .ref (ad 0 0)), (4, .int v4)]) C hx9 (by decide) dX6_widest_89 3 rfl (g_lL hL rfl) rfl ?_
    refine y_goto (tgt := 21) C dX6_widest_92 rfl ?_
    refine y_sub (vs2 := [(0, .ref (ad 0 0)), (1, .int s0), (2, .int v3), (3, .int x9)]) [3, 2, 1, 0] rfl ?_
    exact kl _ (Option.some.inj h).symm
theorem ml_M_widest_21 {X : g_F} (C : g_M gCl X cX6_widest RX6 (some .int)) (hR : g_R X = g_rm 6 0 0) (hL : g_nL X = 5) {ad : Nat → Nat → Nat} {σ : g_S} (n : Nat) (v : (Int32 × Int32 × Int32)) (e : (Int32 × Int32)) (h : g_lp (fun v => mB_M_widest_21 σ v.1 v.2.1 v.2.2) n v = some e) (kx : g_Y gCl X (gM true) ad σ (0, 0) 95 [(0, .ref (ad 0 0)), (1, .int e.1), (2, .int e.2)] []) : g_Y gCl X (gM true) ad σ (0, 0) 21 [(0, .ref (ad 0 0)), (1, .int v.1), (2, .int v.2.1), (3, .int v.2.2)] [] := by
  refine g_loop (P := fun v => g_Y gCl X (gM true) ad σ (0, 0) 21 [(0, .ref (ad 0 0)), (1, .int v.1), (2, .int v.2.1), (3, .int v.2.2)] []) (T := fun e => g_Y gCl X (gM true) ad σ (0, 0) 95 [(0, .ref (ad 0 0)), (1, .int e.1), (2, .int e.2)] []) ?_ n v e h kx
  clear h kx
  clear n v e
  intro v o h kl kx
  obtain ⟨v1, v2, v3⟩ := v
  have h : mB_M_widest_21 σ v1 v2 v3 = some o := h
  unfold mB_M_widest_21 at h
  show g_Y gCl X (gM true) ad σ (0, 0) 21 [(0, .ref (ad 0 0)), (1, .int v1), (2, .int v2), (3, .int v3)] []
  refine y_iload_n C dX6_widest_21 3 rfl rfl ?_
  refine y_aload_n C dX6_widest_22 0 rfl rfl ?_
  refine gf_M_5 C dX6_widest_23 ?_
  refine y_icmp_ge (tgt := 95) C dX6_widest_26 rfl (fun hc => ?_) (fun hc => ?_)
  · replace h := g_it h hc
    refine y_sub (vs2 := [(0, .ref (ad 0 0)), (1, .int v1), (2, .int v2)]) [0, 1, 2] rfl ?_
    exact kx _ (Option.some.inj h).symm
  · replace h := g_if h hc
    refine y_aload_n C dX6_widest_29 0 rfl rfl ?_
    refine y_aload_n C dX6_widest_30 0 rfl rfl ?_
    refine gf_M_11 C dX6_widest_31 ?_
    refine y_iload_n C dX6_widest_34 3 rfl rfl ?_
    obtain ⟨x2, hc, h⟩ := g_bd h
    refine y_callV C (As := [.ref (ad 1 0), .int v3]) (rest := []) (hu := nM_0_0) (hc := (rfl : gCl[5]? = some (RX6, TX6, 49))) (hcell := obM_0) (lk_X6_300 C hR (by decide)) (ct_M_fieldsSeen nM_1_0 hc) rfl rfl (Nat.le_of_ble_eq_true rfl) ⟨Nat.zero_le _, Nat.zero_le _⟩ dX6_widest_35 ?_
    obtain ⟨x3, hc, h⟩ := g_bd h
    refine y_callS C (As := [.long x2]) (rest := []) (lk_X6_405 C hR (by decide)) (ct_J12_bitCount hc) rfl rfl (Nat.le_of_ble_eq_true rfl) ⟨Nat.zero_le _, Nat.zero_le _⟩ dX6_widest_38 ?_
    refine y_istore (vs1 := [(4, .int x3), (0, .ref (ad 0 0)), (1, .int v1), (2, .int v2), (3, .int v3)]) C rfl dX6_widest_41 (g_lL hL rfl) rfl ?_
    refine y_iload C dX6_widest_43 0 rfl ?_
    refine y_aload_n C dX6_widest_45 1 rfl rfl ?_
    refine y_aload_n C dX6_widest_46 1 rfl rfl ?_
    refine gf_M_11 C dX6_widest_47 ?_
    refine y_iload_n C dX6_widest_50 2 rfl rfl ?_
    obtain ⟨x4, hc, h⟩ := g_bd h
    refine y_callV C (As := [.ref (ad 1 0), .int v1]) (rest := [.int x3]) (hu := nM_0_0) (hc := (rfl : gCl[5]? = some (RX6, TX6, 49))) (hcell := obM_0) (lk_X6_300 C hR (by decide)) (ct_M_fieldsSeen nM_1_0 hc) rfl rfl (Nat.le_of_ble_eq_true rfl) ⟨Nat.zero_le _, Nat.zero_le _⟩ dX6_widest_51 ?_
    obtain ⟨x5, hc, h⟩ := g_bd h
    refine y_callS C (As := [.long x4]) (rest := [.int x3]) (lk_X6_405 C hR (by decide)) (ct_J12_bitCount hc) rfl rfl (Nat.le_of_ble_eq_true rfl) ⟨Nat.zero_le _, Nat.zero_le _⟩ dX6_widest_54 ?_
    refine y_icmp_le (tgt := 64) C dX6_widest_57 rfl (fun hc => ?_) (fun hc => ?_)
    · replace h := g_it h hc
      refine y_iload_n C dX6_widest_64 2 rfl rfl ?_
      refine y_sub (vs2 := [(0, .ref (ad 0 0)), (2, .int v2), (3, .int v3), (4, .int x3)]) [1, 3, 4, 0] rfl ?_
      exact mj_M_widest_65 C hR hL h kl kx
    · replace h := g_if h hc
      refine y_iload_n C dX6_widest_60 4 rfl rfl ?_
      refine y_goto (tgt := 65) C dX6_widest_61 rfl ?_
      refine y_sub (vs2 := [(0, .ref (ad 0 0)), (2, .int v2), (3, .int v3), (4, .int x3)]) [1, 3, 4, 0] rfl ?_
      exact mj_M_widest_65 C hR hL h kl kx
theorem mw_M_widest {X : g_F} (C : g_M gCl X cX6_widest RX6 (some .int)) (hR : g_R X = g_rm 6 0 0) (hL : g_nL X = 5) {ad : Nat → Nat → Nat} {σ : g_S} {o : (Int32 × g_S)} (h : mF_M_widest σ = some o) (hQ : g_MQ gCl X (gM true) ad o.2 (some (.int o.1)) = g_Q X) : g_Y gCl X (gM true) ad σ (0, 0) 0 [(0, .ref (ad 0 0))] [] := by
  unfold mF_M_widest at h
  refine y_aload_n C dX6_widest_0 0 rfl rfl ?_
  refine y_iconst (v := (0 : Int32)) C dX6_widest_1 (by decide) ?_
  obtain ⟨σ1, hσ1, h⟩ := g_lt h
  refine pf_M_0 C hσ1 dX6_widest_2 ?_
  refine y_aload_n C dX6_widest_5 0 rfl rfl ?_
  refine gf_M_5 C dX6_widest_6 ?_
  refine y_if_ne (tgt := 15) C dX6_widest_9 rfl (fun hc => ?_) (fun hc => ?_)
  · replace h := g_if h hc
    refine y_iconst (v := (0 : Int32)) C dX6_widest_15 (by decide) ?_
    refine y_istore_n (vs1 := [(1, .int (0 : Int32)), (0, .ref (ad 0 0))]) C rfl dX6_widest_16 rfl (g_lL hL rfl) rfl ?_
    refine y_iconst (v := (0 : Int32)) C dX6_widest_17 (by decide) ?_
    refine y_istore_n (vs1 := [(2, .int (0 : Int32)), (1, .int (0 : Int32)), (0, .ref (ad 0 0))]) C rfl dX6_widest_18 rfl (g_lL hL rfl) rfl ?_
    refine y_iconst (v := (1 : Int32)) C dX6_widest_19 (by decide) ?_
    refine y_istore_n (vs1 := [(3, .int (1 : Int32)), (2, .int (0 : Int32)), (1, .int (0 : Int32)), (0, .ref (ad 0 0))]) C rfl dX6_widest_20 rfl (g_lL hL rfl) rfl ?_
    refine y_sub (vs2 := [(0, .ref (ad 0 0)), (1, .int (0 : Int32)), (2, .int (0 : Int32)), (3, .int (1 : Int32))]) [3, 2, 1, 0] rfl ?_
    obtain ⟨e10, he10, h⟩ := g_bd h
    refine ml_M_widest_21 C hR hL (σ := σ1) _ _ _ he10 ?_
    refine y_aload_n C dX6_widest_95 0 rfl rfl ?_
    refine y_iconst (v := (0 : Int32)) C dX6_widest_96 (by decide) ?_
    obtain ⟨σ11, hσ11, h⟩ := g_lt h
    refine pf_M_1 C hσ11 dX6_widest_97 ?_
    refine y_aload_n C dX6_widest_100 0 rfl rfl ?_
    refine y_aload_n C dX6_widest_101 0 rfl rfl ?_
    refine y_aload_n C dX6_widest_102 0 rfl rfl ?_
    refine gf_M_11 C dX6_widest_103 ?_
    refine y_iload_n C dX6_widest_106 1 rfl rfl ?_
    obtain ⟨x12, hc, h⟩ := g_bd h
    refine y_callV C (As := [.ref (ad 1 0), .int e10.1]) (rest := [.ref (ad 0 0)]) (hu := nM_0_0) (hc := (rfl : gCl[5]? = some (RX6, TX6, 49))) (hcell := obM_0) (lk_X6_300 C hR (by decide)) (ct_M_fieldsSeen nM_1_0 hc) rfl rfl (Nat.le_of_ble_eq_true rfl) ⟨Nat.zero_le _, Nat.zero_le _⟩ dX6_widest_107 ?_
    obtain ⟨x13, hc, h⟩ := g_bd h
    refine y_callS C (As := [.long x12]) (rest := [.ref (ad 0 0)]) (lk_X6_405 C hR (by decide)) (ct_J12_bitCount hc) rfl rfl (Nat.le_of_ble_eq_true rfl) ⟨Nat.zero_le _, Nat.zero_le _⟩ dX6_widest_110 ?_
    refine y_i2l C dX6_widest_113 ?_
    obtain ⟨σ14, hc, h⟩ := g_bd h
    refine y_callVv C (As := [.long (x13.toInt64)]) (rest := []) (hu := nM_0_0) (hc := (rfl : gCl[5]? = some (RX6, TX6, 49))) (hcell := obM_0) (lk_X6_373 C hR (by decide)) (ct_M_enters hc) rfl rfl (Nat.le_of_ble_eq_true rfl) ⟨Nat.zero_le _, Nat.zero_le _⟩ dX6_widest_114 ?_
    refine y_aload_n C dX6_widest_117 0 rfl rfl ?_
    refine y_iload_n C dX6_widest_118 2 rfl rfl ?_
    refine y_i2l C dX6_widest_119 ?_
    obtain ⟨σ15, hc, h⟩ := g_bd h
    refine y_callVv C (As := [.long (e10.2.toInt64)]) (rest := []) (hu := nM_0_0) (hc := (rfl : gCl[5]? = some (RX6, TX6, 49))) (hcell := obM_0) (lk_X6_373 C hR (by decide)) (ct_M_enters hc) rfl rfl (Nat.le_of_ble_eq_true rfl) ⟨Nat.zero_le _, Nat.zero_le _⟩ dX6_widest_120 ?_
    refine y_aload_n C dX6_widest_123 0 rfl rfl ?_
    refine y_aload_n C dX6_widest_124 0 rfl rfl ?_
    refine y_aload_n C dX6_widest_125 0 rfl rfl ?_
    refine gf_M_11 C dX6_widest_126 ?_
    refine y_iload_n C dX6_widest_129 2 rfl rfl ?_
    obtain ⟨x16, hc, h⟩ := g_bd h
    refine y_callV C (As := [.ref (ad 1 0), .int e10.2]) (rest := [.ref (ad 0 0)]) (hu := nM_0_0) (hc := (rfl : gCl[5]? = some (RX6, TX6, 49))) (hcell := obM_0) (lk_X6_300 C hR (by decide)) (ct_M_fieldsSeen nM_1_0 hc) rfl rfl (Nat.le_of_ble_eq_true rfl) ⟨Nat.zero_le _, Nat.zero_le _⟩ dX6_widest_130 ?_
    obtain ⟨x17, hc, h⟩ := g_bd h
    refine y_callS C (As := [.long x16]) (rest := [.ref (ad 0 0)]) (lk_X6_405 C hR (by decide)) (ct_J12_bitCount hc) rfl rfl (Nat.le_of_ble_eq_true rfl) ⟨Nat.zero_le _, Nat.zero_le _⟩ dX6_widest_133 ?_
    refine y_i2l C dX6_widest_136 ?_
    obtain ⟨σ18, hc, h⟩ := g_bd h
    refine y_callVv C (As := [.long (x17.toInt64)]) (rest := []) (hu := nM_0_0) (hc := (rfl : gCl[5]? = some (RX6, TX6, 49))) (hcell := obM_0) (lk_X6_373 C hR (by decide)) (ct_M_enters hc) rfl rfl (Nat.le_of_ble_eq_true rfl) ⟨Nat.zero_le _, Nat.zero_le _⟩ dX6_widest_137 ?_
    refine y_iload_n C dX6_widest_140 1 rfl rfl ?_
    replace h := Option.some.inj h; subst h
    exact y_iret C hQ ⟨Nat.zero_le _, Nat.zero_le _⟩ dX6_widest_141
  · replace h := g_it h hc
    refine y_bipush (v := (-2 : Int32)) C dX6_widest_12 (by decide) ?_
    replace h := Option.some.inj h; subst h
    exact y_iret C hQ ⟨Nat.zero_le _, Nat.zero_le _⟩ dX6_widest_14
theorem ct_M_widest {D : va_G} {dA : Nat → ClassId} {A : Nat → Prop} {s0 : State} {b0 : Nat} {l : Launch} {ad : Nat → Nat → Nat} {σ : g_S} {r : Int32} {σ1 : g_S} (h : mF_M_widest σ = some (r, σ1)) : g_Met gCl D dA A s0 b0 l yX6_widest cX6_widest 5 (some .int) 6 (0, 0) (gM true) ad σ [.ref (ad 0 0)] (gM true) ad σ1 (some (.int r)) :=
  g_Met.of pl_X6 (Nat.le_of_ble_eq_true rfl) (fun X C hQ hR _ _ hL _ es eb => mw_M_widest C hR hL h hQ)
theorem mw_M_isFewer {X : g_F} {LM : g_L} (C : g_M gCl X cX6_isFewer RX6 (some .boolean)) (hR : g_R X = g_rm 2 0 0) (hL : g_nL X = 2) {ad : Nat → Nat → Nat} {σ : g_S} {v0 : Int32} {v1 : Int32} {o : Int32} (h : mF_M_isFewer v0 v1 = some o) (hQ : g_MQ gCl X LM ad σ (some (.int o)) = g_Q X) : g_Y gCl X LM ad σ (0, 0) 0 [(0, .int v0), (1, .int v1)] [] := by
  unfold mF_M_isFewer at h
  refine y_iload_n C dX6_isFewer_0 1 rfl rfl ?_
  refine y_if_lt (tgt := 15) C dX6_isFewer_1 rfl (fun hc => ?_) (fun hc => ?_)
  · replace h := g_it h hc
    refine y_iconst (v := (1 : Int32)) C dX6_isFewer_15 (by decide) ?_
    refine y_goto (tgt := 20) C dX6_isFewer_16 rfl ?_
    replace h := Option.some.inj h; subst h
    exact y_zret C (by decide) hQ ⟨Nat.zero_le _, Nat.zero_le _⟩ dX6_isFewer_20
  · replace h := g_if h hc
    refine y_iload_n C dX6_isFewer_4 0 rfl rfl ?_
    obtain ⟨x1, hc, h⟩ := g_bd h
    refine y_callS C (As := [.int v0]) (rest := []) (lk_X6_265 C hR (by decide)) (ct_J8_bitCount hc) rfl rfl (Nat.le_of_ble_eq_true rfl) ⟨Nat.zero_le _, Nat.zero_le _⟩ dX6_isFewer_5 ?_
    refine y_iload_n C dX6_isFewer_8 1 rfl rfl ?_
    obtain ⟨x2, hc, h⟩ := g_bd h
    refine y_callS C (As := [.int v1]) (rest := [.int x1]) (lk_X6_265 C hR (by decide)) (ct_J8_bitCount hc) rfl rfl (Nat.le_of_ble_eq_true rfl) ⟨Nat.zero_le _, Nat.zero_le _⟩ dX6_isFewer_9 ?_
    refine y_icmp_ge (tgt := 19) C dX6_isFewer_12 rfl (fun hc => ?_) (fun hc => ?_)
    · replace h := g_it h hc
      refine y_iconst (v := (0 : Int32)) C dX6_isFewer_19 (by decide) ?_
      replace h := Option.some.inj h; subst h
      exact y_zret C (by decide) hQ ⟨Nat.zero_le _, Nat.zero_le _⟩ dX6_isFewer_20
    · replace h := g_if h hc
      refine y_iconst (v := (1 : Int32)) C dX6_isFewer_15 (by decide) ?_
      refine y_goto (tgt := 20) C dX6_isFewer_16 rfl ?_
      replace h := Option.some.inj h; subst h
      exact y_zret C (by decide) hQ ⟨Nat.zero_le _, Nat.zero_le _⟩ dX6_isFewer_20
theorem ct_M_isFewer {D : va_G} {dA : Nat → ClassId} {A : Nat → Prop} {s0 : State} {b0 : Nat} {l : Launch} {LM : g_L} {ad : Nat → Nat → Nat} {σ : g_S} {v0 : Int32} {v1 : Int32} {r : Int32} (h : mF_M_isFewer v0 v1 = some r) : g_Met gCl D dA A s0 b0 l yX6_isFewer cX6_isFewer 2 (some .boolean) 2 (0, 0) LM ad σ [.int v0, .int v1] LM ad σ (some (.int r)) :=
  g_Met.of pl_X6 (Nat.le_of_ble_eq_true rfl) (fun X C hQ hR _ _ hL _ es eb => mw_M_isFewer C hR hL h hQ)
theorem ml_M_watch_16 {X : g_F} (C : g_M gCl X cX6_watch RX6 (some .int)) (hR : g_R X = g_rm 7 0 0) (hL : g_nL X = 8) {ad : Nat → Nat → Nat} {σ : g_S} {v1 : Int64} (n : Nat) (v : (Int32 × g_S)) (e : g_S) (h : g_lp (fun v => mB_M_watch_16 v.2 v1 v.1) n v = some e) (kx : g_Y gCl X (gM true) ad e (0, 0) 45 [(0, .ref (ad 0 0)), (1, .long v1)] []) : g_Y gCl X (gM true) ad v.2 (0, 0) 16 [(0, .ref (ad 0 0)), (1, .long v1), (3, .int v.1)] [] := by
  refine g_loop (P := fun v => g_Y gCl X (gM true) ad v.2 (0, 0) 16 [(0, .ref (ad 0 0)), (1, .long v1), (3, .int v.1)] []) (T := fun e => g_Y gCl X (gM true) ad e (0, 0) 45 [(0, .ref (ad 0 0)), (1, .long v1)] []) ?_ n v e h kx
  clear h kx
  clear n v e
  intro v o h kl kx
  obtain ⟨v3, σ⟩ := v
  have h : mB_M_watch_16 σ v1 v3 = some o := h
  unfold mB_M_watch_16 at h
  show g_Y gCl X (gM true) ad σ (0, 0) 16 [(0, .ref (ad 0 0)), (1, .long v1), (3, .int v3)] []
  refine y_iload_n C dX6_watch_16 2 rfl rfl ?_
  refine y_aload_n C dX6_watch_17 0 rfl rfl ?_
  refine gf_M_5 C dX6_watch_18 ?_
  refine y_icmp_ge (tgt := 45) C dX6_watch_21 rfl (fun hc => ?_) (fun hc => ?_)
  · replace h := g_it h hc
    refine y_sub (vs2 := [(0, .ref (ad 0 0)), (1, .long v1)]) [0, 1] rfl ?_
    exact kx _ (Option.some.inj h).symm
  · replace h := g_if h hc
    refine y_aload_n C dX6_watch_24 0 rfl rfl ?_
    refine gf_M_35 C dX6_watch_25 ?_
    refine y_iload_n C dX6_watch_28 2 rfl rfl ?_
    refine y_aload_n C dX6_watch_29 0 rfl rfl ?_
    refine y_aload_n C dX6_watch_30 0 rfl rfl ?_
    refine gf_M_11 C dX6_watch_31 ?_
    refine y_iload_n C dX6_watch_34 2 rfl rfl ?_
    obtain ⟨x3, hc, h⟩ := g_bd h
    refine y_callV C (As := [.ref (ad 1 0), .int v3]) (rest := [.int v3, .ref (ad 17 0)]) (hu := nM_0_0) (hc := (rfl : gCl[5]? = some (RX6, TX6, 49))) (hcell := obM_0) (lk_X6_300 C hR (by decide)) (ct_M_fieldsSeen nM_1_0 hc) rfl rfl (Nat.le_of_ble_eq_true rfl) ⟨Nat.zero_le _, Nat.zero_le _⟩ dX6_watch_35 ?_
    obtain ⟨hg, h⟩ := g_gd h
    obtain ⟨σ4, hσ4, h⟩ := g_lt h
    refine as_M_17 C nM_17_0 hσ4 hg dX6_watch_38 ?_
    obtain ⟨x5, hx5, h⟩ := g_lt h
    refine y_iinc (c := (1 : Int32)) (vs1 := [(3, .int x5), (0, .ref (ad 0 0)), (1, .long v1)]) C hx5 (by decide) dX6_watch_39 2 rfl (g_lL hL rfl) rfl ?_
    refine y_goto (tgt := 16) C dX6_watch_42 rfl ?_
    refine y_sub (vs2 := [(0, .ref (ad 0 0)), (1, .long v1), (3, .int x5)]) [1, 2, 0] rfl ?_
    exact kl _ (Option.some.inj h).symm
theorem ml_M_watch_67 {X : g_F} (C : g_M gCl X cX6_watch RX6 (some .int)) (hR : g_R X = g_rm 7 0 0) (hL : g_nL X = 8) {ad : Nat → Nat → Nat} {σ : g_S} {v1 : Int64} {v3 : Int32} {v4 : Int32} (n : Nat) (v : (Int64 × Int32)) (e : Int64) (h : g_lp (fun v => mB_M_watch_67 σ v1 v3 v4 v.1 v.2) n v = some e) (kx : g_Y gCl X (gM true) ad σ (0, 0) 109 [(0, .ref (ad 0 0)), (1, .long v1), (3, .int v3), (4, .int v4), (5, .long e)] []) : g_Y gCl X (gM true) ad σ (0, 0) 67 [(0, .ref (ad 0 0)), (1, .long v1), (3, .int v3), (4, .int v4), (5, .long v.1), (7, .int v.2)] [] := by
  refine g_loop (P := fun v => g_Y gCl X (gM true) ad σ (0, 0) 67 [(0, .ref (ad 0 0)), (1, .long v1), (3, .int v3), (4, .int v4), (5, .long v.1), (7, .int v.2)] []) (T := fun e => g_Y gCl X (gM true) ad σ (0, 0) 109 [(0, .ref (ad 0 0)), (1, .long v1), (3, .int v3), (4, .int v4), (5, .long e)] []) ?_ n v e h kx
  clear h kx
  clear n v e
  intro v o h kl kx
  obtain ⟨v5, v7⟩ := v
  have h : mB_M_watch_67 σ v1 v3 v4 v5 v7 = some o := h
  unfold mB_M_watch_67 at h
  show g_Y gCl X (gM true) ad σ (0, 0) 67 [(0, .ref (ad 0 0)), (1, .long v1), (3, .int v3), (4, .int v4), (5, .long v5), (7, .int v7)] []
  refine y_iload C dX6_watch_67 5 rfl ?_
  refine y_aload_n C dX6_watch_69 0 rfl rfl ?_
  refine gf_M_5 C dX6_watch_70 ?_
  refine y_icmp_ge (tgt := 109) C dX6_watch_73 rfl (fun hc => ?_) (fun hc => ?_)
  · replace h := g_it h hc
    refine y_sub (vs2 := [(0, .ref (ad 0 0)), (1, .long v1), (3, .int v3), (4, .int v4), (5, .long v5)]) [0, 1, 2, 3, 4] rfl ?_
    exact kx _ (Option.some.inj h).symm
  · replace h := g_if h hc
    refine y_lload C dX6_watch_76 4 rfl ?_
    refine y_iload C dX6_watch_78 3 rfl ?_
    refine y_i2l C dX6_watch_80 ?_
    refine y_iload C dX6_watch_81 5 rfl ?_
    obtain ⟨x7, hc, h⟩ := g_bd h
    refine y_callS C (As := [.long (v4.toInt64), .int v7]) (rest := [.long v5]) (lk_X6_304 C hR (by decide)) (ct_M_has hc) rfl rfl (Nat.le_of_ble_eq_true rfl) ⟨Nat.zero_le _, Nat.zero_le _⟩ dX6_watch_83 ?_
    refine y_if_eq (tgt := 99) C dX6_watch_86 rfl (fun hc => ?_) (fun hc => ?_)
    · replace h := g_it h hc
      refine y_lconst (v := (0 : Int64)) C dX6_watch_99 (by decide) ?_
      refine y_lor C dX6_watch_100 ?_
      obtain ⟨x8, hx8, h⟩ := g_lt h
      refine y_lstore (vs1 := [(5, .long x8), (0, .ref (ad 0 0)), (1, .long v1), (3, .int v3), (4, .int v4), (7, .int v7)]) C hx8 dX6_watch_101 (g_lL hL rfl) rfl ?_
      obtain ⟨x9, hx9, h⟩ := g_lt h
      refine y_iinc (c := (1 : Int32)) (vs1 := [(7, .int x9), (5, .long x8), (0, .ref (ad 0 0)), (1, .long v1), (3, .int v3), (4, .int v4)]) C hx9 (by decide) dX6_watch_103 5 rfl (g_lL hL rfl) rfl ?_
      refine y_goto (tgt := 67) C dX6_watch_106 rfl ?_
      refine y_sub (vs2 := [(0, .ref (ad 0 0)), (1, .long v1), (3, .int v3), (4, .int v4), (5, .long x8), (7, .int x9)]) [2, 3, 4, 5, 1, 0] rfl ?_
      exact kl _ (Option.some.inj h).symm
    · replace h := g_if h hc
      refine y_aload_n C dX6_watch_89 0 rfl rfl ?_
      refine gf_M_35 C dX6_watch_90 ?_
      refine y_iload C dX6_watch_93 5 rfl ?_
      obtain ⟨hg, h⟩ := g_gd h
      refine al_M_17 C nM_17_0 hg dX6_watch_95 ?_
      refine y_goto (tgt := 100) C dX6_watch_96 rfl ?_
      refine y_lor C dX6_watch_100 ?_
      obtain ⟨x10, hx10, h⟩ := g_lt h
      refine y_lstore (vs1 := [(5, .long x10), (0, .ref (ad 0 0)), (1, .long v1), (3, .int v3), (4, .int v4), (7, .int v7)]) C hx10 dX6_watch_101 (g_lL hL rfl) rfl ?_
      obtain ⟨x11, hx11, h⟩ := g_lt h
      refine y_iinc (c := (1 : Int32)) (vs1 := [(7, .int x11), (5, .long x10), (0, .ref (ad 0 0)), (1, .long v1), (3, .int v3), (4, .int v4)]) C hx11 (by decide) dX6_watch_103 5 rfl (g_lL hL rfl) rfl ?_
      refine y_goto (tgt := 67) C dX6_watch_106 rfl ?_
      refine y_sub (vs2 := [(0, .ref (ad 0 0)), (1, .long v1), (3, .int v3), (4, .int v4), (5, .long x10), (7, .int x11)]) [2, 3, 4, 5, 1, 0] rfl ?_
      exact kl _ (Option.some.inj h).symm
theorem ml_M_watch_50 {X : g_F} (C : g_M gCl X cX6_watch RX6 (some .int)) (hR : g_R X = g_rm 7 0 0) (hL : g_nL X = 8) {ad : Nat → Nat → Nat} {σ : g_S} {v1 : Int64} (n : Nat) (v : (Int32 × Int32)) (e : Int32) (h : g_lp (fun v => mB_M_watch_50 σ v1 v.1 v.2) n v = some e) (kx : g_Y gCl X (gM true) ad σ (0, 0) 138 [(0, .ref (ad 0 0)), (3, .int e)] []) : g_Y gCl X (gM true) ad σ (0, 0) 50 [(0, .ref (ad 0 0)), (1, .long v1), (3, .int v.1), (4, .int v.2)] [] := by
  refine g_loop (P := fun v => g_Y gCl X (gM true) ad σ (0, 0) 50 [(0, .ref (ad 0 0)), (1, .long v1), (3, .int v.1), (4, .int v.2)] []) (T := fun e => g_Y gCl X (gM true) ad σ (0, 0) 138 [(0, .ref (ad 0 0)), (3, .int e)] []) ?_ n v e h kx
  clear h kx
  clear n v e
  intro v o h kl kx
  obtain ⟨v3, v4⟩ := v
  have h : mB_M_watch_50 σ v1 v3 v4 = some o := h
  unfold mB_M_watch_50 at h
  show g_Y gCl X (gM true) ad σ (0, 0) 50 [(0, .ref (ad 0 0)), (1, .long v1), (3, .int v3), (4, .int v4)] []
  refine y_iload C dX6_watch_50 3 rfl ?_
  refine y_iconst (v := (1 : Int32)) C dX6_watch_52 (by decide) ?_
  refine y_aload_n C dX6_watch_53 0 rfl rfl ?_
  refine gf_M_5 C dX6_watch_54 ?_
  refine y_ishl C dX6_watch_57 ?_
  refine y_icmp_ge (tgt := 138) C dX6_watch_58 rfl (fun hc => ?_) (fun hc => ?_)
  · replace h := g_it h hc
    refine y_sub (vs2 := [(0, .ref (ad 0 0)), (3, .int v3)]) [0, 2] rfl ?_
    exact kx _ (Option.some.inj h).symm
  · replace h := g_if h hc
    refine y_lconst (v := (0 : Int64)) C dX6_watch_61 (by decide) ?_
    refine y_lstore (vs1 := [(5, .long (0 : Int64)), (0, .ref (ad 0 0)), (1, .long v1), (3, .int v3), (4, .int v4)]) C rfl dX6_watch_62 (g_lL hL rfl) rfl ?_
    refine y_iconst (v := (0 : Int32)) C dX6_watch_64 (by decide) ?_
    refine y_istore (vs1 := [(7, .int (0 : Int32)), (5, .long (0 : Int64)), (0, .ref (ad 0 0)), (1, .long v1), (3, .int v3), (4, .int v4)]) C rfl dX6_watch_65 (g_lL hL rfl) rfl ?_
    refine y_sub (vs2 := [(0, .ref (ad 0 0)), (1, .long v1), (3, .int v3), (4, .int v4), (5, .long (0 : Int64)), (7, .int (0 : Int32))]) [2, 3, 4, 5, 1, 0] rfl ?_
    obtain ⟨e12, he12, h⟩ := g_bd h
    refine ml_M_watch_67 C hR hL (σ := σ) _ _ _ he12 ?_
    refine y_lload C dX6_watch_109 4 rfl ?_
    refine y_lload_n C dX6_watch_111 1 rfl rfl ?_
    refine y_lcmp C dX6_watch_112 ?_
    refine y_if_ne (tgt := 130) C dX6_watch_113 rfl (fun hc => ?_) (fun hc => ?_)
    · replace h := g_if h hc
      refine y_iload_n C dX6_watch_130 2 rfl rfl ?_
      refine y_istore_n (vs1 := [(3, .int v3), (0, .ref (ad 0 0)), (1, .long v1), (4, .int v4), (5, .long e12)]) C rfl dX6_watch_131 rfl (g_lL hL rfl) rfl ?_
      obtain ⟨x13, hx13, h⟩ := g_lt h
      refine y_iinc (c := (1 : Int32)) (vs1 := [(4, .int x13), (3, .int v3), (0, .ref (ad 0 0)), (1, .long v1), (5, .long e12)]) C hx13 (by decide) dX6_watch_132 3 rfl (g_lL hL rfl) rfl ?_
      refine y_goto (tgt := 50) C dX6_watch_135 rfl ?_
      refine y_sub (vs2 := [(0, .ref (ad 0 0)), (1, .long v1), (3, .int v3), (4, .int x13)]) [2, 3, 1, 0] rfl ?_
      exact kl _ (Option.some.inj h).symm
    · replace h := g_it h hc
      refine y_iload C dX6_watch_116 3 rfl ?_
      refine y_iload_n C dX6_watch_118 2 rfl rfl ?_
      obtain ⟨x14, hc, h⟩ := g_bd h
      refine y_callS C (As := [.int v4, .int v3]) (rest := []) (lk_X6_421 C hR (by decide)) (ct_M_isFewer hc) rfl rfl (Nat.le_of_ble_eq_true rfl) ⟨Nat.zero_le _, Nat.zero_le _⟩ dX6_watch_119 ?_
      refine y_if_eq (tgt := 130) C dX6_watch_122 rfl (fun hc => ?_) (fun hc => ?_)
      · replace h := g_it h hc
        refine y_iload_n C dX6_watch_130 2 rfl rfl ?_
        refine y_istore_n (vs1 := [(3, .int v3), (0, .ref (ad 0 0)), (1, .long v1), (4, .int v4), (5, .long e12)]) C rfl dX6_watch_131 rfl (g_lL hL rfl) rfl ?_
        obtain ⟨x15, hx15, h⟩ := g_lt h
        refine y_iinc (c := (1 : Int32)) (vs1 := [(4, .int x15), (3, .int v3), (0, .ref (ad 0 0)), (1, .long v1), (5, .long e12)]) C hx15 (by decide) dX6_watch_132 3 rfl (g_lL hL rfl) rfl ?_
        refine y_goto (tgt := 50) C dX6_watch_135 rfl ?_
        refine y_sub (vs2 := [(0, .ref (ad 0 0)), (1, .long v1), (3, .int v3), (4, .int x15)]) [2, 3, 1, 0] rfl ?_
        exact kl _ (Option.some.inj h).symm
      · replace h := g_if h hc
        refine y_iload C dX6_watch_125 3 rfl ?_
        refine y_goto (tgt := 131) C dX6_watch_127 rfl ?_
        refine y_istore_n (vs1 := [(3, .int v4), (0, .ref (ad 0 0)), (1, .long v1), (4, .int v4), (5, .long e12)]) C rfl dX6_watch_131 rfl (g_lL hL rfl) rfl ?_
        obtain ⟨x16, hx16, h⟩ := g_lt h
        refine y_iinc (c := (1 : Int32)) (vs1 := [(4, .int x16), (3, .int v4), (0, .ref (ad 0 0)), (1, .long v1), (5, .long e12)]) C hx16 (by decide) dX6_watch_132 3 rfl (g_lL hL rfl) rfl ?_
        refine y_goto (tgt := 50) C dX6_watch_135 rfl ?_
        refine y_sub (vs2 := [(0, .ref (ad 0 0)), (1, .long v1), (3, .int v4), (4, .int x16)]) [2, 3, 1, 0] rfl ?_
        exact kl _ (Option.some.inj h).symm
theorem mw_M_watch {X : g_F} (C : g_M gCl X cX6_watch RX6 (some .int)) (hR : g_R X = g_rm 7 0 0) (hL : g_nL X = 8) {ad : Nat → Nat → Nat} {σ : g_S} {o : (Int32 × g_S)} (h : mF_M_watch σ = some o) (hQ : g_MQ gCl X (gM true) ad o.2 (some (.int o.1)) = g_Q X) : g_Y gCl X (gM true) ad σ (0, 0) 0 [(0, .ref (ad 0 0))] [] := by
  unfold mF_M_watch at h
  refine y_aload_n C dX6_watch_0 0 rfl rfl ?_
  refine y_iconst (v := (0 : Int32)) C dX6_watch_1 (by decide) ?_
  obtain ⟨σ1, hσ1, h⟩ := g_lt h
  refine pf_M_0 C hσ1 dX6_watch_2 ?_
  refine y_aload_n C dX6_watch_5 0 rfl rfl ?_
  refine y_aload_n C dX6_watch_6 0 rfl rfl ?_
  refine gf_M_11 C dX6_watch_7 ?_
  obtain ⟨x2, hc, h⟩ := g_bd h
  refine y_callV C (As := [.ref (ad 1 0)]) (rest := []) (hu := nM_0_0) (hc := (rfl : gCl[5]? = some (RX6, TX6, 49))) (hcell := obM_0) (lk_X6_417 C hR (by decide)) (ct_M_allSeen nM_1_0 hc) rfl rfl (Nat.le_of_ble_eq_true rfl) ⟨Nat.zero_le _, Nat.zero_le _⟩ dX6_watch_10 ?_
  refine y_lstore_n (vs1 := [(1, .long x2), (0, .ref (ad 0 0))]) C rfl dX6_watch_13 rfl (g_lL hL rfl) rfl ?_
  refine y_iconst (v := (0 : Int32)) C dX6_watch_14 (by decide) ?_
  refine y_istore_n (vs1 := [(3, .int (0 : Int32)), (1, .long x2), (0, .ref (ad 0 0))]) C rfl dX6_watch_15 rfl (g_lL hL rfl) rfl ?_
  refine y_sub (vs2 := [(0, .ref (ad 0 0)), (1, .long x2), (3, .int (0 : Int32))]) [2, 1, 0] rfl ?_
  obtain ⟨e6, he6, h⟩ := g_bd h
  refine ml_M_watch_16 C hR hL (σ := σ1) _ _ _ he6 ?_
  refine y_iconst (v := (-1 : Int32)) C dX6_watch_45 (by decide) ?_
  refine y_istore_n (vs1 := [(3, .int (-1 : Int32)), (0, .ref (ad 0 0)), (1, .long x2)]) C rfl dX6_watch_46 rfl (g_lL hL rfl) rfl ?_
  refine y_iconst (v := (0 : Int32)) C dX6_watch_47 (by decide) ?_
  refine y_istore (vs1 := [(4, .int (0 : Int32)), (3, .int (-1 : Int32)), (0, .ref (ad 0 0)), (1, .long x2)]) C rfl dX6_watch_48 (g_lL hL rfl) rfl ?_
  refine y_sub (vs2 := [(0, .ref (ad 0 0)), (1, .long x2), (3, .int (-1 : Int32)), (4, .int (0 : Int32))]) [2, 3, 1, 0] rfl ?_
  obtain ⟨e17, he17, h⟩ := g_bd h
  refine ml_M_watch_50 C hR hL (σ := e6) _ _ _ he17 ?_
  refine y_aload_n C dX6_watch_138 0 rfl rfl ?_
  refine y_iconst (v := (0 : Int32)) C dX6_watch_139 (by decide) ?_
  obtain ⟨σ18, hσ18, h⟩ := g_lt h
  refine pf_M_1 C hσ18 dX6_watch_140 ?_
  refine y_aload_n C dX6_watch_143 0 rfl rfl ?_
  refine y_iload_n C dX6_watch_144 1 rfl rfl ?_
  refine y_i2l C dX6_watch_145 ?_
  obtain ⟨σ19, hc, h⟩ := g_bd h
  refine y_callVv C (As := [.long (e17.toInt64)]) (rest := []) (hu := nM_0_0) (hc := (rfl : gCl[5]? = some (RX6, TX6, 49))) (hcell := obM_0) (lk_X6_373 C hR (by decide)) (ct_M_enters hc) rfl rfl (Nat.le_of_ble_eq_true rfl) ⟨Nat.zero_le _, Nat.zero_le _⟩ dX6_watch_146 ?_
  refine y_iload_n C dX6_watch_149 1 rfl rfl ?_
  obtain ⟨x20, hc, h⟩ := g_bd h
  refine y_callS C (As := [.int e17]) (rest := []) (lk_X6_265 C hR (by decide)) (ct_J8_bitCount hc) rfl rfl (Nat.le_of_ble_eq_true rfl) ⟨Nat.zero_le _, Nat.zero_le _⟩ dX6_watch_150 ?_
  replace h := Option.some.inj h; subst h
  exact y_iret C hQ ⟨Nat.zero_le _, Nat.zero_le _⟩ dX6_watch_153
theorem ct_M_watch {D : va_G} {dA : Nat → ClassId} {A : Nat → Prop} {s0 : State} {b0 : Nat} {l : Launch} {ad : Nat → Nat → Nat} {σ : g_S} {r : Int32} {σ1 : g_S} (h : mF_M_watch σ = some (r, σ1)) : g_Met gCl D dA A s0 b0 l yX6_watch cX6_watch 8 (some .int) 7 (0, 0) (gM true) ad σ [.ref (ad 0 0)] (gM true) ad σ1 (some (.int r)) :=
  g_Met.of pl_X6 (Nat.le_of_ble_eq_true rfl) (fun X C hQ hR _ _ hL _ es eb => mw_M_watch C hR hL h hQ)
theorem ml_M_copies_2 {X : g_F} {hid : Bool} (C : g_M gCl X cX6_copies RX6 none) (hR : g_R X = g_rm 1 0 0) (hL : g_nL X = 2) {ad : Nat → Nat → Nat} {σ : g_S} (n : Nat) (v : (Int32 × g_S)) (e : g_S) (h : g_lp (fun v => mB_M_copies_2 v.2 v.1) n v = some e) (kx : g_Y gCl X (gM hid) ad e (0, 0) 26 [] []) : g_Y gCl X (gM hid) ad v.2 (0, 0) 2 [(0, .ref (ad 0 0)), (1, .int v.1)] [] := by
  refine g_loop (P := fun v => g_Y gCl X (gM hid) ad v.2 (0, 0) 2 [(0, .ref (ad 0 0)), (1, .int v.1)] []) (T := fun e => g_Y gCl X (gM hid) ad e (0, 0) 26 [] []) ?_ n v e h kx
  clear h kx
  clear n v e
  intro v o h kl kx
  obtain ⟨v1, σ⟩ := v
  have h : mB_M_copies_2 σ v1 = some o := h
  unfold mB_M_copies_2 at h
  show g_Y gCl X (gM hid) ad σ (0, 0) 2 [(0, .ref (ad 0 0)), (1, .int v1)] []
  refine y_iload_n C dX6_copies_2 1 rfl rfl ?_
  refine y_bipush (v := (41 : Int32)) C dX6_copies_3 (by decide) ?_
  refine y_icmp_ge (tgt := 26) C dX6_copies_5 rfl (fun hc => ?_) (fun hc => ?_)
  · replace h := g_it h hc
    refine y_sub (vs2 := []) [] rfl ?_
    exact kx _ (Option.some.inj h).symm
  · replace h := g_if h hc
    refine y_aload_n C dX6_copies_8 0 rfl rfl ?_
    refine gf_M_12 C dX6_copies_9 ?_
    refine y_iload_n C dX6_copies_12 1 rfl rfl ?_
    refine y_aload_n C dX6_copies_13 0 rfl rfl ?_
    refine gf_M_11 C dX6_copies_14 ?_
    refine y_iload_n C dX6_copies_17 1 rfl rfl ?_
    obtain ⟨hg, h⟩ := g_gd h
    refine al_M_1 C nM_1_0 hg dX6_copies_18 ?_
    obtain ⟨hg, h⟩ := g_gd h
    obtain ⟨σ1, hσ1, h⟩ := g_lt h
    refine as_M_1 C nM_1_1 hσ1 hg dX6_copies_19 ?_
    obtain ⟨x2, hx2, h⟩ := g_lt h
    refine y_iinc (c := (1 : Int32)) (vs1 := [(1, .int x2), (0, .ref (ad 0 0))]) C hx2 (by decide) dX6_copies_20 1 rfl (g_lL hL rfl) rfl ?_
    refine y_goto (tgt := 2) C dX6_copies_23 rfl ?_
    refine y_sub (vs2 := [(0, .ref (ad 0 0)), (1, .int x2)]) [1, 0] rfl ?_
    exact kl _ (Option.some.inj h).symm
theorem mw_M_copies {X : g_F} {hid : Bool} (C : g_M gCl X cX6_copies RX6 none) (hR : g_R X = g_rm 1 0 0) (hL : g_nL X = 2) {ad : Nat → Nat → Nat} {σ : g_S} {o : g_S} (h : mF_M_copies σ = some o) (hQ : g_MQ gCl X (gM hid) ad o none = g_Q X) : g_Y gCl X (gM hid) ad σ (0, 0) 0 [(0, .ref (ad 0 0))] [] := by
  unfold mF_M_copies at h
  refine y_iconst (v := (0 : Int32)) C dX6_copies_0 (by decide) ?_
  refine y_istore_n (vs1 := [(1, .int (0 : Int32)), (0, .ref (ad 0 0))]) C rfl dX6_copies_1 rfl (g_lL hL rfl) rfl ?_
  refine y_sub (vs2 := [(0, .ref (ad 0 0)), (1, .int (0 : Int32))]) [1, 0] rfl ?_
  obtain ⟨e3, he3, h⟩ := g_bd h
  refine ml_M_copies_2 C hR hL (σ := σ) _ _ _ he3 ?_
  replace h := Option.some.inj h; subst h
  exact y_vret C hQ ⟨Nat.zero_le _, Nat.zero_le _⟩ dX6_copies_26
theorem ct_M_copies {D : va_G} {dA : Nat → ClassId} {A : Nat → Prop} {s0 : State} {b0 : Nat} {l : Launch} {hid : Bool} {ad : Nat → Nat → Nat} {σ : g_S} {σ1 : g_S} (h : mF_M_copies σ = some σ1) : g_Met gCl D dA A s0 b0 l yX6_copies cX6_copies 2 none 1 (0, 0) (gM hid) ad σ [.ref (ad 0 0)] (gM hid) ad σ1 none :=
  g_Met.of pl_X6 (Nat.le_of_ble_eq_true rfl) (fun X C hQ hR _ _ hL _ es eb => mw_M_copies C hR hL h hQ)
theorem ml_M_learns_29 {X : g_F} (C : g_M gCl X cX6_learns RX6 (some .int)) (hR : g_R X = g_rm 9 0 0) (hL : g_nL X = 4) {ad : Nat → Nat → Nat} {σ : g_S} {v1 : Int32} {v2 : Int32} (n : Nat) (v : (Int32 × g_S)) (e : ((Int32 × g_S) ⊕ g_S)) (h : g_lp (fun v => mB_M_learns_29 v.2 v1 v2 v.1) n v = some e) (kx : (∀ y, e = .inl y → g_Y gCl X (gM true) ad y.2 (0, 0) 52 [(0, .ref (ad 0 0)), (2, .int v2), (3, .int y.1)] []) ∧ (∀ y, e = .inr y → g_Y gCl X (gM true) ad y (0, 0) 90 [] [])) : g_Y gCl X (gM true) ad v.2 (0, 0) 29 [(0, .ref (ad 0 0)), (1, .int v1), (2, .int v2), (3, .int v.1)] [] := by
  refine g_loop (P := fun v => g_Y gCl X (gM true) ad v.2 (0, 0) 29 [(0, .ref (ad 0 0)), (1, .int v1), (2, .int v2), (3, .int v.1)] []) (T := fun e => (∀ y, e = .inl y → g_Y gCl X (gM true) ad y.2 (0, 0) 52 [(0, .ref (ad 0 0)), (2, .int v2), (3, .int y.1)] []) ∧ (∀ y, e = .inr y → g_Y gCl X (gM true) ad y (0, 0) 90 [] [])) ?_ n v e h kx
  clear h kx
  clear n v e
  intro v o h kl kx
  obtain ⟨v3, σ⟩ := v
  have h : mB_M_learns_29 σ v1 v2 v3 = some o := h
  unfold mB_M_learns_29 at h
  show g_Y gCl X (gM true) ad σ (0, 0) 29 [(0, .ref (ad 0 0)), (1, .int v1), (2, .int v2), (3, .int v3)] []
  refine y_iload_n C dX6_learns_29 3 rfl rfl ?_
  refine y_bipush (v := (99 : Int32)) C dX6_learns_30 (by decide) ?_
  refine y_icmp_gt (tgt := 90) C dX6_learns_32 rfl (fun hc => ?_) (fun hc => ?_)
  · replace h := g_it h hc
    refine y_sub (vs2 := []) [] rfl ?_
    exact (kx _ (Option.some.inj h).symm).2 _ rfl
  · replace h := g_if h hc
    refine y_aload_n C dX6_learns_35 0 rfl rfl ?_
    refine gf_M_12 C dX6_learns_36 ?_
    refine y_bipush (v := (24 : Int32)) C dX6_learns_39 (by decide) ?_
    refine y_iload_n C dX6_learns_41 1 rfl rfl ?_
    refine y_iadd C dX6_learns_42 ?_
    obtain ⟨hg, h⟩ := g_gd h
    refine al_M_1 C nM_1_1 hg dX6_learns_43 ?_
    refine y_i2l C dX6_learns_44 ?_
    refine y_iload_n C dX6_learns_45 2 rfl rfl ?_
    obtain ⟨x5, hc, h⟩ := g_bd h
    refine y_callS C (As := [.long ((σ.1 1 1 ((24 : Int32) + v1).toNatClampNeg).toInt64), .int v2]) (rest := []) (lk_X6_304 C hR (by decide)) (ct_M_has hc) rfl rfl (Nat.le_of_ble_eq_true rfl) ⟨Nat.zero_le _, Nat.zero_le _⟩ dX6_learns_46 ?_
    refine y_if_eq (tgt := 76) C dX6_learns_49 rfl (fun hc => ?_) (fun hc => ?_)
    · replace h := g_it h hc
      refine y_aload_n C dX6_learns_76 0 rfl rfl ?_
      refine y_aload_n C dX6_learns_77 0 rfl rfl ?_
      refine gf_M_12 C dX6_learns_78 ?_
      obtain ⟨σ6, hc, h⟩ := g_bd h
      refine y_callVv C (As := [.ref (ad 1 1)]) (rest := []) (hu := nM_0_0) (hc := (rfl : gCl[5]? = some (RX6, TX6, 49))) (hcell := obM_0) (lk_X6_347 C hR (by decide)) (ct_M_hourGoes nM_1_1 hc) rfl rfl (Nat.le_of_ble_eq_true rfl) ⟨Nat.zero_le _, Nat.zero_le _⟩ dX6_learns_81 ?_
      obtain ⟨x7, hx7, h⟩ := g_lt h
      refine y_iinc (c := (1 : Int32)) (vs1 := [(3, .int x7), (0, .ref (ad 0 0)), (1, .int v1), (2, .int v2)]) C hx7 (by decide) dX6_learns_84 3 rfl (g_lL hL rfl) rfl ?_
      refine y_goto (tgt := 29) C dX6_learns_87 rfl ?_
      refine y_sub (vs2 := [(0, .ref (ad 0 0)), (1, .int v1), (2, .int v2), (3, .int x7)]) [1, 2, 3, 0] rfl ?_
      exact kl _ (Option.some.inj h).symm
    · replace h := g_if h hc
      refine y_sub (vs2 := [(0, .ref (ad 0 0)), (2, .int v2), (3, .int v3)]) [0, 2, 3] rfl ?_
      exact (kx _ (Option.some.inj h).symm).1 _ rfl
theorem mw_M_learns {X : g_F} (C : g_M gCl X cX6_learns RX6 (some .int)) (hR : g_R X = g_rm 9 0 0) (hL : g_nL X = 4) {ad : Nat → Nat → Nat} {σ : g_S} {v1 : Int32} {v2 : Int32} {o : (Int32 × g_S)} (h : mF_M_learns σ v1 v2 = some o) (hQ : g_MQ gCl X (gM true) ad o.2 (some (.int o.1)) = g_Q X) : g_Y gCl X (gM true) ad σ (0, 0) 0 [(0, .ref (ad 0 0)), (1, .int v1), (2, .int v2)] [] := by
  unfold mF_M_learns at h
  refine y_aload_n C dX6_learns_0 0 rfl rfl ?_
  refine y_iconst (v := (0 : Int32)) C dX6_learns_1 (by decide) ?_
  obtain ⟨σ1, hσ1, h⟩ := g_lt h
  refine pf_M_0 C hσ1 dX6_learns_2 ?_
  refine y_aload_n C dX6_learns_5 0 rfl rfl ?_
  refine y_iload_n C dX6_learns_6 1 rfl rfl ?_
  obtain ⟨x2, hc, h⟩ := g_bd h
  refine y_callV C (As := [.int v1]) (rest := []) (hu := nM_0_0) (hc := (rfl : gCl[5]? = some (RX6, TX6, 49))) (hcell := obM_0) (lk_X6_315 C hR (by decide)) (ct_M_isPerson hc) rfl rfl (Nat.le_of_ble_eq_true rfl) ⟨Nat.zero_le _, Nat.zero_le _⟩ dX6_learns_7 ?_
  refine y_if_eq (tgt := 21) C dX6_learns_10 rfl (fun hc => ?_) (fun hc => ?_)
  · replace h := g_it h hc
    refine y_iconst (v := (-1 : Int32)) C dX6_learns_21 (by decide) ?_
    replace h := Option.some.inj h; subst h
    exact y_iret C hQ ⟨Nat.zero_le _, Nat.zero_le _⟩ dX6_learns_22
  · replace h := g_if h hc
    refine y_aload_n C dX6_learns_13 0 rfl rfl ?_
    refine y_iload_n C dX6_learns_14 2 rfl rfl ?_
    obtain ⟨x3, hc, h⟩ := g_bd h
    refine y_callV C (As := [.int v2]) (rest := []) (hu := nM_0_0) (hc := (rfl : gCl[5]? = some (RX6, TX6, 49))) (hcell := obM_0) (lk_X6_327 C hR (by decide)) (ct_M_isThing hc) rfl rfl (Nat.le_of_ble_eq_true rfl) ⟨Nat.zero_le _, Nat.zero_le _⟩ dX6_learns_15 ?_
    refine y_if_ne (tgt := 23) C dX6_learns_18 rfl (fun hc => ?_) (fun hc => ?_)
    · replace h := g_if h hc
      refine y_aload_n C dX6_learns_23 0 rfl rfl ?_
      obtain ⟨σ4, hc, h⟩ := g_bd h
      refine y_callVv C (As := []) (rest := []) (hu := nM_0_0) (hc := (rfl : gCl[5]? = some (RX6, TX6, 49))) (hcell := obM_0) (lk_X6_424 C hR (by decide)) (ct_M_copies hc) rfl rfl (Nat.le_of_ble_eq_true rfl) ⟨Nat.zero_le _, Nat.zero_le _⟩ dX6_learns_24 ?_
      refine y_iconst (v := (0 : Int32)) C dX6_learns_27 (by decide) ?_
      refine y_istore_n (vs1 := [(3, .int (0 : Int32)), (0, .ref (ad 0 0)), (1, .int v1), (2, .int v2)]) C rfl dX6_learns_28 rfl (g_lL hL rfl) rfl ?_
      refine y_sub (vs2 := [(0, .ref (ad 0 0)), (1, .int v1), (2, .int v2), (3, .int (0 : Int32))]) [1, 2, 3, 0] rfl ?_
      obtain ⟨e8, he8, h⟩ := g_bd h
      refine ml_M_learns_29 C hR hL (σ := σ4) _ _ _ he8 ⟨fun y he => ?_, fun y he => ?_⟩
      · obtain ⟨y9, rfl⟩ : ∃ z, z = y := ⟨_, rfl⟩
        subst he
        dsimp only at h
        refine y_aload_n C dX6_learns_52 0 rfl rfl ?_
        refine y_iconst (v := (0 : Int32)) C dX6_learns_53 (by decide) ?_
        obtain ⟨σ10, hσ10, h⟩ := g_lt h
        refine pf_M_1 C hσ10 dX6_learns_54 ?_
        refine y_aload_n C dX6_learns_57 0 rfl rfl ?_
        refine y_aload_n C dX6_learns_58 0 rfl rfl ?_
        refine y_aload_n C dX6_learns_59 0 rfl rfl ?_
        refine gf_M_12 C dX6_learns_60 ?_
        refine y_iload_n C dX6_learns_63 1 rfl rfl ?_
        obtain ⟨x11, hc, h⟩ := g_bd h
        refine y_callV C (As := [.ref (ad 1 1), .int v2]) (rest := [.ref (ad 0 0)]) (hu := nM_0_0) (hc := (rfl : gCl[5]? = some (RX6, TX6, 49))) (hcell := obM_0) (lk_X6_332 C hR (by decide)) (ct_M_knowing nM_1_1 hc) rfl rfl (Nat.le_of_ble_eq_true rfl) ⟨Nat.zero_le _, Nat.zero_le _⟩ dX6_learns_64 ?_
        obtain ⟨x12, hc, h⟩ := g_bd h
        refine y_callS C (As := [.int x11]) (rest := [.ref (ad 0 0)]) (lk_X6_265 C hR (by decide)) (ct_J8_bitCount hc) rfl rfl (Nat.le_of_ble_eq_true rfl) ⟨Nat.zero_le _, Nat.zero_le _⟩ dX6_learns_67 ?_
        refine y_i2l C dX6_learns_70 ?_
        obtain ⟨σ13, hc, h⟩ := g_bd h
        refine y_callVv C (As := [.long (x12.toInt64)]) (rest := []) (hu := nM_0_0) (hc := (rfl : gCl[5]? = some (RX6, TX6, 49))) (hcell := obM_0) (lk_X6_373 C hR (by decide)) (ct_M_enters hc) rfl rfl (Nat.le_of_ble_eq_true rfl) ⟨Nat.zero_le _, Nat.zero_le _⟩ dX6_learns_71 ?_
        refine y_iload_n C dX6_learns_74 2 rfl rfl ?_
        replace h := Option.some.inj h; subst h
        exact y_iret C hQ ⟨Nat.zero_le _, Nat.zero_le _⟩ dX6_learns_75
      · obtain ⟨y14, rfl⟩ : ∃ z, z = y := ⟨_, rfl⟩
        subst he
        dsimp only at h
        refine y_bipush (v := (-2 : Int32)) C dX6_learns_90 (by decide) ?_
        replace h := Option.some.inj h; subst h
        exact y_iret C hQ ⟨Nat.zero_le _, Nat.zero_le _⟩ dX6_learns_92
    · replace h := g_it h hc
      refine y_iconst (v := (-1 : Int32)) C dX6_learns_21 (by decide) ?_
      replace h := Option.some.inj h; subst h
      exact y_iret C hQ ⟨Nat.zero_le _, Nat.zero_le _⟩ dX6_learns_22
theorem ct_M_learns {D : va_G} {dA : Nat → ClassId} {A : Nat → Prop} {s0 : State} {b0 : Nat} {l : Launch} {ad : Nat → Nat → Nat} {σ : g_S} {v1 : Int32} {v2 : Int32} {r : Int32} {σ1 : g_S} (h : mF_M_learns σ v1 v2 = some (r, σ1)) : g_Met gCl D dA A s0 b0 l yX6_learns cX6_learns 4 (some .int) 9 (0, 0) (gM true) ad σ [.ref (ad 0 0), .int v1, .int v2] (gM true) ad σ1 (some (.int r)) :=
  g_Met.of pl_X6 (Nat.le_of_ble_eq_true rfl) (fun X C hQ hR _ _ hL _ es eb => mw_M_learns C hR hL h hQ)
theorem ml_M_firstWithout_9 {X : g_F} {hid : Bool} (C : g_M gCl X cX6_firstWithout RX6 (some .int)) (hR : g_R X = g_rm 2 0 0) (hL : g_nL X = 4) {u0 : Nat} (hu_u0 : u0 < g_n (gM hid) 1) {ad : Nat → Nat → Nat} {σ : g_S} (n : Nat) (v : (Int32 × Int32)) (e : Int32) (h : g_lp (fun v => mB_M_firstWithout_9 σ u0 v.1 v.2) n v = some e) (kx : g_Y gCl X (gM hid) ad σ (0, 0) 41 [(2, .int e)] []) : g_Y gCl X (gM hid) ad σ (0, 0) 9 [(0, .ref (ad 0 0)), (1, .ref (ad 1 u0)), (2, .int v.1), (3, .int v.2)] [] := by
  refine g_loop (P := fun v => g_Y gCl X (gM hid) ad σ (0, 0) 9 [(0, .ref (ad 0 0)), (1, .ref (ad 1 u0)), (2, .int v.1), (3, .int v.2)] []) (T := fun e => g_Y gCl X (gM hid) ad σ (0, 0) 41 [(2, .int e)] []) ?_ n v e h kx
  clear h kx
  clear n v e
  intro v o h kl kx
  obtain ⟨v2, v3⟩ := v
  have h : mB_M_firstWithout_9 σ u0 v2 v3 = some o := h
  unfold mB_M_firstWithout_9 at h
  show g_Y gCl X (gM hid) ad σ (0, 0) 9 [(0, .ref (ad 0 0)), (1, .ref (ad 1 u0)), (2, .int v2), (3, .int v3)] []
  refine y_iload_n C dX6_firstWithout_9 3 rfl rfl ?_
  refine y_if_lt (tgt := 41) C dX6_firstWithout_10 rfl (fun hc => ?_) (fun hc => ?_)
  · replace h := g_it h hc
    refine y_sub (vs2 := [(2, .int v2)]) [2] rfl ?_
    exact kx _ (Option.some.inj h).symm
  · replace h := g_if h hc
    refine y_aload_n C dX6_firstWithout_13 1 rfl rfl ?_
    refine y_bipush (v := (24 : Int32)) C dX6_firstWithout_14 (by decide) ?_
    refine y_iload_n C dX6_firstWithout_16 3 rfl rfl ?_
    refine y_iadd C dX6_firstWithout_17 ?_
    obtain ⟨hg, h⟩ := g_gd h
    refine al_M_1 C hu_u0 hg dX6_firstWithout_18 ?_
    obtain ⟨x2, hc, h⟩ := g_bd h
    refine y_callS C (As := [.int (σ.1 1 u0 ((24 : Int32) + v3).toNatClampNeg)]) (rest := []) (lk_X6_265 C hR (by decide)) (ct_J8_bitCount hc) rfl rfl (Nat.le_of_ble_eq_true rfl) ⟨Nat.zero_le _, Nat.zero_le _⟩ dX6_firstWithout_19 ?_
    refine y_aload_n C dX6_firstWithout_22 0 rfl rfl ?_
    refine gf_M_6 C dX6_firstWithout_23 ?_
    refine y_icmp_ge (tgt := 33) C dX6_firstWithout_26 rfl (fun hc => ?_) (fun hc => ?_)
    · replace h := g_it h hc
      refine y_iload_n C dX6_firstWithout_33 2 rfl rfl ?_
      refine y_istore_n (vs1 := [(2, .int v2), (0, .ref (ad 0 0)), (1, .ref (ad 1 u0)), (3, .int v3)]) C rfl dX6_firstWithout_34 rfl (g_lL hL rfl) rfl ?_
      obtain ⟨x3, hx3, h⟩ := g_lt h
      refine y_iinc (c := (-1 : Int32)) (vs1 := [(3, .int x3), (2, .int v2), (0, .ref (ad 0 0)), (1, .ref (ad 1 u0))]) C hx3 (by decide) dX6_firstWithout_35 3 rfl (g_lL hL rfl) rfl ?_
      refine y_goto (tgt := 9) C dX6_firstWithout_38 rfl ?_
      refine y_sub (vs2 := [(0, .ref (ad 0 0)), (1, .ref (ad 1 u0)), (2, .int v2), (3, .int x3)]) [2, 3, 1, 0] rfl ?_
      exact kl _ (Option.some.inj h).symm
    · replace h := g_if h hc
      refine y_iload_n C dX6_firstWithout_29 3 rfl rfl ?_
      refine y_goto (tgt := 34) C dX6_firstWithout_30 rfl ?_
      refine y_istore_n (vs1 := [(2, .int v3), (0, .ref (ad 0 0)), (1, .ref (ad 1 u0)), (3, .int v3)]) C rfl dX6_firstWithout_34 rfl (g_lL hL rfl) rfl ?_
      obtain ⟨x4, hx4, h⟩ := g_lt h
      refine y_iinc (c := (-1 : Int32)) (vs1 := [(3, .int x4), (2, .int v3), (0, .ref (ad 0 0)), (1, .ref (ad 1 u0))]) C hx4 (by decide) dX6_firstWithout_35 3 rfl (g_lL hL rfl) rfl ?_
      refine y_goto (tgt := 9) C dX6_firstWithout_38 rfl ?_
      refine y_sub (vs2 := [(0, .ref (ad 0 0)), (1, .ref (ad 1 u0)), (2, .int v3), (3, .int x4)]) [2, 3, 1, 0] rfl ?_
      exact kl _ (Option.some.inj h).symm
theorem mw_M_firstWithout {X : g_F} {hid : Bool} (C : g_M gCl X cX6_firstWithout RX6 (some .int)) (hR : g_R X = g_rm 2 0 0) (hL : g_nL X = 4) {u0 : Nat} (hu_u0 : u0 < g_n (gM hid) 1) {ad : Nat → Nat → Nat} {σ : g_S} {o : Int32} (h : mF_M_firstWithout σ u0 = some o) (hQ : g_MQ gCl X (gM hid) ad σ (some (.int o)) = g_Q X) : g_Y gCl X (gM hid) ad σ (0, 0) 0 [(0, .ref (ad 0 0)), (1, .ref (ad 1 u0))] [] := by
  unfold mF_M_firstWithout at h
  refine y_iconst (v := (-1 : Int32)) C dX6_firstWithout_0 (by decide) ?_
  refine y_istore_n (vs1 := [(2, .int (-1 : Int32)), (0, .ref (ad 0 0)), (1, .ref (ad 1 u0))]) C rfl dX6_firstWithout_1 rfl (g_lL hL rfl) rfl ?_
  refine y_aload_n C dX6_firstWithout_2 1 rfl rfl ?_
  refine gf_M_5 C dX6_firstWithout_3 ?_
  refine y_iconst (v := (1 : Int32)) C dX6_firstWithout_6 (by decide) ?_
  refine y_isub C dX6_firstWithout_7 ?_
  obtain ⟨x1, hx1, h⟩ := g_lt h
  refine y_istore_n (vs1 := [(3, .int x1), (2, .int (-1 : Int32)), (0, .ref (ad 0 0)), (1, .ref (ad 1 u0))]) C hx1 dX6_firstWithout_8 rfl (g_lL hL rfl) rfl ?_
  refine y_sub (vs2 := [(0, .ref (ad 0 0)), (1, .ref (ad 1 u0)), (2, .int (-1 : Int32)), (3, .int x1)]) [2, 3, 1, 0] rfl ?_
  obtain ⟨e5, he5, h⟩ := g_bd h
  refine ml_M_firstWithout_9 C hR hL hu_u0 (σ := σ) _ _ _ he5 ?_
  refine y_iload_n C dX6_firstWithout_41 0 rfl rfl ?_
  replace h := Option.some.inj h; subst h
  exact y_iret C hQ ⟨Nat.zero_le _, Nat.zero_le _⟩ dX6_firstWithout_42
theorem ct_M_firstWithout {D : va_G} {dA : Nat → ClassId} {A : Nat → Prop} {s0 : State} {b0 : Nat} {l : Launch} {hid : Bool} {u0 : Nat} (hu_u0 : u0 < g_n (gM hid) 1) {ad : Nat → Nat → Nat} {σ : g_S} {r : Int32} (h : mF_M_firstWithout σ u0 = some r) : g_Met gCl D dA A s0 b0 l yX6_firstWithout cX6_firstWithout 4 (some .int) 2 (0, 0) (gM hid) ad σ [.ref (ad 0 0), .ref (ad 1 u0)] (gM hid) ad σ (some (.int r)) :=
  g_Met.of pl_X6 (Nat.le_of_ble_eq_true rfl) (fun X C hQ hR _ _ hL _ es eb => mw_M_firstWithout C hR hL hu_u0 h hQ)
theorem ml_M_all_13 {X : g_F} (C : g_M gCl X cX6_all RX6 (some .int)) (hR : g_R X = g_rm 9 0 0) (hL : g_nL X = 4) {ad : Nat → Nat → Nat} {σ : g_S} (n : Nat) (v : (Int32 × Int32 × g_S)) (e : ((Int32 × Int32 × g_S) ⊕ g_S)) (h : g_lp (fun v => mB_M_all_13 v.2.2 v.1 v.2.1) n v = some e) (kx : (∀ y, e = .inl y → g_Y gCl X (gM true) ad y.2.2 (0, 0) 32 [(0, .ref (ad 0 0)), (1, .int y.1), (2, .int y.2.1)] []) ∧ (∀ y, e = .inr y → g_Y gCl X (gM true) ad y (0, 0) 61 [] [])) : g_Y gCl X (gM true) ad v.2.2 (0, 0) 13 [(0, .ref (ad 0 0)), (1, .int v.1), (2, .int v.2.1)] [] := by
  refine g_loop (P := fun v => g_Y gCl X (gM true) ad v.2.2 (0, 0) 13 [(0, .ref (ad 0 0)), (1, .int v.1), (2, .int v.2.1)] []) (T := fun e => (∀ y, e = .inl y → g_Y gCl X (gM true) ad y.2.2 (0, 0) 32 [(0, .ref (ad 0 0)), (1, .int y.1), (2, .int y.2.1)] []) ∧ (∀ y, e = .inr y → g_Y gCl X (gM true) ad y (0, 0) 61 [] [])) ?_ n v e h kx
  clear h kx
  clear n v e
  intro v o h kl kx
  obtain ⟨v1, v2, σ⟩ := v
  have h : mB_M_all_13 σ v1 v2 = some o := h
  unfold mB_M_all_13 at h
  show g_Y gCl X (gM true) ad σ (0, 0) 13 [(0, .ref (ad 0 0)), (1, .int v1), (2, .int v2)] []
  refine y_iload_n C dX6_all_13 2 rfl rfl ?_
  refine y_bipush (v := (99 : Int32)) C dX6_all_14 (by decide) ?_
  refine y_icmp_gt (tgt := 61) C dX6_all_16 rfl (fun hc => ?_) (fun hc => ?_)
  · replace h := g_it h hc
    refine y_sub (vs2 := []) [] rfl ?_
    exact (kx _ (Option.some.inj h).symm).2 _ rfl
  · replace h := g_if h hc
    refine y_aload_n C dX6_all_19 0 rfl rfl ?_
    refine y_aload_n C dX6_all_20 0 rfl rfl ?_
    refine gf_M_12 C dX6_all_21 ?_
    obtain ⟨x3, hc, h⟩ := g_bd h
    refine y_callV C (As := [.ref (ad 1 1)]) (rest := []) (hu := nM_0_0) (hc := (rfl : gCl[5]? = some (RX6, TX6, 49))) (hcell := obM_0) (lk_X6_427 C hR (by decide)) (ct_M_firstWithout nM_1_1 hc) rfl rfl (Nat.le_of_ble_eq_true rfl) ⟨Nat.zero_le _, Nat.zero_le _⟩ dX6_all_24 ?_
    refine y_istore_n (vs1 := [(3, .int x3), (0, .ref (ad 0 0)), (1, .int v1), (2, .int v2)]) C rfl dX6_all_27 rfl (g_lL hL rfl) rfl ?_
    refine y_iload_n C dX6_all_28 0 rfl rfl ?_
    refine y_if_ge (tgt := 45) C dX6_all_29 rfl (fun hc => ?_) (fun hc => ?_)
    · replace h := g_it h hc
      refine y_iload_n C dX6_all_45 0 rfl rfl ?_
      refine y_istore_n (vs1 := [(1, .int x3), (3, .int x3), (0, .ref (ad 0 0)), (2, .int v2)]) C rfl dX6_all_46 rfl (g_lL hL rfl) rfl ?_
      refine y_aload_n C dX6_all_47 2 rfl rfl ?_
      refine y_aload_n C dX6_all_48 2 rfl rfl ?_
      refine gf_M_12 C dX6_all_49 ?_
      obtain ⟨σ4, hc, h⟩ := g_bd h
      refine y_callVv C (As := [.ref (ad 1 1)]) (rest := []) (hu := nM_0_0) (hc := (rfl : gCl[5]? = some (RX6, TX6, 49))) (hcell := obM_0) (lk_X6_347 C hR (by decide)) (ct_M_hourGoes nM_1_1 hc) rfl rfl (Nat.le_of_ble_eq_true rfl) ⟨Nat.zero_le _, Nat.zero_le _⟩ dX6_all_52 ?_
      obtain ⟨x5, hx5, h⟩ := g_lt h
      refine y_iinc (c := (1 : Int32)) (vs1 := [(2, .int x5), (1, .int x3), (3, .int x3), (0, .ref (ad 0 0))]) C hx5 (by decide) dX6_all_55 3 rfl (g_lL hL rfl) rfl ?_
      refine y_goto (tgt := 13) C dX6_all_58 rfl ?_
      refine y_sub (vs2 := [(0, .ref (ad 0 0)), (1, .int x3), (2, .int x5)]) [3, 1, 0] rfl ?_
      exact kl _ (Option.some.inj h).symm
    · replace h := g_if h hc
      refine y_sub (vs2 := [(0, .ref (ad 0 0)), (1, .int v1), (2, .int v2)]) [1, 2, 3] rfl ?_
      exact (kx _ (Option.some.inj h).symm).1 _ rfl
theorem mw_M_all {X : g_F} (C : g_M gCl X cX6_all RX6 (some .int)) (hR : g_R X = g_rm 9 0 0) (hL : g_nL X = 4) {ad : Nat → Nat → Nat} {σ : g_S} {o : (Int32 × g_S)} (h : mF_M_all σ = some o) (hQ : g_MQ gCl X (gM true) ad o.2 (some (.int o.1)) = g_Q X) : g_Y gCl X (gM true) ad σ (0, 0) 0 [(0, .ref (ad 0 0))] [] := by
  unfold mF_M_all at h
  refine y_aload_n C dX6_all_0 0 rfl rfl ?_
  refine y_iconst (v := (0 : Int32)) C dX6_all_1 (by decide) ?_
  obtain ⟨σ1, hσ1, h⟩ := g_lt h
  refine pf_M_0 C hσ1 dX6_all_2 ?_
  refine y_aload_n C dX6_all_5 0 rfl rfl ?_
  obtain ⟨σ2, hc, h⟩ := g_bd h
  refine y_callVv C (As := []) (rest := []) (hu := nM_0_0) (hc := (rfl : gCl[5]? = some (RX6, TX6, 49))) (hcell := obM_0) (lk_X6_424 C hR (by decide)) (ct_M_copies hc) rfl rfl (Nat.le_of_ble_eq_true rfl) ⟨Nat.zero_le _, Nat.zero_le _⟩ dX6_all_6 ?_
  refine y_iconst (v := (-1 : Int32)) C dX6_all_9 (by decide) ?_
  refine y_istore_n (vs1 := [(1, .int (-1 : Int32)), (0, .ref (ad 0 0))]) C rfl dX6_all_10 rfl (g_lL hL rfl) rfl ?_
  refine y_iconst (v := (0 : Int32)) C dX6_all_11 (by decide) ?_
  refine y_istore_n (vs1 := [(2, .int (0 : Int32)), (1, .int (-1 : Int32)), (0, .ref (ad 0 0))]) C rfl dX6_all_12 rfl (g_lL hL rfl) rfl ?_
  refine y_sub (vs2 := [(0, .ref (ad 0 0)), (1, .int (-1 : Int32)), (2, .int (0 : Int32))]) [2, 1, 0] rfl ?_
  obtain ⟨e6, he6, h⟩ := g_bd h
  refine ml_M_all_13 C hR hL (σ := σ2) _ _ _ he6 ⟨fun y he => ?_, fun y he => ?_⟩
  · obtain ⟨y7, rfl⟩ : ∃ z, z = y := ⟨_, rfl⟩
    subst he
    dsimp only at h
    refine y_aload_n C dX6_all_32 0 rfl rfl ?_
    refine y_iconst (v := (0 : Int32)) C dX6_all_33 (by decide) ?_
    obtain ⟨σ8, hσ8, h⟩ := g_lt h
    refine pf_M_1 C hσ8 dX6_all_34 ?_
    refine y_aload_n C dX6_all_37 0 rfl rfl ?_
    refine y_iload_n C dX6_all_38 1 rfl rfl ?_
    refine y_i2l C dX6_all_39 ?_
    obtain ⟨σ9, hc, h⟩ := g_bd h
    refine y_callVv C (As := [.long (y7.1.toInt64)]) (rest := []) (hu := nM_0_0) (hc := (rfl : gCl[5]? = some (RX6, TX6, 49))) (hcell := obM_0) (lk_X6_373 C hR (by decide)) (ct_M_enters hc) rfl rfl (Nat.le_of_ble_eq_true rfl) ⟨Nat.zero_le _, Nat.zero_le _⟩ dX6_all_40 ?_
    refine y_iload_n C dX6_all_43 2 rfl rfl ?_
    replace h := Option.some.inj h; subst h
    exact y_iret C hQ ⟨Nat.zero_le _, Nat.zero_le _⟩ dX6_all_44
  · obtain ⟨y10, rfl⟩ : ∃ z, z = y := ⟨_, rfl⟩
    subst he
    dsimp only at h
    refine y_bipush (v := (-2 : Int32)) C dX6_all_61 (by decide) ?_
    replace h := Option.some.inj h; subst h
    exact y_iret C hQ ⟨Nat.zero_le _, Nat.zero_le _⟩ dX6_all_63
theorem ct_M_all {D : va_G} {dA : Nat → ClassId} {A : Nat → Prop} {s0 : State} {b0 : Nat} {l : Launch} {ad : Nat → Nat → Nat} {σ : g_S} {r : Int32} {σ1 : g_S} (h : mF_M_all σ = some (r, σ1)) : g_Met gCl D dA A s0 b0 l yX6_all cX6_all 4 (some .int) 9 (0, 0) (gM true) ad σ [.ref (ad 0 0)] (gM true) ad σ1 (some (.int r)) :=
  g_Met.of pl_X6 (Nat.le_of_ble_eq_true rfl) (fun X C hQ hR _ _ hL _ es eb => mw_M_all C hR hL h hQ)
theorem ml_M_ahead_39 {X : g_F} (C : g_M gCl X cX6_ahead RX6 (some .int)) (hR : g_R X = g_rm 10 0 0) (hL : g_nL X = 3) {ad : Nat → Nat → Nat} {σ : g_S} (n : Nat) (v : (Int32 × g_S)) (e : g_S) (h : g_lp (fun v => mB_M_ahead_39 v.2 v.1) n v = some e) (kx : g_Y gCl X (gM true) ad e (0, 0) 67 [(0, .ref (ad 0 0))] []) : g_Y gCl X (gM true) ad v.2 (0, 0) 39 [(0, .ref (ad 0 0)), (2, .int v.1)] [] := by
  refine g_loop (P := fun v => g_Y gCl X (gM true) ad v.2 (0, 0) 39 [(0, .ref (ad 0 0)), (2, .int v.1)] []) (T := fun e => g_Y gCl X (gM true) ad e (0, 0) 67 [(0, .ref (ad 0 0))] []) ?_ n v e h kx
  clear h kx
  clear n v e
  intro v o h kl kx
  obtain ⟨v2, σ⟩ := v
  have h : mB_M_ahead_39 σ v2 = some o := h
  unfold mB_M_ahead_39 at h
  show g_Y gCl X (gM true) ad σ (0, 0) 39 [(0, .ref (ad 0 0)), (2, .int v2)] []
  refine y_iload_n C dX6_ahead_39 1 rfl rfl ?_
  refine y_aload_n C dX6_ahead_40 0 rfl rfl ?_
  refine gf_M_5 C dX6_ahead_41 ?_
  refine y_icmp_ge (tgt := 67) C dX6_ahead_44 rfl (fun hc => ?_) (fun hc => ?_)
  · replace h := g_it h hc
    refine y_sub (vs2 := [(0, .ref (ad 0 0))]) [0] rfl ?_
    exact kx _ (Option.some.inj h).symm
  · replace h := g_if h hc
    refine y_aload_n C dX6_ahead_47 0 rfl rfl ?_
    refine y_aload_n C dX6_ahead_48 0 rfl rfl ?_
    refine gf_M_12 C dX6_ahead_49 ?_
    refine y_bipush (v := (24 : Int32)) C dX6_ahead_52 (by decide) ?_
    refine y_iload_n C dX6_ahead_54 1 rfl rfl ?_
    refine y_iadd C dX6_ahead_55 ?_
    obtain ⟨hg, h⟩ := g_gd h
    refine al_M_1 C nM_1_1 hg dX6_ahead_56 ?_
    refine y_i2l C dX6_ahead_57 ?_
    obtain ⟨σ6, hc, h⟩ := g_bd h
    refine y_callVv C (As := [.long ((σ.1 1 1 ((24 : Int32) + v2).toNatClampNeg).toInt64)]) (rest := []) (hu := nM_0_0) (hc := (rfl : gCl[5]? = some (RX6, TX6, 49))) (hcell := obM_0) (lk_X6_373 C hR (by decide)) (ct_M_enters hc) rfl rfl (Nat.le_of_ble_eq_true rfl) ⟨Nat.zero_le _, Nat.zero_le _⟩ dX6_ahead_58 ?_
    obtain ⟨x7, hx7, h⟩ := g_lt h
    refine y_iinc (c := (1 : Int32)) (vs1 := [(2, .int x7), (0, .ref (ad 0 0))]) C hx7 (by decide) dX6_ahead_61 1 rfl (g_lL hL rfl) rfl ?_
    refine y_goto (tgt := 39) C dX6_ahead_64 rfl ?_
    refine y_sub (vs2 := [(0, .ref (ad 0 0)), (2, .int x7)]) [1, 0] rfl ?_
    exact kl _ (Option.some.inj h).symm
theorem mw_M_ahead {X : g_F} (C : g_M gCl X cX6_ahead RX6 (some .int)) (hR : g_R X = g_rm 10 0 0) (hL : g_nL X = 3) {ad : Nat → Nat → Nat} {σ : g_S} {v1 : Int32} {o : (Int32 × g_S)} (h : mF_M_ahead σ v1 = some o) (hQ : g_MQ gCl X (gM true) ad o.2 (some (.int o.1)) = g_Q X) : g_Y gCl X (gM true) ad σ (0, 0) 0 [(0, .ref (ad 0 0)), (1, .int v1)] [] := by
  unfold mF_M_ahead at h
  refine y_aload_n C dX6_ahead_0 0 rfl rfl ?_
  refine y_iconst (v := (0 : Int32)) C dX6_ahead_1 (by decide) ?_
  obtain ⟨σ1, hσ1, h⟩ := g_lt h
  refine pf_M_0 C hσ1 dX6_ahead_2 ?_
  refine y_iload_n C dX6_ahead_5 1 rfl rfl ?_
  refine y_i2l C dX6_ahead_6 ?_
  refine y_lconst (v := (0 : Int64)) C dX6_ahead_7 (by decide) ?_
  refine y_ldc2 (v := (99 : Int64)) C q1820 dX6_ahead_8 ?_
  obtain ⟨x2, hc, h⟩ := g_bd h
  refine y_callS C (As := [.long (v1.toInt64), .long (0 : Int64), .long (99 : Int64)]) (rest := []) (lk_X6_126 C hR (by decide)) (ct_M_in hc) rfl rfl (Nat.le_of_ble_eq_true rfl) ⟨Nat.zero_le _, Nat.zero_le _⟩ dX6_ahead_11 ?_
  refine y_if_ne (tgt := 19) C dX6_ahead_14 rfl (fun hc => ?_) (fun hc => ?_)
  · replace h := g_if h hc
    refine y_aload_n C dX6_ahead_19 0 rfl rfl ?_
    obtain ⟨σ3, hc, h⟩ := g_bd h
    refine y_callVv C (As := []) (rest := []) (hu := nM_0_0) (hc := (rfl : gCl[5]? = some (RX6, TX6, 49))) (hcell := obM_0) (lk_X6_424 C hR (by decide)) (ct_M_copies hc) rfl rfl (Nat.le_of_ble_eq_true rfl) ⟨Nat.zero_le _, Nat.zero_le _⟩ dX6_ahead_20 ?_
    refine y_aload_n C dX6_ahead_23 0 rfl rfl ?_
    refine y_aload_n C dX6_ahead_24 0 rfl rfl ?_
    refine gf_M_12 C dX6_ahead_25 ?_
    refine y_iload_n C dX6_ahead_28 1 rfl rfl ?_
    obtain ⟨σ4, hc, h⟩ := g_bd h
    refine y_callVv C (As := [.ref (ad 1 1), .int v1]) (rest := []) (hu := nM_0_0) (hc := (rfl : gCl[5]? = some (RX6, TX6, 49))) (hcell := obM_0) (lk_X6_370 C hR (by decide)) (ct_M_goesOn nM_1_1 hc) rfl rfl (Nat.le_of_ble_eq_true rfl) ⟨Nat.zero_le _, Nat.zero_le _⟩ dX6_ahead_29 ?_
    refine y_aload_n C dX6_ahead_32 0 rfl rfl ?_
    refine y_iconst (v := (0 : Int32)) C dX6_ahead_33 (by decide) ?_
    obtain ⟨σ5, hσ5, h⟩ := g_lt h
    refine pf_M_1 C hσ5 dX6_ahead_34 ?_
    refine y_iconst (v := (0 : Int32)) C dX6_ahead_37 (by decide) ?_
    refine y_istore_n (vs1 := [(2, .int (0 : Int32)), (0, .ref (ad 0 0)), (1, .int v1)]) C rfl dX6_ahead_38 rfl (g_lL hL rfl) rfl ?_
    refine y_sub (vs2 := [(0, .ref (ad 0 0)), (2, .int (0 : Int32))]) [1, 0] rfl ?_
    obtain ⟨e8, he8, h⟩ := g_bd h
    refine ml_M_ahead_39 C hR hL (σ := σ5) _ _ _ he8 ?_
    refine y_aload_n C dX6_ahead_67 0 rfl rfl ?_
    refine y_aload_n C dX6_ahead_68 0 rfl rfl ?_
    refine gf_M_12 C dX6_ahead_69 ?_
    obtain ⟨x9, hc, h⟩ := g_bd h
    refine y_callV C (As := [.ref (ad 1 1)]) (rest := []) (hu := nM_0_0) (hc := (rfl : gCl[5]? = some (RX6, TX6, 49))) (hcell := obM_0) (lk_X6_366 C hR (by decide)) (ct_M_known nM_1_1 hc) rfl rfl (Nat.le_of_ble_eq_true rfl) ⟨Nat.zero_le _, Nat.zero_le _⟩ dX6_ahead_72 ?_
    replace h := Option.some.inj h; subst h
    exact y_iret C hQ ⟨Nat.zero_le _, Nat.zero_le _⟩ dX6_ahead_75
  · replace h := g_it h hc
    refine y_iconst (v := (-1 : Int32)) C dX6_ahead_17 (by decide) ?_
    replace h := Option.some.inj h; subst h
    exact y_iret C hQ ⟨Nat.zero_le _, Nat.zero_le _⟩ dX6_ahead_18
theorem ct_M_ahead {D : va_G} {dA : Nat → ClassId} {A : Nat → Prop} {s0 : State} {b0 : Nat} {l : Launch} {ad : Nat → Nat → Nat} {σ : g_S} {v1 : Int32} {r : Int32} {σ1 : g_S} (h : mF_M_ahead σ v1 = some (r, σ1)) : g_Met gCl D dA A s0 b0 l yX6_ahead cX6_ahead 3 (some .int) 10 (0, 0) (gM true) ad σ [.ref (ad 0 0), .int v1] (gM true) ad σ1 (some (.int r)) :=
  g_Met.of pl_X6 (Nat.le_of_ble_eq_true rfl) (fun X C hQ hR _ _ hL _ es eb => mw_M_ahead C hR hL h hQ)
theorem ml_M_gossip_55 {X : g_F} (C : g_M gCl X cX6_gossip RX6 (some .int)) (hR : g_R X = g_rm 8 0 0) (hL : g_nL X = 7) {ad : Nat → Nat → Nat} {σ : g_S} {v2 : Int32} {v3 : Int32} {v5 : Int32} (n : Nat) (v : (Int32 × Int32)) (e : Int32) (h : g_lp (fun v => mB_M_gossip_55 σ v2 v3 v5 v.1 v.2) n v = some e) (kx : g_Y gCl X (gM true) ad σ (0, 0) 118 [(0, .ref (ad 0 0)), (2, .int v2), (3, .int v3), (4, .int e), (5, .int v5)] []) : g_Y gCl X (gM true) ad σ (0, 0) 55 [(0, .ref (ad 0 0)), (2, .int v2), (3, .int v3), (4, .int v.1), (5, .int v5), (6, .int v.2)] [] := by
  refine g_loop (P := fun v => g_Y gCl X (gM true) ad σ (0, 0) 55 [(0, .ref (ad 0 0)), (2, .int v2), (3, .int v3), (4, .int v.1), (5, .int v5), (6, .int v.2)] []) (T := fun e => g_Y gCl X (gM true) ad σ (0, 0) 118 [(0, .ref (ad 0 0)), (2, .int v2), (3, .int v3), (4, .int e), (5, .int v5)] []) ?_ n v e h kx
  clear h kx
  clear n v e
  intro v o h kl kx
  obtain ⟨v4, v6⟩ := v
  have h : mB_M_gossip_55 σ v2 v3 v5 v4 v6 = some o := h
  unfold mB_M_gossip_55 at h
  show g_Y gCl X (gM true) ad σ (0, 0) 55 [(0, .ref (ad 0 0)), (2, .int v2), (3, .int v3), (4, .int v4), (5, .int v5), (6, .int v6)] []
  refine y_iload C dX6_gossip_55 5 rfl ?_
  refine y_aload_n C dX6_gossip_57 0 rfl rfl ?_
  refine gf_M_5 C dX6_gossip_58 ?_
  refine y_icmp_ge (tgt := 118) C dX6_gossip_61 rfl (fun hc => ?_) (fun hc => ?_)
  · replace h := g_it h hc
    refine y_sub (vs2 := [(0, .ref (ad 0 0)), (2, .int v2), (3, .int v3), (4, .int v4), (5, .int v5)]) [0, 1, 2, 3, 4] rfl ?_
    exact kx _ (Option.some.inj h).symm
  · replace h := g_if h hc
    refine y_iload C dX6_gossip_64 3 rfl ?_
    refine y_iload_n C dX6_gossip_66 1 rfl rfl ?_
    refine y_i2l C dX6_gossip_67 ?_
    refine y_iload C dX6_gossip_68 4 rfl ?_
    obtain ⟨x6, hc, h⟩ := g_bd h
    refine y_callS C (As := [.long (v2.toInt64), .int v5]) (rest := [.int v4]) (lk_X6_304 C hR (by decide)) (ct_M_has hc) rfl rfl (Nat.le_of_ble_eq_true rfl) ⟨Nat.zero_le _, Nat.zero_le _⟩ dX6_gossip_70 ?_
    refine y_if_eq (tgt := 108) C dX6_gossip_73 rfl (fun hc => ?_) (fun hc => ?_)
    · replace h := g_it h hc
      refine y_iconst (v := (0 : Int32)) C dX6_gossip_108 (by decide) ?_
      refine y_ior C dX6_gossip_109 ?_
      obtain ⟨x7, hx7, h⟩ := g_lt h
      refine y_istore (vs1 := [(4, .int x7), (0, .ref (ad 0 0)), (2, .int v2), (3, .int v3), (5, .int v5), (6, .int v6)]) C hx7 dX6_gossip_110 (g_lL hL rfl) rfl ?_
      obtain ⟨x8, hx8, h⟩ := g_lt h
      refine y_iinc (c := (1 : Int32)) (vs1 := [(6, .int x8), (4, .int x7), (0, .ref (ad 0 0)), (2, .int v2), (3, .int v3), (5, .int v5)]) C hx8 (by decide) dX6_gossip_112 5 rfl (g_lL hL rfl) rfl ?_
      refine y_goto (tgt := 55) C dX6_gossip_115 rfl ?_
      refine y_sub (vs2 := [(0, .ref (ad 0 0)), (2, .int v2), (3, .int v3), (4, .int x7), (5, .int v5), (6, .int x8)]) [2, 3, 4, 1, 5, 0] rfl ?_
      exact kl _ (Option.some.inj h).symm
    · replace h := g_if h hc
      refine y_iload_n C dX6_gossip_76 1 rfl rfl ?_
      refine y_i2l C dX6_gossip_77 ?_
      refine y_iload C dX6_gossip_78 5 rfl ?_
      obtain ⟨x9, hc, h⟩ := g_bd h
      refine y_callS C (As := [.long (v2.toInt64), .int v6]) (rest := [.int v4]) (lk_X6_304 C hR (by decide)) (ct_M_has hc) rfl rfl (Nat.le_of_ble_eq_true rfl) ⟨Nat.zero_le _, Nat.zero_le _⟩ dX6_gossip_80 ?_
      refine y_if_ne (tgt := 108) C dX6_gossip_83 rfl (fun hc => ?_) (fun hc => ?_)
      · replace h := g_if h hc
        refine y_iconst (v := (0 : Int32)) C dX6_gossip_108 (by decide) ?_
        refine y_ior C dX6_gossip_109 ?_
        obtain ⟨x10, hx10, h⟩ := g_lt h
        refine y_istore (vs1 := [(4, .int x10), (0, .ref (ad 0 0)), (2, .int v2), (3, .int v3), (5, .int v5), (6, .int v6)]) C hx10 dX6_gossip_110 (g_lL hL rfl) rfl ?_
        obtain ⟨x11, hx11, h⟩ := g_lt h
        refine y_iinc (c := (1 : Int32)) (vs1 := [(6, .int x11), (4, .int x10), (0, .ref (ad 0 0)), (2, .int v2), (3, .int v3), (5, .int v5)]) C hx11 (by decide) dX6_gossip_112 5 rfl (g_lL hL rfl) rfl ?_
        refine y_goto (tgt := 55) C dX6_gossip_115 rfl ?_
        refine y_sub (vs2 := [(0, .ref (ad 0 0)), (2, .int v2), (3, .int v3), (4, .int x10), (5, .int v5), (6, .int x11)]) [2, 3, 4, 1, 5, 0] rfl ?_
        exact kl _ (Option.some.inj h).symm
      · replace h := g_it h hc
        refine y_aload_n C dX6_gossip_86 0 rfl rfl ?_
        refine y_aload_n C dX6_gossip_87 0 rfl rfl ?_
        refine gf_M_11 C dX6_gossip_88 ?_
        refine y_iload C dX6_gossip_91 4 rfl ?_
        refine y_iload C dX6_gossip_93 5 rfl ?_
        obtain ⟨x12, hc, h⟩ := g_bd h
        refine y_callV C (As := [.ref (ad 1 0), .int v5, .int v6]) (rest := [.int v4]) (hu := nM_0_0) (hc := (rfl : gCl[5]? = some (RX6, TX6, 49))) (hcell := obM_0) (lk_X6_344 C hR (by decide)) (ct_M_tellEachOther nM_1_0 hc) rfl rfl (Nat.le_of_ble_eq_true rfl) ⟨Nat.zero_le _, Nat.zero_le _⟩ dX6_gossip_95 ?_
        refine y_if_eq (tgt := 108) C dX6_gossip_98 rfl (fun hc => ?_) (fun hc => ?_)
        · replace h := g_it h hc
          refine y_iconst (v := (0 : Int32)) C dX6_gossip_108 (by decide) ?_
          refine y_ior C dX6_gossip_109 ?_
          obtain ⟨x13, hx13, h⟩ := g_lt h
          refine y_istore (vs1 := [(4, .int x13), (0, .ref (ad 0 0)), (2, .int v2), (3, .int v3), (5, .int v5), (6, .int v6)]) C hx13 dX6_gossip_110 (g_lL hL rfl) rfl ?_
          obtain ⟨x14, hx14, h⟩ := g_lt h
          refine y_iinc (c := (1 : Int32)) (vs1 := [(6, .int x14), (4, .int x13), (0, .ref (ad 0 0)), (2, .int v2), (3, .int v3), (5, .int v5)]) C hx14 (by decide) dX6_gossip_112 5 rfl (g_lL hL rfl) rfl ?_
          refine y_goto (tgt := 55) C dX6_gossip_115 rfl ?_
          refine y_sub (vs2 := [(0, .ref (ad 0 0)), (2, .int v2), (3, .int v3), (4, .int x13), (5, .int v5), (6, .int x14)]) [2, 3, 4, 1, 5, 0] rfl ?_
          exact kl _ (Option.some.inj h).symm
        · replace h := g_if h hc
          refine y_iconst (v := (1 : Int32)) C dX6_gossip_101 (by decide) ?_
          refine y_iload C dX6_gossip_102 5 rfl ?_
          refine y_ishl C dX6_gossip_104 ?_
          refine y_goto (tgt := 109) C dX6_gossip_105 rfl ?_
          refine y_ior C dX6_gossip_109 ?_
          obtain ⟨x15, hx15, h⟩ := g_lt h
          refine y_istore (vs1 := [(4, .int x15), (0, .ref (ad 0 0)), (2, .int v2), (3, .int v3), (5, .int v5), (6, .int v6)]) C hx15 dX6_gossip_110 (g_lL hL rfl) rfl ?_
          obtain ⟨x16, hx16, h⟩ := g_lt h
          refine y_iinc (c := (1 : Int32)) (vs1 := [(6, .int x16), (4, .int x15), (0, .ref (ad 0 0)), (2, .int v2), (3, .int v3), (5, .int v5)]) C hx16 (by decide) dX6_gossip_112 5 rfl (g_lL hL rfl) rfl ?_
          refine y_goto (tgt := 55) C dX6_gossip_115 rfl ?_
          refine y_sub (vs2 := [(0, .ref (ad 0 0)), (2, .int v2), (3, .int v3), (4, .int x15), (5, .int v5), (6, .int x16)]) [2, 3, 4, 1, 5, 0] rfl ?_
          exact kl _ (Option.some.inj h).symm
theorem ml_M_gossip_43 {X : g_F} (C : g_M gCl X cX6_gossip RX6 (some .int)) (hR : g_R X = g_rm 8 0 0) (hL : g_nL X = 7) {ad : Nat → Nat → Nat} {σ : g_S} {v2 : Int32} {v3 : Int32} (n : Nat) (v : (Int32 × Int32)) (e : Int32) (h : g_lp (fun v => mB_M_gossip_43 σ v2 v3 v.1 v.2) n v = some e) (kx : g_Y gCl X (gM true) ad σ (0, 0) 124 [(0, .ref (ad 0 0)), (2, .int v2), (3, .int v3), (4, .int e)] []) : g_Y gCl X (gM true) ad σ (0, 0) 43 [(0, .ref (ad 0 0)), (2, .int v2), (3, .int v3), (4, .int v.1), (5, .int v.2)] [] := by
  refine g_loop (P := fun v => g_Y gCl X (gM true) ad σ (0, 0) 43 [(0, .ref (ad 0 0)), (2, .int v2), (3, .int v3), (4, .int v.1), (5, .int v.2)] []) (T := fun e => g_Y gCl X (gM true) ad σ (0, 0) 124 [(0, .ref (ad 0 0)), (2, .int v2), (3, .int v3), (4, .int e)] []) ?_ n v e h kx
  clear h kx
  clear n v e
  intro v o h kl kx
  obtain ⟨v4, v5⟩ := v
  have h : mB_M_gossip_43 σ v2 v3 v4 v5 = some o := h
  unfold mB_M_gossip_43 at h
  show g_Y gCl X (gM true) ad σ (0, 0) 43 [(0, .ref (ad 0 0)), (2, .int v2), (3, .int v3), (4, .int v4), (5, .int v5)] []
  refine y_iload C dX6_gossip_43 4 rfl ?_
  refine y_aload_n C dX6_gossip_45 0 rfl rfl ?_
  refine gf_M_5 C dX6_gossip_46 ?_
  refine y_icmp_ge (tgt := 124) C dX6_gossip_49 rfl (fun hc => ?_) (fun hc => ?_)
  · replace h := g_it h hc
    refine y_sub (vs2 := [(0, .ref (ad 0 0)), (2, .int v2), (3, .int v3), (4, .int v4)]) [0, 1, 2, 3] rfl ?_
    exact kx _ (Option.some.inj h).symm
  · replace h := g_if h hc
    refine y_iconst (v := (0 : Int32)) C dX6_gossip_52 (by decide) ?_
    refine y_istore (vs1 := [(6, .int (0 : Int32)), (0, .ref (ad 0 0)), (2, .int v2), (3, .int v3), (4, .int v4), (5, .int v5)]) C rfl dX6_gossip_53 (g_lL hL rfl) rfl ?_
    refine y_sub (vs2 := [(0, .ref (ad 0 0)), (2, .int v2), (3, .int v3), (4, .int v4), (5, .int v5), (6, .int (0 : Int32))]) [1, 2, 3, 4, 5, 0] rfl ?_
    obtain ⟨e17, he17, h⟩ := g_bd h
    refine ml_M_gossip_55 C hR hL (σ := σ) _ _ _ he17 ?_
    obtain ⟨x18, hx18, h⟩ := g_lt h
    refine y_iinc (c := (1 : Int32)) (vs1 := [(5, .int x18), (0, .ref (ad 0 0)), (2, .int v2), (3, .int v3), (4, .int e17)]) C hx18 (by decide) dX6_gossip_118 4 rfl (g_lL hL rfl) rfl ?_
    refine y_goto (tgt := 43) C dX6_gossip_121 rfl ?_
    refine y_sub (vs2 := [(0, .ref (ad 0 0)), (2, .int v2), (3, .int v3), (4, .int e17), (5, .int x18)]) [1, 2, 3, 4, 0] rfl ?_
    exact kl _ (Option.some.inj h).symm
theorem ml_M_gossip_24 {X : g_F} (C : g_M gCl X cX6_gossip RX6 (some .int)) (hR : g_R X = g_rm 8 0 0) (hL : g_nL X = 7) {ad : Nat → Nat → Nat} {σ : g_S} (n : Nat) (v : (Int32 × Int32 × Int32)) (e : (Int32 × Int32)) (h : g_lp (fun v => mB_M_gossip_24 σ v.1 v.2.1 v.2.2) n v = some e) (kx : g_Y gCl X (gM true) ad σ (0, 0) 127 [(0, .ref (ad 0 0)), (2, .int e.1), (3, .int e.2)] []) : g_Y gCl X (gM true) ad σ (0, 0) 24 [(0, .ref (ad 0 0)), (2, .int v.1), (3, .int v.2.1), (4, .int v.2.2)] [] := by
  refine g_loop (P := fun v => g_Y gCl X (gM true) ad σ (0, 0) 24 [(0, .ref (ad 0 0)), (2, .int v.1), (3, .int v.2.1), (4, .int v.2.2)] []) (T := fun e => g_Y gCl X (gM true) ad σ (0, 0) 127 [(0, .ref (ad 0 0)), (2, .int e.1), (3, .int e.2)] []) ?_ n v e h kx
  clear h kx
  clear n v e
  intro v o h kl kx
  obtain ⟨v2, v3, v4⟩ := v
  have h : mB_M_gossip_24 σ v2 v3 v4 = some o := h
  unfold mB_M_gossip_24 at h
  show g_Y gCl X (gM true) ad σ (0, 0) 24 [(0, .ref (ad 0 0)), (2, .int v2), (3, .int v3), (4, .int v4)] []
  refine y_iload C dX6_gossip_24 3 rfl ?_
  refine y_if_eq (tgt := 127) C dX6_gossip_26 rfl (fun hc => ?_) (fun hc => ?_)
  · replace h := g_it h hc
    refine y_sub (vs2 := [(0, .ref (ad 0 0)), (2, .int v2), (3, .int v3)]) [0, 1, 2] rfl ?_
    exact kx _ (Option.some.inj h).symm
  · replace h := g_if h hc
    obtain ⟨x4, hx4, h⟩ := g_lt h
    refine y_iinc (c := (1 : Int32)) (vs1 := [(3, .int x4), (0, .ref (ad 0 0)), (2, .int v2), (4, .int v4)]) C hx4 (by decide) dX6_gossip_29 2 rfl (g_lL hL rfl) rfl ?_
    refine y_iload_n C dX6_gossip_32 2 rfl rfl ?_
    refine y_iload C dX6_gossip_33 3 rfl ?_
    refine y_ior C dX6_gossip_35 ?_
    obtain ⟨x5, hx5, h⟩ := g_lt h
    refine y_istore_n (vs1 := [(2, .int x5), (3, .int x4), (0, .ref (ad 0 0)), (4, .int v4)]) C hx5 dX6_gossip_36 rfl (g_lL hL rfl) rfl ?_
    refine y_iconst (v := (0 : Int32)) C dX6_gossip_37 (by decide) ?_
    refine y_istore (vs1 := [(4, .int (0 : Int32)), (2, .int x5), (3, .int x4), (0, .ref (ad 0 0))]) C rfl dX6_gossip_38 (g_lL hL rfl) rfl ?_
    refine y_iconst (v := (0 : Int32)) C dX6_gossip_40 (by decide) ?_
    refine y_istore (vs1 := [(5, .int (0 : Int32)), (4, .int (0 : Int32)), (2, .int x5), (3, .int x4), (0, .ref (ad 0 0))]) C rfl dX6_gossip_41 (g_lL hL rfl) rfl ?_
    refine y_sub (vs2 := [(0, .ref (ad 0 0)), (2, .int x5), (3, .int x4), (4, .int (0 : Int32)), (5, .int (0 : Int32))]) [4, 2, 3, 1, 0] rfl ?_
    obtain ⟨e19, he19, h⟩ := g_bd h
    refine ml_M_gossip_43 C hR hL (σ := σ) _ _ _ he19 ?_
    refine y_goto (tgt := 24) C dX6_gossip_124 rfl ?_
    exact kl _ (Option.some.inj h).symm
theorem mw_M_gossip {X : g_F} (C : g_M gCl X cX6_gossip RX6 (some .int)) (hR : g_R X = g_rm 8 0 0) (hL : g_nL X = 7) {ad : Nat → Nat → Nat} {σ : g_S} {v1 : Int32} {o : (Int32 × g_S)} (h : mF_M_gossip σ v1 = some o) (hQ : g_MQ gCl X (gM true) ad o.2 (some (.int o.1)) = g_Q X) : g_Y gCl X (gM true) ad σ (0, 0) 0 [(0, .ref (ad 0 0)), (1, .int v1)] [] := by
  unfold mF_M_gossip at h
  refine y_aload_n C dX6_gossip_0 0 rfl rfl ?_
  refine y_iconst (v := (0 : Int32)) C dX6_gossip_1 (by decide) ?_
  obtain ⟨σ1, hσ1, h⟩ := g_lt h
  refine pf_M_0 C hσ1 dX6_gossip_2 ?_
  refine y_aload_n C dX6_gossip_5 0 rfl rfl ?_
  refine y_iload_n C dX6_gossip_6 1 rfl rfl ?_
  obtain ⟨x2, hc, h⟩ := g_bd h
  refine y_callV C (As := [.int v1]) (rest := []) (hu := nM_0_0) (hc := (rfl : gCl[5]? = some (RX6, TX6, 49))) (hcell := obM_0) (lk_X6_315 C hR (by decide)) (ct_M_isPerson hc) rfl rfl (Nat.le_of_ble_eq_true rfl) ⟨Nat.zero_le _, Nat.zero_le _⟩ dX6_gossip_7 ?_
  refine y_if_ne (tgt := 15) C dX6_gossip_10 rfl (fun hc => ?_) (fun hc => ?_)
  · replace h := g_if h hc
    refine y_iconst (v := (1 : Int32)) C dX6_gossip_15 (by decide) ?_
    refine y_iload_n C dX6_gossip_16 1 rfl rfl ?_
    refine y_ishl C dX6_gossip_17 ?_
    obtain ⟨x3, hx3, h⟩ := g_lt h
    refine y_istore_n (vs1 := [(2, .int x3), (0, .ref (ad 0 0)), (1, .int v1)]) C hx3 dX6_gossip_18 rfl (g_lL hL rfl) rfl ?_
    refine y_iconst (v := (-1 : Int32)) C dX6_gossip_19 (by decide) ?_
    refine y_istore_n (vs1 := [(3, .int (-1 : Int32)), (2, .int x3), (0, .ref (ad 0 0)), (1, .int v1)]) C rfl dX6_gossip_20 rfl (g_lL hL rfl) rfl ?_
    refine y_iload_n C dX6_gossip_21 1 rfl rfl ?_
    refine y_istore (vs1 := [(4, .int x3), (3, .int (-1 : Int32)), (2, .int x3), (0, .ref (ad 0 0)), (1, .int v1)]) C rfl dX6_gossip_22 (g_lL hL rfl) rfl ?_
    refine y_sub (vs2 := [(0, .ref (ad 0 0)), (2, .int x3), (3, .int (-1 : Int32)), (4, .int x3)]) [3, 2, 1, 0] rfl ?_
    obtain ⟨e20, he20, h⟩ := g_bd h
    refine ml_M_gossip_24 C hR hL (σ := σ1) _ _ _ he20 ?_
    refine y_aload_n C dX6_gossip_127 0 rfl rfl ?_
    refine y_iconst (v := (0 : Int32)) C dX6_gossip_128 (by decide) ?_
    obtain ⟨σ21, hσ21, h⟩ := g_lt h
    refine pf_M_1 C hσ21 dX6_gossip_129 ?_
    refine y_aload_n C dX6_gossip_132 0 rfl rfl ?_
    refine y_iload_n C dX6_gossip_133 2 rfl rfl ?_
    refine y_i2l C dX6_gossip_134 ?_
    obtain ⟨σ22, hc, h⟩ := g_bd h
    refine y_callVv C (As := [.long (e20.2.toInt64)]) (rest := []) (hu := nM_0_0) (hc := (rfl : gCl[5]? = some (RX6, TX6, 49))) (hcell := obM_0) (lk_X6_373 C hR (by decide)) (ct_M_enters hc) rfl rfl (Nat.le_of_ble_eq_true rfl) ⟨Nat.zero_le _, Nat.zero_le _⟩ dX6_gossip_135 ?_
    refine y_iload_n C dX6_gossip_138 1 rfl rfl ?_
    replace h := Option.some.inj h; subst h
    exact y_iret C hQ ⟨Nat.zero_le _, Nat.zero_le _⟩ dX6_gossip_139
  · replace h := g_it h hc
    refine y_iconst (v := (-1 : Int32)) C dX6_gossip_13 (by decide) ?_
    replace h := Option.some.inj h; subst h
    exact y_iret C hQ ⟨Nat.zero_le _, Nat.zero_le _⟩ dX6_gossip_14
theorem ct_M_gossip {D : va_G} {dA : Nat → ClassId} {A : Nat → Prop} {s0 : State} {b0 : Nat} {l : Launch} {ad : Nat → Nat → Nat} {σ : g_S} {v1 : Int32} {r : Int32} {σ1 : g_S} (h : mF_M_gossip σ v1 = some (r, σ1)) : g_Met gCl D dA A s0 b0 l yX6_gossip cX6_gossip 7 (some .int) 8 (0, 0) (gM true) ad σ [.ref (ad 0 0), .int v1] (gM true) ad σ1 (some (.int r)) :=
  g_Met.of pl_X6 (Nat.le_of_ble_eq_true rfl) (fun X C hQ hR _ _ hL _ es eb => mw_M_gossip C hR hL h hQ)
theorem mw_M_wouldSee {X : g_F} (C : g_M gCl X cX6_wouldSee RX6 (some .boolean)) (hR : g_R X = g_rm 5 0 0) (hL : g_nL X = 4) {ad : Nat → Nat → Nat} {σ : g_S} {v1 : Int32} {v2 : Int32} {v3 : Int32} {o : Int32} (h : mF_M_wouldSee σ v1 v2 v3 = some o) (hQ : g_MQ gCl X (gM true) ad σ (some (.int o)) = g_Q X) : g_Y gCl X (gM true) ad σ (0, 0) 0 [(0, .ref (ad 0 0)), (1, .int v1), (2, .int v2), (3, .int v3)] [] := by
  unfold mF_M_wouldSee at h
  refine y_aload_n C dX6_wouldSee_0 0 rfl rfl ?_
  refine y_aload_n C dX6_wouldSee_1 0 rfl rfl ?_
  refine gf_M_11 C dX6_wouldSee_2 ?_
  refine y_iload_n C dX6_wouldSee_5 1 rfl rfl ?_
  obtain ⟨hg, h⟩ := g_gd h
  refine al_M_1 C nM_1_0 hg dX6_wouldSee_6 ?_
  refine y_iload_n C dX6_wouldSee_7 2 rfl rfl ?_
  refine y_iload_n C dX6_wouldSee_8 3 rfl rfl ?_
  refine y_aload_n C dX6_wouldSee_9 0 rfl rfl ?_
  refine gf_M_11 C dX6_wouldSee_10 ?_
  refine y_bipush (v := (16 : Int32)) C dX6_wouldSee_13 (by decide) ?_
  refine y_iload_n C dX6_wouldSee_15 1 rfl rfl ?_
  refine y_iadd C dX6_wouldSee_16 ?_
  obtain ⟨hg, h⟩ := g_gd h
  refine al_M_1 C nM_1_0 hg dX6_wouldSee_17 ?_
  refine y_aload_n C dX6_wouldSee_18 0 rfl rfl ?_
  refine y_aload_n C dX6_wouldSee_19 0 rfl rfl ?_
  refine gf_M_11 C dX6_wouldSee_20 ?_
  refine y_iload_n C dX6_wouldSee_23 1 rfl rfl ?_
  refine y_aload_n C dX6_wouldSee_24 0 rfl rfl ?_
  refine gf_M_11 C dX6_wouldSee_25 ?_
  refine y_bipush (v := (16 : Int32)) C dX6_wouldSee_28 (by decide) ?_
  refine y_iload_n C dX6_wouldSee_30 1 rfl rfl ?_
  refine y_iadd C dX6_wouldSee_31 ?_
  obtain ⟨hg, h⟩ := g_gd h
  refine al_M_1 C nM_1_0 hg dX6_wouldSee_32 ?_
  obtain ⟨x1, hc, h⟩ := g_bd h
  refine y_callV C (As := [.ref (ad 1 0), .int v1, .int (σ.1 1 0 ((16 : Int32) + v1).toNatClampNeg)]) (rest := [.int (σ.1 1 0 ((16 : Int32) + v1).toNatClampNeg), .int v3, .int v2, .int (σ.1 1 0 v1.toNatClampNeg), .ref (ad 0 0)]) (hu := nM_0_0) (hc := (rfl : gCl[5]? = some (RX6, TX6, 49))) (hcell := obM_0) (lk_X6_292 C hR (by decide)) (ct_R_reachBy nM_1_0 hc) rfl rfl (Nat.le_of_ble_eq_true rfl) ⟨Nat.zero_le _, Nat.zero_le _⟩ dX6_wouldSee_33 ?_
  obtain ⟨x2, hc, h⟩ := g_bd h
  refine y_callV C (As := [.int (σ.1 1 0 v1.toNatClampNeg), .int v2, .int v3, .int (σ.1 1 0 ((16 : Int32) + v1).toNatClampNeg), .int x1]) (rest := []) (hu := nM_0_0) (hc := (rfl : gCl[5]? = some (RX6, TX6, 49))) (hcell := obM_0) (lk_X6_296 C hR (by decide)) (ct_M_seesBy hc) rfl rfl (Nat.le_of_ble_eq_true rfl) ⟨Nat.zero_le _, Nat.zero_le _⟩ dX6_wouldSee_36 ?_
  obtain ⟨hg, h⟩ := g_gd h
  replace h := Option.some.inj h; subst h
  exact y_zret C (g_nz hg) hQ ⟨Nat.zero_le _, Nat.zero_le _⟩ dX6_wouldSee_39
theorem ct_M_wouldSee {D : va_G} {dA : Nat → ClassId} {A : Nat → Prop} {s0 : State} {b0 : Nat} {l : Launch} {ad : Nat → Nat → Nat} {σ : g_S} {v1 : Int32} {v2 : Int32} {v3 : Int32} {r : Int32} (h : mF_M_wouldSee σ v1 v2 v3 = some r) : g_Met gCl D dA A s0 b0 l yX6_wouldSee cX6_wouldSee 4 (some .boolean) 5 (0, 0) (gM true) ad σ [.ref (ad 0 0), .int v1, .int v2, .int v3] (gM true) ad σ (some (.int r)) :=
  g_Met.of pl_X6 (Nat.le_of_ble_eq_true rfl) (fun X C hQ hR _ _ hL _ es eb => mw_M_wouldSee C hR hL h hQ)
theorem ml_M_eighths_33 {X : g_F} (C : g_M gCl X cX6_eighths RX6 (some .int)) (hR : g_R X = g_rm 6 0 0) (hL : g_nL X = 7) {ad : Nat → Nat → Nat} {σ : g_S} {v1 : Int32} {v2 : Int32} (n : Nat) (v : (Int32 × Int32 × Int32)) (e : (Int32 × Int32)) (h : g_lp (fun v => mB_M_eighths_33 σ v1 v2 v.1 v.2.1 v.2.2) n v = some e) (kx : g_Y gCl X (gM true) ad σ (0, 0) 87 [(0, .ref (ad 0 0)), (3, .int e.1), (4, .int e.2)] []) : g_Y gCl X (gM true) ad σ (0, 0) 33 [(0, .ref (ad 0 0)), (1, .int v1), (2, .int v2), (3, .int v.1), (4, .int v.2.1), (5, .int v.2.2)] [] := by
  refine g_loop (P := fun v => g_Y gCl X (gM true) ad σ (0, 0) 33 [(0, .ref (ad 0 0)), (1, .int v1), (2, .int v2), (3, .int v.1), (4, .int v.2.1), (5, .int v.2.2)] []) (T := fun e => g_Y gCl X (gM true) ad σ (0, 0) 87 [(0, .ref (ad 0 0)), (3, .int e.1), (4, .int e.2)] []) ?_ n v e h kx
  clear h kx
  clear n v e
  intro v o h kl kx
  obtain ⟨v3, v4, v5⟩ := v
  have h : mB_M_eighths_33 σ v1 v2 v3 v4 v5 = some o := h
  unfold mB_M_eighths_33 at h
  show g_Y gCl X (gM true) ad σ (0, 0) 33 [(0, .ref (ad 0 0)), (1, .int v1), (2, .int v2), (3, .int v3), (4, .int v4), (5, .int v5)] []
  refine y_iload C dX6_eighths_33 5 rfl ?_
  refine y_bipush (v := (8 : Int32)) C dX6_eighths_35 (by decide) ?_
  refine y_icmp_ge (tgt := 87) C dX6_eighths_37 rfl (fun hc => ?_) (fun hc => ?_)
  · replace h := g_it h hc
    refine y_sub (vs2 := [(0, .ref (ad 0 0)), (3, .int v3), (4, .int v4)]) [0, 3, 4] rfl ?_
    exact kx _ (Option.some.inj h).symm
  · replace h := g_if h hc
    refine y_aload_n C dX6_eighths_40 0 rfl rfl ?_
    refine gf_M_11 C dX6_eighths_41 ?_
    refine y_bipush (v := (8 : Int32)) C dX6_eighths_44 (by decide) ?_
    refine y_iload_n C dX6_eighths_46 1 rfl rfl ?_
    refine y_iadd C dX6_eighths_47 ?_
    obtain ⟨hg, h⟩ := g_gd h
    refine al_M_1 C nM_1_0 hg dX6_eighths_48 ?_
    refine y_iload C dX6_eighths_49 5 rfl ?_
    obtain ⟨x4, hc, h⟩ := g_bd h
    refine y_callS C (As := [.int (σ.1 1 0 ((8 : Int32) + v1).toNatClampNeg), .int v5]) (rest := []) (lk_X6_285 C hR (by decide)) (ct_M_eighthsBetween hc) rfl rfl (Nat.le_of_ble_eq_true rfl) ⟨Nat.zero_le _, Nat.zero_le _⟩ dX6_eighths_51 ?_
    refine y_istore (vs1 := [(6, .int x4), (0, .ref (ad 0 0)), (1, .int v1), (2, .int v2), (3, .int v3), (4, .int v4), (5, .int v5)]) C rfl dX6_eighths_54 (g_lL hL rfl) rfl ?_
    refine y_iload C dX6_eighths_56 0 rfl ?_
    refine y_iload C dX6_eighths_58 5 rfl ?_
    refine y_icmp_ge (tgt := 81) C dX6_eighths_60 rfl (fun hc => ?_) (fun hc => ?_)
    · replace h := g_it h hc
      obtain ⟨x5, hx5, h⟩ := g_lt h
      refine y_iinc (c := (1 : Int32)) (vs1 := [(5, .int x5), (6, .int x4), (0, .ref (ad 0 0)), (1, .int v1), (2, .int v2), (3, .int v3), (4, .int v4)]) C hx5 (by decide) dX6_eighths_81 6 rfl (g_lL hL rfl) rfl ?_
      refine y_goto (tgt := 33) C dX6_eighths_84 rfl ?_
      refine y_sub (vs2 := [(0, .ref (ad 0 0)), (1, .int v1), (2, .int v2), (3, .int v3), (4, .int v4), (5, .int x5)]) [2, 3, 4, 5, 6, 0] rfl ?_
      exact kl _ (Option.some.inj h).symm
    · replace h := g_if h hc
      refine y_aload_n C dX6_eighths_63 1 rfl rfl ?_
      refine y_iload_n C dX6_eighths_64 2 rfl rfl ?_
      refine y_iload_n C dX6_eighths_65 3 rfl rfl ?_
      refine y_iload C dX6_eighths_66 6 rfl ?_
      obtain ⟨x6, hc, h⟩ := g_bd h
      refine y_callV C (As := [.int v1, .int v2, .int v5]) (rest := []) (hu := nM_0_0) (hc := (rfl : gCl[5]? = some (RX6, TX6, 49))) (hcell := obM_0) (lk_X6_433 C hR (by decide)) (ct_M_wouldSee hc) rfl rfl (Nat.le_of_ble_eq_true rfl) ⟨Nat.zero_le _, Nat.zero_le _⟩ dX6_eighths_68 ?_
      refine y_if_eq (tgt := 81) C dX6_eighths_71 rfl (fun hc => ?_) (fun hc => ?_)
      · replace h := g_it h hc
        obtain ⟨x7, hx7, h⟩ := g_lt h
        refine y_iinc (c := (1 : Int32)) (vs1 := [(5, .int x7), (6, .int x4), (0, .ref (ad 0 0)), (1, .int v1), (2, .int v2), (3, .int v3), (4, .int v4)]) C hx7 (by decide) dX6_eighths_81 6 rfl (g_lL hL rfl) rfl ?_
        refine y_goto (tgt := 33) C dX6_eighths_84 rfl ?_
        refine y_sub (vs2 := [(0, .ref (ad 0 0)), (1, .int v1), (2, .int v2), (3, .int v3), (4, .int v4), (5, .int x7)]) [2, 3, 4, 5, 6, 0] rfl ?_
        exact kl _ (Option.some.inj h).symm
      · replace h := g_if h hc
        refine y_iload C dX6_eighths_74 6 rfl ?_
        refine y_istore_n (vs1 := [(3, .int v5), (6, .int x4), (0, .ref (ad 0 0)), (1, .int v1), (2, .int v2), (4, .int v4), (5, .int v5)]) C rfl dX6_eighths_76 rfl (g_lL hL rfl) rfl ?_
        refine y_iload C dX6_eighths_77 1 rfl ?_
        refine y_istore (vs1 := [(4, .int x4), (3, .int v5), (6, .int x4), (0, .ref (ad 0 0)), (1, .int v1), (2, .int v2), (5, .int v5)]) C rfl dX6_eighths_79 (g_lL hL rfl) rfl ?_
        obtain ⟨x8, hx8, h⟩ := g_lt h
        refine y_iinc (c := (1 : Int32)) (vs1 := [(5, .int x8), (4, .int x4), (3, .int v5), (6, .int x4), (0, .ref (ad 0 0)), (1, .int v1), (2, .int v2)]) C hx8 (by decide) dX6_eighths_81 6 rfl (g_lL hL rfl) rfl ?_
        refine y_goto (tgt := 33) C dX6_eighths_84 rfl ?_
        refine y_sub (vs2 := [(0, .ref (ad 0 0)), (1, .int v1), (2, .int v2), (3, .int v5), (4, .int x4), (5, .int x8)]) [4, 5, 6, 2, 1, 0] rfl ?_
        exact kl _ (Option.some.inj h).symm
theorem mw_M_eighths {X : g_F} (C : g_M gCl X cX6_eighths RX6 (some .int)) (hR : g_R X = g_rm 6 0 0) (hL : g_nL X = 7) {ad : Nat → Nat → Nat} {σ : g_S} {v1 : Int32} {v2 : Int32} {o : (Int32 × g_S)} (h : mF_M_eighths σ v1 v2 = some o) (hQ : g_MQ gCl X (gM true) ad o.2 (some (.int o.1)) = g_Q X) : g_Y gCl X (gM true) ad σ (0, 0) 0 [(0, .ref (ad 0 0)), (1, .int v1), (2, .int v2)] [] := by
  unfold mF_M_eighths at h
  refine y_aload_n C dX6_eighths_0 0 rfl rfl ?_
  refine y_iconst (v := (0 : Int32)) C dX6_eighths_1 (by decide) ?_
  obtain ⟨σ1, hσ1, h⟩ := g_lt h
  refine pf_M_0 C hσ1 dX6_eighths_2 ?_
  refine y_aload_n C dX6_eighths_5 0 rfl rfl ?_
  refine y_iload_n C dX6_eighths_6 1 rfl rfl ?_
  obtain ⟨x2, hc, h⟩ := g_bd h
  refine y_callV C (As := [.int v1]) (rest := []) (hu := nM_0_0) (hc := (rfl : gCl[5]? = some (RX6, TX6, 49))) (hcell := obM_0) (lk_X6_315 C hR (by decide)) (ct_M_isPerson hc) rfl rfl (Nat.le_of_ble_eq_true rfl) ⟨Nat.zero_le _, Nat.zero_le _⟩ dX6_eighths_7 ?_
  refine y_if_eq (tgt := 21) C dX6_eighths_10 rfl (fun hc => ?_) (fun hc => ?_)
  · replace h := g_it h hc
    refine y_iconst (v := (-1 : Int32)) C dX6_eighths_21 (by decide) ?_
    replace h := Option.some.inj h; subst h
    exact y_iret C hQ ⟨Nat.zero_le _, Nat.zero_le _⟩ dX6_eighths_22
  · replace h := g_if h hc
    refine y_aload_n C dX6_eighths_13 0 rfl rfl ?_
    refine y_iload_n C dX6_eighths_14 2 rfl rfl ?_
    obtain ⟨x3, hc, h⟩ := g_bd h
    refine y_callV C (As := [.int v2]) (rest := []) (hu := nM_0_0) (hc := (rfl : gCl[5]? = some (RX6, TX6, 49))) (hcell := obM_0) (lk_X6_358 C hR (by decide)) (ct_M_isField hc) rfl rfl (Nat.le_of_ble_eq_true rfl) ⟨Nat.zero_le _, Nat.zero_le _⟩ dX6_eighths_15 ?_
    refine y_if_ne (tgt := 23) C dX6_eighths_18 rfl (fun hc => ?_) (fun hc => ?_)
    · replace h := g_if h hc
      refine y_iconst (v := (-1 : Int32)) C dX6_eighths_23 (by decide) ?_
      refine y_istore_n (vs1 := [(3, .int (-1 : Int32)), (0, .ref (ad 0 0)), (1, .int v1), (2, .int v2)]) C rfl dX6_eighths_24 rfl (g_lL hL rfl) rfl ?_
      refine y_ldcw (v := (1000000 : Int32)) C q1829 dX6_eighths_25 ?_
      refine y_istore (vs1 := [(4, .int (1000000 : Int32)), (3, .int (-1 : Int32)), (0, .ref (ad 0 0)), (1, .int v1), (2, .int v2)]) C rfl dX6_eighths_28 (g_lL hL rfl) rfl ?_
      refine y_iconst (v := (0 : Int32)) C dX6_eighths_30 (by decide) ?_
      refine y_istore (vs1 := [(5, .int (0 : Int32)), (4, .int (1000000 : Int32)), (3, .int (-1 : Int32)), (0, .ref (ad 0 0)), (1, .int v1), (2, .int v2)]) C rfl dX6_eighths_31 (g_lL hL rfl) rfl ?_
      refine y_sub (vs2 := [(0, .ref (ad 0 0)), (1, .int v1), (2, .int v2), (3, .int (-1 : Int32)), (4, .int (1000000 : Int32)), (5, .int (0 : Int32))]) [3, 4, 5, 2, 1, 0] rfl ?_
      obtain ⟨e9, he9, h⟩ := g_bd h
      refine ml_M_eighths_33 C hR hL (σ := σ1) _ _ _ he9 ?_
      refine y_iload_n C dX6_eighths_87 1 rfl rfl ?_
      refine y_if_ge (tgt := 94) C dX6_eighths_88 rfl (fun hc => ?_) (fun hc => ?_)
      · replace h := g_it h hc
        refine y_aload_n C dX6_eighths_94 0 rfl rfl ?_
        refine y_iconst (v := (0 : Int32)) C dX6_eighths_95 (by decide) ?_
        obtain ⟨σ10, hσ10, h⟩ := g_lt h
        refine pf_M_1 C hσ10 dX6_eighths_96 ?_
        refine y_aload_n C dX6_eighths_99 0 rfl rfl ?_
        refine y_iload_n C dX6_eighths_100 1 rfl rfl ?_
        refine y_i2l C dX6_eighths_101 ?_
        obtain ⟨σ11, hc, h⟩ := g_bd h
        refine y_callVv C (As := [.long (e9.1.toInt64)]) (rest := []) (hu := nM_0_0) (hc := (rfl : gCl[5]? = some (RX6, TX6, 49))) (hcell := obM_0) (lk_X6_373 C hR (by decide)) (ct_M_enters hc) rfl rfl (Nat.le_of_ble_eq_true rfl) ⟨Nat.zero_le _, Nat.zero_le _⟩ dX6_eighths_102 ?_
        refine y_iload C dX6_eighths_105 2 rfl ?_
        replace h := Option.some.inj h; subst h
        exact y_iret C hQ ⟨Nat.zero_le _, Nat.zero_le _⟩ dX6_eighths_107
      · replace h := g_if h hc
        refine y_bipush (v := (-2 : Int32)) C dX6_eighths_91 (by decide) ?_
        replace h := Option.some.inj h; subst h
        exact y_iret C hQ ⟨Nat.zero_le _, Nat.zero_le _⟩ dX6_eighths_93
    · replace h := g_it h hc
      refine y_iconst (v := (-1 : Int32)) C dX6_eighths_21 (by decide) ?_
      replace h := Option.some.inj h; subst h
      exact y_iret C hQ ⟨Nat.zero_le _, Nat.zero_le _⟩ dX6_eighths_22
theorem ct_M_eighths {D : va_G} {dA : Nat → ClassId} {A : Nat → Prop} {s0 : State} {b0 : Nat} {l : Launch} {ad : Nat → Nat → Nat} {σ : g_S} {v1 : Int32} {v2 : Int32} {r : Int32} {σ1 : g_S} (h : mF_M_eighths σ v1 v2 = some (r, σ1)) : g_Met gCl D dA A s0 b0 l yX6_eighths cX6_eighths 7 (some .int) 6 (0, 0) (gM true) ad σ [.ref (ad 0 0), .int v1, .int v2] (gM true) ad σ1 (some (.int r)) :=
  g_Met.of pl_X6 (Nat.le_of_ble_eq_true rfl) (fun X C hQ hR _ _ hL _ es eb => mw_M_eighths C hR hL h hQ)
theorem ml_M_wouldSeeThings_5 {X : g_F} (C : g_M gCl X cX6_wouldSeeThings RX6 (some .int)) (hR : g_R X = g_rm 6 0 0) (hL : g_nL X = 5) {ad : Nat → Nat → Nat} {σ : g_S} {v1 : Int32} {v2 : Int32} (n : Nat) (v : (Int32 × Int32)) (e : Int32) (h : g_lp (fun v => mB_M_wouldSeeThings_5 σ v1 v2 v.1 v.2) n v = some e) (kx : g_Y gCl X (gM true) ad σ (0, 0) 50 [(3, .int e)] []) : g_Y gCl X (gM true) ad σ (0, 0) 5 [(0, .ref (ad 0 0)), (1, .int v1), (2, .int v2), (3, .int v.1), (4, .int v.2)] [] := by
  refine g_loop (P := fun v => g_Y gCl X (gM true) ad σ (0, 0) 5 [(0, .ref (ad 0 0)), (1, .int v1), (2, .int v2), (3, .int v.1), (4, .int v.2)] []) (T := fun e => g_Y gCl X (gM true) ad σ (0, 0) 50 [(3, .int e)] []) ?_ n v e h kx
  clear h kx
  clear n v e
  intro v o h kl kx
  obtain ⟨v3, v4⟩ := v
  have h : mB_M_wouldSeeThings_5 σ v1 v2 v3 v4 = some o := h
  unfold mB_M_wouldSeeThings_5 at h
  show g_Y gCl X (gM true) ad σ (0, 0) 5 [(0, .ref (ad 0 0)), (1, .int v1), (2, .int v2), (3, .int v3), (4, .int v4)] []
  refine y_iload C dX6_wouldSeeThings_5 4 rfl ?_
  refine y_aload_n C dX6_wouldSeeThings_7 0 rfl rfl ?_
  refine gf_M_6 C dX6_wouldSeeThings_8 ?_
  refine y_icmp_ge (tgt := 50) C dX6_wouldSeeThings_11 rfl (fun hc => ?_) (fun hc => ?_)
  · replace h := g_it h hc
    refine y_sub (vs2 := [(3, .int v3)]) [3] rfl ?_
    exact kx _ (Option.some.inj h).symm
  · replace h := g_if h hc
    refine y_iload_n C dX6_wouldSeeThings_14 3 rfl rfl ?_
    refine y_aload_n C dX6_wouldSeeThings_15 0 rfl rfl ?_
    refine y_iload_n C dX6_wouldSeeThings_16 1 rfl rfl ?_
    refine y_aload_n C dX6_wouldSeeThings_17 0 rfl rfl ?_
    refine gf_M_11 C dX6_wouldSeeThings_18 ?_
    refine y_bipush (v := (32 : Int32)) C dX6_wouldSeeThings_21 (by decide) ?_
    refine y_iload C dX6_wouldSeeThings_23 4 rfl ?_
    refine y_iadd C dX6_wouldSeeThings_25 ?_
    obtain ⟨hg, h⟩ := g_gd h
    refine al_M_1 C nM_1_0 hg dX6_wouldSeeThings_26 ?_
    refine y_iload_n C dX6_wouldSeeThings_27 2 rfl rfl ?_
    obtain ⟨x1, hc, h⟩ := g_bd h
    refine y_callV C (As := [.int v1, .int (σ.1 1 0 ((32 : Int32) + v4).toNatClampNeg), .int v2]) (rest := [.int v3]) (hu := nM_0_0) (hc := (rfl : gCl[5]? = some (RX6, TX6, 49))) (hcell := obM_0) (lk_X6_433 C hR (by decide)) (ct_M_wouldSee hc) rfl rfl (Nat.le_of_ble_eq_true rfl) ⟨Nat.zero_le _, Nat.zero_le _⟩ dX6_wouldSeeThings_28 ?_
    refine y_if_eq (tgt := 41) C dX6_wouldSeeThings_31 rfl (fun hc => ?_) (fun hc => ?_)
    · replace h := g_it h hc
      refine y_iconst (v := (0 : Int32)) C dX6_wouldSeeThings_41 (by decide) ?_
      refine y_ior C dX6_wouldSeeThings_42 ?_
      obtain ⟨x2, hx2, h⟩ := g_lt h
      refine y_istore_n (vs1 := [(3, .int x2), (0, .ref (ad 0 0)), (1, .int v1), (2, .int v2), (4, .int v4)]) C hx2 dX6_wouldSeeThings_43 rfl (g_lL hL rfl) rfl ?_
      obtain ⟨x3, hx3, h⟩ := g_lt h
      refine y_iinc (c := (1 : Int32)) (vs1 := [(4, .int x3), (3, .int x2), (0, .ref (ad 0 0)), (1, .int v1), (2, .int v2)]) C hx3 (by decide) dX6_wouldSeeThings_44 4 rfl (g_lL hL rfl) rfl ?_
      refine y_goto (tgt := 5) C dX6_wouldSeeThings_47 rfl ?_
      refine y_sub (vs2 := [(0, .ref (ad 0 0)), (1, .int v1), (2, .int v2), (3, .int x2), (4, .int x3)]) [2, 3, 4, 1, 0] rfl ?_
      exact kl _ (Option.some.inj h).symm
    · replace h := g_if h hc
      refine y_iconst (v := (1 : Int32)) C dX6_wouldSeeThings_34 (by decide) ?_
      refine y_iload C dX6_wouldSeeThings_35 4 rfl ?_
      refine y_ishl C dX6_wouldSeeThings_37 ?_
      refine y_goto (tgt := 42) C dX6_wouldSeeThings_38 rfl ?_
      refine y_ior C dX6_wouldSeeThings_42 ?_
      obtain ⟨x4, hx4, h⟩ := g_lt h
      refine y_istore_n (vs1 := [(3, .int x4), (0, .ref (ad 0 0)), (1, .int v1), (2, .int v2), (4, .int v4)]) C hx4 dX6_wouldSeeThings_43 rfl (g_lL hL rfl) rfl ?_
      obtain ⟨x5, hx5, h⟩ := g_lt h
      refine y_iinc (c := (1 : Int32)) (vs1 := [(4, .int x5), (3, .int x4), (0, .ref (ad 0 0)), (1, .int v1), (2, .int v2)]) C hx5 (by decide) dX6_wouldSeeThings_44 4 rfl (g_lL hL rfl) rfl ?_
      refine y_goto (tgt := 5) C dX6_wouldSeeThings_47 rfl ?_
      refine y_sub (vs2 := [(0, .ref (ad 0 0)), (1, .int v1), (2, .int v2), (3, .int x4), (4, .int x5)]) [2, 3, 4, 1, 0] rfl ?_
      exact kl _ (Option.some.inj h).symm
theorem mw_M_wouldSeeThings {X : g_F} (C : g_M gCl X cX6_wouldSeeThings RX6 (some .int)) (hR : g_R X = g_rm 6 0 0) (hL : g_nL X = 5) {ad : Nat → Nat → Nat} {σ : g_S} {v1 : Int32} {v2 : Int32} {o : Int32} (h : mF_M_wouldSeeThings σ v1 v2 = some o) (hQ : g_MQ gCl X (gM true) ad σ (some (.int o)) = g_Q X) : g_Y gCl X (gM true) ad σ (0, 0) 0 [(0, .ref (ad 0 0)), (1, .int v1), (2, .int v2)] [] := by
  unfold mF_M_wouldSeeThings at h
  refine y_iconst (v := (0 : Int32)) C dX6_wouldSeeThings_0 (by decide) ?_
  refine y_istore_n (vs1 := [(3, .int (0 : Int32)), (0, .ref (ad 0 0)), (1, .int v1), (2, .int v2)]) C rfl dX6_wouldSeeThings_1 rfl (g_lL hL rfl) rfl ?_
  refine y_iconst (v := (0 : Int32)) C dX6_wouldSeeThings_2 (by decide) ?_
  refine y_istore (vs1 := [(4, .int (0 : Int32)), (3, .int (0 : Int32)), (0, .ref (ad 0 0)), (1, .int v1), (2, .int v2)]) C rfl dX6_wouldSeeThings_3 (g_lL hL rfl) rfl ?_
  refine y_sub (vs2 := [(0, .ref (ad 0 0)), (1, .int v1), (2, .int v2), (3, .int (0 : Int32)), (4, .int (0 : Int32))]) [2, 3, 4, 1, 0] rfl ?_
  obtain ⟨e6, he6, h⟩ := g_bd h
  refine ml_M_wouldSeeThings_5 C hR hL (σ := σ) _ _ _ he6 ?_
  refine y_iload_n C dX6_wouldSeeThings_50 0 rfl rfl ?_
  replace h := Option.some.inj h; subst h
  exact y_iret C hQ ⟨Nat.zero_le _, Nat.zero_le _⟩ dX6_wouldSeeThings_51
theorem ct_M_wouldSeeThings {D : va_G} {dA : Nat → ClassId} {A : Nat → Prop} {s0 : State} {b0 : Nat} {l : Launch} {ad : Nat → Nat → Nat} {σ : g_S} {v1 : Int32} {v2 : Int32} {r : Int32} (h : mF_M_wouldSeeThings σ v1 v2 = some r) : g_Met gCl D dA A s0 b0 l yX6_wouldSeeThings cX6_wouldSeeThings 5 (some .int) 6 (0, 0) (gM true) ad σ [.ref (ad 0 0), .int v1, .int v2] (gM true) ad σ (some (.int r)) :=
  g_Met.of pl_X6 (Nat.le_of_ble_eq_true rfl) (fun X C hQ hR _ _ hL _ es eb => mw_M_wouldSeeThings C hR hL h hQ)
theorem mw_M_place {X : g_F} {LM : g_L} (C : g_M gCl X cX6_place RX6 (some .int)) (hR : g_R X = g_rm 1 0 0) (hL : g_nL X = 2) {ad : Nat → Nat → Nat} {σ : g_S} {v0 : Int32} {v1 : Int32} {o : Int32} (h : mF_M_place v0 v1 = some o) (hQ : g_MQ gCl X LM ad σ (some (.int o)) = g_Q X) : g_Y gCl X LM ad σ (0, 0) 0 [(0, .int v0), (1, .int v1)] [] := by
  unfold mF_M_place at h
  refine y_iload_n C dX6_place_0 0 rfl rfl ?_
  refine y_bipush (v := (8 : Int32)) C dX6_place_1 (by decide) ?_
  refine y_ishl C dX6_place_3 ?_
  refine y_iload_n C dX6_place_4 1 rfl rfl ?_
  refine y_ior C dX6_place_5 ?_
  replace h := Option.some.inj h; subst h
  exact y_iret C hQ ⟨Nat.zero_le _, Nat.zero_le _⟩ dX6_place_6
theorem ct_M_place {D : va_G} {dA : Nat → ClassId} {A : Nat → Prop} {s0 : State} {b0 : Nat} {l : Launch} {LM : g_L} {ad : Nat → Nat → Nat} {σ : g_S} {v0 : Int32} {v1 : Int32} {r : Int32} (h : mF_M_place v0 v1 = some r) : g_Met gCl D dA A s0 b0 l yX6_place cX6_place 2 (some .int) 1 (0, 0) LM ad σ [.int v0, .int v1] LM ad σ (some (.int r)) :=
  g_Met.of pl_X6 (Nat.le_of_ble_eq_true rfl) (fun X C hQ hR _ _ hL _ es eb => mw_M_place C hR hL h hQ)
theorem mj_M_fewWith_42 {X : g_F} {hid : Bool} (C : g_M gCl X cX6_fewWith RX6 (some .int)) (hR : g_R X = g_rm 2 0 0) (hL : g_nL X = 4) {ad : Nat → Nat → Nat} {σ : g_S} {s0 : Int32} {s1 : Int32} {o : Int32} (h : mJ_M_fewWith_42 σ s0 s1 = some o) (hQ : g_MQ gCl X (gM hid) ad σ (some (.int o)) = g_Q X) : g_Y gCl X (gM hid) ad σ (0, 0) 42 [] [.int s1, .int s0] := by
  unfold mJ_M_fewWith_42 at h
  obtain ⟨x2, hc, h⟩ := g_bd h
  refine y_callS C (As := [.int s1]) (rest := [.int s0]) (lk_X6_154 C hR (by decide)) (ct_M_flag hc) rfl rfl (Nat.le_of_ble_eq_true rfl) ⟨Nat.zero_le _, Nat.zero_le _⟩ dX6_fewWith_42 ?_
  refine y_iadd C dX6_fewWith_45 ?_
  replace h := Option.some.inj h; subst h
  exact y_iret C hQ ⟨Nat.zero_le _, Nat.zero_le _⟩ dX6_fewWith_46
theorem mw_M_fewWith {X : g_F} {hid : Bool} (C : g_M gCl X cX6_fewWith RX6 (some .int)) (hR : g_R X = g_rm 2 0 0) (hL : g_nL X = 4) {ad : Nat → Nat → Nat} {σ : g_S} {v1 : Int32} {v2 : Int32} {v3 : Int32} {o : Int32} (h : mF_M_fewWith σ v1 v2 v3 = some o) (hQ : g_MQ gCl X (gM hid) ad σ (some (.int o)) = g_Q X) : g_Y gCl X (gM hid) ad σ (0, 0) 0 [(0, .ref (ad 0 0)), (1, .int v1), (2, .int v2), (3, .int v3)] [] := by
  unfold mF_M_fewWith at h
  refine y_aload_n C dX6_fewWith_0 0 rfl rfl ?_
  refine gf_M_37 C dX6_fewWith_1 ?_
  refine y_iload_n C dX6_fewWith_4 1 rfl rfl ?_
  refine y_iconst (v := (1 : Int32)) C dX6_fewWith_5 (by decide) ?_
  refine y_iadd C dX6_fewWith_6 ?_
  refine y_iload_n C dX6_fewWith_7 2 rfl rfl ?_
  refine y_aload_n C dX6_fewWith_8 0 rfl rfl ?_
  refine gf_M_36 C dX6_fewWith_9 ?_
  refine y_bipush (v := (8 : Int32)) C dX6_fewWith_12 (by decide) ?_
  refine y_iload_n C dX6_fewWith_14 1 rfl rfl ?_
  refine y_imul C dX6_fewWith_15 ?_
  refine y_iload_n C dX6_fewWith_16 3 rfl rfl ?_
  refine y_iadd C dX6_fewWith_17 ?_
  obtain ⟨hg, h⟩ := g_gd h
  refine al_M_18 C nM_18_0 hg dX6_fewWith_18 ?_
  refine y_ior C dX6_fewWith_19 ?_
  obtain ⟨x1, hc, h⟩ := g_bd h
  refine y_callS C (As := [.int (v1 + (1 : Int32)), .int (v2 ||| (σ.1 18 0 (((8 : Int32) * v1) + v3).toNatClampNeg))]) (rest := [.ref (ad 19 0)]) (lk_X6_437 C hR (by decide)) (ct_M_place hc) rfl rfl (Nat.le_of_ble_eq_true rfl) ⟨Nat.zero_le _, Nat.zero_le _⟩ dX6_fewWith_20 ?_
  obtain ⟨hg, h⟩ := g_gd h
  refine al_M_19 C nM_19_0 hg dX6_fewWith_23 ?_
  refine y_iload_n C dX6_fewWith_24 3 rfl rfl ?_
  refine y_aload_n C dX6_fewWith_25 0 rfl rfl ?_
  refine gf_M_11 C dX6_fewWith_26 ?_
  refine y_bipush (v := (8 : Int32)) C dX6_fewWith_29 (by decide) ?_
  refine y_iload_n C dX6_fewWith_31 1 rfl rfl ?_
  refine y_iadd C dX6_fewWith_32 ?_
  obtain ⟨hg, h⟩ := g_gd h
  refine al_M_1 C nM_1_0 hg dX6_fewWith_33 ?_
  refine y_icmp_eq (tgt := 41) C dX6_fewWith_34 rfl (fun hc => ?_) (fun hc => ?_)
  · replace h := g_it h hc
    refine y_iconst (v := (0 : Int32)) C dX6_fewWith_41 (by decide) ?_
    refine y_sub (vs2 := []) [] rfl ?_
    exact mj_M_fewWith_42 C hR hL h hQ
  · replace h := g_if h hc
    refine y_iconst (v := (1 : Int32)) C dX6_fewWith_37 (by decide) ?_
    refine y_goto (tgt := 42) C dX6_fewWith_38 rfl ?_
    refine y_sub (vs2 := []) [] rfl ?_
    exact mj_M_fewWith_42 C hR hL h hQ
theorem ct_M_fewWith {D : va_G} {dA : Nat → ClassId} {A : Nat → Prop} {s0 : State} {b0 : Nat} {l : Launch} {hid : Bool} {ad : Nat → Nat → Nat} {σ : g_S} {v1 : Int32} {v2 : Int32} {v3 : Int32} {r : Int32} (h : mF_M_fewWith σ v1 v2 v3 = some r) : g_Met gCl D dA A s0 b0 l yX6_fewWith cX6_fewWith 4 (some .int) 2 (0, 0) (gM hid) ad σ [.ref (ad 0 0), .int v1, .int v2, .int v3] (gM hid) ad σ (some (.int r)) :=
  g_Met.of pl_X6 (Nat.le_of_ble_eq_true rfl) (fun X C hQ hR _ _ hL _ es eb => mw_M_fewWith C hR hL h hQ)
theorem ml_M_turned_17 {X : g_F} (C : g_M gCl X cX6_turned RX6 (some .int)) (hR : g_R X = g_rm 7 0 0) (hL : g_nL X = 6) {ad : Nat → Nat → Nat} {σ : g_S} {v1 : Int32} (n : Nat) (v : (Int32 × g_S)) (e : g_S) (h : g_lp (fun v => mB_M_turned_17 v.2 v1 v.1) n v = some e) (kx : g_Y gCl X (gM true) ad e (0, 0) 46 [(0, .ref (ad 0 0)), (1, .int v1)] []) : g_Y gCl X (gM true) ad v.2 (0, 0) 17 [(0, .ref (ad 0 0)), (1, .int v1), (2, .int v.1)] [] := by
  refine g_loop (P := fun v => g_Y gCl X (gM true) ad v.2 (0, 0) 17 [(0, .ref (ad 0 0)), (1, .int v1), (2, .int v.1)] []) (T := fun e => g_Y gCl X (gM true) ad e (0, 0) 46 [(0, .ref (ad 0 0)), (1, .int v1)] []) ?_ n v e h kx
  clear h kx
  clear n v e
  intro v o h kl kx
  obtain ⟨v2, σ⟩ := v
  have h : mB_M_turned_17 σ v1 v2 = some o := h
  unfold mB_M_turned_17 at h
  show g_Y gCl X (gM true) ad σ (0, 0) 17 [(0, .ref (ad 0 0)), (1, .int v1), (2, .int v2)] []
  refine y_iload_n C dX6_turned_17 2 rfl rfl ?_
  refine y_bipush (v := (8 : Int32)) C dX6_turned_18 (by decide) ?_
  refine y_icmp_ge (tgt := 46) C dX6_turned_20 rfl (fun hc => ?_) (fun hc => ?_)
  · replace h := g_it h hc
    refine y_sub (vs2 := [(0, .ref (ad 0 0)), (1, .int v1)]) [0, 1] rfl ?_
    exact kx _ (Option.some.inj h).symm
  · replace h := g_if h hc
    refine y_aload_n C dX6_turned_23 0 rfl rfl ?_
    refine gf_M_36 C dX6_turned_24 ?_
    refine y_bipush (v := (8 : Int32)) C dX6_turned_27 (by decide) ?_
    refine y_iload_n C dX6_turned_29 1 rfl rfl ?_
    refine y_imul C dX6_turned_30 ?_
    refine y_iload_n C dX6_turned_31 2 rfl rfl ?_
    refine y_iadd C dX6_turned_32 ?_
    refine y_aload_n C dX6_turned_33 0 rfl rfl ?_
    refine y_iload_n C dX6_turned_34 1 rfl rfl ?_
    refine y_iload_n C dX6_turned_35 2 rfl rfl ?_
    obtain ⟨x2, hc, h⟩ := g_bd h
    refine y_callV C (As := [.int v1, .int v2]) (rest := [.int (((8 : Int32) * v1) + v2), .ref (ad 18 0)]) (hu := nM_0_0) (hc := (rfl : gCl[5]? = some (RX6, TX6, 49))) (hcell := obM_0) (lk_X6_440 C hR (by decide)) (ct_M_wouldSeeThings hc) rfl rfl (Nat.le_of_ble_eq_true rfl) ⟨Nat.zero_le _, Nat.zero_le _⟩ dX6_turned_36 ?_
    obtain ⟨hg, h⟩ := g_gd h
    obtain ⟨σ3, hσ3, h⟩ := g_lt h
    refine as_M_18 C nM_18_0 hσ3 hg dX6_turned_39 ?_
    obtain ⟨x4, hx4, h⟩ := g_lt h
    refine y_iinc (c := (1 : Int32)) (vs1 := [(2, .int x4), (0, .ref (ad 0 0)), (1, .int v1)]) C hx4 (by decide) dX6_turned_40 2 rfl (g_lL hL rfl) rfl ?_
    refine y_goto (tgt := 17) C dX6_turned_43 rfl ?_
    refine y_sub (vs2 := [(0, .ref (ad 0 0)), (1, .int v1), (2, .int x4)]) [1, 2, 0] rfl ?_
    exact kl _ (Option.some.inj h).symm
theorem ml_M_turned_7 {X : g_F} (C : g_M gCl X cX6_turned RX6 (some .int)) (hR : g_R X = g_rm 7 0 0) (hL : g_nL X = 6) {ad : Nat → Nat → Nat} {σ : g_S} (n : Nat) (v : (Int32 × g_S)) (e : g_S) (h : g_lp (fun v => mB_M_turned_7 v.2 v.1) n v = some e) (kx : g_Y gCl X (gM true) ad e (0, 0) 52 [(0, .ref (ad 0 0))] []) : g_Y gCl X (gM true) ad v.2 (0, 0) 7 [(0, .ref (ad 0 0)), (1, .int v.1)] [] := by
  refine g_loop (P := fun v => g_Y gCl X (gM true) ad v.2 (0, 0) 7 [(0, .ref (ad 0 0)), (1, .int v.1)] []) (T := fun e => g_Y gCl X (gM true) ad e (0, 0) 52 [(0, .ref (ad 0 0))] []) ?_ n v e h kx
  clear h kx
  clear n v e
  intro v o h kl kx
  obtain ⟨v1, σ⟩ := v
  have h : mB_M_turned_7 σ v1 = some o := h
  unfold mB_M_turned_7 at h
  show g_Y gCl X (gM true) ad σ (0, 0) 7 [(0, .ref (ad 0 0)), (1, .int v1)] []
  refine y_iload_n C dX6_turned_7 1 rfl rfl ?_
  refine y_aload_n C dX6_turned_8 0 rfl rfl ?_
  refine gf_M_5 C dX6_turned_9 ?_
  refine y_icmp_ge (tgt := 52) C dX6_turned_12 rfl (fun hc => ?_) (fun hc => ?_)
  · replace h := g_it h hc
    refine y_sub (vs2 := [(0, .ref (ad 0 0))]) [0] rfl ?_
    exact kx _ (Option.some.inj h).symm
  · replace h := g_if h hc
    refine y_iconst (v := (0 : Int32)) C dX6_turned_15 (by decide) ?_
    refine y_istore_n (vs1 := [(2, .int (0 : Int32)), (0, .ref (ad 0 0)), (1, .int v1)]) C rfl dX6_turned_16 rfl (g_lL hL rfl) rfl ?_
    refine y_sub (vs2 := [(0, .ref (ad 0 0)), (1, .int v1), (2, .int (0 : Int32))]) [1, 2, 0] rfl ?_
    obtain ⟨e5, he5, h⟩ := g_bd h
    refine ml_M_turned_17 C hR hL (σ := σ) _ _ _ he5 ?_
    obtain ⟨x6, hx6, h⟩ := g_lt h
    refine y_iinc (c := (1 : Int32)) (vs1 := [(1, .int x6), (0, .ref (ad 0 0))]) C hx6 (by decide) dX6_turned_46 1 rfl (g_lL hL rfl) rfl ?_
    refine y_goto (tgt := 7) C dX6_turned_49 rfl ?_
    refine y_sub (vs2 := [(0, .ref (ad 0 0)), (1, .int x6)]) [1, 0] rfl ?_
    exact kl _ (Option.some.inj h).symm
theorem mj_M_turned_92 {X : g_F} (C : g_M gCl X cX6_turned RX6 (some .int)) (hR : g_R X = g_rm 7 0 0) (hL : g_nL X = 6) {ad : Nat → Nat → Nat} {σ : g_S} {v1 : Int32} {v2 : Int32} {s1 : Int32} {s2 : Int32} {o : ((Int32 × g_S) ⊕ g_S)} (h : mJ_M_turned_92 σ v1 v2 s1 s2 = some o) (kl : ∀ z, o = .inl z → g_Y gCl X (gM true) ad z.2 (0, 0) 63 [(0, .ref (ad 0 0)), (1, .int v1), (2, .int z.1)] []) (kx : ∀ z, o = .inr z → g_Y gCl X (gM true) ad z (0, 0) 99 [(0, .ref (ad 0 0)), (1, .int v1)] []) : g_Y gCl X (gM true) ad σ (0, 0) 92 [(0, .ref (ad 0 0)), (1, .int v1), (2, .int v2)] [.int s2, .int s1, .ref (ad 19 0)] := by
  unfold mJ_M_turned_92 at h
  obtain ⟨hg, h⟩ := g_gd h
  obtain ⟨σ10, hσ10, h⟩ := g_lt h
  refine as_M_19 C nM_19_0 hσ10 hg dX6_turned_92 ?_
  obtain ⟨x11, hx11, h⟩ := g_lt h
  refine y_iinc (c := (1 : Int32)) (vs1 := [(2, .int x11), (0, .ref (ad 0 0)), (1, .int v1)]) C hx11 (by decide) dX6_turned_93 2 rfl (g_lL hL rfl) rfl ?_
  refine y_goto (tgt := 63) C dX6_turned_96 rfl ?_
  refine y_sub (vs2 := [(0, .ref (ad 0 0)), (1, .int v1), (2, .int x11)]) [1, 2, 0] rfl ?_
  exact kl _ (Option.some.inj h).symm
theorem ml_M_turned_63 {X : g_F} (C : g_M gCl X cX6_turned RX6 (some .int)) (hR : g_R X = g_rm 7 0 0) (hL : g_nL X = 6) {ad : Nat → Nat → Nat} {σ : g_S} {v1 : Int32} (n : Nat) (v : (Int32 × g_S)) (e : g_S) (h : g_lp (fun v => mB_M_turned_63 v.2 v1 v.1) n v = some e) (kx : g_Y gCl X (gM true) ad e (0, 0) 99 [(0, .ref (ad 0 0)), (1, .int v1)] []) : g_Y gCl X (gM true) ad v.2 (0, 0) 63 [(0, .ref (ad 0 0)), (1, .int v1), (2, .int v.1)] [] := by
  refine g_loop (P := fun v => g_Y gCl X (gM true) ad v.2 (0, 0) 63 [(0, .ref (ad 0 0)), (1, .int v1), (2, .int v.1)] []) (T := fun e => g_Y gCl X (gM true) ad e (0, 0) 99 [(0, .ref (ad 0 0)), (1, .int v1)] []) ?_ n v e h kx
  clear h kx
  clear n v e
  intro v o h kl kx
  obtain ⟨v2, σ⟩ := v
  have h : mB_M_turned_63 σ v1 v2 = some o := h
  unfold mB_M_turned_63 at h
  show g_Y gCl X (gM true) ad σ (0, 0) 63 [(0, .ref (ad 0 0)), (1, .int v1), (2, .int v2)] []
  refine y_iload_n C dX6_turned_63 2 rfl rfl ?_
  refine y_iload_n C dX6_turned_64 1 rfl rfl ?_
  refine y_icmp_gt (tgt := 99) C dX6_turned_65 rfl (fun hc => ?_) (fun hc => ?_)
  · replace h := g_it h hc
    refine y_sub (vs2 := [(0, .ref (ad 0 0)), (1, .int v1)]) [0, 1] rfl ?_
    exact kx _ (Option.some.inj h).symm
  · replace h := g_if h hc
    refine y_aload_n C dX6_turned_68 0 rfl rfl ?_
    refine gf_M_37 C dX6_turned_69 ?_
    refine y_aload_n C dX6_turned_72 0 rfl rfl ?_
    refine gf_M_5 C dX6_turned_73 ?_
    refine y_iload_n C dX6_turned_76 2 rfl rfl ?_
    obtain ⟨x9, hc, h⟩ := g_bd h
    refine y_callS C (As := [.int (σ.1 0 0 5), .int v2]) (rest := [.ref (ad 19 0)]) (lk_X6_437 C hR (by decide)) (ct_M_place hc) rfl rfl (Nat.le_of_ble_eq_true rfl) ⟨Nat.zero_le _, Nat.zero_le _⟩ dX6_turned_77 ?_
    refine y_iload_n C dX6_turned_80 2 rfl rfl ?_
    refine y_iload_n C dX6_turned_81 1 rfl rfl ?_
    refine y_icmp_ne (tgt := 89) C dX6_turned_82 rfl (fun hc => ?_) (fun hc => ?_)
    · replace h := g_if h hc
      refine y_ldcw (v := (1000000 : Int32)) C q1829 dX6_turned_89 ?_
      exact mj_M_turned_92 C hR hL h kl kx
    · replace h := g_it h hc
      refine y_iconst (v := (0 : Int32)) C dX6_turned_85 (by decide) ?_
      refine y_goto (tgt := 92) C dX6_turned_86 rfl ?_
      exact mj_M_turned_92 C hR hL h kl kx
theorem ml_M_turned_125 {X : g_F} (C : g_M gCl X cX6_turned RX6 (some .int)) (hR : g_R X = g_rm 7 0 0) (hL : g_nL X = 6) {ad : Nat → Nat → Nat} {σ : g_S} {v1 : Int32} {v2 : Int32} {v3 : Int32} (n : Nat) (v : (Int32 × Int32)) (e : Int32) (h : g_lp (fun v => mB_M_turned_125 σ v1 v2 v3 v.1 v.2) n v = some e) (kx : g_Y gCl X (gM true) ad σ (0, 0) 153 [(0, .ref (ad 0 0)), (1, .int v1), (2, .int v2), (3, .int v3), (4, .int e)] []) : g_Y gCl X (gM true) ad σ (0, 0) 125 [(0, .ref (ad 0 0)), (1, .int v1), (2, .int v2), (3, .int v3), (4, .int v.1), (5, .int v.2)] [] := by
  refine g_loop (P := fun v => g_Y gCl X (gM true) ad σ (0, 0) 125 [(0, .ref (ad 0 0)), (1, .int v1), (2, .int v2), (3, .int v3), (4, .int v.1), (5, .int v.2)] []) (T := fun e => g_Y gCl X (gM true) ad σ (0, 0) 153 [(0, .ref (ad 0 0)), (1, .int v1), (2, .int v2), (3, .int v3), (4, .int e)] []) ?_ n v e h kx
  clear h kx
  clear n v e
  intro v o h kl kx
  obtain ⟨v4, v5⟩ := v
  have h : mB_M_turned_125 σ v1 v2 v3 v4 v5 = some o := h
  unfold mB_M_turned_125 at h
  show g_Y gCl X (gM true) ad σ (0, 0) 125 [(0, .ref (ad 0 0)), (1, .int v1), (2, .int v2), (3, .int v3), (4, .int v4), (5, .int v5)] []
  refine y_iload C dX6_turned_125 5 rfl ?_
  refine y_bipush (v := (8 : Int32)) C dX6_turned_127 (by decide) ?_
  refine y_icmp_ge (tgt := 153) C dX6_turned_129 rfl (fun hc => ?_) (fun hc => ?_)
  · replace h := g_it h hc
    refine y_sub (vs2 := [(0, .ref (ad 0 0)), (1, .int v1), (2, .int v2), (3, .int v3), (4, .int v4)]) [0, 1, 2, 3, 4] rfl ?_
    exact kx _ (Option.some.inj h).symm
  · replace h := g_if h hc
    refine y_iload C dX6_turned_132 4 rfl ?_
    refine y_aload_n C dX6_turned_134 0 rfl rfl ?_
    refine y_iload_n C dX6_turned_135 2 rfl rfl ?_
    refine y_iload_n C dX6_turned_136 3 rfl rfl ?_
    refine y_iload C dX6_turned_137 5 rfl ?_
    obtain ⟨x14, hc, h⟩ := g_bd h
    refine y_callV C (As := [.int v2, .int v3, .int v5]) (rest := [.int v4]) (hu := nM_0_0) (hc := (rfl : gCl[5]? = some (RX6, TX6, 49))) (hcell := obM_0) (lk_X6_443 C hR (by decide)) (ct_M_fewWith hc) rfl rfl (Nat.le_of_ble_eq_true rfl) ⟨Nat.zero_le _, Nat.zero_le _⟩ dX6_turned_139 ?_
    refine y_mmin C q1456 (g_rmM hR (by decide)) (Nat.le_of_ble_eq_true rfl) ⟨Nat.zero_le _, Nat.zero_le _⟩ dX6_turned_142 ?_
    obtain ⟨x15, hx15, h⟩ := g_lt h
    refine y_istore (vs1 := [(4, .int x15), (0, .ref (ad 0 0)), (1, .int v1), (2, .int v2), (3, .int v3), (5, .int v5)]) C hx15 dX6_turned_145 (g_lL hL rfl) rfl ?_
    obtain ⟨x16, hx16, h⟩ := g_lt h
    refine y_iinc (c := (1 : Int32)) (vs1 := [(5, .int x16), (4, .int x15), (0, .ref (ad 0 0)), (1, .int v1), (2, .int v2), (3, .int v3)]) C hx16 (by decide) dX6_turned_147 5 rfl (g_lL hL rfl) rfl ?_
    refine y_goto (tgt := 125) C dX6_turned_150 rfl ?_
    refine y_sub (vs2 := [(0, .ref (ad 0 0)), (1, .int v1), (2, .int v2), (3, .int v3), (4, .int x15), (5, .int x16)]) [2, 3, 4, 5, 1, 0] rfl ?_
    exact kl _ (Option.some.inj h).symm
theorem ml_M_turned_112 {X : g_F} (C : g_M gCl X cX6_turned RX6 (some .int)) (hR : g_R X = g_rm 7 0 0) (hL : g_nL X = 6) {ad : Nat → Nat → Nat} {σ : g_S} {v1 : Int32} {v2 : Int32} (n : Nat) (v : (Int32 × g_S)) (e : g_S) (h : g_lp (fun v => mB_M_turned_112 v.2 v1 v2 v.1) n v = some e) (kx : g_Y gCl X (gM true) ad e (0, 0) 171 [(0, .ref (ad 0 0)), (1, .int v1), (2, .int v2)] []) : g_Y gCl X (gM true) ad v.2 (0, 0) 112 [(0, .ref (ad 0 0)), (1, .int v1), (2, .int v2), (3, .int v.1)] [] := by
  refine g_loop (P := fun v => g_Y gCl X (gM true) ad v.2 (0, 0) 112 [(0, .ref (ad 0 0)), (1, .int v1), (2, .int v2), (3, .int v.1)] []) (T := fun e => g_Y gCl X (gM true) ad e (0, 0) 171 [(0, .ref (ad 0 0)), (1, .int v1), (2, .int v2)] []) ?_ n v e h kx
  clear h kx
  clear n v e
  intro v o h kl kx
  obtain ⟨v3, σ⟩ := v
  have h : mB_M_turned_112 σ v1 v2 v3 = some o := h
  unfold mB_M_turned_112 at h
  show g_Y gCl X (gM true) ad σ (0, 0) 112 [(0, .ref (ad 0 0)), (1, .int v1), (2, .int v2), (3, .int v3)] []
  refine y_iload_n C dX6_turned_112 3 rfl rfl ?_
  refine y_iload_n C dX6_turned_113 1 rfl rfl ?_
  refine y_icmp_gt (tgt := 171) C dX6_turned_114 rfl (fun hc => ?_) (fun hc => ?_)
  · replace h := g_it h hc
    refine y_sub (vs2 := [(0, .ref (ad 0 0)), (1, .int v1), (2, .int v2)]) [0, 1, 2] rfl ?_
    exact kx _ (Option.some.inj h).symm
  · replace h := g_if h hc
    refine y_ldcw (v := (1000000 : Int32)) C q1829 dX6_turned_117 ?_
    refine y_istore (vs1 := [(4, .int (1000000 : Int32)), (0, .ref (ad 0 0)), (1, .int v1), (2, .int v2), (3, .int v3)]) C rfl dX6_turned_120 (g_lL hL rfl) rfl ?_
    refine y_iconst (v := (0 : Int32)) C dX6_turned_122 (by decide) ?_
    refine y_istore (vs1 := [(5, .int (0 : Int32)), (4, .int (1000000 : Int32)), (0, .ref (ad 0 0)), (1, .int v1), (2, .int v2), (3, .int v3)]) C rfl dX6_turned_123 (g_lL hL rfl) rfl ?_
    refine y_sub (vs2 := [(0, .ref (ad 0 0)), (1, .int v1), (2, .int v2), (3, .int v3), (4, .int (1000000 : Int32)), (5, .int (0 : Int32))]) [2, 3, 4, 5, 1, 0] rfl ?_
    obtain ⟨e17, he17, h⟩ := g_bd h
    refine ml_M_turned_125 C hR hL (σ := σ) _ _ _ he17 ?_
    refine y_aload_n C dX6_turned_153 0 rfl rfl ?_
    refine gf_M_37 C dX6_turned_154 ?_
    refine y_iload_n C dX6_turned_157 2 rfl rfl ?_
    refine y_iload_n C dX6_turned_158 3 rfl rfl ?_
    obtain ⟨x18, hc, h⟩ := g_bd h
    refine y_callS C (As := [.int v2, .int v3]) (rest := [.ref (ad 19 0)]) (lk_X6_437 C hR (by decide)) (ct_M_place hc) rfl rfl (Nat.le_of_ble_eq_true rfl) ⟨Nat.zero_le _, Nat.zero_le _⟩ dX6_turned_159 ?_
    refine y_iload C dX6_turned_162 4 rfl ?_
    obtain ⟨hg, h⟩ := g_gd h
    obtain ⟨σ19, hσ19, h⟩ := g_lt h
    refine as_M_19 C nM_19_0 hσ19 hg dX6_turned_164 ?_
    obtain ⟨x20, hx20, h⟩ := g_lt h
    refine y_iinc (c := (1 : Int32)) (vs1 := [(3, .int x20), (0, .ref (ad 0 0)), (1, .int v1), (2, .int v2), (4, .int e17)]) C hx20 (by decide) dX6_turned_165 3 rfl (g_lL hL rfl) rfl ?_
    refine y_goto (tgt := 112) C dX6_turned_168 rfl ?_
    refine y_sub (vs2 := [(0, .ref (ad 0 0)), (1, .int v1), (2, .int v2), (3, .int x20)]) [1, 2, 3, 0] rfl ?_
    exact kl _ (Option.some.inj h).symm
theorem ml_M_turned_106 {X : g_F} (C : g_M gCl X cX6_turned RX6 (some .int)) (hR : g_R X = g_rm 7 0 0) (hL : g_nL X = 6) {ad : Nat → Nat → Nat} {σ : g_S} {v1 : Int32} (n : Nat) (v : (Int32 × g_S)) (e : g_S) (h : g_lp (fun v => mB_M_turned_106 v.2 v1 v.1) n v = some e) (kx : g_Y gCl X (gM true) ad e (0, 0) 177 [(0, .ref (ad 0 0))] []) : g_Y gCl X (gM true) ad v.2 (0, 0) 106 [(0, .ref (ad 0 0)), (1, .int v1), (2, .int v.1)] [] := by
  refine g_loop (P := fun v => g_Y gCl X (gM true) ad v.2 (0, 0) 106 [(0, .ref (ad 0 0)), (1, .int v1), (2, .int v.1)] []) (T := fun e => g_Y gCl X (gM true) ad e (0, 0) 177 [(0, .ref (ad 0 0))] []) ?_ n v e h kx
  clear h kx
  clear n v e
  intro v o h kl kx
  obtain ⟨v2, σ⟩ := v
  have h : mB_M_turned_106 σ v1 v2 = some o := h
  unfold mB_M_turned_106 at h
  show g_Y gCl X (gM true) ad σ (0, 0) 106 [(0, .ref (ad 0 0)), (1, .int v1), (2, .int v2)] []
  refine y_iload_n C dX6_turned_106 2 rfl rfl ?_
  refine y_if_lt (tgt := 177) C dX6_turned_107 rfl (fun hc => ?_) (fun hc => ?_)
  · replace h := g_it h hc
    refine y_sub (vs2 := [(0, .ref (ad 0 0))]) [0] rfl ?_
    exact kx _ (Option.some.inj h).symm
  · replace h := g_if h hc
    refine y_iconst (v := (0 : Int32)) C dX6_turned_110 (by decide) ?_
    refine y_istore_n (vs1 := [(3, .int (0 : Int32)), (0, .ref (ad 0 0)), (1, .int v1), (2, .int v2)]) C rfl dX6_turned_111 rfl (g_lL hL rfl) rfl ?_
    refine y_sub (vs2 := [(0, .ref (ad 0 0)), (1, .int v1), (2, .int v2), (3, .int (0 : Int32))]) [1, 2, 3, 0] rfl ?_
    obtain ⟨e21, he21, h⟩ := g_bd h
    refine ml_M_turned_112 C hR hL (σ := σ) _ _ _ he21 ?_
    obtain ⟨x22, hx22, h⟩ := g_lt h
    refine y_iinc (c := (-1 : Int32)) (vs1 := [(2, .int x22), (0, .ref (ad 0 0)), (1, .int v1)]) C hx22 (by decide) dX6_turned_171 2 rfl (g_lL hL rfl) rfl ?_
    refine y_goto (tgt := 106) C dX6_turned_174 rfl ?_
    refine y_sub (vs2 := [(0, .ref (ad 0 0)), (1, .int v1), (2, .int x22)]) [1, 2, 0] rfl ?_
    exact kl _ (Option.some.inj h).symm
theorem ml_M_turned_220 {X : g_F} (C : g_M gCl X cX6_turned RX6 (some .int)) (hR : g_R X = g_rm 7 0 0) (hL : g_nL X = 6) {ad : Nat → Nat → Nat} {σ : g_S} {v2 : Int32} {v3 : Int32} {v4 : Int32} (n : Nat) (v : Int32) (e : Int32) (h : g_lp (fun v => mB_M_turned_220 σ v2 v3 v4 v) n v = some e) (kx : g_Y gCl X (gM true) ad σ (0, 0) 249 [(0, .ref (ad 0 0)), (2, .int v2), (3, .int v3), (4, .int v4), (5, .int e)] []) : g_Y gCl X (gM true) ad σ (0, 0) 220 [(0, .ref (ad 0 0)), (2, .int v2), (3, .int v3), (4, .int v4), (5, .int v)] [] := by
  refine g_loop (P := fun v => g_Y gCl X (gM true) ad σ (0, 0) 220 [(0, .ref (ad 0 0)), (2, .int v2), (3, .int v3), (4, .int v4), (5, .int v)] []) (T := fun e => g_Y gCl X (gM true) ad σ (0, 0) 249 [(0, .ref (ad 0 0)), (2, .int v2), (3, .int v3), (4, .int v4), (5, .int e)] []) ?_ n v e h kx
  clear h kx
  clear n v e
  intro v o h kl kx
  obtain ⟨v5, rfl⟩ : ∃ z, z = v := ⟨_, rfl⟩
  have h : mB_M_turned_220 σ v2 v3 v4 v5 = some o := h
  unfold mB_M_turned_220 at h
  show g_Y gCl X (gM true) ad σ (0, 0) 220 [(0, .ref (ad 0 0)), (2, .int v2), (3, .int v3), (4, .int v4), (5, .int v5)] []
  refine y_aload_n C dX6_turned_220 0 rfl rfl ?_
  refine y_iload C dX6_turned_221 3 rfl ?_
  refine y_iload_n C dX6_turned_223 2 rfl rfl ?_
  refine y_iload C dX6_turned_224 4 rfl ?_
  obtain ⟨x27, hc, h⟩ := g_bd h
  refine y_callV C (As := [.int v4, .int v3, .int v5]) (rest := []) (hu := nM_0_0) (hc := (rfl : gCl[5]? = some (RX6, TX6, 49))) (hcell := obM_0) (lk_X6_443 C hR (by decide)) (ct_M_fewWith hc) rfl rfl (Nat.le_of_ble_eq_true rfl) ⟨Nat.zero_le _, Nat.zero_le _⟩ dX6_turned_226 ?_
  refine y_aload_n C dX6_turned_229 0 rfl rfl ?_
  refine gf_M_37 C dX6_turned_230 ?_
  refine y_iload C dX6_turned_233 3 rfl ?_
  refine y_iload_n C dX6_turned_235 2 rfl rfl ?_
  obtain ⟨x28, hc, h⟩ := g_bd h
  refine y_callS C (As := [.int v4, .int v3]) (rest := [.ref (ad 19 0), .int x27]) (lk_X6_437 C hR (by decide)) (ct_M_place hc) rfl rfl (Nat.le_of_ble_eq_true rfl) ⟨Nat.zero_le _, Nat.zero_le _⟩ dX6_turned_236 ?_
  obtain ⟨hg, h⟩ := g_gd h
  refine al_M_19 C nM_19_0 hg dX6_turned_239 ?_
  refine y_icmp_eq (tgt := 249) C dX6_turned_240 rfl (fun hc => ?_) (fun hc => ?_)
  · replace h := g_it h hc
    exact kx _ (Option.some.inj h).symm
  · replace h := g_if h hc
    obtain ⟨x29, hx29, h⟩ := g_lt h
    refine y_iinc (c := (1 : Int32)) (vs1 := [(5, .int x29), (0, .ref (ad 0 0)), (2, .int v2), (3, .int v3), (4, .int v4)]) C hx29 (by decide) dX6_turned_243 4 rfl (g_lL hL rfl) rfl ?_
    refine y_goto (tgt := 220) C dX6_turned_246 rfl ?_
    refine y_sub (vs2 := [(0, .ref (ad 0 0)), (2, .int v2), (3, .int v3), (4, .int v4), (5, .int x29)]) [1, 2, 3, 4, 0] rfl ?_
    exact kl _ (Option.some.inj h).symm
theorem ml_M_turned_208 {X : g_F} (C : g_M gCl X cX6_turned RX6 (some .int)) (hR : g_R X = g_rm 7 0 0) (hL : g_nL X = 6) {ad : Nat → Nat → Nat} {σ : g_S} {v2 : Int32} (n : Nat) (v : (Int32 × Int32 × g_S)) (e : g_S) (h : g_lp (fun v => mB_M_turned_208 v.2.2 v2 v.1 v.2.1) n v = some e) (kx : g_Y gCl X (gM true) ad e (0, 0) 278 [(2, .int v2)] []) : g_Y gCl X (gM true) ad v.2.2 (0, 0) 208 [(0, .ref (ad 0 0)), (2, .int v2), (3, .int v.1), (4, .int v.2.1)] [] := by
  refine g_loop (P := fun v => g_Y gCl X (gM true) ad v.2.2 (0, 0) 208 [(0, .ref (ad 0 0)), (2, .int v2), (3, .int v.1), (4, .int v.2.1)] []) (T := fun e => g_Y gCl X (gM true) ad e (0, 0) 278 [(2, .int v2)] []) ?_ n v e h kx
  clear h kx
  clear n v e
  intro v o h kl kx
  obtain ⟨v3, v4, σ⟩ := v
  have h : mB_M_turned_208 σ v2 v3 v4 = some o := h
  unfold mB_M_turned_208 at h
  show g_Y gCl X (gM true) ad σ (0, 0) 208 [(0, .ref (ad 0 0)), (2, .int v2), (3, .int v3), (4, .int v4)] []
  refine y_iload C dX6_turned_208 3 rfl ?_
  refine y_aload_n C dX6_turned_210 0 rfl rfl ?_
  refine gf_M_5 C dX6_turned_211 ?_
  refine y_icmp_ge (tgt := 278) C dX6_turned_214 rfl (fun hc => ?_) (fun hc => ?_)
  · replace h := g_it h hc
    refine y_sub (vs2 := [(2, .int v2)]) [1] rfl ?_
    exact kx _ (Option.some.inj h).symm
  · replace h := g_if h hc
    refine y_iconst (v := (0 : Int32)) C dX6_turned_217 (by decide) ?_
    refine y_istore (vs1 := [(5, .int (0 : Int32)), (0, .ref (ad 0 0)), (2, .int v2), (3, .int v3), (4, .int v4)]) C rfl dX6_turned_218 (g_lL hL rfl) rfl ?_
    refine y_sub (vs2 := [(0, .ref (ad 0 0)), (2, .int v2), (3, .int v3), (4, .int v4), (5, .int (0 : Int32))]) [1, 2, 3, 4, 0] rfl ?_
    obtain ⟨e30, he30, h⟩ := g_bd h
    refine ml_M_turned_220 C hR hL (σ := σ) _ _ _ he30 ?_
    refine y_iload_n C dX6_turned_249 2 rfl rfl ?_
    refine y_aload_n C dX6_turned_250 0 rfl rfl ?_
    refine gf_M_36 C dX6_turned_251 ?_
    refine y_bipush (v := (8 : Int32)) C dX6_turned_254 (by decide) ?_
    refine y_iload C dX6_turned_256 3 rfl ?_
    refine y_imul C dX6_turned_258 ?_
    refine y_iload C dX6_turned_259 4 rfl ?_
    refine y_iadd C dX6_turned_261 ?_
    obtain ⟨hg, h⟩ := g_gd h
    refine al_M_18 C nM_18_0 hg dX6_turned_262 ?_
    refine y_ior C dX6_turned_263 ?_
    obtain ⟨x31, hx31, h⟩ := g_lt h
    refine y_istore_n (vs1 := [(3, .int x31), (0, .ref (ad 0 0)), (2, .int v2), (4, .int v4), (5, .int e30)]) C hx31 dX6_turned_264 rfl (g_lL hL rfl) rfl ?_
    refine y_aload_n C dX6_turned_265 1 rfl rfl ?_
    refine y_iload C dX6_turned_266 4 rfl ?_
    refine y_i2l C dX6_turned_268 ?_
    obtain ⟨σ32, hc, h⟩ := g_bd h
    refine y_callVv C (As := [.long (e30.toInt64)]) (rest := []) (hu := nM_0_0) (hc := (rfl : gCl[5]? = some (RX6, TX6, 49))) (hcell := obM_0) (lk_X6_373 C hR (by decide)) (ct_M_enters hc) rfl rfl (Nat.le_of_ble_eq_true rfl) ⟨Nat.zero_le _, Nat.zero_le _⟩ dX6_turned_269 ?_
    obtain ⟨x33, hx33, h⟩ := g_lt h
    refine y_iinc (c := (1 : Int32)) (vs1 := [(4, .int x33), (3, .int x31), (0, .ref (ad 0 0)), (2, .int v2), (5, .int e30)]) C hx33 (by decide) dX6_turned_272 3 rfl (g_lL hL rfl) rfl ?_
    refine y_goto (tgt := 208) C dX6_turned_275 rfl ?_
    refine y_sub (vs2 := [(0, .ref (ad 0 0)), (2, .int v2), (3, .int x31), (4, .int x33)]) [2, 3, 1, 0] rfl ?_
    exact kl _ (Option.some.inj h).symm
theorem mw_M_turned {X : g_F} (C : g_M gCl X cX6_turned RX6 (some .int)) (hR : g_R X = g_rm 7 0 0) (hL : g_nL X = 6) {ad : Nat → Nat → Nat} {σ : g_S} {o : (Int32 × g_S)} (h : mF_M_turned σ = some o) (hQ : g_MQ gCl X (gM true) ad o.2 (some (.int o.1)) = g_Q X) : g_Y gCl X (gM true) ad σ (0, 0) 0 [(0, .ref (ad 0 0))] [] := by
  unfold mF_M_turned at h
  refine y_aload_n C dX6_turned_0 0 rfl rfl ?_
  refine y_iconst (v := (0 : Int32)) C dX6_turned_1 (by decide) ?_
  obtain ⟨σ1, hσ1, h⟩ := g_lt h
  refine pf_M_0 C hσ1 dX6_turned_2 ?_
  refine y_iconst (v := (0 : Int32)) C dX6_turned_5 (by decide) ?_
  refine y_istore_n (vs1 := [(1, .int (0 : Int32)), (0, .ref (ad 0 0))]) C rfl dX6_turned_6 rfl (g_lL hL rfl) rfl ?_
  refine y_sub (vs2 := [(0, .ref (ad 0 0)), (1, .int (0 : Int32))]) [1, 0] rfl ?_
  obtain ⟨e7, he7, h⟩ := g_bd h
  refine ml_M_turned_7 C hR hL (σ := σ1) _ _ _ he7 ?_
  refine y_iconst (v := (1 : Int32)) C dX6_turned_52 (by decide) ?_
  refine y_aload_n C dX6_turned_53 0 rfl rfl ?_
  refine gf_M_6 C dX6_turned_54 ?_
  refine y_ishl C dX6_turned_57 ?_
  refine y_iconst (v := (1 : Int32)) C dX6_turned_58 (by decide) ?_
  refine y_isub C dX6_turned_59 ?_
  obtain ⟨x8, hx8, h⟩ := g_lt h
  refine y_istore_n (vs1 := [(1, .int x8), (0, .ref (ad 0 0))]) C hx8 dX6_turned_60 rfl (g_lL hL rfl) rfl ?_
  refine y_iconst (v := (0 : Int32)) C dX6_turned_61 (by decide) ?_
  refine y_istore_n (vs1 := [(2, .int (0 : Int32)), (1, .int x8), (0, .ref (ad 0 0))]) C rfl dX6_turned_62 rfl (g_lL hL rfl) rfl ?_
  refine y_sub (vs2 := [(0, .ref (ad 0 0)), (1, .int x8), (2, .int (0 : Int32))]) [2, 1, 0] rfl ?_
  obtain ⟨e12, he12, h⟩ := g_bd h
  refine ml_M_turned_63 C hR hL (σ := e7) _ _ _ he12 ?_
  refine y_aload_n C dX6_turned_99 0 rfl rfl ?_
  refine gf_M_5 C dX6_turned_100 ?_
  refine y_iconst (v := (1 : Int32)) C dX6_turned_103 (by decide) ?_
  refine y_isub C dX6_turned_104 ?_
  obtain ⟨x13, hx13, h⟩ := g_lt h
  refine y_istore_n (vs1 := [(2, .int x13), (0, .ref (ad 0 0)), (1, .int x8)]) C hx13 dX6_turned_105 rfl (g_lL hL rfl) rfl ?_
  refine y_sub (vs2 := [(0, .ref (ad 0 0)), (1, .int x8), (2, .int x13)]) [1, 2, 0] rfl ?_
  obtain ⟨e23, he23, h⟩ := g_bd h
  refine ml_M_turned_106 C hR hL (σ := e12) _ _ _ he23 ?_
  refine y_aload_n C dX6_turned_177 0 rfl rfl ?_
  refine gf_M_37 C dX6_turned_178 ?_
  refine y_iconst (v := (0 : Int32)) C dX6_turned_181 (by decide) ?_
  refine y_iconst (v := (0 : Int32)) C dX6_turned_182 (by decide) ?_
  obtain ⟨x24, hc, h⟩ := g_bd h
  refine y_callS C (As := [.int (0 : Int32), .int (0 : Int32)]) (rest := [.ref (ad 19 0)]) (lk_X6_437 C hR (by decide)) (ct_M_place hc) rfl rfl (Nat.le_of_ble_eq_true rfl) ⟨Nat.zero_le _, Nat.zero_le _⟩ dX6_turned_183 ?_
  obtain ⟨hg, h⟩ := g_gd h
  refine al_M_19 C nM_19_0 hg dX6_turned_186 ?_
  obtain ⟨x25, hx25, h⟩ := g_lt h
  refine y_istore_n (vs1 := [(2, .int x25), (0, .ref (ad 0 0))]) C hx25 dX6_turned_187 rfl (g_lL hL rfl) rfl ?_
  refine y_iload_n C dX6_turned_188 0 rfl rfl ?_
  refine y_ldcw (v := (1000000 : Int32)) C q1829 dX6_turned_189 ?_
  refine y_icmp_lt (tgt := 198) C dX6_turned_192 rfl (fun hc => ?_) (fun hc => ?_)
  · replace h := g_it h hc
    refine y_aload_n C dX6_turned_198 1 rfl rfl ?_
    refine y_iconst (v := (0 : Int32)) C dX6_turned_199 (by decide) ?_
    obtain ⟨σ26, hσ26, h⟩ := g_lt h
    refine pf_M_1 C hσ26 dX6_turned_200 ?_
    refine y_iconst (v := (0 : Int32)) C dX6_turned_203 (by decide) ?_
    refine y_istore_n (vs1 := [(3, .int (0 : Int32)), (2, .int x25), (0, .ref (ad 0 0))]) C rfl dX6_turned_204 rfl (g_lL hL rfl) rfl ?_
    refine y_iconst (v := (0 : Int32)) C dX6_turned_205 (by decide) ?_
    refine y_istore (vs1 := [(4, .int (0 : Int32)), (3, .int (0 : Int32)), (2, .int x25), (0, .ref (ad 0 0))]) C rfl dX6_turned_206 (g_lL hL rfl) rfl ?_
    refine y_sub (vs2 := [(0, .ref (ad 0 0)), (2, .int x25), (3, .int (0 : Int32)), (4, .int (0 : Int32))]) [3, 2, 1, 0] rfl ?_
    obtain ⟨e34, he34, h⟩ := g_bd h
    refine ml_M_turned_208 C hR hL (σ := σ26) _ _ _ he34 ?_
    refine y_iload_n C dX6_turned_278 0 rfl rfl ?_
    replace h := Option.some.inj h; subst h
    exact y_iret C hQ ⟨Nat.zero_le _, Nat.zero_le _⟩ dX6_turned_279
  · replace h := g_if h hc
    refine y_bipush (v := (-2 : Int32)) C dX6_turned_195 (by decide) ?_
    replace h := Option.some.inj h; subst h
    exact y_iret C hQ ⟨Nat.zero_le _, Nat.zero_le _⟩ dX6_turned_197
theorem ct_M_turned {D : va_G} {dA : Nat → ClassId} {A : Nat → Prop} {s0 : State} {b0 : Nat} {l : Launch} {ad : Nat → Nat → Nat} {σ : g_S} {r : Int32} {σ1 : g_S} (h : mF_M_turned σ = some (r, σ1)) : g_Met gCl D dA A s0 b0 l yX6_turned cX6_turned 6 (some .int) 7 (0, 0) (gM true) ad σ [.ref (ad 0 0)] (gM true) ad σ1 (some (.int r)) :=
  g_Met.of pl_X6 (Nat.le_of_ble_eq_true rfl) (fun X C hQ hR _ _ hL _ es eb => mw_M_turned C hR hL h hQ)
theorem ml_M_best_19 {X : g_F} (C : g_M gCl X cX6_best RX6 (some .int)) (hR : g_R X = g_rm 7 0 0) (hL : g_nL X = 4) {ad : Nat → Nat → Nat} {σ : g_S} {v1 : Int32} (n : Nat) (v : (Int32 × Int32)) (e : Int32) (h : g_lp (fun v => mB_M_best_19 σ v1 v.1 v.2) n v = some e) (kx : g_Y gCl X (gM true) ad σ (0, 0) 58 [(0, .ref (ad 0 0)), (1, .int v1), (2, .int e)] []) : g_Y gCl X (gM true) ad σ (0, 0) 19 [(0, .ref (ad 0 0)), (1, .int v1), (2, .int v.1), (3, .int v.2)] [] := by
  refine g_loop (P := fun v => g_Y gCl X (gM true) ad σ (0, 0) 19 [(0, .ref (ad 0 0)), (1, .int v1), (2, .int v.1), (3, .int v.2)] []) (T := fun e => g_Y gCl X (gM true) ad σ (0, 0) 58 [(0, .ref (ad 0 0)), (1, .int v1), (2, .int e)] []) ?_ n v e h kx
  clear h kx
  clear n v e
  intro v o h kl kx
  obtain ⟨v2, v3⟩ := v
  have h : mB_M_best_19 σ v1 v2 v3 = some o := h
  unfold mB_M_best_19 at h
  show g_Y gCl X (gM true) ad σ (0, 0) 19 [(0, .ref (ad 0 0)), (1, .int v1), (2, .int v2), (3, .int v3)] []
  refine y_iload_n C dX6_best_19 3 rfl rfl ?_
  refine y_bipush (v := (8 : Int32)) C dX6_best_20 (by decide) ?_
  refine y_icmp_ge (tgt := 58) C dX6_best_22 rfl (fun hc => ?_) (fun hc => ?_)
  · replace h := g_it h hc
    refine y_sub (vs2 := [(0, .ref (ad 0 0)), (1, .int v1), (2, .int v2)]) [0, 1, 2] rfl ?_
    exact kx _ (Option.some.inj h).symm
  · replace h := g_if h hc
    refine y_aload_n C dX6_best_25 0 rfl rfl ?_
    refine y_iload_n C dX6_best_26 1 rfl rfl ?_
    refine y_iload_n C dX6_best_27 3 rfl rfl ?_
    obtain ⟨x3, hc, h⟩ := g_bd h
    refine y_callV C (As := [.int v1, .int v3]) (rest := []) (hu := nM_0_0) (hc := (rfl : gCl[5]? = some (RX6, TX6, 49))) (hcell := obM_0) (lk_X6_440 C hR (by decide)) (ct_M_wouldSeeThings hc) rfl rfl (Nat.le_of_ble_eq_true rfl) ⟨Nat.zero_le _, Nat.zero_le _⟩ dX6_best_28 ?_
    obtain ⟨x4, hc, h⟩ := g_bd h
    refine y_callS C (As := [.int x3]) (rest := []) (lk_X6_265 C hR (by decide)) (ct_J8_bitCount hc) rfl rfl (Nat.le_of_ble_eq_true rfl) ⟨Nat.zero_le _, Nat.zero_le _⟩ dX6_best_31 ?_
    refine y_aload_n C dX6_best_34 0 rfl rfl ?_
    refine y_iload_n C dX6_best_35 1 rfl rfl ?_
    refine y_iload_n C dX6_best_36 2 rfl rfl ?_
    obtain ⟨x5, hc, h⟩ := g_bd h
    refine y_callV C (As := [.int v1, .int v2]) (rest := [.int x4]) (hu := nM_0_0) (hc := (rfl : gCl[5]? = some (RX6, TX6, 49))) (hcell := obM_0) (lk_X6_440 C hR (by decide)) (ct_M_wouldSeeThings hc) rfl rfl (Nat.le_of_ble_eq_true rfl) ⟨Nat.zero_le _, Nat.zero_le _⟩ dX6_best_37 ?_
    obtain ⟨x6, hc, h⟩ := g_bd h
    refine y_callS C (As := [.int x5]) (rest := [.int x4]) (lk_X6_265 C hR (by decide)) (ct_J8_bitCount hc) rfl rfl (Nat.le_of_ble_eq_true rfl) ⟨Nat.zero_le _, Nat.zero_le _⟩ dX6_best_40 ?_
    refine y_icmp_le (tgt := 50) C dX6_best_43 rfl (fun hc => ?_) (fun hc => ?_)
    · replace h := g_it h hc
      refine y_iload_n C dX6_best_50 2 rfl rfl ?_
      refine y_istore_n (vs1 := [(2, .int v2), (0, .ref (ad 0 0)), (1, .int v1), (3, .int v3)]) C rfl dX6_best_51 rfl (g_lL hL rfl) rfl ?_
      obtain ⟨x7, hx7, h⟩ := g_lt h
      refine y_iinc (c := (1 : Int32)) (vs1 := [(3, .int x7), (2, .int v2), (0, .ref (ad 0 0)), (1, .int v1)]) C hx7 (by decide) dX6_best_52 3 rfl (g_lL hL rfl) rfl ?_
      refine y_goto (tgt := 19) C dX6_best_55 rfl ?_
      refine y_sub (vs2 := [(0, .ref (ad 0 0)), (1, .int v1), (2, .int v2), (3, .int x7)]) [2, 3, 1, 0] rfl ?_
      exact kl _ (Option.some.inj h).symm
    · replace h := g_if h hc
      refine y_iload_n C dX6_best_46 3 rfl rfl ?_
      refine y_goto (tgt := 51) C dX6_best_47 rfl ?_
      refine y_istore_n (vs1 := [(2, .int v3), (0, .ref (ad 0 0)), (1, .int v1), (3, .int v3)]) C rfl dX6_best_51 rfl (g_lL hL rfl) rfl ?_
      obtain ⟨x8, hx8, h⟩ := g_lt h
      refine y_iinc (c := (1 : Int32)) (vs1 := [(3, .int x8), (2, .int v3), (0, .ref (ad 0 0)), (1, .int v1)]) C hx8 (by decide) dX6_best_52 3 rfl (g_lL hL rfl) rfl ?_
      refine y_goto (tgt := 19) C dX6_best_55 rfl ?_
      refine y_sub (vs2 := [(0, .ref (ad 0 0)), (1, .int v1), (2, .int v3), (3, .int x8)]) [2, 3, 1, 0] rfl ?_
      exact kl _ (Option.some.inj h).symm
theorem mw_M_best {X : g_F} (C : g_M gCl X cX6_best RX6 (some .int)) (hR : g_R X = g_rm 7 0 0) (hL : g_nL X = 4) {ad : Nat → Nat → Nat} {σ : g_S} {v1 : Int32} {o : (Int32 × g_S)} (h : mF_M_best σ v1 = some o) (hQ : g_MQ gCl X (gM true) ad o.2 (some (.int o.1)) = g_Q X) : g_Y gCl X (gM true) ad σ (0, 0) 0 [(0, .ref (ad 0 0)), (1, .int v1)] [] := by
  unfold mF_M_best at h
  refine y_aload_n C dX6_best_0 0 rfl rfl ?_
  refine y_iconst (v := (0 : Int32)) C dX6_best_1 (by decide) ?_
  obtain ⟨σ1, hσ1, h⟩ := g_lt h
  refine pf_M_0 C hσ1 dX6_best_2 ?_
  refine y_aload_n C dX6_best_5 0 rfl rfl ?_
  refine y_iload_n C dX6_best_6 1 rfl rfl ?_
  obtain ⟨x2, hc, h⟩ := g_bd h
  refine y_callV C (As := [.int v1]) (rest := []) (hu := nM_0_0) (hc := (rfl : gCl[5]? = some (RX6, TX6, 49))) (hcell := obM_0) (lk_X6_315 C hR (by decide)) (ct_M_isPerson hc) rfl rfl (Nat.le_of_ble_eq_true rfl) ⟨Nat.zero_le _, Nat.zero_le _⟩ dX6_best_7 ?_
  refine y_if_ne (tgt := 15) C dX6_best_10 rfl (fun hc => ?_) (fun hc => ?_)
  · replace h := g_if h hc
    refine y_iconst (v := (0 : Int32)) C dX6_best_15 (by decide) ?_
    refine y_istore_n (vs1 := [(2, .int (0 : Int32)), (0, .ref (ad 0 0)), (1, .int v1)]) C rfl dX6_best_16 rfl (g_lL hL rfl) rfl ?_
    refine y_iconst (v := (1 : Int32)) C dX6_best_17 (by decide) ?_
    refine y_istore_n (vs1 := [(3, .int (1 : Int32)), (2, .int (0 : Int32)), (0, .ref (ad 0 0)), (1, .int v1)]) C rfl dX6_best_18 rfl (g_lL hL rfl) rfl ?_
    refine y_sub (vs2 := [(0, .ref (ad 0 0)), (1, .int v1), (2, .int (0 : Int32)), (3, .int (1 : Int32))]) [2, 3, 1, 0] rfl ?_
    obtain ⟨e9, he9, h⟩ := g_bd h
    refine ml_M_best_19 C hR hL (σ := σ1) _ _ _ he9 ?_
    refine y_aload_n C dX6_best_58 0 rfl rfl ?_
    refine y_iconst (v := (0 : Int32)) C dX6_best_59 (by decide) ?_
    obtain ⟨σ10, hσ10, h⟩ := g_lt h
    refine pf_M_1 C hσ10 dX6_best_60 ?_
    refine y_aload_n C dX6_best_63 0 rfl rfl ?_
    refine y_aload_n C dX6_best_64 0 rfl rfl ?_
    refine y_iload_n C dX6_best_65 1 rfl rfl ?_
    refine y_iload_n C dX6_best_66 2 rfl rfl ?_
    obtain ⟨x11, hc, h⟩ := g_bd h
    refine y_callV C (As := [.int v1, .int e9]) (rest := [.ref (ad 0 0)]) (hu := nM_0_0) (hc := (rfl : gCl[5]? = some (RX6, TX6, 49))) (hcell := obM_0) (lk_X6_440 C hR (by decide)) (ct_M_wouldSeeThings hc) rfl rfl (Nat.le_of_ble_eq_true rfl) ⟨Nat.zero_le _, Nat.zero_le _⟩ dX6_best_67 ?_
    refine y_i2l C dX6_best_70 ?_
    obtain ⟨σ12, hc, h⟩ := g_bd h
    refine y_callVv C (As := [.long (x11.toInt64)]) (rest := []) (hu := nM_0_0) (hc := (rfl : gCl[5]? = some (RX6, TX6, 49))) (hcell := obM_0) (lk_X6_373 C hR (by decide)) (ct_M_enters hc) rfl rfl (Nat.le_of_ble_eq_true rfl) ⟨Nat.zero_le _, Nat.zero_le _⟩ dX6_best_71 ?_
    refine y_iload_n C dX6_best_74 2 rfl rfl ?_
    replace h := Option.some.inj h; subst h
    exact y_iret C hQ ⟨Nat.zero_le _, Nat.zero_le _⟩ dX6_best_75
  · replace h := g_it h hc
    refine y_iconst (v := (-1 : Int32)) C dX6_best_13 (by decide) ?_
    replace h := Option.some.inj h; subst h
    exact y_iret C hQ ⟨Nat.zero_le _, Nat.zero_le _⟩ dX6_best_14
theorem ct_M_best {D : va_G} {dA : Nat → ClassId} {A : Nat → Prop} {s0 : State} {b0 : Nat} {l : Launch} {ad : Nat → Nat → Nat} {σ : g_S} {v1 : Int32} {r : Int32} {σ1 : g_S} (h : mF_M_best σ v1 = some (r, σ1)) : g_Met gCl D dA A s0 b0 l yX6_best cX6_best 4 (some .int) 7 (0, 0) (gM true) ad σ [.ref (ad 0 0), .int v1] (gM true) ad σ1 (some (.int r)) :=
  g_Met.of pl_X6 (Nat.le_of_ble_eq_true rfl) (fun X C hQ hR _ _ hL _ es eb => mw_M_best C hR hL h hQ)
theorem ml_M_bears_25 {X : g_F} (C : g_M gCl X cX6_bears RX6 (some .int)) (hR : g_R X = g_rm 5 0 0) (hL : g_nL X = 5) {ad : Nat → Nat → Nat} {σ : g_S} {v1 : Int32} {v2 : Int32} (n : Nat) (v : Int32) (e : ((Int32 × Int32) ⊕ Unit)) (h : g_lp (fun v => mB_M_bears_25 σ v1 v2 v) n v = some e) (kx : (∀ y, e = .inl y → g_Y gCl X (gM true) ad σ (0, 0) 67 [(0, .ref (ad 0 0)), (3, .int y.1), (4, .int y.2)] []) ∧ (∀ y, e = .inr y → g_Y gCl X (gM true) ad σ (0, 0) 87 [] [])) : g_Y gCl X (gM true) ad σ (0, 0) 25 [(0, .ref (ad 0 0)), (1, .int v1), (2, .int v2), (3, .int v)] [] := by
  refine g_loop (P := fun v => g_Y gCl X (gM true) ad σ (0, 0) 25 [(0, .ref (ad 0 0)), (1, .int v1), (2, .int v2), (3, .int v)] []) (T := fun e => (∀ y, e = .inl y → g_Y gCl X (gM true) ad σ (0, 0) 67 [(0, .ref (ad 0 0)), (3, .int y.1), (4, .int y.2)] []) ∧ (∀ y, e = .inr y → g_Y gCl X (gM true) ad σ (0, 0) 87 [] [])) ?_ n v e h kx
  clear h kx
  clear n v e
  intro v o h kl kx
  obtain ⟨v3, rfl⟩ : ∃ z, z = v := ⟨_, rfl⟩
  have h : mB_M_bears_25 σ v1 v2 v3 = some o := h
  unfold mB_M_bears_25 at h
  show g_Y gCl X (gM true) ad σ (0, 0) 25 [(0, .ref (ad 0 0)), (1, .int v1), (2, .int v2), (3, .int v3)] []
  refine y_iload_n C dX6_bears_25 3 rfl rfl ?_
  refine y_if_lt (tgt := 87) C dX6_bears_26 rfl (fun hc => ?_) (fun hc => ?_)
  · replace h := g_it h hc
    refine y_sub (vs2 := []) [] rfl ?_
    exact (kx _ (Option.some.inj h).symm).2 _ rfl
  · replace h := g_if h hc
    refine y_aload_n C dX6_bears_29 0 rfl rfl ?_
    refine y_aload_n C dX6_bears_30 0 rfl rfl ?_
    refine gf_M_11 C dX6_bears_31 ?_
    refine y_iload_n C dX6_bears_34 1 rfl rfl ?_
    refine y_iload_n C dX6_bears_35 3 rfl rfl ?_
    obtain ⟨x4, hc, h⟩ := g_bd h
    refine y_callV C (As := [.ref (ad 1 0), .int v1, .int v3]) (rest := []) (hu := nM_0_0) (hc := (rfl : gCl[5]? = some (RX6, TX6, 49))) (hcell := obM_0) (lk_X6_292 C hR (by decide)) (ct_R_reachBy nM_1_0 hc) rfl rfl (Nat.le_of_ble_eq_true rfl) ⟨Nat.zero_le _, Nat.zero_le _⟩ dX6_bears_36 ?_
    refine y_istore (vs1 := [(4, .int x4), (0, .ref (ad 0 0)), (1, .int v1), (2, .int v2), (3, .int v3)]) C rfl dX6_bears_39 (g_lL hL rfl) rfl ?_
    refine y_aload_n C dX6_bears_41 1 rfl rfl ?_
    refine y_aload_n C dX6_bears_42 1 rfl rfl ?_
    refine gf_M_11 C dX6_bears_43 ?_
    refine y_iload_n C dX6_bears_46 2 rfl rfl ?_
    obtain ⟨hg, h⟩ := g_gd h
    refine al_M_1 C nM_1_0 hg dX6_bears_47 ?_
    refine y_iload_n C dX6_bears_48 3 rfl rfl ?_
    refine y_aload_n C dX6_bears_49 1 rfl rfl ?_
    refine gf_M_11 C dX6_bears_50 ?_
    refine y_bipush (v := (8 : Int32)) C dX6_bears_53 (by decide) ?_
    refine y_iload_n C dX6_bears_55 2 rfl rfl ?_
    refine y_iadd C dX6_bears_56 ?_
    obtain ⟨hg, h⟩ := g_gd h
    refine al_M_1 C nM_1_0 hg dX6_bears_57 ?_
    refine y_iload_n C dX6_bears_58 4 rfl rfl ?_
    refine y_iload C dX6_bears_59 0 rfl ?_
    obtain ⟨x5, hc, h⟩ := g_bd h
    refine y_callV C (As := [.int (σ.1 1 0 v1.toNatClampNeg), .int v2, .int (σ.1 1 0 ((8 : Int32) + v1).toNatClampNeg), .int v3, .int x4]) (rest := []) (hu := nM_0_0) (hc := (rfl : gCl[5]? = some (RX6, TX6, 49))) (hcell := obM_0) (lk_X6_296 C hR (by decide)) (ct_M_seesBy hc) rfl rfl (Nat.le_of_ble_eq_true rfl) ⟨Nat.zero_le _, Nat.zero_le _⟩ dX6_bears_61 ?_
    refine y_if_eq (tgt := 81) C dX6_bears_64 rfl (fun hc => ?_) (fun hc => ?_)
    · replace h := g_it h hc
      obtain ⟨x6, hx6, h⟩ := g_lt h
      refine y_iinc (c := (-1 : Int32)) (vs1 := [(3, .int x6), (4, .int x4), (0, .ref (ad 0 0)), (1, .int v1), (2, .int v2)]) C hx6 (by decide) dX6_bears_81 4 rfl (g_lL hL rfl) rfl ?_
      refine y_goto (tgt := 25) C dX6_bears_84 rfl ?_
      refine y_sub (vs2 := [(0, .ref (ad 0 0)), (1, .int v1), (2, .int v2), (3, .int x6)]) [2, 3, 4, 0] rfl ?_
      exact kl _ (Option.some.inj h).symm
    · replace h := g_if h hc
      refine y_sub (vs2 := [(0, .ref (ad 0 0)), (3, .int v3), (4, .int x4)]) [1, 4, 0] rfl ?_
      exact (kx _ (Option.some.inj h).symm).1 _ rfl
theorem mw_M_bears {X : g_F} (C : g_M gCl X cX6_bears RX6 (some .int)) (hR : g_R X = g_rm 5 0 0) (hL : g_nL X = 5) {ad : Nat → Nat → Nat} {σ : g_S} {v1 : Int32} {v2 : Int32} {o : (Int32 × g_S)} (h : mF_M_bears σ v1 v2 = some o) (hQ : g_MQ gCl X (gM true) ad o.2 (some (.int o.1)) = g_Q X) : g_Y gCl X (gM true) ad σ (0, 0) 0 [(0, .ref (ad 0 0)), (1, .int v1), (2, .int v2)] [] := by
  unfold mF_M_bears at h
  refine y_aload_n C dX6_bears_0 0 rfl rfl ?_
  refine y_iconst (v := (0 : Int32)) C dX6_bears_1 (by decide) ?_
  obtain ⟨σ1, hσ1, h⟩ := g_lt h
  refine pf_M_0 C hσ1 dX6_bears_2 ?_
  refine y_aload_n C dX6_bears_5 0 rfl rfl ?_
  refine y_iload_n C dX6_bears_6 1 rfl rfl ?_
  obtain ⟨x2, hc, h⟩ := g_bd h
  refine y_callV C (As := [.int v1]) (rest := []) (hu := nM_0_0) (hc := (rfl : gCl[5]? = some (RX6, TX6, 49))) (hcell := obM_0) (lk_X6_315 C hR (by decide)) (ct_M_isPerson hc) rfl rfl (Nat.le_of_ble_eq_true rfl) ⟨Nat.zero_le _, Nat.zero_le _⟩ dX6_bears_7 ?_
  refine y_if_eq (tgt := 21) C dX6_bears_10 rfl (fun hc => ?_) (fun hc => ?_)
  · replace h := g_it h hc
    refine y_iconst (v := (-1 : Int32)) C dX6_bears_21 (by decide) ?_
    replace h := Option.some.inj h; subst h
    exact y_iret C hQ ⟨Nat.zero_le _, Nat.zero_le _⟩ dX6_bears_22
  · replace h := g_if h hc
    refine y_aload_n C dX6_bears_13 0 rfl rfl ?_
    refine y_iload_n C dX6_bears_14 2 rfl rfl ?_
    obtain ⟨x3, hc, h⟩ := g_bd h
    refine y_callV C (As := [.int v2]) (rest := []) (hu := nM_0_0) (hc := (rfl : gCl[5]? = some (RX6, TX6, 49))) (hcell := obM_0) (lk_X6_358 C hR (by decide)) (ct_M_isField hc) rfl rfl (Nat.le_of_ble_eq_true rfl) ⟨Nat.zero_le _, Nat.zero_le _⟩ dX6_bears_15 ?_
    refine y_if_ne (tgt := 23) C dX6_bears_18 rfl (fun hc => ?_) (fun hc => ?_)
    · replace h := g_if h hc
      refine y_iconst (v := (4 : Int32)) C dX6_bears_23 (by decide) ?_
      refine y_istore_n (vs1 := [(3, .int (4 : Int32)), (0, .ref (ad 0 0)), (1, .int v1), (2, .int v2)]) C rfl dX6_bears_24 rfl (g_lL hL rfl) rfl ?_
      refine y_sub (vs2 := [(0, .ref (ad 0 0)), (1, .int v1), (2, .int v2), (3, .int (4 : Int32))]) [1, 2, 3, 0] rfl ?_
      obtain ⟨e7, he7, h⟩ := g_bd h
      refine ml_M_bears_25 C hR hL (σ := σ1) _ _ _ he7 ⟨fun y he => ?_, fun y he => ?_⟩
      · obtain ⟨y8, rfl⟩ : ∃ z, z = y := ⟨_, rfl⟩
        subst he
        dsimp only at h
        refine y_aload_n C dX6_bears_67 0 rfl rfl ?_
        refine y_iconst (v := (0 : Int32)) C dX6_bears_68 (by decide) ?_
        obtain ⟨σ9, hσ9, h⟩ := g_lt h
        refine pf_M_1 C hσ9 dX6_bears_69 ?_
        refine y_aload_n C dX6_bears_72 0 rfl rfl ?_
        refine y_iload C dX6_bears_73 2 rfl ?_
        refine y_i2l C dX6_bears_75 ?_
        obtain ⟨σ10, hc, h⟩ := g_bd h
        refine y_callVv C (As := [.long (y8.2.toInt64)]) (rest := []) (hu := nM_0_0) (hc := (rfl : gCl[5]? = some (RX6, TX6, 49))) (hcell := obM_0) (lk_X6_373 C hR (by decide)) (ct_M_enters hc) rfl rfl (Nat.le_of_ble_eq_true rfl) ⟨Nat.zero_le _, Nat.zero_le _⟩ dX6_bears_76 ?_
        refine y_iload_n C dX6_bears_79 1 rfl rfl ?_
        replace h := Option.some.inj h; subst h
        exact y_iret C hQ ⟨Nat.zero_le _, Nat.zero_le _⟩ dX6_bears_80
      · obtain ⟨y11, rfl⟩ : ∃ z, z = y := ⟨_, rfl⟩
        subst he
        dsimp only at h
        refine y_bipush (v := (-2 : Int32)) C dX6_bears_87 (by decide) ?_
        replace h := Option.some.inj h; subst h
        exact y_iret C hQ ⟨Nat.zero_le _, Nat.zero_le _⟩ dX6_bears_89
    · replace h := g_it h hc
      refine y_iconst (v := (-1 : Int32)) C dX6_bears_21 (by decide) ?_
      replace h := Option.some.inj h; subst h
      exact y_iret C hQ ⟨Nat.zero_le _, Nat.zero_le _⟩ dX6_bears_22
theorem ct_M_bears {D : va_G} {dA : Nat → ClassId} {A : Nat → Prop} {s0 : State} {b0 : Nat} {l : Launch} {ad : Nat → Nat → Nat} {σ : g_S} {v1 : Int32} {v2 : Int32} {r : Int32} {σ1 : g_S} (h : mF_M_bears σ v1 v2 = some (r, σ1)) : g_Met gCl D dA A s0 b0 l yX6_bears cX6_bears 5 (some .int) 5 (0, 0) (gM true) ad σ [.ref (ad 0 0), .int v1, .int v2] (gM true) ad σ1 (some (.int r)) :=
  g_Met.of pl_X6 (Nat.le_of_ble_eq_true rfl) (fun X C hQ hR _ _ hL _ es eb => mw_M_bears C hR hL h hQ)
theorem mj_M_laysSteps_31 {X : g_F} {hid : Bool} (C : g_M gCl X cX6_laysSteps RX6 none) (hR : g_R X = g_rm 3 0 0) (hL : g_nL X = 10) {ad : Nat → Nat → Nat} {σ : g_S} {v1 : Int32} {v2 : Int32} {v3 : Int64} {v5 : Int32} {s1 : Int32} {s2 : Int32} {o : ((Int32 × g_S) ⊕ g_S)} (h : mJ_M_laysSteps_31 σ v1 v2 v3 v5 s1 s2 = some o) (kl : ∀ z, o = .inl z → g_Y gCl X (gM hid) ad z.2 (0, 0) 3 [(0, .ref (ad 0 0)), (1, .int v1), (2, .int v2), (3, .long v3), (5, .int z.1)] []) (kx : ∀ z, o = .inr z → g_Y gCl X (gM hid) ad z (0, 0) 38 [(0, .ref (ad 0 0)), (1, .int v1), (2, .int v2), (3, .long v3)] []) : g_Y gCl X (gM hid) ad σ (0, 0) 31 [(0, .ref (ad 0 0)), (1, .int v1), (2, .int v2), (3, .long v3), (5, .int v5)] [.int s2, .int s1, .ref (ad 20 0)] := by
  unfold mJ_M_laysSteps_31 at h
  obtain ⟨hg, h⟩ := g_gd h
  obtain ⟨σ2, hσ2, h⟩ := g_lt h
  refine as_M_20 C nM_20_0 hσ2 hg dX6_laysSteps_31 ?_
  obtain ⟨x3, hx3, h⟩ := g_lt h
  refine y_iinc (c := (1 : Int32)) (vs1 := [(5, .int x3), (0, .ref (ad 0 0)), (1, .int v1), (2, .int v2), (3, .long v3)]) C hx3 (by decide) dX6_laysSteps_32 4 rfl (g_lL hL rfl) rfl ?_
  refine y_goto (tgt := 3) C dX6_laysSteps_35 rfl ?_
  refine y_sub (vs2 := [(0, .ref (ad 0 0)), (1, .int v1), (2, .int v2), (3, .long v3), (5, .int x3)]) [1, 2, 3, 4, 0] rfl ?_
  exact kl _ (Option.some.inj h).symm
theorem ml_M_laysSteps_3 {X : g_F} {hid : Bool} (C : g_M gCl X cX6_laysSteps RX6 none) (hR : g_R X = g_rm 3 0 0) (hL : g_nL X = 10) {ad : Nat → Nat → Nat} {σ : g_S} {v1 : Int32} {v2 : Int32} {v3 : Int64} (n : Nat) (v : (Int32 × g_S)) (e : g_S) (h : g_lp (fun v => mB_M_laysSteps_3 v.2 v1 v2 v3 v.1) n v = some e) (kx : g_Y gCl X (gM hid) ad e (0, 0) 38 [(0, .ref (ad 0 0)), (1, .int v1), (2, .int v2), (3, .long v3)] []) : g_Y gCl X (gM hid) ad v.2 (0, 0) 3 [(0, .ref (ad 0 0)), (1, .int v1), (2, .int v2), (3, .long v3), (5, .int v.1)] [] := by
  refine g_loop (P := fun v => g_Y gCl X (gM hid) ad v.2 (0, 0) 3 [(0, .ref (ad 0 0)), (1, .int v1), (2, .int v2), (3, .long v3), (5, .int v.1)] []) (T := fun e => g_Y gCl X (gM hid) ad e (0, 0) 38 [(0, .ref (ad 0 0)), (1, .int v1), (2, .int v2), (3, .long v3)] []) ?_ n v e h kx
  clear h kx
  clear n v e
  intro v o h kl kx
  obtain ⟨v5, σ⟩ := v
  have h : mB_M_laysSteps_3 σ v1 v2 v3 v5 = some o := h
  unfold mB_M_laysSteps_3 at h
  show g_Y gCl X (gM hid) ad σ (0, 0) 3 [(0, .ref (ad 0 0)), (1, .int v1), (2, .int v2), (3, .long v3), (5, .int v5)] []
  refine y_iload C dX6_laysSteps_3 4 rfl ?_
  refine y_aload_n C dX6_laysSteps_5 0 rfl rfl ?_
  obtain ⟨x1, hc, h⟩ := g_bd h
  refine y_callV C (As := []) (rest := [.int v5]) (hu := nM_0_0) (hc := (rfl : gCl[5]? = some (RX6, TX6, 49))) (hcell := obM_0) (lk_X6_122 C hR (by decide)) (ct_M_fields hc) rfl rfl (Nat.le_of_ble_eq_true rfl) ⟨Nat.zero_le _, Nat.zero_le _⟩ dX6_laysSteps_6 ?_
  refine y_icmp_ge (tgt := 38) C dX6_laysSteps_9 rfl (fun hc => ?_) (fun hc => ?_)
  · replace h := g_it h hc
    refine y_sub (vs2 := [(0, .ref (ad 0 0)), (1, .int v1), (2, .int v2), (3, .long v3)]) [0, 1, 2, 3] rfl ?_
    exact kx _ (Option.some.inj h).symm
  · replace h := g_if h hc
    refine y_aload_n C dX6_laysSteps_12 0 rfl rfl ?_
    refine gf_M_38 C dX6_laysSteps_13 ?_
    refine y_iload C dX6_laysSteps_16 4 rfl ?_
    refine y_iload C dX6_laysSteps_18 4 rfl ?_
    refine y_iload_n C dX6_laysSteps_20 2 rfl rfl ?_
    refine y_icmp_ne (tgt := 28) C dX6_laysSteps_21 rfl (fun hc => ?_) (fun hc => ?_)
    · replace h := g_if h hc
      refine y_ldcw (v := (1000000 : Int32)) C q1829 dX6_laysSteps_28 ?_
      exact mj_M_laysSteps_31 C hR hL h kl kx
    · replace h := g_it h hc
      refine y_iconst (v := (0 : Int32)) C dX6_laysSteps_24 (by decide) ?_
      refine y_goto (tgt := 31) C dX6_laysSteps_25 rfl ?_
      exact mj_M_laysSteps_31 C hR hL h kl kx
theorem mj_M_laysSteps_164 {X : g_F} {hid : Bool} (C : g_M gCl X cX6_laysSteps RX6 none) (hR : g_R X = g_rm 3 0 0) (hL : g_nL X = 10) {ad : Nat → Nat → Nat} {σ : g_S} {v1 : Int32} {v2 : Int32} {v3 : Int64} {v5 : Int32} {v6 : Int32} {v7 : Int32} {s1 : Int32} {s2 : Int32} {o : ((Int32 × g_S) ⊕ g_S)} (h : mJ_M_laysSteps_164 σ v1 v2 v3 v5 v6 v7 s1 s2 = some o) (kl : ∀ z, o = .inl z → g_Y gCl X (gM hid) ad z.2 (0, 0) 65 [(0, .ref (ad 0 0)), (1, .int v1), (2, .int v2), (3, .long v3), (5, .int v5), (6, .int v6), (7, .int z.1)] []) (kx : ∀ z, o = .inr z → g_Y gCl X (gM hid) ad z (0, 0) 171 [(0, .ref (ad 0 0)), (1, .int v1), (2, .int v2), (3, .long v3), (5, .int v5), (6, .int v6)] []) : g_Y gCl X (gM hid) ad σ (0, 0) 164 [(0, .ref (ad 0 0)), (1, .int v1), (2, .int v2), (3, .long v3), (5, .int v5), (6, .int v6), (7, .int v7)] [.int s2, .int s1, .ref (ad 20 0)] := by
  unfold mJ_M_laysSteps_164 at h
  obtain ⟨hg, h⟩ := g_gd h
  obtain ⟨σ8, hσ8, h⟩ := g_lt h
  refine as_M_20 C nM_20_0 hσ8 hg dX6_laysSteps_164 ?_
  obtain ⟨x9, hx9, h⟩ := g_lt h
  refine y_iinc (c := (1 : Int32)) (vs1 := [(7, .int x9), (0, .ref (ad 0 0)), (1, .int v1), (2, .int v2), (3, .long v3), (5, .int v5), (6, .int v6)]) C hx9 (by decide) dX6_laysSteps_165 6 rfl (g_lL hL rfl) rfl ?_
  refine y_goto (tgt := 65) C dX6_laysSteps_168 rfl ?_
  refine y_sub (vs2 := [(0, .ref (ad 0 0)), (1, .int v1), (2, .int v2), (3, .long v3), (5, .int v5), (6, .int v6), (7, .int x9)]) [1, 2, 3, 4, 5, 6, 0] rfl ?_
  exact kl _ (Option.some.inj h).symm
theorem mj_M_laysSteps_122 {X : g_F} {hid : Bool} (C : g_M gCl X cX6_laysSteps RX6 none) (hR : g_R X = g_rm 3 0 0) (hL : g_nL X = 10) {ad : Nat → Nat → Nat} {σ : g_S} {v1 : Int32} {v2 : Int32} {v3 : Int64} {v5 : Int32} {v6 : Int32} {v7 : Int32} {v8 : Int32} {s0 : Int32} {o : ((Int32 × g_S) ⊕ g_S)} (h : mJ_M_laysSteps_122 σ v1 v2 v3 v5 v6 v7 v8 s0 = some o) (kl : ∀ z, o = .inl z → g_Y gCl X (gM hid) ad z.2 (0, 0) 65 [(0, .ref (ad 0 0)), (1, .int v1), (2, .int v2), (3, .long v3), (5, .int v5), (6, .int v6), (7, .int z.1)] []) (kx : ∀ z, o = .inr z → g_Y gCl X (gM hid) ad z (0, 0) 171 [(0, .ref (ad 0 0)), (1, .int v1), (2, .int v2), (3, .long v3), (5, .int v5), (6, .int v6)] []) : g_Y gCl X (gM hid) ad σ (0, 0) 122 [(0, .ref (ad 0 0)), (1, .int v1), (2, .int v2), (3, .long v3), (5, .int v5), (6, .int v6), (7, .int v7), (8, .int v8)] [.int s0] := by
  unfold mJ_M_laysSteps_122 at h
  refine y_istore (vs1 := [(9, .int s0), (0, .ref (ad 0 0)), (1, .int v1), (2, .int v2), (3, .long v3), (5, .int v5), (6, .int v6), (7, .int v7), (8, .int v8)]) C rfl dX6_laysSteps_122 (g_lL hL rfl) rfl ?_
  refine y_aload_n C dX6_laysSteps_124 1 rfl rfl ?_
  refine gf_M_38 C dX6_laysSteps_125 ?_
  refine y_iload C dX6_laysSteps_128 6 rfl ?_
  refine y_iload C dX6_laysSteps_130 0 rfl ?_
  refine y_if_eq (tgt := 157) C dX6_laysSteps_132 rfl (fun hc => ?_) (fun hc => ?_)
  · replace h := g_it h hc
    refine y_aload_n C dX6_laysSteps_157 1 rfl rfl ?_
    refine gf_M_38 C dX6_laysSteps_158 ?_
    refine y_iload C dX6_laysSteps_161 6 rfl ?_
    obtain ⟨hg, h⟩ := g_gd h
    refine al_M_20 C nM_20_0 hg dX6_laysSteps_163 ?_
    refine y_sub (vs2 := [(0, .ref (ad 0 0)), (1, .int v1), (2, .int v2), (3, .long v3), (5, .int v5), (6, .int v6), (7, .int v7)]) [1, 2, 3, 4, 5, 6, 7] rfl ?_
    exact mj_M_laysSteps_164 C hR hL h kl kx
  · replace h := g_if h hc
    refine y_aload_n C dX6_laysSteps_135 1 rfl rfl ?_
    refine gf_M_38 C dX6_laysSteps_136 ?_
    refine y_iload C dX6_laysSteps_139 6 rfl ?_
    obtain ⟨hg, h⟩ := g_gd h
    refine al_M_20 C nM_20_0 hg dX6_laysSteps_141 ?_
    refine y_aload_n C dX6_laysSteps_142 1 rfl rfl ?_
    refine gf_M_38 C dX6_laysSteps_143 ?_
    refine y_iload C dX6_laysSteps_146 8 rfl ?_
    obtain ⟨hg, h⟩ := g_gd h
    refine al_M_20 C nM_20_0 hg dX6_laysSteps_148 ?_
    refine y_iconst (v := (1 : Int32)) C dX6_laysSteps_149 (by decide) ?_
    refine y_iadd C dX6_laysSteps_150 ?_
    refine y_mmin C q1456 (g_rmM hR (by decide)) (Nat.le_of_ble_eq_true rfl) ⟨Nat.zero_le _, Nat.zero_le _⟩ dX6_laysSteps_151 ?_
    refine y_goto (tgt := 164) C dX6_laysSteps_154 rfl ?_
    refine y_sub (vs2 := [(0, .ref (ad 0 0)), (1, .int v1), (2, .int v2), (3, .long v3), (5, .int v5), (6, .int v6), (7, .int v7)]) [1, 2, 3, 4, 5, 6, 7] rfl ?_
    exact mj_M_laysSteps_164 C hR hL h kl kx
theorem mj_M_laysSteps_121 {X : g_F} {hid : Bool} (C : g_M gCl X cX6_laysSteps RX6 none) (hR : g_R X = g_rm 3 0 0) (hL : g_nL X = 10) {ad : Nat → Nat → Nat} {σ : g_S} {v1 : Int32} {v2 : Int32} {v3 : Int64} {v5 : Int32} {v6 : Int32} {v7 : Int32} {v8 : Int32} {o : ((Int32 × g_S) ⊕ g_S)} (h : mJ_M_laysSteps_121 σ v1 v2 v3 v5 v6 v7 v8 = some o) (kl : ∀ z, o = .inl z → g_Y gCl X (gM hid) ad z.2 (0, 0) 65 [(0, .ref (ad 0 0)), (1, .int v1), (2, .int v2), (3, .long v3), (5, .int v5), (6, .int v6), (7, .int z.1)] []) (kx : ∀ z, o = .inr z → g_Y gCl X (gM hid) ad z (0, 0) 171 [(0, .ref (ad 0 0)), (1, .int v1), (2, .int v2), (3, .long v3), (5, .int v5), (6, .int v6)] []) : g_Y gCl X (gM hid) ad σ (0, 0) 121 [(0, .ref (ad 0 0)), (1, .int v1), (2, .int v2), (3, .long v3), (5, .int v5), (6, .int v6), (7, .int v7), (8, .int v8)] [] := by
  unfold mJ_M_laysSteps_121 at h
  refine y_iconst (v := (0 : Int32)) C dX6_laysSteps_121 (by decide) ?_
  exact mj_M_laysSteps_122 C hR hL h kl kx
theorem mj_M_laysSteps_117 {X : g_F} {hid : Bool} (C : g_M gCl X cX6_laysSteps RX6 none) (hR : g_R X = g_rm 3 0 0) (hL : g_nL X = 10) {ad : Nat → Nat → Nat} {σ : g_S} {v1 : Int32} {v2 : Int32} {v3 : Int64} {v5 : Int32} {v6 : Int32} {v7 : Int32} {v8 : Int32} {o : ((Int32 × g_S) ⊕ g_S)} (h : mJ_M_laysSteps_117 σ v1 v2 v3 v5 v6 v7 v8 = some o) (kl : ∀ z, o = .inl z → g_Y gCl X (gM hid) ad z.2 (0, 0) 65 [(0, .ref (ad 0 0)), (1, .int v1), (2, .int v2), (3, .long v3), (5, .int v5), (6, .int v6), (7, .int z.1)] []) (kx : ∀ z, o = .inr z → g_Y gCl X (gM hid) ad z (0, 0) 171 [(0, .ref (ad 0 0)), (1, .int v1), (2, .int v2), (3, .long v3), (5, .int v5), (6, .int v6)] []) : g_Y gCl X (gM hid) ad σ (0, 0) 117 [(0, .ref (ad 0 0)), (1, .int v1), (2, .int v2), (3, .long v3), (5, .int v5), (6, .int v6), (7, .int v7), (8, .int v8)] [] := by
  unfold mJ_M_laysSteps_117 at h
  refine y_iconst (v := (1 : Int32)) C dX6_laysSteps_117 (by decide) ?_
  refine y_goto (tgt := 122) C dX6_laysSteps_118 rfl ?_
  exact mj_M_laysSteps_122 C hR hL h kl kx
theorem mj_M_laysSteps_102 {X : g_F} {hid : Bool} (C : g_M gCl X cX6_laysSteps RX6 none) (hR : g_R X = g_rm 3 0 0) (hL : g_nL X = 10) {ad : Nat → Nat → Nat} {σ : g_S} {v1 : Int32} {v2 : Int32} {v3 : Int64} {v5 : Int32} {v6 : Int32} {v7 : Int32} {v8 : Int32} {o : ((Int32 × g_S) ⊕ g_S)} (h : mJ_M_laysSteps_102 σ v1 v2 v3 v5 v6 v7 v8 = some o) (kl : ∀ z, o = .inl z → g_Y gCl X (gM hid) ad z.2 (0, 0) 65 [(0, .ref (ad 0 0)), (1, .int v1), (2, .int v2), (3, .long v3), (5, .int v5), (6, .int v6), (7, .int z.1)] []) (kx : ∀ z, o = .inr z → g_Y gCl X (gM hid) ad z (0, 0) 171 [(0, .ref (ad 0 0)), (1, .int v1), (2, .int v2), (3, .long v3), (5, .int v5), (6, .int v6)] []) : g_Y gCl X (gM hid) ad σ (0, 0) 102 [(0, .ref (ad 0 0)), (1, .int v1), (2, .int v2), (3, .long v3), (5, .int v5), (6, .int v6), (7, .int v7), (8, .int v8)] [] := by
  unfold mJ_M_laysSteps_102 at h
  refine y_iload C dX6_laysSteps_102 7 rfl ?_
  refine y_iload_n C dX6_laysSteps_104 2 rfl rfl ?_
  refine y_icmp_eq (tgt := 117) C dX6_laysSteps_105 rfl (fun hc => ?_) (fun hc => ?_)
  · replace h := g_it h hc
    exact mj_M_laysSteps_117 C hR hL h kl kx
  · replace h := g_if h hc
    refine y_lload_n C dX6_laysSteps_108 3 rfl rfl ?_
    refine y_iload C dX6_laysSteps_109 7 rfl ?_
    obtain ⟨x10, hc, h⟩ := g_bd h
    refine y_callS C (As := [.long v3, .int v8]) (rest := []) (lk_X6_304 C hR (by decide)) (ct_M_has hc) rfl rfl (Nat.le_of_ble_eq_true rfl) ⟨Nat.zero_le _, Nat.zero_le _⟩ dX6_laysSteps_111 ?_
    refine y_if_eq (tgt := 121) C dX6_laysSteps_114 rfl (fun hc => ?_) (fun hc => ?_)
    · replace h := g_it h hc
      exact mj_M_laysSteps_121 C hR hL h kl kx
    · replace h := g_if h hc
      exact mj_M_laysSteps_117 C hR hL h kl kx
theorem ml_M_laysSteps_65 {X : g_F} {hid : Bool} (C : g_M gCl X cX6_laysSteps RX6 none) (hR : g_R X = g_rm 3 0 0) (hL : g_nL X = 10) {ad : Nat → Nat → Nat} {σ : g_S} {v1 : Int32} {v2 : Int32} {v3 : Int64} {v5 : Int32} {v6 : Int32} (n : Nat) (v : (Int32 × g_S)) (e : g_S) (h : g_lp (fun v => mB_M_laysSteps_65 v.2 v1 v2 v3 v5 v6 v.1) n v = some e) (kx : g_Y gCl X (gM hid) ad e (0, 0) 171 [(0, .ref (ad 0 0)), (1, .int v1), (2, .int v2), (3, .long v3), (5, .int v5), (6, .int v6)] []) : g_Y gCl X (gM hid) ad v.2 (0, 0) 65 [(0, .ref (ad 0 0)), (1, .int v1), (2, .int v2), (3, .long v3), (5, .int v5), (6, .int v6), (7, .int v.1)] [] := by
  refine g_loop (P := fun v => g_Y gCl X (gM hid) ad v.2 (0, 0) 65 [(0, .ref (ad 0 0)), (1, .int v1), (2, .int v2), (3, .long v3), (5, .int v5), (6, .int v6), (7, .int v.1)] []) (T := fun e => g_Y gCl X (gM hid) ad e (0, 0) 171 [(0, .ref (ad 0 0)), (1, .int v1), (2, .int v2), (3, .long v3), (5, .int v5), (6, .int v6)] []) ?_ n v e h kx
  clear h kx
  clear n v e
  intro v o h kl kx
  obtain ⟨v7, σ⟩ := v
  have h : mB_M_laysSteps_65 σ v1 v2 v3 v5 v6 v7 = some o := h
  unfold mB_M_laysSteps_65 at h
  show g_Y gCl X (gM hid) ad σ (0, 0) 65 [(0, .ref (ad 0 0)), (1, .int v1), (2, .int v2), (3, .long v3), (5, .int v5), (6, .int v6), (7, .int v7)] []
  refine y_iload C dX6_laysSteps_65 6 rfl ?_
  refine y_bipush (v := (8 : Int32)) C dX6_laysSteps_67 (by decide) ?_
  refine y_icmp_ge (tgt := 171) C dX6_laysSteps_69 rfl (fun hc => ?_) (fun hc => ?_)
  · replace h := g_it h hc
    refine y_sub (vs2 := [(0, .ref (ad 0 0)), (1, .int v1), (2, .int v2), (3, .long v3), (5, .int v5), (6, .int v6)]) [0, 1, 2, 3, 4, 5] rfl ?_
    exact kx _ (Option.some.inj h).symm
  · replace h := g_if h hc
    refine y_aload_n C dX6_laysSteps_72 0 rfl rfl ?_
    refine y_iload C dX6_laysSteps_73 5 rfl ?_
    refine y_iload C dX6_laysSteps_75 6 rfl ?_
    obtain ⟨x7, hc, h⟩ := g_bd h
    refine y_callV C (As := [.int v6, .int v7]) (rest := []) (hu := nM_0_0) (hc := (rfl : gCl[5]? = some (RX6, TX6, 49))) (hcell := obM_0) (lk_X6_353 C hR (by decide)) (ct_M_beside hc) rfl rfl (Nat.le_of_ble_eq_true rfl) ⟨Nat.zero_le _, Nat.zero_le _⟩ dX6_laysSteps_77 ?_
    refine y_istore (vs1 := [(8, .int x7), (0, .ref (ad 0 0)), (1, .int v1), (2, .int v2), (3, .long v3), (5, .int v5), (6, .int v6), (7, .int v7)]) C rfl dX6_laysSteps_80 (g_lL hL rfl) rfl ?_
    refine y_iload C dX6_laysSteps_82 0 rfl ?_
    refine y_if_lt (tgt := 121) C dX6_laysSteps_84 rfl (fun hc => ?_) (fun hc => ?_)
    · replace h := g_it h hc
      refine y_sub (vs2 := [(0, .ref (ad 0 0)), (1, .int v1), (2, .int v2), (3, .long v3), (5, .int v5), (6, .int v6), (7, .int v7), (8, .int x7)]) [1, 2, 3, 4, 5, 6, 7, 0] rfl ?_
      exact mj_M_laysSteps_121 C hR hL h kl kx
    · replace h := g_if h hc
      refine y_iload C dX6_laysSteps_87 6 rfl ?_
      refine y_iload_n C dX6_laysSteps_89 2 rfl rfl ?_
      refine y_icmp_eq (tgt := 102) C dX6_laysSteps_90 rfl (fun hc => ?_) (fun hc => ?_)
      · replace h := g_it h hc
        refine y_sub (vs2 := [(0, .ref (ad 0 0)), (1, .int v1), (2, .int v2), (3, .long v3), (5, .int v5), (6, .int v6), (7, .int v7), (8, .int x7)]) [1, 2, 3, 4, 5, 6, 7, 0] rfl ?_
        exact mj_M_laysSteps_102 C hR hL h kl kx
      · replace h := g_if h hc
        refine y_lload_n C dX6_laysSteps_93 4 rfl rfl ?_
        refine y_iload C dX6_laysSteps_94 6 rfl ?_
        obtain ⟨x11, hc, h⟩ := g_bd h
        refine y_callS C (As := [.long v3, .int v6]) (rest := []) (lk_X6_304 C hR (by decide)) (ct_M_has hc) rfl rfl (Nat.le_of_ble_eq_true rfl) ⟨Nat.zero_le _, Nat.zero_le _⟩ dX6_laysSteps_96 ?_
        refine y_if_eq (tgt := 121) C dX6_laysSteps_99 rfl (fun hc => ?_) (fun hc => ?_)
        · replace h := g_it h hc
          refine y_sub (vs2 := [(0, .ref (ad 0 0)), (1, .int v1), (2, .int v2), (3, .long v3), (5, .int v5), (6, .int v6), (7, .int v7), (8, .int x7)]) [1, 2, 3, 4, 5, 6, 7, 0] rfl ?_
          exact mj_M_laysSteps_121 C hR hL h kl kx
        · replace h := g_if h hc
          refine y_sub (vs2 := [(0, .ref (ad 0 0)), (1, .int v1), (2, .int v2), (3, .long v3), (5, .int v5), (6, .int v6), (7, .int v7), (8, .int x7)]) [1, 2, 3, 4, 5, 6, 7, 0] rfl ?_
          exact mj_M_laysSteps_102 C hR hL h kl kx
theorem ml_M_laysSteps_53 {X : g_F} {hid : Bool} (C : g_M gCl X cX6_laysSteps RX6 none) (hR : g_R X = g_rm 3 0 0) (hL : g_nL X = 10) {ad : Nat → Nat → Nat} {σ : g_S} {v1 : Int32} {v2 : Int32} {v3 : Int64} {v5 : Int32} (n : Nat) (v : (Int32 × g_S)) (e : g_S) (h : g_lp (fun v => mB_M_laysSteps_53 v.2 v1 v2 v3 v5 v.1) n v = some e) (kx : g_Y gCl X (gM hid) ad e (0, 0) 177 [(0, .ref (ad 0 0)), (1, .int v1), (2, .int v2), (3, .long v3), (5, .int v5)] []) : g_Y gCl X (gM hid) ad v.2 (0, 0) 53 [(0, .ref (ad 0 0)), (1, .int v1), (2, .int v2), (3, .long v3), (5, .int v5), (6, .int v.1)] [] := by
  refine g_loop (P := fun v => g_Y gCl X (gM hid) ad v.2 (0, 0) 53 [(0, .ref (ad 0 0)), (1, .int v1), (2, .int v2), (3, .long v3), (5, .int v5), (6, .int v.1)] []) (T := fun e => g_Y gCl X (gM hid) ad e (0, 0) 177 [(0, .ref (ad 0 0)), (1, .int v1), (2, .int v2), (3, .long v3), (5, .int v5)] []) ?_ n v e h kx
  clear h kx
  clear n v e
  intro v o h kl kx
  obtain ⟨v6, σ⟩ := v
  have h : mB_M_laysSteps_53 σ v1 v2 v3 v5 v6 = some o := h
  unfold mB_M_laysSteps_53 at h
  show g_Y gCl X (gM hid) ad σ (0, 0) 53 [(0, .ref (ad 0 0)), (1, .int v1), (2, .int v2), (3, .long v3), (5, .int v5), (6, .int v6)] []
  refine y_iload C dX6_laysSteps_53 5 rfl ?_
  refine y_aload_n C dX6_laysSteps_55 0 rfl rfl ?_
  obtain ⟨x6, hc, h⟩ := g_bd h
  refine y_callV C (As := []) (rest := [.int v6]) (hu := nM_0_0) (hc := (rfl : gCl[5]? = some (RX6, TX6, 49))) (hcell := obM_0) (lk_X6_122 C hR (by decide)) (ct_M_fields hc) rfl rfl (Nat.le_of_ble_eq_true rfl) ⟨Nat.zero_le _, Nat.zero_le _⟩ dX6_laysSteps_56 ?_
  refine y_icmp_ge (tgt := 177) C dX6_laysSteps_59 rfl (fun hc => ?_) (fun hc => ?_)
  · replace h := g_it h hc
    refine y_sub (vs2 := [(0, .ref (ad 0 0)), (1, .int v1), (2, .int v2), (3, .long v3), (5, .int v5)]) [0, 1, 2, 3, 4] rfl ?_
    exact kx _ (Option.some.inj h).symm
  · replace h := g_if h hc
    refine y_iconst (v := (0 : Int32)) C dX6_laysSteps_62 (by decide) ?_
    refine y_istore (vs1 := [(7, .int (0 : Int32)), (0, .ref (ad 0 0)), (1, .int v1), (2, .int v2), (3, .long v3), (5, .int v5), (6, .int v6)]) C rfl dX6_laysSteps_63 (g_lL hL rfl) rfl ?_
    refine y_sub (vs2 := [(0, .ref (ad 0 0)), (1, .int v1), (2, .int v2), (3, .long v3), (5, .int v5), (6, .int v6), (7, .int (0 : Int32))]) [1, 2, 3, 4, 5, 6, 0] rfl ?_
    obtain ⟨e12, he12, h⟩ := g_bd h
    refine ml_M_laysSteps_65 C hR hL (σ := σ) _ _ _ he12 ?_
    obtain ⟨x13, hx13, h⟩ := g_lt h
    refine y_iinc (c := (1 : Int32)) (vs1 := [(6, .int x13), (0, .ref (ad 0 0)), (1, .int v1), (2, .int v2), (3, .long v3), (5, .int v5)]) C hx13 (by decide) dX6_laysSteps_171 5 rfl (g_lL hL rfl) rfl ?_
    refine y_goto (tgt := 53) C dX6_laysSteps_174 rfl ?_
    refine y_sub (vs2 := [(0, .ref (ad 0 0)), (1, .int v1), (2, .int v2), (3, .long v3), (5, .int v5), (6, .int x13)]) [1, 2, 3, 4, 5, 0] rfl ?_
    exact kl _ (Option.some.inj h).symm
theorem ml_M_laysSteps_41 {X : g_F} {hid : Bool} (C : g_M gCl X cX6_laysSteps RX6 none) (hR : g_R X = g_rm 3 0 0) (hL : g_nL X = 10) {ad : Nat → Nat → Nat} {σ : g_S} {v1 : Int32} {v2 : Int32} {v3 : Int64} (n : Nat) (v : (Int32 × g_S)) (e : g_S) (h : g_lp (fun v => mB_M_laysSteps_41 v.2 v1 v2 v3 v.1) n v = some e) (kx : g_Y gCl X (gM hid) ad e (0, 0) 183 [] []) : g_Y gCl X (gM hid) ad v.2 (0, 0) 41 [(0, .ref (ad 0 0)), (1, .int v1), (2, .int v2), (3, .long v3), (5, .int v.1)] [] := by
  refine g_loop (P := fun v => g_Y gCl X (gM hid) ad v.2 (0, 0) 41 [(0, .ref (ad 0 0)), (1, .int v1), (2, .int v2), (3, .long v3), (5, .int v.1)] []) (T := fun e => g_Y gCl X (gM hid) ad e (0, 0) 183 [] []) ?_ n v e h kx
  clear h kx
  clear n v e
  intro v o h kl kx
  obtain ⟨v5, σ⟩ := v
  have h : mB_M_laysSteps_41 σ v1 v2 v3 v5 = some o := h
  unfold mB_M_laysSteps_41 at h
  show g_Y gCl X (gM hid) ad σ (0, 0) 41 [(0, .ref (ad 0 0)), (1, .int v1), (2, .int v2), (3, .long v3), (5, .int v5)] []
  refine y_iload C dX6_laysSteps_41 4 rfl ?_
  refine y_aload_n C dX6_laysSteps_43 0 rfl rfl ?_
  obtain ⟨x5, hc, h⟩ := g_bd h
  refine y_callV C (As := []) (rest := [.int v5]) (hu := nM_0_0) (hc := (rfl : gCl[5]? = some (RX6, TX6, 49))) (hcell := obM_0) (lk_X6_122 C hR (by decide)) (ct_M_fields hc) rfl rfl (Nat.le_of_ble_eq_true rfl) ⟨Nat.zero_le _, Nat.zero_le _⟩ dX6_laysSteps_44 ?_
  refine y_icmp_ge (tgt := 183) C dX6_laysSteps_47 rfl (fun hc => ?_) (fun hc => ?_)
  · replace h := g_it h hc
    refine y_sub (vs2 := []) [] rfl ?_
    exact kx _ (Option.some.inj h).symm
  · replace h := g_if h hc
    refine y_iconst (v := (0 : Int32)) C dX6_laysSteps_50 (by decide) ?_
    refine y_istore (vs1 := [(6, .int (0 : Int32)), (0, .ref (ad 0 0)), (1, .int v1), (2, .int v2), (3, .long v3), (5, .int v5)]) C rfl dX6_laysSteps_51 (g_lL hL rfl) rfl ?_
    refine y_sub (vs2 := [(0, .ref (ad 0 0)), (1, .int v1), (2, .int v2), (3, .long v3), (5, .int v5), (6, .int (0 : Int32))]) [1, 2, 3, 4, 5, 0] rfl ?_
    obtain ⟨e14, he14, h⟩ := g_bd h
    refine ml_M_laysSteps_53 C hR hL (σ := σ) _ _ _ he14 ?_
    obtain ⟨x15, hx15, h⟩ := g_lt h
    refine y_iinc (c := (1 : Int32)) (vs1 := [(5, .int x15), (0, .ref (ad 0 0)), (1, .int v1), (2, .int v2), (3, .long v3)]) C hx15 (by decide) dX6_laysSteps_177 4 rfl (g_lL hL rfl) rfl ?_
    refine y_goto (tgt := 41) C dX6_laysSteps_180 rfl ?_
    refine y_sub (vs2 := [(0, .ref (ad 0 0)), (1, .int v1), (2, .int v2), (3, .long v3), (5, .int x15)]) [1, 2, 3, 4, 0] rfl ?_
    exact kl _ (Option.some.inj h).symm
theorem mw_M_laysSteps {X : g_F} {hid : Bool} (C : g_M gCl X cX6_laysSteps RX6 none) (hR : g_R X = g_rm 3 0 0) (hL : g_nL X = 10) {ad : Nat → Nat → Nat} {σ : g_S} {v1 : Int32} {v2 : Int32} {v3 : Int64} {o : g_S} (h : mF_M_laysSteps σ v1 v2 v3 = some o) (hQ : g_MQ gCl X (gM hid) ad o none = g_Q X) : g_Y gCl X (gM hid) ad σ (0, 0) 0 [(0, .ref (ad 0 0)), (1, .int v1), (2, .int v2), (3, .long v3)] [] := by
  unfold mF_M_laysSteps at h
  refine y_iconst (v := (0 : Int32)) C dX6_laysSteps_0 (by decide) ?_
  refine y_istore (vs1 := [(5, .int (0 : Int32)), (0, .ref (ad 0 0)), (1, .int v1), (2, .int v2), (3, .long v3)]) C rfl dX6_laysSteps_1 (g_lL hL rfl) rfl ?_
  refine y_sub (vs2 := [(0, .ref (ad 0 0)), (1, .int v1), (2, .int v2), (3, .long v3), (5, .int (0 : Int32))]) [1, 2, 3, 4, 0] rfl ?_
  obtain ⟨e4, he4, h⟩ := g_bd h
  refine ml_M_laysSteps_3 C hR hL (σ := σ) _ _ _ he4 ?_
  refine y_iconst (v := (0 : Int32)) C dX6_laysSteps_38 (by decide) ?_
  refine y_istore (vs1 := [(5, .int (0 : Int32)), (0, .ref (ad 0 0)), (1, .int v1), (2, .int v2), (3, .long v3)]) C rfl dX6_laysSteps_39 (g_lL hL rfl) rfl ?_
  refine y_sub (vs2 := [(0, .ref (ad 0 0)), (1, .int v1), (2, .int v2), (3, .long v3), (5, .int (0 : Int32))]) [1, 2, 3, 4, 0] rfl ?_
  obtain ⟨e16, he16, h⟩ := g_bd h
  refine ml_M_laysSteps_41 C hR hL (σ := e4) _ _ _ he16 ?_
  replace h := Option.some.inj h; subst h
  exact y_vret C hQ ⟨Nat.zero_le _, Nat.zero_le _⟩ dX6_laysSteps_183
theorem ct_M_laysSteps {D : va_G} {dA : Nat → ClassId} {A : Nat → Prop} {s0 : State} {b0 : Nat} {l : Launch} {hid : Bool} {ad : Nat → Nat → Nat} {σ : g_S} {v1 : Int32} {v2 : Int32} {v3 : Int64} {σ1 : g_S} (h : mF_M_laysSteps σ v1 v2 v3 = some σ1) : g_Met gCl D dA A s0 b0 l yX6_laysSteps cX6_laysSteps 10 none 3 (0, 0) (gM hid) ad σ [.ref (ad 0 0), .int v1, .int v2, .long v3] (gM hid) ad σ1 none :=
  g_Met.of pl_X6 (Nat.le_of_ble_eq_true rfl) (fun X C hQ hR _ _ hL _ es eb => mw_M_laysSteps C hR hL h hQ)
theorem mj_M_laysWay_130 {X : g_F} {hid : Bool} (C : g_M gCl X cX6_laysWay RX6 (some .int)) (hR : g_R X = g_rm 4 0 0) (hL : g_nL X = 11) {ad : Nat → Nat → Nat} {σ : g_S} {v1 : Int32} {v2 : Int32} {v3 : Int64} {v5 : Int32} {v6 : Int32} {v7 : Int32} {v8 : Int32} {v9 : Int32} {s0 : Int32} {o : ((Int32 × Int32) ⊕ Int32)} (h : mJ_M_laysWay_130 σ v1 v2 v3 v5 v6 v7 v8 v9 s0 = some o) (kl : ∀ z, o = .inl z → g_Y gCl X (gM hid) ad σ (0, 0) 76 [(0, .ref (ad 0 0)), (1, .int v1), (2, .int v2), (3, .long v3), (5, .int v5), (6, .int v6), (7, .int z.1), (8, .int z.2)] []) (kx : ∀ z, o = .inr z → g_Y gCl X (gM hid) ad σ (0, 0) 164 [(0, .ref (ad 0 0)), (1, .int v1), (2, .int v2), (3, .long v3), (6, .int v6), (7, .int z)] []) : g_Y gCl X (gM hid) ad σ (0, 0) 130 [(0, .ref (ad 0 0)), (1, .int v1), (2, .int v2), (3, .long v3), (5, .int v5), (6, .int v6), (7, .int v7), (8, .int v8), (9, .int v9)] [.int s0] := by
  unfold mJ_M_laysWay_130 at h
  refine y_istore (vs1 := [(10, .int s0), (0, .ref (ad 0 0)), (1, .int v1), (2, .int v2), (3, .long v3), (5, .int v5), (6, .int v6), (7, .int v7), (8, .int v8), (9, .int v9)]) C rfl dX6_laysWay_130 (g_lL hL rfl) rfl ?_
  refine y_iload C dX6_laysWay_132 0 rfl ?_
  refine y_if_eq (tgt := 154) C dX6_laysWay_134 rfl (fun hc => ?_) (fun hc => ?_)
  · replace h := g_it h hc
    refine y_iload C dX6_laysWay_154 7 rfl ?_
    refine y_istore (vs1 := [(7, .int v7), (10, .int s0), (0, .ref (ad 0 0)), (1, .int v1), (2, .int v2), (3, .long v3), (5, .int v5), (6, .int v6), (8, .int v8), (9, .int v9)]) C rfl dX6_laysWay_156 (g_lL hL rfl) rfl ?_
    obtain ⟨x6, hx6, h⟩ := g_lt h
    refine y_iinc (c := (1 : Int32)) (vs1 := [(8, .int x6), (7, .int v7), (10, .int s0), (0, .ref (ad 0 0)), (1, .int v1), (2, .int v2), (3, .long v3), (5, .int v5), (6, .int v6), (9, .int v9)]) C hx6 (by decide) dX6_laysWay_158 8 rfl (g_lL hL rfl) rfl ?_
    refine y_goto (tgt := 76) C dX6_laysWay_161 rfl ?_
    refine y_sub (vs2 := [(0, .ref (ad 0 0)), (1, .int v1), (2, .int v2), (3, .long v3), (5, .int v5), (6, .int v6), (7, .int v7), (8, .int x6)]) [3, 4, 5, 6, 7, 8, 1, 0] rfl ?_
    exact kl _ (Option.some.inj h).symm
  · replace h := g_if h hc
    refine y_iload C dX6_laysWay_137 7 rfl ?_
    refine y_if_lt (tgt := 149) C dX6_laysWay_139 rfl (fun hc => ?_) (fun hc => ?_)
    · replace h := g_it h hc
      refine y_iload C dX6_laysWay_149 9 rfl ?_
      refine y_goto (tgt := 156) C dX6_laysWay_151 rfl ?_
      refine y_istore (vs1 := [(7, .int v9), (10, .int s0), (0, .ref (ad 0 0)), (1, .int v1), (2, .int v2), (3, .long v3), (5, .int v5), (6, .int v6), (8, .int v8), (9, .int v9)]) C rfl dX6_laysWay_156 (g_lL hL rfl) rfl ?_
      obtain ⟨x7, hx7, h⟩ := g_lt h
      refine y_iinc (c := (1 : Int32)) (vs1 := [(8, .int x7), (7, .int v9), (10, .int s0), (0, .ref (ad 0 0)), (1, .int v1), (2, .int v2), (3, .long v3), (5, .int v5), (6, .int v6), (9, .int v9)]) C hx7 (by decide) dX6_laysWay_158 8 rfl (g_lL hL rfl) rfl ?_
      refine y_goto (tgt := 76) C dX6_laysWay_161 rfl ?_
      refine y_sub (vs2 := [(0, .ref (ad 0 0)), (1, .int v1), (2, .int v2), (3, .long v3), (5, .int v5), (6, .int v6), (7, .int v9), (8, .int x7)]) [3, 4, 5, 6, 7, 8, 1, 0] rfl ?_
      exact kl _ (Option.some.inj h).symm
    · replace h := g_if h hc
      refine y_iload C dX6_laysWay_142 9 rfl ?_
      refine y_iload C dX6_laysWay_144 7 rfl ?_
      refine y_icmp_ge (tgt := 154) C dX6_laysWay_146 rfl (fun hc => ?_) (fun hc => ?_)
      · replace h := g_it h hc
        refine y_iload C dX6_laysWay_154 7 rfl ?_
        refine y_istore (vs1 := [(7, .int v7), (10, .int s0), (0, .ref (ad 0 0)), (1, .int v1), (2, .int v2), (3, .long v3), (5, .int v5), (6, .int v6), (8, .int v8), (9, .int v9)]) C rfl dX6_laysWay_156 (g_lL hL rfl) rfl ?_
        obtain ⟨x8, hx8, h⟩ := g_lt h
        refine y_iinc (c := (1 : Int32)) (vs1 := [(8, .int x8), (7, .int v7), (10, .int s0), (0, .ref (ad 0 0)), (1, .int v1), (2, .int v2), (3, .long v3), (5, .int v5), (6, .int v6), (9, .int v9)]) C hx8 (by decide) dX6_laysWay_158 8 rfl (g_lL hL rfl) rfl ?_
        refine y_goto (tgt := 76) C dX6_laysWay_161 rfl ?_
        refine y_sub (vs2 := [(0, .ref (ad 0 0)), (1, .int v1), (2, .int v2), (3, .long v3), (5, .int v5), (6, .int v6), (7, .int v7), (8, .int x8)]) [3, 4, 5, 6, 7, 8, 1, 0] rfl ?_
        exact kl _ (Option.some.inj h).symm
      · replace h := g_if h hc
        refine y_iload C dX6_laysWay_149 9 rfl ?_
        refine y_goto (tgt := 156) C dX6_laysWay_151 rfl ?_
        refine y_istore (vs1 := [(7, .int v9), (10, .int s0), (0, .ref (ad 0 0)), (1, .int v1), (2, .int v2), (3, .long v3), (5, .int v5), (6, .int v6), (8, .int v8), (9, .int v9)]) C rfl dX6_laysWay_156 (g_lL hL rfl) rfl ?_
        obtain ⟨x9, hx9, h⟩ := g_lt h
        refine y_iinc (c := (1 : Int32)) (vs1 := [(8, .int x9), (7, .int v9), (10, .int s0), (0, .ref (ad 0 0)), (1, .int v1), (2, .int v2), (3, .long v3), (5, .int v5), (6, .int v6), (9, .int v9)]) C hx9 (by decide) dX6_laysWay_158 8 rfl (g_lL hL rfl) rfl ?_
        refine y_goto (tgt := 76) C dX6_laysWay_161 rfl ?_
        refine y_sub (vs2 := [(0, .ref (ad 0 0)), (1, .int v1), (2, .int v2), (3, .long v3), (5, .int v5), (6, .int v6), (7, .int v9), (8, .int x9)]) [3, 4, 5, 6, 7, 8, 1, 0] rfl ?_
        exact kl _ (Option.some.inj h).symm
theorem mj_M_laysWay_129 {X : g_F} {hid : Bool} (C : g_M gCl X cX6_laysWay RX6 (some .int)) (hR : g_R X = g_rm 4 0 0) (hL : g_nL X = 11) {ad : Nat → Nat → Nat} {σ : g_S} {v1 : Int32} {v2 : Int32} {v3 : Int64} {v5 : Int32} {v6 : Int32} {v7 : Int32} {v8 : Int32} {v9 : Int32} {o : ((Int32 × Int32) ⊕ Int32)} (h : mJ_M_laysWay_129 σ v1 v2 v3 v5 v6 v7 v8 v9 = some o) (kl : ∀ z, o = .inl z → g_Y gCl X (gM hid) ad σ (0, 0) 76 [(0, .ref (ad 0 0)), (1, .int v1), (2, .int v2), (3, .long v3), (5, .int v5), (6, .int v6), (7, .int z.1), (8, .int z.2)] []) (kx : ∀ z, o = .inr z → g_Y gCl X (gM hid) ad σ (0, 0) 164 [(0, .ref (ad 0 0)), (1, .int v1), (2, .int v2), (3, .long v3), (6, .int v6), (7, .int z)] []) : g_Y gCl X (gM hid) ad σ (0, 0) 129 [(0, .ref (ad 0 0)), (1, .int v1), (2, .int v2), (3, .long v3), (5, .int v5), (6, .int v6), (7, .int v7), (8, .int v8), (9, .int v9)] [] := by
  unfold mJ_M_laysWay_129 at h
  refine y_iconst (v := (0 : Int32)) C dX6_laysWay_129 (by decide) ?_
  exact mj_M_laysWay_130 C hR hL h kl kx
theorem mj_M_laysWay_125 {X : g_F} {hid : Bool} (C : g_M gCl X cX6_laysWay RX6 (some .int)) (hR : g_R X = g_rm 4 0 0) (hL : g_nL X = 11) {ad : Nat → Nat → Nat} {σ : g_S} {v1 : Int32} {v2 : Int32} {v3 : Int64} {v5 : Int32} {v6 : Int32} {v7 : Int32} {v8 : Int32} {v9 : Int32} {o : ((Int32 × Int32) ⊕ Int32)} (h : mJ_M_laysWay_125 σ v1 v2 v3 v5 v6 v7 v8 v9 = some o) (kl : ∀ z, o = .inl z → g_Y gCl X (gM hid) ad σ (0, 0) 76 [(0, .ref (ad 0 0)), (1, .int v1), (2, .int v2), (3, .long v3), (5, .int v5), (6, .int v6), (7, .int z.1), (8, .int z.2)] []) (kx : ∀ z, o = .inr z → g_Y gCl X (gM hid) ad σ (0, 0) 164 [(0, .ref (ad 0 0)), (1, .int v1), (2, .int v2), (3, .long v3), (6, .int v6), (7, .int z)] []) : g_Y gCl X (gM hid) ad σ (0, 0) 125 [(0, .ref (ad 0 0)), (1, .int v1), (2, .int v2), (3, .long v3), (5, .int v5), (6, .int v6), (7, .int v7), (8, .int v8), (9, .int v9)] [] := by
  unfold mJ_M_laysWay_125 at h
  refine y_iconst (v := (1 : Int32)) C dX6_laysWay_125 (by decide) ?_
  refine y_goto (tgt := 130) C dX6_laysWay_126 rfl ?_
  exact mj_M_laysWay_130 C hR hL h kl kx
theorem ml_M_laysWay_76 {X : g_F} {hid : Bool} (C : g_M gCl X cX6_laysWay RX6 (some .int)) (hR : g_R X = g_rm 4 0 0) (hL : g_nL X = 11) {ad : Nat → Nat → Nat} {σ : g_S} {v1 : Int32} {v2 : Int32} {v3 : Int64} {v5 : Int32} {v6 : Int32} (n : Nat) (v : (Int32 × Int32)) (e : Int32) (h : g_lp (fun v => mB_M_laysWay_76 σ v1 v2 v3 v5 v6 v.1 v.2) n v = some e) (kx : g_Y gCl X (gM hid) ad σ (0, 0) 164 [(0, .ref (ad 0 0)), (1, .int v1), (2, .int v2), (3, .long v3), (6, .int v6), (7, .int e)] []) : g_Y gCl X (gM hid) ad σ (0, 0) 76 [(0, .ref (ad 0 0)), (1, .int v1), (2, .int v2), (3, .long v3), (5, .int v5), (6, .int v6), (7, .int v.1), (8, .int v.2)] [] := by
  refine g_loop (P := fun v => g_Y gCl X (gM hid) ad σ (0, 0) 76 [(0, .ref (ad 0 0)), (1, .int v1), (2, .int v2), (3, .long v3), (5, .int v5), (6, .int v6), (7, .int v.1), (8, .int v.2)] []) (T := fun e => g_Y gCl X (gM hid) ad σ (0, 0) 164 [(0, .ref (ad 0 0)), (1, .int v1), (2, .int v2), (3, .long v3), (6, .int v6), (7, .int e)] []) ?_ n v e h kx
  clear h kx
  clear n v e
  intro v o h kl kx
  obtain ⟨v7, v8⟩ := v
  have h : mB_M_laysWay_76 σ v1 v2 v3 v5 v6 v7 v8 = some o := h
  unfold mB_M_laysWay_76 at h
  show g_Y gCl X (gM hid) ad σ (0, 0) 76 [(0, .ref (ad 0 0)), (1, .int v1), (2, .int v2), (3, .long v3), (5, .int v5), (6, .int v6), (7, .int v7), (8, .int v8)] []
  refine y_iload C dX6_laysWay_76 7 rfl ?_
  refine y_bipush (v := (8 : Int32)) C dX6_laysWay_78 (by decide) ?_
  refine y_icmp_ge (tgt := 164) C dX6_laysWay_80 rfl (fun hc => ?_) (fun hc => ?_)
  · replace h := g_it h hc
    refine y_sub (vs2 := [(0, .ref (ad 0 0)), (1, .int v1), (2, .int v2), (3, .long v3), (6, .int v6), (7, .int v7)]) [0, 1, 2, 3, 5, 6] rfl ?_
    exact kx _ (Option.some.inj h).symm
  · replace h := g_if h hc
    refine y_aload_n C dX6_laysWay_83 0 rfl rfl ?_
    refine y_iload C dX6_laysWay_84 4 rfl ?_
    refine y_iload C dX6_laysWay_86 7 rfl ?_
    obtain ⟨x5, hc, h⟩ := g_bd h
    refine y_callV C (As := [.int v5, .int v8]) (rest := []) (hu := nM_0_0) (hc := (rfl : gCl[5]? = some (RX6, TX6, 49))) (hcell := obM_0) (lk_X6_353 C hR (by decide)) (ct_M_beside hc) rfl rfl (Nat.le_of_ble_eq_true rfl) ⟨Nat.zero_le _, Nat.zero_le _⟩ dX6_laysWay_88 ?_
    refine y_istore (vs1 := [(9, .int x5), (0, .ref (ad 0 0)), (1, .int v1), (2, .int v2), (3, .long v3), (5, .int v5), (6, .int v6), (7, .int v7), (8, .int v8)]) C rfl dX6_laysWay_91 (g_lL hL rfl) rfl ?_
    refine y_iload C dX6_laysWay_93 0 rfl ?_
    refine y_if_lt (tgt := 129) C dX6_laysWay_95 rfl (fun hc => ?_) (fun hc => ?_)
    · replace h := g_it h hc
      refine y_sub (vs2 := [(0, .ref (ad 0 0)), (1, .int v1), (2, .int v2), (3, .long v3), (5, .int v5), (6, .int v6), (7, .int v7), (8, .int v8), (9, .int x5)]) [1, 2, 3, 4, 5, 6, 7, 8, 0] rfl ?_
      exact mj_M_laysWay_129 C hR hL h kl kx
    · replace h := g_if h hc
      refine y_aload_n C dX6_laysWay_98 1 rfl rfl ?_
      refine gf_M_38 C dX6_laysWay_99 ?_
      refine y_iload C dX6_laysWay_102 0 rfl ?_
      obtain ⟨hg, h⟩ := g_gd h
      refine al_M_20 C nM_20_0 hg dX6_laysWay_104 ?_
      refine y_iload C dX6_laysWay_105 6 rfl ?_
      refine y_icmp_ne (tgt := 129) C dX6_laysWay_107 rfl (fun hc => ?_) (fun hc => ?_)
      · replace h := g_if h hc
        refine y_sub (vs2 := [(0, .ref (ad 0 0)), (1, .int v1), (2, .int v2), (3, .long v3), (5, .int v5), (6, .int v6), (7, .int v7), (8, .int v8), (9, .int x5)]) [1, 2, 3, 4, 5, 6, 7, 8, 0] rfl ?_
        exact mj_M_laysWay_129 C hR hL h kl kx
      · replace h := g_it h hc
        refine y_iload C dX6_laysWay_110 0 rfl ?_
        refine y_iload_n C dX6_laysWay_112 3 rfl rfl ?_
        refine y_icmp_eq (tgt := 125) C dX6_laysWay_113 rfl (fun hc => ?_) (fun hc => ?_)
        · replace h := g_it h hc
          refine y_sub (vs2 := [(0, .ref (ad 0 0)), (1, .int v1), (2, .int v2), (3, .long v3), (5, .int v5), (6, .int v6), (7, .int v7), (8, .int v8), (9, .int x5)]) [1, 2, 3, 4, 5, 6, 7, 8, 0] rfl ?_
          exact mj_M_laysWay_125 C hR hL h kl kx
        · replace h := g_if h hc
          refine y_lload_n C dX6_laysWay_116 4 rfl rfl ?_
          refine y_iload C dX6_laysWay_117 0 rfl ?_
          obtain ⟨x10, hc, h⟩ := g_bd h
          refine y_callS C (As := [.long v3, .int x5]) (rest := []) (lk_X6_304 C hR (by decide)) (ct_M_has hc) rfl rfl (Nat.le_of_ble_eq_true rfl) ⟨Nat.zero_le _, Nat.zero_le _⟩ dX6_laysWay_119 ?_
          refine y_if_eq (tgt := 129) C dX6_laysWay_122 rfl (fun hc => ?_) (fun hc => ?_)
          · replace h := g_it h hc
            refine y_sub (vs2 := [(0, .ref (ad 0 0)), (1, .int v1), (2, .int v2), (3, .long v3), (5, .int v5), (6, .int v6), (7, .int v7), (8, .int v8), (9, .int x5)]) [1, 2, 3, 4, 5, 6, 7, 8, 0] rfl ?_
            exact mj_M_laysWay_129 C hR hL h kl kx
          · replace h := g_if h hc
            refine y_sub (vs2 := [(0, .ref (ad 0 0)), (1, .int v1), (2, .int v2), (3, .long v3), (5, .int v5), (6, .int v6), (7, .int v7), (8, .int v8), (9, .int x5)]) [1, 2, 3, 4, 5, 6, 7, 8, 0] rfl ?_
            exact mj_M_laysWay_125 C hR hL h kl kx
theorem ml_M_laysWay_65 {X : g_F} {hid : Bool} (C : g_M gCl X cX6_laysWay RX6 (some .int)) (hR : g_R X = g_rm 4 0 0) (hL : g_nL X = 11) {ad : Nat → Nat → Nat} {σ : g_S} {v1 : Int32} {v2 : Int32} {v3 : Int64} (n : Nat) (v : (Int32 × Int32 × g_S)) (e : g_S) (h : g_lp (fun v => mB_M_laysWay_65 v.2.2 v1 v2 v3 v.1 v.2.1) n v = some e) (kx : g_Y gCl X (gM hid) ad e (0, 0) 181 [(0, .ref (ad 0 0)), (1, .int v1)] []) : g_Y gCl X (gM hid) ad v.2.2 (0, 0) 65 [(0, .ref (ad 0 0)), (1, .int v1), (2, .int v2), (3, .long v3), (5, .int v.1), (6, .int v.2.1)] [] := by
  refine g_loop (P := fun v => g_Y gCl X (gM hid) ad v.2.2 (0, 0) 65 [(0, .ref (ad 0 0)), (1, .int v1), (2, .int v2), (3, .long v3), (5, .int v.1), (6, .int v.2.1)] []) (T := fun e => g_Y gCl X (gM hid) ad e (0, 0) 181 [(0, .ref (ad 0 0)), (1, .int v1)] []) ?_ n v e h kx
  clear h kx
  clear n v e
  intro v o h kl kx
  obtain ⟨v5, v6, σ⟩ := v
  have h : mB_M_laysWay_65 σ v1 v2 v3 v5 v6 = some o := h
  unfold mB_M_laysWay_65 at h
  show g_Y gCl X (gM hid) ad σ (0, 0) 65 [(0, .ref (ad 0 0)), (1, .int v1), (2, .int v2), (3, .long v3), (5, .int v5), (6, .int v6)] []
  refine y_iload C dX6_laysWay_65 5 rfl ?_
  refine y_if_lt (tgt := 181) C dX6_laysWay_67 rfl (fun hc => ?_) (fun hc => ?_)
  · replace h := g_it h hc
    refine y_sub (vs2 := [(0, .ref (ad 0 0)), (1, .int v1)]) [0, 1] rfl ?_
    exact kx _ (Option.some.inj h).symm
  · replace h := g_if h hc
    refine y_iconst (v := (-1 : Int32)) C dX6_laysWay_70 (by decide) ?_
    refine y_istore (vs1 := [(7, .int (-1 : Int32)), (0, .ref (ad 0 0)), (1, .int v1), (2, .int v2), (3, .long v3), (5, .int v5), (6, .int v6)]) C rfl dX6_laysWay_71 (g_lL hL rfl) rfl ?_
    refine y_iconst (v := (0 : Int32)) C dX6_laysWay_73 (by decide) ?_
    refine y_istore (vs1 := [(8, .int (0 : Int32)), (7, .int (-1 : Int32)), (0, .ref (ad 0 0)), (1, .int v1), (2, .int v2), (3, .long v3), (5, .int v5), (6, .int v6)]) C rfl dX6_laysWay_74 (g_lL hL rfl) rfl ?_
    refine y_sub (vs2 := [(0, .ref (ad 0 0)), (1, .int v1), (2, .int v2), (3, .long v3), (5, .int v5), (6, .int v6), (7, .int (-1 : Int32)), (8, .int (0 : Int32))]) [2, 3, 4, 5, 6, 7, 1, 0] rfl ?_
    obtain ⟨e11, he11, h⟩ := g_bd h
    refine ml_M_laysWay_76 C hR hL (σ := σ) _ _ _ he11 ?_
    refine y_iload C dX6_laysWay_164 5 rfl ?_
    refine y_istore (vs1 := [(5, .int e11), (0, .ref (ad 0 0)), (1, .int v1), (2, .int v2), (3, .long v3), (6, .int v6), (7, .int e11)]) C rfl dX6_laysWay_166 (g_lL hL rfl) rfl ?_
    refine y_aload_n C dX6_laysWay_168 1 rfl rfl ?_
    refine y_iload C dX6_laysWay_169 0 rfl ?_
    refine y_i2l C dX6_laysWay_171 ?_
    obtain ⟨σ12, hc, h⟩ := g_bd h
    refine y_callVv C (As := [.long (e11.toInt64)]) (rest := []) (hu := nM_0_0) (hc := (rfl : gCl[5]? = some (RX6, TX6, 49))) (hcell := obM_0) (lk_X6_373 C hR (by decide)) (ct_M_enters hc) rfl rfl (Nat.le_of_ble_eq_true rfl) ⟨Nat.zero_le _, Nat.zero_le _⟩ dX6_laysWay_172 ?_
    obtain ⟨x13, hx13, h⟩ := g_lt h
    refine y_iinc (c := (-1 : Int32)) (vs1 := [(6, .int x13), (5, .int e11), (0, .ref (ad 0 0)), (1, .int v1), (2, .int v2), (3, .long v3), (7, .int e11)]) C hx13 (by decide) dX6_laysWay_175 5 rfl (g_lL hL rfl) rfl ?_
    refine y_goto (tgt := 65) C dX6_laysWay_178 rfl ?_
    refine y_sub (vs2 := [(0, .ref (ad 0 0)), (1, .int v1), (2, .int v2), (3, .long v3), (5, .int e11), (6, .int x13)]) [2, 3, 4, 5, 1, 0] rfl ?_
    exact kl _ (Option.some.inj h).symm
theorem mw_M_laysWay {X : g_F} {hid : Bool} (C : g_M gCl X cX6_laysWay RX6 (some .int)) (hR : g_R X = g_rm 4 0 0) (hL : g_nL X = 11) {ad : Nat → Nat → Nat} {σ : g_S} {v1 : Int32} {v2 : Int32} {v3 : Int64} {o : (Int32 × g_S)} (h : mF_M_laysWay σ v1 v2 v3 = some o) (hQ : g_MQ gCl X (gM hid) ad o.2 (some (.int o.1)) = g_Q X) : g_Y gCl X (gM hid) ad σ (0, 0) 0 [(0, .ref (ad 0 0)), (1, .int v1), (2, .int v2), (3, .long v3)] [] := by
  unfold mF_M_laysWay at h
  refine y_aload_n C dX6_laysWay_0 0 rfl rfl ?_
  refine y_iload_n C dX6_laysWay_1 1 rfl rfl ?_
  refine y_iload_n C dX6_laysWay_2 2 rfl rfl ?_
  refine y_lload_n C dX6_laysWay_3 3 rfl rfl ?_
  obtain ⟨σ1, hc, h⟩ := g_bd h
  refine y_callVv C (As := [.int v1, .int v2, .long v3]) (rest := []) (hu := nM_0_0) (hc := (rfl : gCl[5]? = some (RX6, TX6, 49))) (hcell := obM_0) (lk_X6_446 C hR (by decide)) (ct_M_laysSteps hc) rfl rfl (Nat.le_of_ble_eq_true rfl) ⟨Nat.zero_le _, Nat.zero_le _⟩ dX6_laysWay_4 ?_
  refine y_aload_n C dX6_laysWay_7 0 rfl rfl ?_
  refine gf_M_9 C dX6_laysWay_8 ?_
  refine y_iload_n C dX6_laysWay_11 1 rfl rfl ?_
  obtain ⟨hg, h⟩ := g_gd h
  refine al_M_3 C nM_3_0 hg dX6_laysWay_12 ?_
  refine y_if_ne (tgt := 37) C dX6_laysWay_13 rfl (fun hc => ?_) (fun hc => ?_)
  · replace h := g_if h hc
    refine y_bipush (v := (-2 : Int32)) C dX6_laysWay_37 (by decide) ?_
    replace h := Option.some.inj h; subst h
    exact y_iret C hQ ⟨Nat.zero_le _, Nat.zero_le _⟩ dX6_laysWay_39
  · replace h := g_it h hc
    refine y_aload_n C dX6_laysWay_16 0 rfl rfl ?_
    refine gf_M_9 C dX6_laysWay_17 ?_
    refine y_iload_n C dX6_laysWay_20 2 rfl rfl ?_
    obtain ⟨hg, h⟩ := g_gd h
    refine al_M_3 C nM_3_0 hg dX6_laysWay_21 ?_
    refine y_if_ne (tgt := 37) C dX6_laysWay_22 rfl (fun hc => ?_) (fun hc => ?_)
    · replace h := g_if h hc
      refine y_bipush (v := (-2 : Int32)) C dX6_laysWay_37 (by decide) ?_
      replace h := Option.some.inj h; subst h
      exact y_iret C hQ ⟨Nat.zero_le _, Nat.zero_le _⟩ dX6_laysWay_39
    · replace h := g_it h hc
      refine y_aload_n C dX6_laysWay_25 0 rfl rfl ?_
      refine gf_M_38 C dX6_laysWay_26 ?_
      refine y_iload_n C dX6_laysWay_29 1 rfl rfl ?_
      obtain ⟨hg, h⟩ := g_gd h
      refine al_M_20 C nM_20_0 hg dX6_laysWay_30 ?_
      refine y_ldcw (v := (1000000 : Int32)) C q1829 dX6_laysWay_31 ?_
      refine y_icmp_lt (tgt := 40) C dX6_laysWay_34 rfl (fun hc => ?_) (fun hc => ?_)
      · replace h := g_it h hc
        refine y_aload_n C dX6_laysWay_40 0 rfl rfl ?_
        refine y_iconst (v := (0 : Int32)) C dX6_laysWay_41 (by decide) ?_
        obtain ⟨σ2, hσ2, h⟩ := g_lt h
        refine pf_M_1 C hσ2 dX6_laysWay_42 ?_
        refine y_iload_n C dX6_laysWay_45 1 rfl rfl ?_
        refine y_istore (vs1 := [(5, .int v1), (0, .ref (ad 0 0)), (1, .int v1), (2, .int v2), (3, .long v3)]) C rfl dX6_laysWay_46 (g_lL hL rfl) rfl ?_
        refine y_aload_n C dX6_laysWay_48 1 rfl rfl ?_
        refine y_iload C dX6_laysWay_49 0 rfl ?_
        refine y_i2l C dX6_laysWay_51 ?_
        obtain ⟨σ3, hc, h⟩ := g_bd h
        refine y_callVv C (As := [.long (v1.toInt64)]) (rest := []) (hu := nM_0_0) (hc := (rfl : gCl[5]? = some (RX6, TX6, 49))) (hcell := obM_0) (lk_X6_373 C hR (by decide)) (ct_M_enters hc) rfl rfl (Nat.le_of_ble_eq_true rfl) ⟨Nat.zero_le _, Nat.zero_le _⟩ dX6_laysWay_52 ?_
        refine y_aload_n C dX6_laysWay_55 1 rfl rfl ?_
        refine gf_M_38 C dX6_laysWay_56 ?_
        refine y_iload_n C dX6_laysWay_59 2 rfl rfl ?_
        obtain ⟨hg, h⟩ := g_gd h
        refine al_M_20 C nM_20_0 hg dX6_laysWay_60 ?_
        refine y_iconst (v := (1 : Int32)) C dX6_laysWay_61 (by decide) ?_
        refine y_isub C dX6_laysWay_62 ?_
        obtain ⟨x4, hx4, h⟩ := g_lt h
        refine y_istore (vs1 := [(6, .int x4), (5, .int v1), (0, .ref (ad 0 0)), (1, .int v1), (2, .int v2), (3, .long v3)]) C hx4 dX6_laysWay_63 (g_lL hL rfl) rfl ?_
        refine y_sub (vs2 := [(0, .ref (ad 0 0)), (1, .int v1), (2, .int v2), (3, .long v3), (5, .int v1), (6, .int x4)]) [2, 3, 4, 5, 1, 0] rfl ?_
        obtain ⟨e14, he14, h⟩ := g_bd h
        refine ml_M_laysWay_65 C hR hL (σ := σ3) _ _ _ he14 ?_
        refine y_aload_n C dX6_laysWay_181 0 rfl rfl ?_
        refine gf_M_38 C dX6_laysWay_182 ?_
        refine y_iload_n C dX6_laysWay_185 1 rfl rfl ?_
        obtain ⟨hg, h⟩ := g_gd h
        refine al_M_20 C nM_20_0 hg dX6_laysWay_186 ?_
        replace h := Option.some.inj h; subst h
        exact y_iret C hQ ⟨Nat.zero_le _, Nat.zero_le _⟩ dX6_laysWay_187
      · replace h := g_if h hc
        refine y_bipush (v := (-2 : Int32)) C dX6_laysWay_37 (by decide) ?_
        replace h := Option.some.inj h; subst h
        exact y_iret C hQ ⟨Nat.zero_le _, Nat.zero_le _⟩ dX6_laysWay_39
theorem ct_M_laysWay {D : va_G} {dA : Nat → ClassId} {A : Nat → Prop} {s0 : State} {b0 : Nat} {l : Launch} {hid : Bool} {ad : Nat → Nat → Nat} {σ : g_S} {v1 : Int32} {v2 : Int32} {v3 : Int64} {r : Int32} {σ1 : g_S} (h : mF_M_laysWay σ v1 v2 v3 = some (r, σ1)) : g_Met gCl D dA A s0 b0 l yX6_laysWay cX6_laysWay 11 (some .int) 4 (0, 0) (gM hid) ad σ [.ref (ad 0 0), .int v1, .int v2, .long v3] (gM hid) ad σ1 (some (.int r)) :=
  g_Met.of pl_X6 (Nat.le_of_ble_eq_true rfl) (fun X C hQ hR _ _ hL _ es eb => mw_M_laysWay C hR hL h hQ)
theorem mw_M_back {X : g_F} (C : g_M gCl X cX6_back RX6 (some .int)) (hR : g_R X = g_rm 7 0 0) (hL : g_nL X = 3) {ad : Nat → Nat → Nat} {σ : g_S} {v1 : Int32} {v2 : Int32} {o : (Int32 × g_S)} (h : mF_M_back σ v1 v2 = some o) (hQ : g_MQ gCl X (gM true) ad o.2 (some (.int o.1)) = g_Q X) : g_Y gCl X (gM true) ad σ (0, 0) 0 [(0, .ref (ad 0 0)), (1, .int v1), (2, .int v2)] [] := by
  unfold mF_M_back at h
  refine y_aload_n C dX6_back_0 0 rfl rfl ?_
  refine y_iconst (v := (0 : Int32)) C dX6_back_1 (by decide) ?_
  obtain ⟨σ1, hσ1, h⟩ := g_lt h
  refine pf_M_0 C hσ1 dX6_back_2 ?_
  refine y_aload_n C dX6_back_5 0 rfl rfl ?_
  refine y_iload_n C dX6_back_6 1 rfl rfl ?_
  obtain ⟨x2, hc, h⟩ := g_bd h
  refine y_callV C (As := [.int v1]) (rest := []) (hu := nM_0_0) (hc := (rfl : gCl[5]? = some (RX6, TX6, 49))) (hcell := obM_0) (lk_X6_358 C hR (by decide)) (ct_M_isField hc) rfl rfl (Nat.le_of_ble_eq_true rfl) ⟨Nat.zero_le _, Nat.zero_le _⟩ dX6_back_7 ?_
  refine y_if_eq (tgt := 47) C dX6_back_10 rfl (fun hc => ?_) (fun hc => ?_)
  · replace h := g_it h hc
    refine y_iconst (v := (-1 : Int32)) C dX6_back_47 (by decide) ?_
    replace h := Option.some.inj h; subst h
    exact y_iret C hQ ⟨Nat.zero_le _, Nat.zero_le _⟩ dX6_back_48
  · replace h := g_if h hc
    refine y_aload_n C dX6_back_13 0 rfl rfl ?_
    refine y_iload_n C dX6_back_14 2 rfl rfl ?_
    obtain ⟨x3, hc, h⟩ := g_bd h
    refine y_callV C (As := [.int v2]) (rest := []) (hu := nM_0_0) (hc := (rfl : gCl[5]? = some (RX6, TX6, 49))) (hcell := obM_0) (lk_X6_358 C hR (by decide)) (ct_M_isField hc) rfl rfl (Nat.le_of_ble_eq_true rfl) ⟨Nat.zero_le _, Nat.zero_le _⟩ dX6_back_15 ?_
    refine y_if_eq (tgt := 47) C dX6_back_18 rfl (fun hc => ?_) (fun hc => ?_)
    · replace h := g_it h hc
      refine y_iconst (v := (-1 : Int32)) C dX6_back_47 (by decide) ?_
      replace h := Option.some.inj h; subst h
      exact y_iret C hQ ⟨Nat.zero_le _, Nat.zero_le _⟩ dX6_back_48
    · replace h := g_if h hc
      refine y_aload_n C dX6_back_21 0 rfl rfl ?_
      refine y_iload_n C dX6_back_22 1 rfl rfl ?_
      refine y_iload_n C dX6_back_23 2 rfl rfl ?_
      refine y_aload_n C dX6_back_24 0 rfl rfl ?_
      obtain ⟨x4, hc, h⟩ := g_bd h
      refine y_callV C (As := []) (rest := [.int v2, .int v1, .ref (ad 0 0)]) (hu := nM_0_0) (hc := (rfl : gCl[5]? = some (RX6, TX6, 49))) (hcell := obM_0) (lk_X6_413 C hR (by decide)) (ct_M_free hc) rfl rfl (Nat.le_of_ble_eq_true rfl) ⟨Nat.zero_le _, Nat.zero_le _⟩ dX6_back_25 ?_
      refine y_aload_n C dX6_back_28 0 rfl rfl ?_
      refine y_aload_n C dX6_back_29 0 rfl rfl ?_
      refine gf_M_11 C dX6_back_30 ?_
      obtain ⟨x5, hc, h⟩ := g_bd h
      refine y_callV C (As := [.ref (ad 1 0)]) (rest := [.long x4, .int v2, .int v1, .ref (ad 0 0)]) (hu := nM_0_0) (hc := (rfl : gCl[5]? = some (RX6, TX6, 49))) (hcell := obM_0) (lk_X6_417 C hR (by decide)) (ct_M_allSeen nM_1_0 hc) rfl rfl (Nat.le_of_ble_eq_true rfl) ⟨Nat.zero_le _, Nat.zero_le _⟩ dX6_back_33 ?_
      refine y_ldc2 (v := (-1 : Int64)) C q1759 dX6_back_36 ?_
      refine y_lxor C dX6_back_39 ?_
      refine y_land C dX6_back_40 ?_
      obtain ⟨x7, σ6, hc, h⟩ := g_bp h
      refine y_callV C (As := [.int v1, .int v2, .long (x4 &&& (x5 ^^^ (-1 : Int64)))]) (rest := []) (hu := nM_0_0) (hc := (rfl : gCl[5]? = some (RX6, TX6, 49))) (hcell := obM_0) (lk_X6_450 C hR (by decide)) (ct_M_laysWay hc) rfl rfl (Nat.le_of_ble_eq_true rfl) ⟨Nat.zero_le _, Nat.zero_le _⟩ dX6_back_41 ?_
      refine y_goto (tgt := 48) C dX6_back_44 rfl ?_
      replace h := Option.some.inj h; subst h
      exact y_iret C hQ ⟨Nat.zero_le _, Nat.zero_le _⟩ dX6_back_48
theorem ct_M_back {D : va_G} {dA : Nat → ClassId} {A : Nat → Prop} {s0 : State} {b0 : Nat} {l : Launch} {ad : Nat → Nat → Nat} {σ : g_S} {v1 : Int32} {v2 : Int32} {r : Int32} {σ1 : g_S} (h : mF_M_back σ v1 v2 = some (r, σ1)) : g_Met gCl D dA A s0 b0 l yX6_back cX6_back 3 (some .int) 7 (0, 0) (gM true) ad σ [.ref (ad 0 0), .int v1, .int v2] (gM true) ad σ1 (some (.int r)) :=
  g_Met.of pl_X6 (Nat.le_of_ble_eq_true rfl) (fun X C hQ hR _ _ hL _ es eb => mw_M_back C hR hL h hQ)
theorem ml_M_open_56 {X : g_F} (C : g_M gCl X cX6_open RX6 (some .int)) (hR : g_R X = g_rm 7 0 0) (hL : g_nL X = 8) {ad : Nat → Nat → Nat} {σ : g_S} {v3 : Int32} {v4 : Int64} (n : Nat) (v : (Int32 × Int32)) (e : Int32) (h : g_lp (fun v => mB_M_open_56 σ v3 v4 v.1 v.2) n v = some e) (kx : g_Y gCl X (gM true) ad σ (0, 0) 89 [(0, .ref (ad 0 0)), (3, .int v3), (6, .int e)] []) : g_Y gCl X (gM true) ad σ (0, 0) 56 [(0, .ref (ad 0 0)), (3, .int v3), (4, .long v4), (6, .int v.1), (7, .int v.2)] [] := by
  refine g_loop (P := fun v => g_Y gCl X (gM true) ad σ (0, 0) 56 [(0, .ref (ad 0 0)), (3, .int v3), (4, .long v4), (6, .int v.1), (7, .int v.2)] []) (T := fun e => g_Y gCl X (gM true) ad σ (0, 0) 89 [(0, .ref (ad 0 0)), (3, .int v3), (6, .int e)] []) ?_ n v e h kx
  clear h kx
  clear n v e
  intro v o h kl kx
  obtain ⟨v6, v7⟩ := v
  have h : mB_M_open_56 σ v3 v4 v6 v7 = some o := h
  unfold mB_M_open_56 at h
  show g_Y gCl X (gM true) ad σ (0, 0) 56 [(0, .ref (ad 0 0)), (3, .int v3), (4, .long v4), (6, .int v6), (7, .int v7)] []
  refine y_iload C dX6_open_56 4 rfl ?_
  refine y_iload_n C dX6_open_58 1 rfl rfl ?_
  refine y_icmp_gt (tgt := 89) C dX6_open_59 rfl (fun hc => ?_) (fun hc => ?_)
  · replace h := g_it h hc
    refine y_sub (vs2 := [(0, .ref (ad 0 0)), (3, .int v3), (6, .int v6)]) [0, 1, 3] rfl ?_
    exact kx _ (Option.some.inj h).symm
  · replace h := g_if h hc
    refine y_iload C dX6_open_62 3 rfl ?_
    refine y_lload C dX6_open_64 2 rfl ?_
    refine y_aload_n C dX6_open_66 0 rfl rfl ?_
    refine gf_M_2 C dX6_open_67 ?_
    refine y_iload C dX6_open_70 4 rfl ?_
    obtain ⟨hg, h⟩ := g_gd h
    refine al_M_2 C nM_2_0 hg dX6_open_72 ?_
    refine y_l2i C dX6_open_73 ?_
    obtain ⟨x8, hc, h⟩ := g_bd h
    refine y_callS C (As := [.long v4, .int ((σ.2.1 2 0 v7.toNatClampNeg).toInt32)]) (rest := [.int v6]) (lk_X6_304 C hR (by decide)) (ct_M_has hc) rfl rfl (Nat.le_of_ble_eq_true rfl) ⟨Nat.zero_le _, Nat.zero_le _⟩ dX6_open_74 ?_
    obtain ⟨x9, hc, h⟩ := g_bd h
    refine y_callS C (As := [.int x8]) (rest := [.int v6]) (lk_X6_154 C hR (by decide)) (ct_M_flag hc) rfl rfl (Nat.le_of_ble_eq_true rfl) ⟨Nat.zero_le _, Nat.zero_le _⟩ dX6_open_77 ?_
    refine y_iadd C dX6_open_80 ?_
    obtain ⟨x10, hx10, h⟩ := g_lt h
    refine y_istore (vs1 := [(6, .int x10), (0, .ref (ad 0 0)), (3, .int v3), (4, .long v4), (7, .int v7)]) C hx10 dX6_open_81 (g_lL hL rfl) rfl ?_
    obtain ⟨x11, hx11, h⟩ := g_lt h
    refine y_iinc (c := (1 : Int32)) (vs1 := [(7, .int x11), (6, .int x10), (0, .ref (ad 0 0)), (3, .int v3), (4, .long v4)]) C hx11 (by decide) dX6_open_83 4 rfl (g_lL hL rfl) rfl ?_
    refine y_goto (tgt := 56) C dX6_open_86 rfl ?_
    refine y_sub (vs2 := [(0, .ref (ad 0 0)), (3, .int v3), (4, .long v4), (6, .int x10), (7, .int x11)]) [2, 3, 4, 1, 0] rfl ?_
    exact kl _ (Option.some.inj h).symm
theorem mw_M_open {X : g_F} (C : g_M gCl X cX6_open RX6 (some .int)) (hR : g_R X = g_rm 7 0 0) (hL : g_nL X = 8) {ad : Nat → Nat → Nat} {σ : g_S} {v1 : Int32} {v2 : Int32} {o : (Int32 × g_S)} (h : mF_M_open σ v1 v2 = some o) (hQ : g_MQ gCl X (gM true) ad o.2 (some (.int o.1)) = g_Q X) : g_Y gCl X (gM true) ad σ (0, 0) 0 [(0, .ref (ad 0 0)), (1, .int v1), (2, .int v2)] [] := by
  unfold mF_M_open at h
  refine y_aload_n C dX6_open_0 0 rfl rfl ?_
  refine y_iconst (v := (0 : Int32)) C dX6_open_1 (by decide) ?_
  obtain ⟨σ1, hσ1, h⟩ := g_lt h
  refine pf_M_0 C hσ1 dX6_open_2 ?_
  refine y_aload_n C dX6_open_5 0 rfl rfl ?_
  refine y_iload_n C dX6_open_6 1 rfl rfl ?_
  obtain ⟨x2, hc, h⟩ := g_bd h
  refine y_callV C (As := [.int v1]) (rest := []) (hu := nM_0_0) (hc := (rfl : gCl[5]? = some (RX6, TX6, 49))) (hcell := obM_0) (lk_X6_358 C hR (by decide)) (ct_M_isField hc) rfl rfl (Nat.le_of_ble_eq_true rfl) ⟨Nat.zero_le _, Nat.zero_le _⟩ dX6_open_7 ?_
  refine y_if_eq (tgt := 21) C dX6_open_10 rfl (fun hc => ?_) (fun hc => ?_)
  · replace h := g_it h hc
    refine y_iconst (v := (-1 : Int32)) C dX6_open_21 (by decide) ?_
    replace h := Option.some.inj h; subst h
    exact y_iret C hQ ⟨Nat.zero_le _, Nat.zero_le _⟩ dX6_open_22
  · replace h := g_if h hc
    refine y_aload_n C dX6_open_13 0 rfl rfl ?_
    refine y_iload_n C dX6_open_14 2 rfl rfl ?_
    obtain ⟨x3, hc, h⟩ := g_bd h
    refine y_callV C (As := [.int v2]) (rest := []) (hu := nM_0_0) (hc := (rfl : gCl[5]? = some (RX6, TX6, 49))) (hcell := obM_0) (lk_X6_358 C hR (by decide)) (ct_M_isField hc) rfl rfl (Nat.le_of_ble_eq_true rfl) ⟨Nat.zero_le _, Nat.zero_le _⟩ dX6_open_15 ?_
    refine y_if_ne (tgt := 23) C dX6_open_18 rfl (fun hc => ?_) (fun hc => ?_)
    · replace h := g_if h hc
      refine y_aload_n C dX6_open_23 0 rfl rfl ?_
      refine y_iload_n C dX6_open_24 1 rfl rfl ?_
      refine y_iload_n C dX6_open_25 2 rfl rfl ?_
      refine y_aload_n C dX6_open_26 0 rfl rfl ?_
      obtain ⟨x4, hc, h⟩ := g_bd h
      refine y_callV C (As := []) (rest := [.int v2, .int v1, .ref (ad 0 0)]) (hu := nM_0_0) (hc := (rfl : gCl[5]? = some (RX6, TX6, 49))) (hcell := obM_0) (lk_X6_413 C hR (by decide)) (ct_M_free hc) rfl rfl (Nat.le_of_ble_eq_true rfl) ⟨Nat.zero_le _, Nat.zero_le _⟩ dX6_open_27 ?_
      obtain ⟨x6, σ5, hc, h⟩ := g_bp h
      refine y_callV C (As := [.int v1, .int v2, .long x4]) (rest := []) (hu := nM_0_0) (hc := (rfl : gCl[5]? = some (RX6, TX6, 49))) (hcell := obM_0) (lk_X6_450 C hR (by decide)) (ct_M_laysWay hc) rfl rfl (Nat.le_of_ble_eq_true rfl) ⟨Nat.zero_le _, Nat.zero_le _⟩ dX6_open_30 ?_
      refine y_istore_n (vs1 := [(3, .int x6), (0, .ref (ad 0 0)), (1, .int v1), (2, .int v2)]) C rfl dX6_open_33 rfl (g_lL hL rfl) rfl ?_
      refine y_iload_n C dX6_open_34 0 rfl rfl ?_
      refine y_if_ge (tgt := 40) C dX6_open_35 rfl (fun hc => ?_) (fun hc => ?_)
      · replace h := g_it h hc
        refine y_aload_n C dX6_open_40 1 rfl rfl ?_
        refine y_aload_n C dX6_open_41 1 rfl rfl ?_
        refine gf_M_11 C dX6_open_42 ?_
        obtain ⟨x7, hc, h⟩ := g_bd h
        refine y_callV C (As := [.ref (ad 1 0)]) (rest := []) (hu := nM_0_0) (hc := (rfl : gCl[5]? = some (RX6, TX6, 49))) (hcell := obM_0) (lk_X6_417 C hR (by decide)) (ct_M_allSeen nM_1_0 hc) rfl rfl (Nat.le_of_ble_eq_true rfl) ⟨Nat.zero_le _, Nat.zero_le _⟩ dX6_open_45 ?_
        refine y_lstore (vs1 := [(4, .long x7), (3, .int x6), (0, .ref (ad 0 0)), (1, .int v1), (2, .int v2)]) C rfl dX6_open_48 (g_lL hL rfl) rfl ?_
        refine y_iconst (v := (0 : Int32)) C dX6_open_50 (by decide) ?_
        refine y_istore (vs1 := [(6, .int (0 : Int32)), (4, .long x7), (3, .int x6), (0, .ref (ad 0 0)), (1, .int v1), (2, .int v2)]) C rfl dX6_open_51 (g_lL hL rfl) rfl ?_
        refine y_iconst (v := (0 : Int32)) C dX6_open_53 (by decide) ?_
        refine y_istore (vs1 := [(7, .int (0 : Int32)), (6, .int (0 : Int32)), (4, .long x7), (3, .int x6), (0, .ref (ad 0 0)), (1, .int v1), (2, .int v2)]) C rfl dX6_open_54 (g_lL hL rfl) rfl ?_
        refine y_sub (vs2 := [(0, .ref (ad 0 0)), (3, .int x6), (4, .long x7), (6, .int (0 : Int32)), (7, .int (0 : Int32))]) [4, 3, 2, 1, 0] rfl ?_
        obtain ⟨e12, he12, h⟩ := g_bd h
        refine ml_M_open_56 C hR hL (σ := σ5) _ _ _ he12 ?_
        refine y_aload_n C dX6_open_89 0 rfl rfl ?_
        refine y_iconst (v := (0 : Int32)) C dX6_open_90 (by decide) ?_
        obtain ⟨σ13, hσ13, h⟩ := g_lt h
        refine pf_M_1 C hσ13 dX6_open_91 ?_
        refine y_aload_n C dX6_open_94 0 rfl rfl ?_
        refine y_iload C dX6_open_95 2 rfl ?_
        refine y_i2l C dX6_open_97 ?_
        obtain ⟨σ14, hc, h⟩ := g_bd h
        refine y_callVv C (As := [.long (e12.toInt64)]) (rest := []) (hu := nM_0_0) (hc := (rfl : gCl[5]? = some (RX6, TX6, 49))) (hcell := obM_0) (lk_X6_373 C hR (by decide)) (ct_M_enters hc) rfl rfl (Nat.le_of_ble_eq_true rfl) ⟨Nat.zero_le _, Nat.zero_le _⟩ dX6_open_98 ?_
        refine y_iload_n C dX6_open_101 1 rfl rfl ?_
        replace h := Option.some.inj h; subst h
        exact y_iret C hQ ⟨Nat.zero_le _, Nat.zero_le _⟩ dX6_open_102
      · replace h := g_if h hc
        refine y_iload_n C dX6_open_38 0 rfl rfl ?_
        replace h := Option.some.inj h; subst h
        exact y_iret C hQ ⟨Nat.zero_le _, Nat.zero_le _⟩ dX6_open_39
    · replace h := g_it h hc
      refine y_iconst (v := (-1 : Int32)) C dX6_open_21 (by decide) ?_
      replace h := Option.some.inj h; subst h
      exact y_iret C hQ ⟨Nat.zero_le _, Nat.zero_le _⟩ dX6_open_22
theorem ct_M_open {D : va_G} {dA : Nat → ClassId} {A : Nat → Prop} {s0 : State} {b0 : Nat} {l : Launch} {ad : Nat → Nat → Nat} {σ : g_S} {v1 : Int32} {v2 : Int32} {r : Int32} {σ1 : g_S} (h : mF_M_open σ v1 v2 = some (r, σ1)) : g_Met gCl D dA A s0 b0 l yX6_open cX6_open 8 (some .int) 7 (0, 0) (gM true) ad σ [.ref (ad 0 0), .int v1, .int v2] (gM true) ad σ1 (some (.int r)) :=
  g_Met.of pl_X6 (Nat.le_of_ble_eq_true rfl) (fun X C hQ hR _ _ hL _ es eb => mw_M_open C hR hL h hQ)
theorem mw_M_heard {X : g_F} {hid : Bool} (C : g_M gCl X cX6_heard RX6 (some .int)) (hR : g_R X = g_rm 3 0 0) (hL : g_nL X = 3) {ad : Nat → Nat → Nat} {σ : g_S} {v1 : Int32} {v2 : Int32} {o : (Int32 × g_S)} (h : mF_M_heard σ v1 v2 = some o) (hQ : g_MQ gCl X (gM hid) ad o.2 (some (.int o.1)) = g_Q X) : g_Y gCl X (gM hid) ad σ (0, 0) 0 [(0, .ref (ad 0 0)), (1, .int v1), (2, .int v2)] [] := by
  unfold mF_M_heard at h
  refine y_aload_n C dX6_heard_0 0 rfl rfl ?_
  refine y_iconst (v := (0 : Int32)) C dX6_heard_1 (by decide) ?_
  obtain ⟨σ1, hσ1, h⟩ := g_lt h
  refine pf_M_0 C hσ1 dX6_heard_2 ?_
  refine y_aload_n C dX6_heard_5 0 rfl rfl ?_
  refine y_iload_n C dX6_heard_6 1 rfl rfl ?_
  obtain ⟨x2, hc, h⟩ := g_bd h
  refine y_callV C (As := [.int v1]) (rest := []) (hu := nM_0_0) (hc := (rfl : gCl[5]? = some (RX6, TX6, 49))) (hcell := obM_0) (lk_X6_315 C hR (by decide)) (ct_M_isPerson hc) rfl rfl (Nat.le_of_ble_eq_true rfl) ⟨Nat.zero_le _, Nat.zero_le _⟩ dX6_heard_7 ?_
  refine y_if_eq (tgt := 32) C dX6_heard_10 rfl (fun hc => ?_) (fun hc => ?_)
  · replace h := g_it h hc
    refine y_iconst (v := (-1 : Int32)) C dX6_heard_32 (by decide) ?_
    replace h := Option.some.inj h; subst h
    exact y_iret C hQ ⟨Nat.zero_le _, Nat.zero_le _⟩ dX6_heard_33
  · replace h := g_if h hc
    refine y_iload_n C dX6_heard_13 2 rfl rfl ?_
    refine y_i2l C dX6_heard_14 ?_
    refine y_lconst (v := (0 : Int64)) C dX6_heard_15 (by decide) ?_
    refine y_lconst (v := (1 : Int64)) C dX6_heard_16 (by decide) ?_
    obtain ⟨x3, hc, h⟩ := g_bd h
    refine y_callS C (As := [.long (v2.toInt64), .long (0 : Int64), .long (1 : Int64)]) (rest := []) (lk_X6_126 C hR (by decide)) (ct_M_in hc) rfl rfl (Nat.le_of_ble_eq_true rfl) ⟨Nat.zero_le _, Nat.zero_le _⟩ dX6_heard_17 ?_
    refine y_if_eq (tgt := 32) C dX6_heard_20 rfl (fun hc => ?_) (fun hc => ?_)
    · replace h := g_it h hc
      refine y_iconst (v := (-1 : Int32)) C dX6_heard_32 (by decide) ?_
      replace h := Option.some.inj h; subst h
      exact y_iret C hQ ⟨Nat.zero_le _, Nat.zero_le _⟩ dX6_heard_33
    · replace h := g_if h hc
      refine y_aload_n C dX6_heard_23 0 rfl rfl ?_
      refine gf_M_39 C dX6_heard_24 ?_
      refine y_bipush (v := (10 : Int32)) C dX6_heard_27 (by decide) ?_
      refine y_icmp_ne (tgt := 34) C dX6_heard_29 rfl (fun hc => ?_) (fun hc => ?_)
      · replace h := g_if h hc
        refine y_aload_n C dX6_heard_34 0 rfl rfl ?_
        refine gf_M_40 C dX6_heard_35 ?_
        refine y_aload_n C dX6_heard_38 0 rfl rfl ?_
        refine gf_M_39 C dX6_heard_39 ?_
        refine y_iload_n C dX6_heard_42 1 rfl rfl ?_
        obtain ⟨hg, h⟩ := g_gd h
        obtain ⟨σ4, hσ4, h⟩ := g_lt h
        refine as_M_21 C nM_21_0 hσ4 hg dX6_heard_43 ?_
        refine y_aload_n C dX6_heard_44 0 rfl rfl ?_
        refine gf_M_41 C dX6_heard_45 ?_
        refine y_aload_n C dX6_heard_48 0 rfl rfl ?_
        refine gf_M_39 C dX6_heard_49 ?_
        refine y_iload_n C dX6_heard_52 2 rfl rfl ?_
        obtain ⟨hg, h⟩ := g_gd h
        obtain ⟨σ5, hσ5, h⟩ := g_lt h
        refine as_M_22 C nM_22_0 hσ5 hg dX6_heard_53 ?_
        refine y_aload_n C dX6_heard_54 0 rfl rfl ?_
        refine y_dup C dX6_heard_55 rfl ?_
        refine gf_M_39 C dX6_heard_56 ?_
        refine y_iconst (v := (1 : Int32)) C dX6_heard_59 (by decide) ?_
        refine y_iadd C dX6_heard_60 ?_
        obtain ⟨σ6, hσ6, h⟩ := g_lt h
        refine pf_M_39 C hσ6 dX6_heard_61 ?_
        refine y_aload_n C dX6_heard_64 0 rfl rfl ?_
        refine gf_M_39 C dX6_heard_65 ?_
        replace h := Option.some.inj h; subst h
        exact y_iret C hQ ⟨Nat.zero_le _, Nat.zero_le _⟩ dX6_heard_68
      · replace h := g_it h hc
        refine y_iconst (v := (-1 : Int32)) C dX6_heard_32 (by decide) ?_
        replace h := Option.some.inj h; subst h
        exact y_iret C hQ ⟨Nat.zero_le _, Nat.zero_le _⟩ dX6_heard_33
theorem ct_M_heard {D : va_G} {dA : Nat → ClassId} {A : Nat → Prop} {s0 : State} {b0 : Nat} {l : Launch} {hid : Bool} {ad : Nat → Nat → Nat} {σ : g_S} {v1 : Int32} {v2 : Int32} {r : Int32} {σ1 : g_S} (h : mF_M_heard σ v1 v2 = some (r, σ1)) : g_Met gCl D dA A s0 b0 l yX6_heard cX6_heard 3 (some .int) 3 (0, 0) (gM hid) ad σ [.ref (ad 0 0), .int v1, .int v2] (gM hid) ad σ1 (some (.int r)) :=
  g_Met.of pl_X6 (Nat.le_of_ble_eq_true rfl) (fun X C hQ hR _ _ hL _ es eb => mw_M_heard C hR hL h hQ)
theorem mw_M_forget {X : g_F} {hid : Bool} (C : g_M gCl X cX6_forget RX6 (some .int)) (hR : g_R X = g_rm 1 0 0) (hL : g_nL X = 2) {ad : Nat → Nat → Nat} {σ : g_S} {o : (Int32 × g_S)} (h : mF_M_forget σ = some o) (hQ : g_MQ gCl X (gM hid) ad o.2 (some (.int o.1)) = g_Q X) : g_Y gCl X (gM hid) ad σ (0, 0) 0 [(0, .ref (ad 0 0))] [] := by
  unfold mF_M_forget at h
  refine y_aload_n C dX6_forget_0 0 rfl rfl ?_
  refine y_iconst (v := (0 : Int32)) C dX6_forget_1 (by decide) ?_
  obtain ⟨σ1, hσ1, h⟩ := g_lt h
  refine pf_M_0 C hσ1 dX6_forget_2 ?_
  refine y_aload_n C dX6_forget_5 0 rfl rfl ?_
  refine gf_M_39 C dX6_forget_6 ?_
  obtain ⟨x2, hx2, h⟩ := g_lt h
  refine y_istore_n (vs1 := [(1, .int x2), (0, .ref (ad 0 0))]) C hx2 dX6_forget_9 rfl (g_lL hL rfl) rfl ?_
  refine y_aload_n C dX6_forget_10 1 rfl rfl ?_
  refine y_iconst (v := (0 : Int32)) C dX6_forget_11 (by decide) ?_
  obtain ⟨σ3, hσ3, h⟩ := g_lt h
  refine pf_M_39 C hσ3 dX6_forget_12 ?_
  refine y_iload_n C dX6_forget_15 0 rfl rfl ?_
  replace h := Option.some.inj h; subst h
  exact y_iret C hQ ⟨Nat.zero_le _, Nat.zero_le _⟩ dX6_forget_16
theorem ct_M_forget {D : va_G} {dA : Nat → ClassId} {A : Nat → Prop} {s0 : State} {b0 : Nat} {l : Launch} {hid : Bool} {ad : Nat → Nat → Nat} {σ : g_S} {r : Int32} {σ1 : g_S} (h : mF_M_forget σ = some (r, σ1)) : g_Met gCl D dA A s0 b0 l yX6_forget cX6_forget 2 (some .int) 1 (0, 0) (gM hid) ad σ [.ref (ad 0 0)] (gM hid) ad σ1 (some (.int r)) :=
  g_Met.of pl_X6 (Nat.le_of_ble_eq_true rfl) (fun X C hQ hR _ _ hL _ es eb => mw_M_forget C hR hL h hQ)
theorem ml_M_fitting_7 {X : g_F} (C : g_M gCl X cX6_fitting RX6 (some .long)) (hR : g_R X = g_rm 6 0 0) (hL : g_nL X = 6) {ad : Nat → Nat → Nat} {σ : g_S} (n : Nat) (v : (Int64 × Int32)) (e : Int64) (h : g_lp (fun v => mB_M_fitting_7 σ v.1 v.2) n v = some e) (kx : g_Y gCl X (gM true) ad σ (0, 0) 61 [(1, .long e)] []) : g_Y gCl X (gM true) ad σ (0, 0) 7 [(0, .ref (ad 0 0)), (1, .long v.1), (3, .int v.2)] [] := by
  refine g_loop (P := fun v => g_Y gCl X (gM true) ad σ (0, 0) 7 [(0, .ref (ad 0 0)), (1, .long v.1), (3, .int v.2)] []) (T := fun e => g_Y gCl X (gM true) ad σ (0, 0) 61 [(1, .long e)] []) ?_ n v e h kx
  clear h kx
  clear n v e
  intro v o h kl kx
  obtain ⟨v1, v3⟩ := v
  have h : mB_M_fitting_7 σ v1 v3 = some o := h
  unfold mB_M_fitting_7 at h
  show g_Y gCl X (gM true) ad σ (0, 0) 7 [(0, .ref (ad 0 0)), (1, .long v1), (3, .int v3)] []
  refine y_iload_n C dX6_fitting_7 2 rfl rfl ?_
  refine y_aload_n C dX6_fitting_8 0 rfl rfl ?_
  refine gf_M_39 C dX6_fitting_9 ?_
  refine y_icmp_ge (tgt := 61) C dX6_fitting_12 rfl (fun hc => ?_) (fun hc => ?_)
  · replace h := g_it h hc
    refine y_sub (vs2 := [(1, .long v1)]) [1] rfl ?_
    exact kx _ (Option.some.inj h).symm
  · replace h := g_if h hc
    refine y_aload_n C dX6_fitting_15 0 rfl rfl ?_
    refine y_aload_n C dX6_fitting_16 0 rfl rfl ?_
    refine gf_M_11 C dX6_fitting_17 ?_
    refine y_aload_n C dX6_fitting_20 0 rfl rfl ?_
    refine gf_M_40 C dX6_fitting_21 ?_
    refine y_iload_n C dX6_fitting_24 2 rfl rfl ?_
    obtain ⟨hg, h⟩ := g_gd h
    refine al_M_21 C nM_21_0 hg dX6_fitting_25 ?_
    obtain ⟨x2, hc, h⟩ := g_bd h
    refine y_callV C (As := [.ref (ad 1 0), .int (σ.1 21 0 v3.toNatClampNeg)]) (rest := []) (hu := nM_0_0) (hc := (rfl : gCl[5]? = some (RX6, TX6, 49))) (hcell := obM_0) (lk_X6_300 C hR (by decide)) (ct_M_fieldsSeen nM_1_0 hc) rfl rfl (Nat.le_of_ble_eq_true rfl) ⟨Nat.zero_le _, Nat.zero_le _⟩ dX6_fitting_26 ?_
    refine y_lstore (vs1 := [(4, .long x2), (0, .ref (ad 0 0)), (1, .long v1), (3, .int v3)]) C rfl dX6_fitting_29 (g_lL hL rfl) rfl ?_
    refine y_lload_n C dX6_fitting_31 2 rfl rfl ?_
    refine y_aload_n C dX6_fitting_32 1 rfl rfl ?_
    refine gf_M_41 C dX6_fitting_33 ?_
    refine y_iload_n C dX6_fitting_36 3 rfl rfl ?_
    obtain ⟨hg, h⟩ := g_gd h
    refine al_M_22 C nM_22_0 hg dX6_fitting_37 ?_
    refine y_iconst (v := (1 : Int32)) C dX6_fitting_38 (by decide) ?_
    refine y_icmp_ne (tgt := 47) C dX6_fitting_39 rfl (fun hc => ?_) (fun hc => ?_)
    · replace h := g_if h hc
      refine y_lload C dX6_fitting_47 0 rfl ?_
      refine y_ldc2 (v := (-1 : Int64)) C q1759 dX6_fitting_49 ?_
      refine y_lxor C dX6_fitting_52 ?_
      refine y_land C dX6_fitting_53 ?_
      obtain ⟨x3, hx3, h⟩ := g_lt h
      refine y_lstore_n (vs1 := [(1, .long x3), (4, .long x2), (0, .ref (ad 0 0)), (3, .int v3)]) C hx3 dX6_fitting_54 rfl (g_lL hL rfl) rfl ?_
      obtain ⟨x4, hx4, h⟩ := g_lt h
      refine y_iinc (c := (1 : Int32)) (vs1 := [(3, .int x4), (1, .long x3), (4, .long x2), (0, .ref (ad 0 0))]) C hx4 (by decide) dX6_fitting_55 3 rfl (g_lL hL rfl) rfl ?_
      refine y_goto (tgt := 7) C dX6_fitting_58 rfl ?_
      refine y_sub (vs2 := [(0, .ref (ad 0 0)), (1, .long x3), (3, .int x4)]) [3, 1, 0] rfl ?_
      exact kl _ (Option.some.inj h).symm
    · replace h := g_it h hc
      refine y_lload C dX6_fitting_42 0 rfl ?_
      refine y_goto (tgt := 53) C dX6_fitting_44 rfl ?_
      refine y_land C dX6_fitting_53 ?_
      obtain ⟨x5, hx5, h⟩ := g_lt h
      refine y_lstore_n (vs1 := [(1, .long x5), (4, .long x2), (0, .ref (ad 0 0)), (3, .int v3)]) C hx5 dX6_fitting_54 rfl (g_lL hL rfl) rfl ?_
      obtain ⟨x6, hx6, h⟩ := g_lt h
      refine y_iinc (c := (1 : Int32)) (vs1 := [(3, .int x6), (1, .long x5), (4, .long x2), (0, .ref (ad 0 0))]) C hx6 (by decide) dX6_fitting_55 3 rfl (g_lL hL rfl) rfl ?_
      refine y_goto (tgt := 7) C dX6_fitting_58 rfl ?_
      refine y_sub (vs2 := [(0, .ref (ad 0 0)), (1, .long x5), (3, .int x6)]) [3, 1, 0] rfl ?_
      exact kl _ (Option.some.inj h).symm
theorem mw_M_fitting {X : g_F} (C : g_M gCl X cX6_fitting RX6 (some .long)) (hR : g_R X = g_rm 6 0 0) (hL : g_nL X = 6) {ad : Nat → Nat → Nat} {σ : g_S} {o : Int64} (h : mF_M_fitting σ = some o) (hQ : g_MQ gCl X (gM true) ad σ (some (.long o)) = g_Q X) : g_Y gCl X (gM true) ad σ (0, 0) 0 [(0, .ref (ad 0 0))] [] := by
  unfold mF_M_fitting at h
  refine y_aload_n C dX6_fitting_0 0 rfl rfl ?_
  obtain ⟨x1, hc, h⟩ := g_bd h
  refine y_callV C (As := []) (rest := []) (hu := nM_0_0) (hc := (rfl : gCl[5]? = some (RX6, TX6, 49))) (hcell := obM_0) (lk_X6_413 C hR (by decide)) (ct_M_free hc) rfl rfl (Nat.le_of_ble_eq_true rfl) ⟨Nat.zero_le _, Nat.zero_le _⟩ dX6_fitting_1 ?_
  refine y_lstore_n (vs1 := [(1, .long x1), (0, .ref (ad 0 0))]) C rfl dX6_fitting_4 rfl (g_lL hL rfl) rfl ?_
  refine y_iconst (v := (0 : Int32)) C dX6_fitting_5 (by decide) ?_
  refine y_istore_n (vs1 := [(3, .int (0 : Int32)), (1, .long x1), (0, .ref (ad 0 0))]) C rfl dX6_fitting_6 rfl (g_lL hL rfl) rfl ?_
  refine y_sub (vs2 := [(0, .ref (ad 0 0)), (1, .long x1), (3, .int (0 : Int32))]) [2, 1, 0] rfl ?_
  obtain ⟨e7, he7, h⟩ := g_bd h
  refine ml_M_fitting_7 C hR hL (σ := σ) _ _ _ he7 ?_
  refine y_lload_n C dX6_fitting_61 0 rfl rfl ?_
  replace h := Option.some.inj h; subst h
  exact y_lret C hQ ⟨Nat.zero_le _, Nat.zero_le _⟩ dX6_fitting_62
theorem ct_M_fitting {D : va_G} {dA : Nat → ClassId} {A : Nat → Prop} {s0 : State} {b0 : Nat} {l : Launch} {ad : Nat → Nat → Nat} {σ : g_S} {r : Int64} (h : mF_M_fitting σ = some r) : g_Met gCl D dA A s0 b0 l yX6_fitting cX6_fitting 6 (some .long) 6 (0, 0) (gM true) ad σ [.ref (ad 0 0)] (gM true) ad σ (some (.long r)) :=
  g_Met.of pl_X6 (Nat.le_of_ble_eq_true rfl) (fun X C hQ hR _ _ hL _ es eb => mw_M_fitting C hR hL h hQ)
theorem mw_M_lost {X : g_F} (C : g_M gCl X cX6_lost RX6 (some .long)) (hR : g_R X = g_rm 7 0 0) (hL : g_nL X = 3) {ad : Nat → Nat → Nat} {σ : g_S} {o : (Int64 × g_S)} (h : mF_M_lost σ = some o) (hQ : g_MQ gCl X (gM true) ad o.2 (some (.long o.1)) = g_Q X) : g_Y gCl X (gM true) ad σ (0, 0) 0 [(0, .ref (ad 0 0))] [] := by
  unfold mF_M_lost at h
  refine y_aload_n C dX6_lost_0 0 rfl rfl ?_
  refine y_iconst (v := (0 : Int32)) C dX6_lost_1 (by decide) ?_
  obtain ⟨σ1, hσ1, h⟩ := g_lt h
  refine pf_M_0 C hσ1 dX6_lost_2 ?_
  refine y_aload_n C dX6_lost_5 0 rfl rfl ?_
  obtain ⟨x2, hc, h⟩ := g_bd h
  refine y_callV C (As := []) (rest := []) (hu := nM_0_0) (hc := (rfl : gCl[5]? = some (RX6, TX6, 49))) (hcell := obM_0) (lk_X6_454 C hR (by decide)) (ct_M_fitting hc) rfl rfl (Nat.le_of_ble_eq_true rfl) ⟨Nat.zero_le _, Nat.zero_le _⟩ dX6_lost_6 ?_
  refine y_lstore_n (vs1 := [(1, .long x2), (0, .ref (ad 0 0))]) C rfl dX6_lost_9 rfl (g_lL hL rfl) rfl ?_
  refine y_aload_n C dX6_lost_10 1 rfl rfl ?_
  refine y_iconst (v := (0 : Int32)) C dX6_lost_11 (by decide) ?_
  obtain ⟨σ3, hσ3, h⟩ := g_lt h
  refine pf_M_1 C hσ3 dX6_lost_12 ?_
  refine y_aload_n C dX6_lost_15 1 rfl rfl ?_
  refine y_lload_n C dX6_lost_16 0 rfl rfl ?_
  obtain ⟨x4, hc, h⟩ := g_bd h
  refine y_callS C (As := [.long x2]) (rest := [.ref (ad 0 0)]) (lk_X6_405 C hR (by decide)) (ct_J12_bitCount hc) rfl rfl (Nat.le_of_ble_eq_true rfl) ⟨Nat.zero_le _, Nat.zero_le _⟩ dX6_lost_17 ?_
  refine y_i2l C dX6_lost_20 ?_
  obtain ⟨σ5, hc, h⟩ := g_bd h
  refine y_callVv C (As := [.long (x4.toInt64)]) (rest := []) (hu := nM_0_0) (hc := (rfl : gCl[5]? = some (RX6, TX6, 49))) (hcell := obM_0) (lk_X6_373 C hR (by decide)) (ct_M_enters hc) rfl rfl (Nat.le_of_ble_eq_true rfl) ⟨Nat.zero_le _, Nat.zero_le _⟩ dX6_lost_21 ?_
  refine y_lload_n C dX6_lost_24 0 rfl rfl ?_
  replace h := Option.some.inj h; subst h
  exact y_lret C hQ ⟨Nat.zero_le _, Nat.zero_le _⟩ dX6_lost_25
theorem ct_M_lost {D : va_G} {dA : Nat → ClassId} {A : Nat → Prop} {s0 : State} {b0 : Nat} {l : Launch} {ad : Nat → Nat → Nat} {σ : g_S} {r : Int64} {σ1 : g_S} (h : mF_M_lost σ = some (r, σ1)) : g_Met gCl D dA A s0 b0 l yX6_lost cX6_lost 3 (some .long) 7 (0, 0) (gM true) ad σ [.ref (ad 0 0)] (gM true) ad σ1 (some (.long r)) :=
  g_Met.of pl_X6 (Nat.le_of_ble_eq_true rfl) (fun X C hQ hR _ _ hL _ es eb => mw_M_lost C hR hL h hQ)
theorem mj_M_asks_80 {X : g_F} (C : g_M gCl X cX6_asks RX6 (some .int)) (hR : g_R X = g_rm 7 0 0) (hL : g_nL X = 8) {ad : Nat → Nat → Nat} {σ : g_S} {v1 : Int64} {v4 : Int32} {v5 : Int32} {v7 : Int32} {s0 : Int32} {o : ((Int32 × Int32 × Int32) ⊕ (Int32 × Int32))} (h : mJ_M_asks_80 σ v1 v4 v5 v7 s0 = some o) (kl : ∀ z, o = .inl z → g_Y gCl X (gM true) ad σ (0, 0) 21 [(0, .ref (ad 0 0)), (1, .long v1), (3, .int z.1), (4, .int z.2.1), (5, .int z.2.2)] []) (kx : ∀ z, o = .inr z → g_Y gCl X (gM true) ad σ (0, 0) 96 [(0, .ref (ad 0 0)), (3, .int z.1), (4, .int z.2)] []) : g_Y gCl X (gM true) ad σ (0, 0) 80 [(0, .ref (ad 0 0)), (1, .long v1), (4, .int v4), (5, .int v5), (7, .int v7)] [.int s0] := by
  unfold mJ_M_asks_80 at h
  refine y_istore_n (vs1 := [(3, .int s0), (0, .ref (ad 0 0)), (1, .long v1), (4, .int v4), (5, .int v5), (7, .int v7)]) C rfl dX6_asks_80 rfl (g_lL hL rfl) rfl ?_
  refine y_iload C dX6_asks_81 3 rfl ?_
  refine y_iload C dX6_asks_83 5 rfl ?_
  refine y_mmin C q1456 (g_rmM hR (by decide)) (Nat.le_of_ble_eq_true rfl) ⟨Nat.zero_le _, Nat.zero_le _⟩ dX6_asks_85 ?_
  obtain ⟨x7, hx7, h⟩ := g_lt h
  refine y_istore (vs1 := [(4, .int x7), (3, .int s0), (0, .ref (ad 0 0)), (1, .long v1), (5, .int v5), (7, .int v7)]) C hx7 dX6_asks_88 (g_lL hL rfl) rfl ?_
  obtain ⟨x8, hx8, h⟩ := g_lt h
  refine y_iinc (c := (1 : Int32)) (vs1 := [(5, .int x8), (4, .int x7), (3, .int s0), (0, .ref (ad 0 0)), (1, .long v1), (7, .int v7)]) C hx8 (by decide) dX6_asks_90 4 rfl (g_lL hL rfl) rfl ?_
  refine y_goto (tgt := 21) C dX6_asks_93 rfl ?_
  refine y_sub (vs2 := [(0, .ref (ad 0 0)), (1, .long v1), (3, .int s0), (4, .int x7), (5, .int x8)]) [3, 4, 2, 1, 0] rfl ?_
  exact kl _ (Option.some.inj h).symm
theorem ml_M_asks_21 {X : g_F} (C : g_M gCl X cX6_asks RX6 (some .int)) (hR : g_R X = g_rm 7 0 0) (hL : g_nL X = 8) {ad : Nat → Nat → Nat} {σ : g_S} {v1 : Int64} (n : Nat) (v : (Int32 × Int32 × Int32)) (e : (Int32 × Int32)) (h : g_lp (fun v => mB_M_asks_21 σ v1 v.1 v.2.1 v.2.2) n v = some e) (kx : g_Y gCl X (gM true) ad σ (0, 0) 96 [(0, .ref (ad 0 0)), (3, .int e.1), (4, .int e.2)] []) : g_Y gCl X (gM true) ad σ (0, 0) 21 [(0, .ref (ad 0 0)), (1, .long v1), (3, .int v.1), (4, .int v.2.1), (5, .int v.2.2)] [] := by
  refine g_loop (P := fun v => g_Y gCl X (gM true) ad σ (0, 0) 21 [(0, .ref (ad 0 0)), (1, .long v1), (3, .int v.1), (4, .int v.2.1), (5, .int v.2.2)] []) (T := fun e => g_Y gCl X (gM true) ad σ (0, 0) 96 [(0, .ref (ad 0 0)), (3, .int e.1), (4, .int e.2)] []) ?_ n v e h kx
  clear h kx
  clear n v e
  intro v o h kl kx
  obtain ⟨v3, v4, v5⟩ := v
  have h : mB_M_asks_21 σ v1 v3 v4 v5 = some o := h
  unfold mB_M_asks_21 at h
  show g_Y gCl X (gM true) ad σ (0, 0) 21 [(0, .ref (ad 0 0)), (1, .long v1), (3, .int v3), (4, .int v4), (5, .int v5)] []
  refine y_iload C dX6_asks_21 4 rfl ?_
  refine y_aload_n C dX6_asks_23 0 rfl rfl ?_
  refine gf_M_5 C dX6_asks_24 ?_
  refine y_icmp_ge (tgt := 96) C dX6_asks_27 rfl (fun hc => ?_) (fun hc => ?_)
  · replace h := g_it h hc
    refine y_sub (vs2 := [(0, .ref (ad 0 0)), (3, .int v3), (4, .int v4)]) [0, 2, 3] rfl ?_
    exact kx _ (Option.some.inj h).symm
  · replace h := g_if h hc
    refine y_lload_n C dX6_asks_30 1 rfl rfl ?_
    refine y_lconst (v := (0 : Int64)) C dX6_asks_31 (by decide) ?_
    refine y_lcmp C dX6_asks_32 ?_
    refine y_if_eq (tgt := 96) C dX6_asks_33 rfl (fun hc => ?_) (fun hc => ?_)
    · replace h := g_it h hc
      refine y_sub (vs2 := [(0, .ref (ad 0 0)), (3, .int v3), (4, .int v4)]) [0, 2, 3] rfl ?_
      exact kx _ (Option.some.inj h).symm
    · replace h := g_if h hc
      refine y_lload_n C dX6_asks_36 1 rfl rfl ?_
      refine y_aload_n C dX6_asks_37 0 rfl rfl ?_
      refine y_aload_n C dX6_asks_38 0 rfl rfl ?_
      refine gf_M_11 C dX6_asks_39 ?_
      refine y_iload C dX6_asks_42 4 rfl ?_
      obtain ⟨x3, hc, h⟩ := g_bd h
      refine y_callV C (As := [.ref (ad 1 0), .int v5]) (rest := [.long v1]) (hu := nM_0_0) (hc := (rfl : gCl[5]? = some (RX6, TX6, 49))) (hcell := obM_0) (lk_X6_300 C hR (by decide)) (ct_M_fieldsSeen nM_1_0 hc) rfl rfl (Nat.le_of_ble_eq_true rfl) ⟨Nat.zero_le _, Nat.zero_le _⟩ dX6_asks_44 ?_
      refine y_land C dX6_asks_47 ?_
      obtain ⟨x4, hc, h⟩ := g_bd h
      refine y_callS C (As := [.long (v1 &&& x3)]) (rest := []) (lk_X6_405 C hR (by decide)) (ct_J12_bitCount hc) rfl rfl (Nat.le_of_ble_eq_true rfl) ⟨Nat.zero_le _, Nat.zero_le _⟩ dX6_asks_48 ?_
      refine y_istore (vs1 := [(6, .int x4), (0, .ref (ad 0 0)), (1, .long v1), (3, .int v3), (4, .int v4), (5, .int v5)]) C rfl dX6_asks_51 (g_lL hL rfl) rfl ?_
      refine y_iload C dX6_asks_53 0 rfl ?_
      refine y_lload_n C dX6_asks_55 2 rfl rfl ?_
      obtain ⟨x5, hc, h⟩ := g_bd h
      refine y_callS C (As := [.long v1]) (rest := [.int x4]) (lk_X6_405 C hR (by decide)) (ct_J12_bitCount hc) rfl rfl (Nat.le_of_ble_eq_true rfl) ⟨Nat.zero_le _, Nat.zero_le _⟩ dX6_asks_56 ?_
      refine y_iload C dX6_asks_59 0 rfl ?_
      refine y_isub C dX6_asks_61 ?_
      refine y_mmax C q1601 (g_rmM hR (by decide)) (Nat.le_of_ble_eq_true rfl) ⟨Nat.zero_le _, Nat.zero_le _⟩ dX6_asks_62 ?_
      obtain ⟨x6, hx6, h⟩ := g_lt h
      refine y_istore (vs1 := [(7, .int x6), (6, .int x4), (0, .ref (ad 0 0)), (1, .long v1), (3, .int v3), (4, .int v4), (5, .int v5)]) C hx6 dX6_asks_65 (g_lL hL rfl) rfl ?_
      refine y_iload C dX6_asks_67 0 rfl ?_
      refine y_iload C dX6_asks_69 5 rfl ?_
      refine y_icmp_ge (tgt := 79) C dX6_asks_71 rfl (fun hc => ?_) (fun hc => ?_)
      · replace h := g_it h hc
        refine y_iload_n C dX6_asks_79 4 rfl rfl ?_
        refine y_sub (vs2 := [(0, .ref (ad 0 0)), (1, .long v1), (4, .int v4), (5, .int v5), (7, .int x6)]) [2, 3, 5, 6, 0] rfl ?_
        exact mj_M_asks_80 C hR hL h kl kx
      · replace h := g_if h hc
        refine y_iload C dX6_asks_74 6 rfl ?_
        refine y_goto (tgt := 80) C dX6_asks_76 rfl ?_
        refine y_sub (vs2 := [(0, .ref (ad 0 0)), (1, .long v1), (4, .int v4), (5, .int v5), (7, .int x6)]) [2, 3, 5, 6, 0] rfl ?_
        exact mj_M_asks_80 C hR hL h kl kx
theorem mw_M_asks {X : g_F} (C : g_M gCl X cX6_asks RX6 (some .int)) (hR : g_R X = g_rm 7 0 0) (hL : g_nL X = 8) {ad : Nat → Nat → Nat} {σ : g_S} {o : (Int32 × g_S)} (h : mF_M_asks σ = some o) (hQ : g_MQ gCl X (gM true) ad o.2 (some (.int o.1)) = g_Q X) : g_Y gCl X (gM true) ad σ (0, 0) 0 [(0, .ref (ad 0 0))] [] := by
  unfold mF_M_asks at h
  refine y_aload_n C dX6_asks_0 0 rfl rfl ?_
  refine y_iconst (v := (0 : Int32)) C dX6_asks_1 (by decide) ?_
  obtain ⟨σ1, hσ1, h⟩ := g_lt h
  refine pf_M_0 C hσ1 dX6_asks_2 ?_
  refine y_aload_n C dX6_asks_5 0 rfl rfl ?_
  obtain ⟨x2, hc, h⟩ := g_bd h
  refine y_callV C (As := []) (rest := []) (hu := nM_0_0) (hc := (rfl : gCl[5]? = some (RX6, TX6, 49))) (hcell := obM_0) (lk_X6_454 C hR (by decide)) (ct_M_fitting hc) rfl rfl (Nat.le_of_ble_eq_true rfl) ⟨Nat.zero_le _, Nat.zero_le _⟩ dX6_asks_6 ?_
  refine y_lstore_n (vs1 := [(1, .long x2), (0, .ref (ad 0 0))]) C rfl dX6_asks_9 rfl (g_lL hL rfl) rfl ?_
  refine y_bipush (v := (-2 : Int32)) C dX6_asks_10 (by decide) ?_
  refine y_istore_n (vs1 := [(3, .int (-2 : Int32)), (1, .long x2), (0, .ref (ad 0 0))]) C rfl dX6_asks_12 rfl (g_lL hL rfl) rfl ?_
  refine y_ldcw (v := (1000000 : Int32)) C q1829 dX6_asks_13 ?_
  refine y_istore (vs1 := [(4, .int (1000000 : Int32)), (3, .int (-2 : Int32)), (1, .long x2), (0, .ref (ad 0 0))]) C rfl dX6_asks_16 (g_lL hL rfl) rfl ?_
  refine y_iconst (v := (0 : Int32)) C dX6_asks_18 (by decide) ?_
  refine y_istore (vs1 := [(5, .int (0 : Int32)), (4, .int (1000000 : Int32)), (3, .int (-2 : Int32)), (1, .long x2), (0, .ref (ad 0 0))]) C rfl dX6_asks_19 (g_lL hL rfl) rfl ?_
  refine y_sub (vs2 := [(0, .ref (ad 0 0)), (1, .long x2), (3, .int (-2 : Int32)), (4, .int (1000000 : Int32)), (5, .int (0 : Int32))]) [4, 3, 2, 1, 0] rfl ?_
  obtain ⟨e9, he9, h⟩ := g_bd h
  refine ml_M_asks_21 C hR hL (σ := σ1) _ _ _ he9 ?_
  refine y_iload_n C dX6_asks_96 1 rfl rfl ?_
  refine y_if_lt (tgt := 112) C dX6_asks_97 rfl (fun hc => ?_) (fun hc => ?_)
  · replace h := g_it h hc
    refine y_iload_n C dX6_asks_112 1 rfl rfl ?_
    replace h := Option.some.inj h; subst h
    exact y_iret C hQ ⟨Nat.zero_le _, Nat.zero_le _⟩ dX6_asks_113
  · replace h := g_if h hc
    refine y_aload_n C dX6_asks_100 0 rfl rfl ?_
    refine y_iconst (v := (0 : Int32)) C dX6_asks_101 (by decide) ?_
    obtain ⟨σ10, hσ10, h⟩ := g_lt h
    refine pf_M_1 C hσ10 dX6_asks_102 ?_
    refine y_aload_n C dX6_asks_105 0 rfl rfl ?_
    refine y_iload C dX6_asks_106 2 rfl ?_
    refine y_i2l C dX6_asks_108 ?_
    obtain ⟨σ11, hc, h⟩ := g_bd h
    refine y_callVv C (As := [.long (e9.2.toInt64)]) (rest := []) (hu := nM_0_0) (hc := (rfl : gCl[5]? = some (RX6, TX6, 49))) (hcell := obM_0) (lk_X6_373 C hR (by decide)) (ct_M_enters hc) rfl rfl (Nat.le_of_ble_eq_true rfl) ⟨Nat.zero_le _, Nat.zero_le _⟩ dX6_asks_109 ?_
    refine y_iload_n C dX6_asks_112 1 rfl rfl ?_
    replace h := Option.some.inj h; subst h
    exact y_iret C hQ ⟨Nat.zero_le _, Nat.zero_le _⟩ dX6_asks_113
theorem ct_M_asks {D : va_G} {dA : Nat → ClassId} {A : Nat → Prop} {s0 : State} {b0 : Nat} {l : Launch} {ad : Nat → Nat → Nat} {σ : g_S} {r : Int32} {σ1 : g_S} (h : mF_M_asks σ = some (r, σ1)) : g_Met gCl D dA A s0 b0 l yX6_asks cX6_asks 8 (some .int) 7 (0, 0) (gM true) ad σ [.ref (ad 0 0)] (gM true) ad σ1 (some (.int r)) :=
  g_Met.of pl_X6 (Nat.le_of_ble_eq_true rfl) (fun X C hQ hR _ _ hL _ es eb => mw_M_asks C hR hL h hQ)
theorem mw_M_common {X : g_F} {d : Nat} {LM : g_L} (C : g_M gCl X cX6_common RX6 (some .long)) (hR : g_R X = g_rm (d + 1) 0 0) (hL : g_nL X = 4) {rc : Int64 → Int64 → Option Int64} (ih : ∀ {LM : g_L} {ad : Nat → Nat → Nat} {σ : g_S} {a b r : Int64}, rc a b = some r → g_Met gCl (g_D X) (g_dA X) (g_A X) (g_s0 X) (g_b0 X) (g_l X) yX6_common cX6_common 4 (some .long) d (0, 0) LM ad σ [.long a, .long b] LM ad σ (some (.long r))) {ad : Nat → Nat → Nat} {σ : g_S} {v0 : Int64} {v2 : Int64} {o : Int64} (h : mF_M_common rc v0 v2 = some o) (hQ : g_MQ gCl X LM ad σ (some (.long o)) = g_Q X) : g_Y gCl X LM ad σ (0, 0) 0 [(0, .long v0), (2, .long v2)] [] := by
  unfold mF_M_common at h
  refine y_lload_n C dX6_common_0 1 rfl rfl ?_
  refine y_lconst (v := (0 : Int64)) C dX6_common_1 (by decide) ?_
  refine y_lcmp C dX6_common_2 ?_
  refine y_if_ne (tgt := 10) C dX6_common_3 rfl (fun hc => ?_) (fun hc => ?_)
  · replace h := g_if h hc
    refine y_lload_n C dX6_common_10 1 rfl rfl ?_
    refine y_lload_n C dX6_common_11 0 rfl rfl ?_
    refine y_lload_n C dX6_common_12 1 rfl rfl ?_
    obtain ⟨hg, h⟩ := g_gd h
    refine y_lrem C dX6_common_13 hg ?_
    obtain ⟨x1, hc, h⟩ := g_bd h
    refine y_callS C (As := [.long v2, .long (g_remL v0 v2)]) (rest := []) (lk_X6_7 C hR ⟨by omega, by omega⟩) (ih hc) rfl rfl (Nat.le_of_ble_eq_true rfl) ⟨Nat.zero_le _, Nat.zero_le _⟩ dX6_common_14 ?_
    replace h := Option.some.inj h; subst h
    exact y_lret C hQ ⟨Nat.zero_le _, Nat.zero_le _⟩ dX6_common_17
  · replace h := g_it h hc
    refine y_lload_n C dX6_common_6 0 rfl rfl ?_
    refine y_goto (tgt := 17) C dX6_common_7 rfl ?_
    replace h := Option.some.inj h; subst h
    exact y_lret C hQ ⟨Nat.zero_le _, Nat.zero_le _⟩ dX6_common_17
theorem ctr_M_common : ∀ (n : Nat) {D : va_G} {dA : Nat → ClassId} {A : Nat → Prop} {s0 : State} {b0 : Nat} {l : Launch} {LM : g_L} {ad : Nat → Nat → Nat} {σ : g_S} {a b r : Int64}, mR_M_common n a b = some r → g_Met gCl D dA A s0 b0 l yX6_common cX6_common 4 (some .long) n (0, 0) LM ad σ [.long a, .long b] LM ad σ (some (.long r)) := by
  intro n
  induction n with
  | zero => intro D dA A s0 b0 l LM ad σ a b r h; cases h
  | succ n ih =>
    intro D dA A s0 b0 l LM ad σ a b r h
    exact g_Met.of pl_X6 (Nat.le_of_ble_eq_true rfl) (fun X C hQ hR _ _ hL _ es eb => mw_M_common C hR hL (fun h => ih h) h hQ)
theorem ct_M_common {D : va_G} {dA : Nat → ClassId} {A : Nat → Prop} {s0 : State} {b0 : Nat} {l : Launch} {LM : g_L} {ad : Nat → Nat → Nat} {σ : g_S} {a b r : Int64} (h : mC_M_common a b = some r) : g_Met gCl D dA A s0 b0 l yX6_common cX6_common 4 (some .long) 100 (0, 0) LM ad σ [.long a, .long b] LM ad σ (some (.long r)) := ctr_M_common 100 h
theorem mj_M_storm_65 {X : g_F} (C : g_M gCl X cX6_storm RX6 (some .int)) (hR : g_R X = g_rm 101 0 0) (hL : g_nL X = 10) {ad : Nat → Nat → Nat} {σ : g_S} {v1 : Int32} {v2 : Int32} {v3 : Int32} {v4 : Int32} {s1 : Int32} {s2 : Int32} {o : ((Int32 × g_S) ⊕ g_S)} (h : mJ_M_storm_65 σ v1 v2 v3 v4 s1 s2 = some o) (kl : ∀ z, o = .inl z → g_Y gCl X (gM true) ad z.2 (0, 0) 42 [(0, .ref (ad 0 0)), (1, .int v1), (2, .int v2), (3, .int v3), (4, .int z.1)] []) (kx : ∀ z, o = .inr z → g_Y gCl X (gM true) ad z (0, 0) 76 [(0, .ref (ad 0 0)), (1, .int v1), (2, .int v2), (3, .int v3)] []) : g_Y gCl X (gM true) ad σ (0, 0) 65 [(0, .ref (ad 0 0)), (1, .int v1), (2, .int v2), (3, .int v3), (4, .int v4)] [.int s2, .int s1, .ref (ad 23 0)] := by
  unfold mJ_M_storm_65 at h
  obtain ⟨x5, hc, h⟩ := g_bd h
  refine y_callS C (As := [.int s2]) (rest := [.int s1, .ref (ad 23 0)]) (lk_X6_154 C hR (by decide)) (ct_M_flag hc) rfl rfl (Nat.le_of_ble_eq_true rfl) ⟨Nat.zero_le _, Nat.zero_le _⟩ dX6_storm_65 ?_
  refine y_i2l C dX6_storm_68 ?_
  obtain ⟨hg, h⟩ := g_gd h
  obtain ⟨σ6, hσ6, h⟩ := g_lt h
  refine as_M_23 C nM_23_0 hσ6 hg dX6_storm_69 ?_
  obtain ⟨x7, hx7, h⟩ := g_lt h
  refine y_iinc (c := (1 : Int32)) (vs1 := [(4, .int x7), (0, .ref (ad 0 0)), (1, .int v1), (2, .int v2), (3, .int v3)]) C hx7 (by decide) dX6_storm_70 4 rfl (g_lL hL rfl) rfl ?_
  refine y_goto (tgt := 42) C dX6_storm_73 rfl ?_
  refine y_sub (vs2 := [(0, .ref (ad 0 0)), (1, .int v1), (2, .int v2), (3, .int v3), (4, .int x7)]) [1, 2, 3, 4, 0] rfl ?_
  exact kl _ (Option.some.inj h).symm
theorem ml_M_storm_42 {X : g_F} (C : g_M gCl X cX6_storm RX6 (some .int)) (hR : g_R X = g_rm 101 0 0) (hL : g_nL X = 10) {ad : Nat → Nat → Nat} {σ : g_S} {v1 : Int32} {v2 : Int32} {v3 : Int32} (n : Nat) (v : (Int32 × g_S)) (e : g_S) (h : g_lp (fun v => mB_M_storm_42 v.2 v1 v2 v3 v.1) n v = some e) (kx : g_Y gCl X (gM true) ad e (0, 0) 76 [(0, .ref (ad 0 0)), (1, .int v1), (2, .int v2), (3, .int v3)] []) : g_Y gCl X (gM true) ad v.2 (0, 0) 42 [(0, .ref (ad 0 0)), (1, .int v1), (2, .int v2), (3, .int v3), (4, .int v.1)] [] := by
  refine g_loop (P := fun v => g_Y gCl X (gM true) ad v.2 (0, 0) 42 [(0, .ref (ad 0 0)), (1, .int v1), (2, .int v2), (3, .int v3), (4, .int v.1)] []) (T := fun e => g_Y gCl X (gM true) ad e (0, 0) 76 [(0, .ref (ad 0 0)), (1, .int v1), (2, .int v2), (3, .int v3)] []) ?_ n v e h kx
  clear h kx
  clear n v e
  intro v o h kl kx
  obtain ⟨v4, σ⟩ := v
  have h : mB_M_storm_42 σ v1 v2 v3 v4 = some o := h
  unfold mB_M_storm_42 at h
  show g_Y gCl X (gM true) ad σ (0, 0) 42 [(0, .ref (ad 0 0)), (1, .int v1), (2, .int v2), (3, .int v3), (4, .int v4)] []
  refine y_iload C dX6_storm_42 4 rfl ?_
  refine y_bipush (v := (10 : Int32)) C dX6_storm_44 (by decide) ?_
  refine y_icmp_ge (tgt := 76) C dX6_storm_46 rfl (fun hc => ?_) (fun hc => ?_)
  · replace h := g_it h hc
    refine y_sub (vs2 := [(0, .ref (ad 0 0)), (1, .int v1), (2, .int v2), (3, .int v3)]) [0, 1, 2, 3] rfl ?_
    exact kx _ (Option.some.inj h).symm
  · replace h := g_if h hc
    refine y_aload_n C dX6_storm_49 0 rfl rfl ?_
    refine gf_M_42 C dX6_storm_50 ?_
    refine y_iload C dX6_storm_53 4 rfl ?_
    refine y_iload C dX6_storm_55 4 rfl ?_
    refine y_if_ne (tgt := 64) C dX6_storm_57 rfl (fun hc => ?_) (fun hc => ?_)
    · replace h := g_if h hc
      refine y_iconst (v := (0 : Int32)) C dX6_storm_64 (by decide) ?_
      exact mj_M_storm_65 C hR hL h kl kx
    · replace h := g_it h hc
      refine y_iconst (v := (1 : Int32)) C dX6_storm_60 (by decide) ?_
      refine y_goto (tgt := 65) C dX6_storm_61 rfl ?_
      exact mj_M_storm_65 C hR hL h kl kx
theorem mj_M_storm_203 {X : g_F} (C : g_M gCl X cX6_storm RX6 (some .int)) (hR : g_R X = g_rm 101 0 0) (hL : g_nL X = 10) {ad : Nat → Nat → Nat} {σ : g_S} {v1 : Int32} {v2 : Int32} {v3 : Int32} {v4 : Int64} {v6 : Int32} {v7 : Int32} {v8 : Int32} {s1 : Int32} {s2 : Int64} {s3 : Int64} {o : ((Int32 × g_S) ⊕ g_S)} (h : mJ_M_storm_203 σ v1 v2 v3 v4 v6 v7 v8 s1 s2 s3 = some o) (kl : ∀ z, o = .inl z → g_Y gCl X (gM true) ad z.2 (0, 0) 156 [(0, .ref (ad 0 0)), (1, .int v1), (2, .int v2), (3, .int v3), (4, .long v4), (6, .int v6), (7, .int v7), (8, .int z.1)] []) (kx : ∀ z, o = .inr z → g_Y gCl X (gM true) ad z (0, 0) 211 [(0, .ref (ad 0 0)), (1, .int v1), (2, .int v2), (3, .int v3), (4, .long v4), (6, .int v6)] []) : g_Y gCl X (gM true) ad σ (0, 0) 203 [(0, .ref (ad 0 0)), (1, .int v1), (2, .int v2), (3, .int v3), (4, .long v4), (6, .int v6), (7, .int v7), (8, .int v8)] [.long s3, .long s2, .int s1, .ref (ad 23 0)] := by
  unfold mJ_M_storm_203 at h
  refine y_ladd C dX6_storm_203 ?_
  obtain ⟨hg, h⟩ := g_gd h
  obtain ⟨σ15, hσ15, h⟩ := g_lt h
  refine as_M_23 C nM_23_0 hσ15 hg dX6_storm_204 ?_
  obtain ⟨x16, hx16, h⟩ := g_lt h
  refine y_iinc (c := (-1 : Int32)) (vs1 := [(8, .int x16), (0, .ref (ad 0 0)), (1, .int v1), (2, .int v2), (3, .int v3), (4, .long v4), (6, .int v6), (7, .int v7)]) C hx16 (by decide) dX6_storm_205 7 rfl (g_lL hL rfl) rfl ?_
  refine y_goto (tgt := 156) C dX6_storm_208 rfl ?_
  refine y_sub (vs2 := [(0, .ref (ad 0 0)), (1, .int v1), (2, .int v2), (3, .int v3), (4, .long v4), (6, .int v6), (7, .int v7), (8, .int x16)]) [1, 2, 3, 4, 5, 6, 7, 0] rfl ?_
  exact kl _ (Option.some.inj h).symm
theorem ml_M_storm_156 {X : g_F} (C : g_M gCl X cX6_storm RX6 (some .int)) (hR : g_R X = g_rm 101 0 0) (hL : g_nL X = 10) {ad : Nat → Nat → Nat} {σ : g_S} {v1 : Int32} {v2 : Int32} {v3 : Int32} {v4 : Int64} {v6 : Int32} {v7 : Int32} (n : Nat) (v : (Int32 × g_S)) (e : g_S) (h : g_lp (fun v => mB_M_storm_156 v.2 v1 v2 v3 v4 v6 v7 v.1) n v = some e) (kx : g_Y gCl X (gM true) ad e (0, 0) 211 [(0, .ref (ad 0 0)), (1, .int v1), (2, .int v2), (3, .int v3), (4, .long v4), (6, .int v6)] []) : g_Y gCl X (gM true) ad v.2 (0, 0) 156 [(0, .ref (ad 0 0)), (1, .int v1), (2, .int v2), (3, .int v3), (4, .long v4), (6, .int v6), (7, .int v7), (8, .int v.1)] [] := by
  refine g_loop (P := fun v => g_Y gCl X (gM true) ad v.2 (0, 0) 156 [(0, .ref (ad 0 0)), (1, .int v1), (2, .int v2), (3, .int v3), (4, .long v4), (6, .int v6), (7, .int v7), (8, .int v.1)] []) (T := fun e => g_Y gCl X (gM true) ad e (0, 0) 211 [(0, .ref (ad 0 0)), (1, .int v1), (2, .int v2), (3, .int v3), (4, .long v4), (6, .int v6)] []) ?_ n v e h kx
  clear h kx
  clear n v e
  intro v o h kl kx
  obtain ⟨v8, σ⟩ := v
  have h : mB_M_storm_156 σ v1 v2 v3 v4 v6 v7 v8 = some o := h
  unfold mB_M_storm_156 at h
  show g_Y gCl X (gM true) ad σ (0, 0) 156 [(0, .ref (ad 0 0)), (1, .int v1), (2, .int v2), (3, .int v3), (4, .long v4), (6, .int v6), (7, .int v7), (8, .int v8)] []
  refine y_iload C dX6_storm_156 7 rfl ?_
  refine y_if_lt (tgt := 211) C dX6_storm_158 rfl (fun hc => ?_) (fun hc => ?_)
  · replace h := g_it h hc
    refine y_sub (vs2 := [(0, .ref (ad 0 0)), (1, .int v1), (2, .int v2), (3, .int v3), (4, .long v4), (6, .int v6)]) [0, 1, 2, 3, 4, 5] rfl ?_
    exact kx _ (Option.some.inj h).symm
  · replace h := g_if h hc
    refine y_aload_n C dX6_storm_161 0 rfl rfl ?_
    refine gf_M_42 C dX6_storm_162 ?_
    refine y_iload C dX6_storm_165 7 rfl ?_
    refine y_aload_n C dX6_storm_167 0 rfl rfl ?_
    refine gf_M_42 C dX6_storm_168 ?_
    refine y_iload C dX6_storm_171 7 rfl ?_
    obtain ⟨hg, h⟩ := g_gd h
    refine al_M_23 C nM_23_0 hg dX6_storm_173 ?_
    refine y_bipush (v := (10 : Int32)) C dX6_storm_174 (by decide) ?_
    refine y_iload C dX6_storm_176 6 rfl ?_
    refine y_isub C dX6_storm_178 ?_
    refine y_i2l C dX6_storm_179 ?_
    refine y_lmul C dX6_storm_180 ?_
    refine y_iload C dX6_storm_181 7 rfl ?_
    refine y_if_le (tgt := 202) C dX6_storm_183 rfl (fun hc => ?_) (fun hc => ?_)
    · replace h := g_it h hc
      refine y_lconst (v := (0 : Int64)) C dX6_storm_202 (by decide) ?_
      exact mj_M_storm_203 C hR hL h kl kx
    · replace h := g_if h hc
      refine y_aload_n C dX6_storm_186 0 rfl rfl ?_
      refine gf_M_42 C dX6_storm_187 ?_
      refine y_iload C dX6_storm_190 7 rfl ?_
      refine y_iconst (v := (1 : Int32)) C dX6_storm_192 (by decide) ?_
      refine y_isub C dX6_storm_193 ?_
      obtain ⟨hg, h⟩ := g_gd h
      refine al_M_23 C nM_23_0 hg dX6_storm_194 ?_
      refine y_iload C dX6_storm_195 6 rfl ?_
      refine y_i2l C dX6_storm_197 ?_
      refine y_lmul C dX6_storm_198 ?_
      refine y_goto (tgt := 203) C dX6_storm_199 rfl ?_
      exact mj_M_storm_203 C hR hL h kl kx
theorem ml_M_storm_82 {X : g_F} (C : g_M gCl X cX6_storm RX6 (some .int)) (hR : g_R X = g_rm 101 0 0) (hL : g_nL X = 10) {ad : Nat → Nat → Nat} {σ : g_S} {v1 : Int32} {v2 : Int32} {v3 : Int32} (n : Nat) (v : (Int64 × Int32 × g_S)) (e : (Int64 × g_S)) (h : g_lp (fun v => mB_M_storm_82 v.2.2 v1 v2 v3 v.1 v.2.1) n v = some e) (kx : g_Y gCl X (gM true) ad e.2 (0, 0) 225 [(0, .ref (ad 0 0)), (2, .int v2), (4, .long e.1)] []) : g_Y gCl X (gM true) ad v.2.2 (0, 0) 82 [(0, .ref (ad 0 0)), (1, .int v1), (2, .int v2), (3, .int v3), (4, .long v.1), (6, .int v.2.1)] [] := by
  refine g_loop (P := fun v => g_Y gCl X (gM true) ad v.2.2 (0, 0) 82 [(0, .ref (ad 0 0)), (1, .int v1), (2, .int v2), (3, .int v3), (4, .long v.1), (6, .int v.2.1)] []) (T := fun e => g_Y gCl X (gM true) ad e.2 (0, 0) 225 [(0, .ref (ad 0 0)), (2, .int v2), (4, .long e.1)] []) ?_ n v e h kx
  clear h kx
  clear n v e
  intro v o h kl kx
  obtain ⟨v4, v6, σ⟩ := v
  have h : mB_M_storm_82 σ v1 v2 v3 v4 v6 = some o := h
  unfold mB_M_storm_82 at h
  show g_Y gCl X (gM true) ad σ (0, 0) 82 [(0, .ref (ad 0 0)), (1, .int v1), (2, .int v2), (3, .int v3), (4, .long v4), (6, .int v6)] []
  refine y_iload C dX6_storm_82 5 rfl ?_
  refine y_aload_n C dX6_storm_84 0 rfl rfl ?_
  refine gf_M_5 C dX6_storm_85 ?_
  refine y_icmp_ge (tgt := 225) C dX6_storm_88 rfl (fun hc => ?_) (fun hc => ?_)
  · replace h := g_it h hc
    refine y_sub (vs2 := [(0, .ref (ad 0 0)), (2, .int v2), (4, .long v4)]) [0, 2, 4] rfl ?_
    exact kx _ (Option.some.inj h).symm
  · replace h := g_if h hc
    refine y_aload_n C dX6_storm_91 0 rfl rfl ?_
    refine y_aload_n C dX6_storm_92 0 rfl rfl ?_
    refine gf_M_11 C dX6_storm_93 ?_
    refine y_iload C dX6_storm_96 5 rfl ?_
    refine y_iload_n C dX6_storm_98 1 rfl rfl ?_
    obtain ⟨x9, hc, h⟩ := g_bd h
    refine y_callV C (As := [.ref (ad 1 0), .int v6, .int v1]) (rest := []) (hu := nM_0_0) (hc := (rfl : gCl[5]? = some (RX6, TX6, 49))) (hcell := obM_0) (lk_X6_308 C hR (by decide)) (ct_M_doesSee nM_1_0 hc) rfl rfl (Nat.le_of_ble_eq_true rfl) ⟨Nat.zero_le _, Nat.zero_le _⟩ dX6_storm_99 ?_
    obtain ⟨x10, hc, h⟩ := g_bd h
    refine y_callS C (As := [.int x9]) (rest := []) (lk_X6_154 C hR (by decide)) (ct_M_flag hc) rfl rfl (Nat.le_of_ble_eq_true rfl) ⟨Nat.zero_le _, Nat.zero_le _⟩ dX6_storm_102 ?_
    refine y_bipush (v := (10 : Int32)) C dX6_storm_105 (by decide) ?_
    refine y_iload_n C dX6_storm_107 3 rfl rfl ?_
    refine y_isub C dX6_storm_108 ?_
    refine y_imul C dX6_storm_109 ?_
    refine y_aload_n C dX6_storm_110 0 rfl rfl ?_
    refine y_aload_n C dX6_storm_111 0 rfl rfl ?_
    refine gf_M_11 C dX6_storm_112 ?_
    refine y_iload C dX6_storm_115 5 rfl ?_
    obtain ⟨hg, h⟩ := g_gd h
    refine al_M_1 C nM_1_0 hg dX6_storm_117 ?_
    refine y_iload_n C dX6_storm_118 1 rfl rfl ?_
    refine y_aload_n C dX6_storm_119 0 rfl rfl ?_
    refine gf_M_11 C dX6_storm_120 ?_
    refine y_bipush (v := (8 : Int32)) C dX6_storm_123 (by decide) ?_
    refine y_iload C dX6_storm_125 5 rfl ?_
    refine y_iadd C dX6_storm_127 ?_
    obtain ⟨hg, h⟩ := g_gd h
    refine al_M_1 C nM_1_0 hg dX6_storm_128 ?_
    refine y_iconst (v := (0 : Int32)) C dX6_storm_129 (by decide) ?_
    refine y_aload_n C dX6_storm_130 0 rfl rfl ?_
    refine y_aload_n C dX6_storm_131 0 rfl rfl ?_
    refine gf_M_11 C dX6_storm_132 ?_
    refine y_iload C dX6_storm_135 5 rfl ?_
    refine y_iconst (v := (0 : Int32)) C dX6_storm_137 (by decide) ?_
    obtain ⟨x11, hc, h⟩ := g_bd h
    refine y_callV C (As := [.ref (ad 1 0), .int v6, .int (0 : Int32)]) (rest := [.int (0 : Int32), .int (σ.1 1 0 ((8 : Int32) + v6).toNatClampNeg), .int v1, .int (σ.1 1 0 v6.toNatClampNeg), .ref (ad 0 0), .int (x10 * ((10 : Int32) - v3))]) (hu := nM_0_0) (hc := (rfl : gCl[5]? = some (RX6, TX6, 49))) (hcell := obM_0) (lk_X6_292 C hR (by decide)) (ct_R_reachBy nM_1_0 hc) rfl rfl (Nat.le_of_ble_eq_true rfl) ⟨Nat.zero_le _, Nat.zero_le _⟩ dX6_storm_138 ?_
    obtain ⟨x12, hc, h⟩ := g_bd h
    refine y_callV C (As := [.int (σ.1 1 0 v6.toNatClampNeg), .int v1, .int (σ.1 1 0 ((8 : Int32) + v6).toNatClampNeg), .int (0 : Int32), .int x11]) (rest := [.int (x10 * ((10 : Int32) - v3))]) (hu := nM_0_0) (hc := (rfl : gCl[5]? = some (RX6, TX6, 49))) (hcell := obM_0) (lk_X6_296 C hR (by decide)) (ct_M_seesBy hc) rfl rfl (Nat.le_of_ble_eq_true rfl) ⟨Nat.zero_le _, Nat.zero_le _⟩ dX6_storm_141 ?_
    obtain ⟨x13, hc, h⟩ := g_bd h
    refine y_callS C (As := [.int x12]) (rest := [.int (x10 * ((10 : Int32) - v3))]) (lk_X6_154 C hR (by decide)) (ct_M_flag hc) rfl rfl (Nat.le_of_ble_eq_true rfl) ⟨Nat.zero_le _, Nat.zero_le _⟩ dX6_storm_144 ?_
    refine y_iload_n C dX6_storm_147 3 rfl rfl ?_
    refine y_imul C dX6_storm_148 ?_
    refine y_iadd C dX6_storm_149 ?_
    obtain ⟨x14, hx14, h⟩ := g_lt h
    refine y_istore (vs1 := [(7, .int x14), (0, .ref (ad 0 0)), (1, .int v1), (2, .int v2), (3, .int v3), (4, .long v4), (6, .int v6)]) C hx14 dX6_storm_150 (g_lL hL rfl) rfl ?_
    refine y_bipush (v := (8 : Int32)) C dX6_storm_152 (by decide) ?_
    refine y_istore (vs1 := [(8, .int (8 : Int32)), (7, .int x14), (0, .ref (ad 0 0)), (1, .int v1), (2, .int v2), (3, .int v3), (4, .long v4), (6, .int v6)]) C rfl dX6_storm_154 (g_lL hL rfl) rfl ?_
    refine y_sub (vs2 := [(0, .ref (ad 0 0)), (1, .int v1), (2, .int v2), (3, .int v3), (4, .long v4), (6, .int v6), (7, .int x14), (8, .int (8 : Int32))]) [2, 3, 4, 5, 6, 7, 1, 0] rfl ?_
    obtain ⟨e17, he17, h⟩ := g_bd h
    refine ml_M_storm_156 C hR hL (σ := σ) _ _ _ he17 ?_
    refine y_lload C dX6_storm_211 4 rfl ?_
    refine y_ldc2 (v := (10 : Int64)) C q1898 dX6_storm_213 ?_
    refine y_lmul C dX6_storm_216 ?_
    obtain ⟨x18, hx18, h⟩ := g_lt h
    refine y_lstore (vs1 := [(4, .long x18), (0, .ref (ad 0 0)), (1, .int v1), (2, .int v2), (3, .int v3), (6, .int v6)]) C hx18 dX6_storm_217 (g_lL hL rfl) rfl ?_
    obtain ⟨x19, hx19, h⟩ := g_lt h
    refine y_iinc (c := (1 : Int32)) (vs1 := [(6, .int x19), (4, .long x18), (0, .ref (ad 0 0)), (1, .int v1), (2, .int v2), (3, .int v3)]) C hx19 (by decide) dX6_storm_219 5 rfl (g_lL hL rfl) rfl ?_
    refine y_goto (tgt := 82) C dX6_storm_222 rfl ?_
    refine y_sub (vs2 := [(0, .ref (ad 0 0)), (1, .int v1), (2, .int v2), (3, .int v3), (4, .long x18), (6, .int x19)]) [2, 3, 4, 5, 1, 0] rfl ?_
    exact kl _ (Option.some.inj h).symm
theorem ml_M_storm_231 {X : g_F} (C : g_M gCl X cX6_storm RX6 (some .int)) (hR : g_R X = g_rm 101 0 0) (hL : g_nL X = 10) {ad : Nat → Nat → Nat} {σ : g_S} {v4 : Int64} (n : Nat) (v : (Int64 × Int32)) (e : Int64) (h : g_lp (fun v => mB_M_storm_231 σ v4 v.1 v.2) n v = some e) (kx : g_Y gCl X (gM true) ad σ (0, 0) 256 [(0, .ref (ad 0 0)), (4, .long v4), (6, .long e)] []) : g_Y gCl X (gM true) ad σ (0, 0) 231 [(0, .ref (ad 0 0)), (4, .long v4), (6, .long v.1), (8, .int v.2)] [] := by
  refine g_loop (P := fun v => g_Y gCl X (gM true) ad σ (0, 0) 231 [(0, .ref (ad 0 0)), (4, .long v4), (6, .long v.1), (8, .int v.2)] []) (T := fun e => g_Y gCl X (gM true) ad σ (0, 0) 256 [(0, .ref (ad 0 0)), (4, .long v4), (6, .long e)] []) ?_ n v e h kx
  clear h kx
  clear n v e
  intro v o h kl kx
  obtain ⟨v6, v8⟩ := v
  have h : mB_M_storm_231 σ v4 v6 v8 = some o := h
  unfold mB_M_storm_231 at h
  show g_Y gCl X (gM true) ad σ (0, 0) 231 [(0, .ref (ad 0 0)), (4, .long v4), (6, .long v6), (8, .int v8)] []
  refine y_iload C dX6_storm_231 3 rfl ?_
  refine y_bipush (v := (8 : Int32)) C dX6_storm_233 (by decide) ?_
  refine y_icmp_gt (tgt := 256) C dX6_storm_235 rfl (fun hc => ?_) (fun hc => ?_)
  · replace h := g_it h hc
    refine y_sub (vs2 := [(0, .ref (ad 0 0)), (4, .long v4), (6, .long v6)]) [0, 1, 2] rfl ?_
    exact kx _ (Option.some.inj h).symm
  · replace h := g_if h hc
    refine y_lload C dX6_storm_238 2 rfl ?_
    refine y_aload_n C dX6_storm_240 0 rfl rfl ?_
    refine gf_M_42 C dX6_storm_241 ?_
    refine y_iload C dX6_storm_244 3 rfl ?_
    obtain ⟨hg, h⟩ := g_gd h
    refine al_M_23 C nM_23_0 hg dX6_storm_246 ?_
    refine y_ladd C dX6_storm_247 ?_
    obtain ⟨x21, hx21, h⟩ := g_lt h
    refine y_lstore (vs1 := [(6, .long x21), (0, .ref (ad 0 0)), (4, .long v4), (8, .int v8)]) C hx21 dX6_storm_248 (g_lL hL rfl) rfl ?_
    obtain ⟨x22, hx22, h⟩ := g_lt h
    refine y_iinc (c := (1 : Int32)) (vs1 := [(8, .int x22), (6, .long x21), (0, .ref (ad 0 0)), (4, .long v4)]) C hx22 (by decide) dX6_storm_250 3 rfl (g_lL hL rfl) rfl ?_
    refine y_goto (tgt := 231) C dX6_storm_253 rfl ?_
    refine y_sub (vs2 := [(0, .ref (ad 0 0)), (4, .long v4), (6, .long x21), (8, .int x22)]) [2, 3, 1, 0] rfl ?_
    exact kl _ (Option.some.inj h).symm
theorem mw_M_storm {X : g_F} (C : g_M gCl X cX6_storm RX6 (some .int)) (hR : g_R X = g_rm 101 0 0) (hL : g_nL X = 10) {ad : Nat → Nat → Nat} {σ : g_S} {v1 : Int32} {v2 : Int32} {v3 : Int32} {o : (Int32 × g_S)} (h : mF_M_storm σ v1 v2 v3 = some o) (hQ : g_MQ gCl X (gM true) ad o.2 (some (.int o.1)) = g_Q X) : g_Y gCl X (gM true) ad σ (0, 0) 0 [(0, .ref (ad 0 0)), (1, .int v1), (2, .int v2), (3, .int v3)] [] := by
  unfold mF_M_storm at h
  refine y_aload_n C dX6_storm_0 0 rfl rfl ?_
  refine y_iconst (v := (0 : Int32)) C dX6_storm_1 (by decide) ?_
  obtain ⟨σ1, hσ1, h⟩ := g_lt h
  refine pf_M_0 C hσ1 dX6_storm_2 ?_
  refine y_aload_n C dX6_storm_5 0 rfl rfl ?_
  refine y_iload_n C dX6_storm_6 1 rfl rfl ?_
  obtain ⟨x2, hc, h⟩ := g_bd h
  refine y_callV C (As := [.int v1]) (rest := []) (hu := nM_0_0) (hc := (rfl : gCl[5]? = some (RX6, TX6, 49))) (hcell := obM_0) (lk_X6_358 C hR (by decide)) (ct_M_isField hc) rfl rfl (Nat.le_of_ble_eq_true rfl) ⟨Nat.zero_le _, Nat.zero_le _⟩ dX6_storm_7 ?_
  refine y_if_eq (tgt := 37) C dX6_storm_10 rfl (fun hc => ?_) (fun hc => ?_)
  · replace h := g_it h hc
    refine y_iconst (v := (-1 : Int32)) C dX6_storm_37 (by decide) ?_
    replace h := Option.some.inj h; subst h
    exact y_iret C hQ ⟨Nat.zero_le _, Nat.zero_le _⟩ dX6_storm_38
  · replace h := g_if h hc
    refine y_iload_n C dX6_storm_13 2 rfl rfl ?_
    refine y_i2l C dX6_storm_14 ?_
    refine y_lconst (v := (0 : Int64)) C dX6_storm_15 (by decide) ?_
    refine y_ldc2 (v := (8 : Int64)) C q1897 dX6_storm_16 ?_
    obtain ⟨x3, hc, h⟩ := g_bd h
    refine y_callS C (As := [.long (v2.toInt64), .long (0 : Int64), .long (8 : Int64)]) (rest := []) (lk_X6_126 C hR (by decide)) (ct_M_in hc) rfl rfl (Nat.le_of_ble_eq_true rfl) ⟨Nat.zero_le _, Nat.zero_le _⟩ dX6_storm_19 ?_
    refine y_if_eq (tgt := 37) C dX6_storm_22 rfl (fun hc => ?_) (fun hc => ?_)
    · replace h := g_it h hc
      refine y_iconst (v := (-1 : Int32)) C dX6_storm_37 (by decide) ?_
      replace h := Option.some.inj h; subst h
      exact y_iret C hQ ⟨Nat.zero_le _, Nat.zero_le _⟩ dX6_storm_38
    · replace h := g_if h hc
      refine y_iload_n C dX6_storm_25 3 rfl rfl ?_
      refine y_i2l C dX6_storm_26 ?_
      refine y_lconst (v := (0 : Int64)) C dX6_storm_27 (by decide) ?_
      refine y_ldc2 (v := (10 : Int64)) C q1898 dX6_storm_28 ?_
      obtain ⟨x4, hc, h⟩ := g_bd h
      refine y_callS C (As := [.long (v3.toInt64), .long (0 : Int64), .long (10 : Int64)]) (rest := []) (lk_X6_126 C hR (by decide)) (ct_M_in hc) rfl rfl (Nat.le_of_ble_eq_true rfl) ⟨Nat.zero_le _, Nat.zero_le _⟩ dX6_storm_31 ?_
      refine y_if_ne (tgt := 39) C dX6_storm_34 rfl (fun hc => ?_) (fun hc => ?_)
      · replace h := g_if h hc
        refine y_iconst (v := (0 : Int32)) C dX6_storm_39 (by decide) ?_
        refine y_istore (vs1 := [(4, .int (0 : Int32)), (0, .ref (ad 0 0)), (1, .int v1), (2, .int v2), (3, .int v3)]) C rfl dX6_storm_40 (g_lL hL rfl) rfl ?_
        refine y_sub (vs2 := [(0, .ref (ad 0 0)), (1, .int v1), (2, .int v2), (3, .int v3), (4, .int (0 : Int32))]) [1, 2, 3, 4, 0] rfl ?_
        obtain ⟨e8, he8, h⟩ := g_bd h
        refine ml_M_storm_42 C hR hL (σ := σ1) _ _ _ he8 ?_
        refine y_lconst (v := (1 : Int64)) C dX6_storm_76 (by decide) ?_
        refine y_lstore (vs1 := [(4, .long (1 : Int64)), (0, .ref (ad 0 0)), (1, .int v1), (2, .int v2), (3, .int v3)]) C rfl dX6_storm_77 (g_lL hL rfl) rfl ?_
        refine y_iconst (v := (0 : Int32)) C dX6_storm_79 (by decide) ?_
        refine y_istore (vs1 := [(6, .int (0 : Int32)), (4, .long (1 : Int64)), (0, .ref (ad 0 0)), (1, .int v1), (2, .int v2), (3, .int v3)]) C rfl dX6_storm_80 (g_lL hL rfl) rfl ?_
        refine y_sub (vs2 := [(0, .ref (ad 0 0)), (1, .int v1), (2, .int v2), (3, .int v3), (4, .long (1 : Int64)), (6, .int (0 : Int32))]) [2, 3, 4, 5, 1, 0] rfl ?_
        obtain ⟨e20, he20, h⟩ := g_bd h
        refine ml_M_storm_82 C hR hL (σ := e8) _ _ _ he20 ?_
        refine y_lconst (v := (0 : Int64)) C dX6_storm_225 (by decide) ?_
        refine y_lstore (vs1 := [(6, .long (0 : Int64)), (0, .ref (ad 0 0)), (2, .int v2), (4, .long e20.1)]) C rfl dX6_storm_226 (g_lL hL rfl) rfl ?_
        refine y_iload_n C dX6_storm_228 2 rfl rfl ?_
        refine y_istore (vs1 := [(8, .int v2), (6, .long (0 : Int64)), (0, .ref (ad 0 0)), (2, .int v2), (4, .long e20.1)]) C rfl dX6_storm_229 (g_lL hL rfl) rfl ?_
        refine y_sub (vs2 := [(0, .ref (ad 0 0)), (4, .long e20.1), (6, .long (0 : Int64)), (8, .int v2)]) [2, 4, 1, 0] rfl ?_
        obtain ⟨e23, he23, h⟩ := g_bd h
        refine ml_M_storm_231 C hR hL (σ := e20.2) _ _ _ he23 ?_
        refine y_lload C dX6_storm_256 2 rfl ?_
        refine y_lload C dX6_storm_258 1 rfl ?_
        obtain ⟨x24, hc, h⟩ := g_bd h
        refine y_callS C (As := [.long e23, .long e20.1]) (rest := []) (lk_X6_7 C hR (by decide)) (ct_M_common hc) rfl rfl (Nat.le_of_ble_eq_true rfl) ⟨Nat.zero_le _, Nat.zero_le _⟩ dX6_storm_260 ?_
        refine y_lstore (vs1 := [(8, .long x24), (0, .ref (ad 0 0)), (4, .long e20.1), (6, .long e23)]) C rfl dX6_storm_263 (g_lL hL rfl) rfl ?_
        refine y_aload_n C dX6_storm_265 1 rfl rfl ?_
        refine y_iconst (v := (0 : Int32)) C dX6_storm_266 (by decide) ?_
        obtain ⟨σ25, hσ25, h⟩ := g_lt h
        refine pf_M_1 C hσ25 dX6_storm_267 ?_
        refine y_aload_n C dX6_storm_270 1 rfl rfl ?_
        refine y_lload C dX6_storm_271 3 rfl ?_
        refine y_lload C dX6_storm_273 0 rfl ?_
        obtain ⟨hg, h⟩ := g_gd h
        refine y_ldiv C dX6_storm_275 hg ?_
        obtain ⟨σ26, hc, h⟩ := g_bd h
        refine y_callVv C (As := [.long (e23 / x24)]) (rest := []) (hu := nM_0_0) (hc := (rfl : gCl[5]? = some (RX6, TX6, 49))) (hcell := obM_0) (lk_X6_373 C hR (by decide)) (ct_M_enters hc) rfl rfl (Nat.le_of_ble_eq_true rfl) ⟨Nat.zero_le _, Nat.zero_le _⟩ dX6_storm_276 ?_
        refine y_aload_n C dX6_storm_279 1 rfl rfl ?_
        refine y_lload C dX6_storm_280 2 rfl ?_
        refine y_lload C dX6_storm_282 0 rfl ?_
        obtain ⟨hg, h⟩ := g_gd h
        refine y_ldiv C dX6_storm_284 hg ?_
        obtain ⟨σ27, hc, h⟩ := g_bd h
        refine y_callVv C (As := [.long (e20.1 / x24)]) (rest := []) (hu := nM_0_0) (hc := (rfl : gCl[5]? = some (RX6, TX6, 49))) (hcell := obM_0) (lk_X6_373 C hR (by decide)) (ct_M_enters hc) rfl rfl (Nat.le_of_ble_eq_true rfl) ⟨Nat.zero_le _, Nat.zero_le _⟩ dX6_storm_285 ?_
        refine y_iconst (v := (0 : Int32)) C dX6_storm_288 (by decide) ?_
        replace h := Option.some.inj h; subst h
        exact y_iret C hQ ⟨Nat.zero_le _, Nat.zero_le _⟩ dX6_storm_289
      · replace h := g_it h hc
        refine y_iconst (v := (-1 : Int32)) C dX6_storm_37 (by decide) ?_
        replace h := Option.some.inj h; subst h
        exact y_iret C hQ ⟨Nat.zero_le _, Nat.zero_le _⟩ dX6_storm_38
theorem ct_M_storm {D : va_G} {dA : Nat → ClassId} {A : Nat → Prop} {s0 : State} {b0 : Nat} {l : Launch} {ad : Nat → Nat → Nat} {σ : g_S} {v1 : Int32} {v2 : Int32} {v3 : Int32} {r : Int32} {σ1 : g_S} (h : mF_M_storm σ v1 v2 v3 = some (r, σ1)) : g_Met gCl D dA A s0 b0 l yX6_storm cX6_storm 10 (some .int) 101 (0, 0) (gM true) ad σ [.ref (ad 0 0), .int v1, .int v2, .int v3] (gM true) ad σ1 (some (.int r)) :=
  g_Met.of pl_X6 (Nat.le_of_ble_eq_true rfl) (fun X C hQ hR _ _ hL _ es eb => mw_M_storm C hR hL h hQ)
theorem mj_M_cock_122 {X : g_F} {hid : Bool} (C : g_M gCl X cX6_cock RX6 (some .int)) (hR : g_R X = g_rm 2 0 0) (hL : g_nL X = 7) {ad : Nat → Nat → Nat} {σ : g_S} {v1 : Int32} {v2 : Int32} {v3 : Int32} {v4 : Int32} {v5 : Int32} {v6 : Int32} {s1 : Int32} {s2 : Int32} {o : ((Int32 × g_S) ⊕ g_S)} (h : mJ_M_cock_122 σ v1 v2 v3 v4 v5 v6 s1 s2 = some o) (kl : ∀ z, o = .inl z → g_Y gCl X (gM hid) ad z.2 (0, 0) 74 [(0, .ref (ad 0 0)), (1, .int v1), (2, .int v2), (3, .int v3), (4, .int v4), (5, .int v5), (6, .int z.1)] []) (kx : ∀ z, o = .inr z → g_Y gCl X (gM hid) ad z (0, 0) 129 [(0, .ref (ad 0 0)), (1, .int v1), (2, .int v2), (3, .int v3), (4, .int v4)] []) : g_Y gCl X (gM hid) ad σ (0, 0) 122 [(0, .ref (ad 0 0)), (1, .int v1), (2, .int v2), (3, .int v3), (4, .int v4), (5, .int v5), (6, .int v6)] [.int s2, .int s1, .ref (ad 24 0)] := by
  unfold mJ_M_cock_122 at h
  obtain ⟨hg, h⟩ := g_gd h
  obtain ⟨σ7, hσ7, h⟩ := g_lt h
  refine as_M_24 C nM_24_0 hσ7 hg dX6_cock_122 ?_
  obtain ⟨x8, hx8, h⟩ := g_lt h
  refine y_iinc (c := (-1 : Int32)) (vs1 := [(6, .int x8), (0, .ref (ad 0 0)), (1, .int v1), (2, .int v2), (3, .int v3), (4, .int v4), (5, .int v5)]) C hx8 (by decide) dX6_cock_123 6 rfl (g_lL hL rfl) rfl ?_
  refine y_goto (tgt := 74) C dX6_cock_126 rfl ?_
  refine y_sub (vs2 := [(0, .ref (ad 0 0)), (1, .int v1), (2, .int v2), (3, .int v3), (4, .int v4), (5, .int v5), (6, .int x8)]) [1, 2, 3, 4, 5, 6, 0] rfl ?_
  exact kl _ (Option.some.inj h).symm
theorem mj_M_cock_115 {X : g_F} {hid : Bool} (C : g_M gCl X cX6_cock RX6 (some .int)) (hR : g_R X = g_rm 2 0 0) (hL : g_nL X = 7) {ad : Nat → Nat → Nat} {σ : g_S} {v1 : Int32} {v2 : Int32} {v3 : Int32} {v4 : Int32} {v5 : Int32} {v6 : Int32} {s1 : Int32} {o : ((Int32 × g_S) ⊕ g_S)} (h : mJ_M_cock_115 σ v1 v2 v3 v4 v5 v6 s1 = some o) (kl : ∀ z, o = .inl z → g_Y gCl X (gM hid) ad z.2 (0, 0) 74 [(0, .ref (ad 0 0)), (1, .int v1), (2, .int v2), (3, .int v3), (4, .int v4), (5, .int v5), (6, .int z.1)] []) (kx : ∀ z, o = .inr z → g_Y gCl X (gM hid) ad z (0, 0) 129 [(0, .ref (ad 0 0)), (1, .int v1), (2, .int v2), (3, .int v3), (4, .int v4)] []) : g_Y gCl X (gM hid) ad σ (0, 0) 115 [(0, .ref (ad 0 0)), (1, .int v1), (2, .int v2), (3, .int v3), (4, .int v4), (5, .int v5), (6, .int v6)] [.int s1, .ref (ad 24 0)] := by
  unfold mJ_M_cock_115 at h
  refine y_aload_n C dX6_cock_115 0 rfl rfl ?_
  refine gf_M_43 C dX6_cock_116 ?_
  refine y_iload C dX6_cock_119 5 rfl ?_
  obtain ⟨hg, h⟩ := g_gd h
  refine al_M_24 C nM_24_0 hg dX6_cock_121 ?_
  exact mj_M_cock_122 C hR hL h kl kx
theorem ml_M_cock_74 {X : g_F} {hid : Bool} (C : g_M gCl X cX6_cock RX6 (some .int)) (hR : g_R X = g_rm 2 0 0) (hL : g_nL X = 7) {ad : Nat → Nat → Nat} {σ : g_S} {v1 : Int32} {v2 : Int32} {v3 : Int32} {v4 : Int32} {v5 : Int32} (n : Nat) (v : (Int32 × g_S)) (e : g_S) (h : g_lp (fun v => mB_M_cock_74 v.2 v1 v2 v3 v4 v5 v.1) n v = some e) (kx : g_Y gCl X (gM hid) ad e (0, 0) 129 [(0, .ref (ad 0 0)), (1, .int v1), (2, .int v2), (3, .int v3), (4, .int v4)] []) : g_Y gCl X (gM hid) ad v.2 (0, 0) 74 [(0, .ref (ad 0 0)), (1, .int v1), (2, .int v2), (3, .int v3), (4, .int v4), (5, .int v5), (6, .int v.1)] [] := by
  refine g_loop (P := fun v => g_Y gCl X (gM hid) ad v.2 (0, 0) 74 [(0, .ref (ad 0 0)), (1, .int v1), (2, .int v2), (3, .int v3), (4, .int v4), (5, .int v5), (6, .int v.1)] []) (T := fun e => g_Y gCl X (gM hid) ad e (0, 0) 129 [(0, .ref (ad 0 0)), (1, .int v1), (2, .int v2), (3, .int v3), (4, .int v4)] []) ?_ n v e h kx
  clear h kx
  clear n v e
  intro v o h kl kx
  obtain ⟨v6, σ⟩ := v
  have h : mB_M_cock_74 σ v1 v2 v3 v4 v5 v6 = some o := h
  unfold mB_M_cock_74 at h
  show g_Y gCl X (gM hid) ad σ (0, 0) 74 [(0, .ref (ad 0 0)), (1, .int v1), (2, .int v2), (3, .int v3), (4, .int v4), (5, .int v5), (6, .int v6)] []
  refine y_iload C dX6_cock_74 6 rfl ?_
  refine y_if_le (tgt := 129) C dX6_cock_76 rfl (fun hc => ?_) (fun hc => ?_)
  · replace h := g_it h hc
    refine y_sub (vs2 := [(0, .ref (ad 0 0)), (1, .int v1), (2, .int v2), (3, .int v3), (4, .int v4)]) [0, 1, 2, 3, 4] rfl ?_
    exact kx _ (Option.some.inj h).symm
  · replace h := g_if h hc
    refine y_aload_n C dX6_cock_79 0 rfl rfl ?_
    refine gf_M_43 C dX6_cock_80 ?_
    refine y_iload C dX6_cock_83 5 rfl ?_
    refine y_iload C dX6_cock_85 6 rfl ?_
    refine y_iload C dX6_cock_87 4 rfl ?_
    refine y_icmp_eq (tgt := 115) C dX6_cock_89 rfl (fun hc => ?_) (fun hc => ?_)
    · replace h := g_it h hc
      exact mj_M_cock_115 C hR hL h kl kx
    · replace h := g_if h hc
      refine y_aload_n C dX6_cock_92 0 rfl rfl ?_
      refine gf_M_43 C dX6_cock_93 ?_
      refine y_bipush (v := (10 : Int32)) C dX6_cock_96 (by decide) ?_
      refine y_iload_n C dX6_cock_98 3 rfl rfl ?_
      refine y_iload C dX6_cock_99 6 rfl ?_
      refine y_isub C dX6_cock_101 ?_
      refine y_imul C dX6_cock_102 ?_
      refine y_iload C dX6_cock_103 6 rfl ?_
      refine y_iadd C dX6_cock_105 ?_
      obtain ⟨hg, h⟩ := g_gd h
      refine al_M_24 C nM_24_0 hg dX6_cock_106 ?_
      refine y_if_ne (tgt := 115) C dX6_cock_107 rfl (fun hc => ?_) (fun hc => ?_)
      · replace h := g_if h hc
        exact mj_M_cock_115 C hR hL h kl kx
      · replace h := g_it h hc
        refine y_iload C dX6_cock_110 6 rfl ?_
        refine y_goto (tgt := 122) C dX6_cock_112 rfl ?_
        exact mj_M_cock_122 C hR hL h kl kx
theorem ml_M_cock_43 {X : g_F} {hid : Bool} (C : g_M gCl X cX6_cock RX6 (some .int)) (hR : g_R X = g_rm 2 0 0) (hL : g_nL X = 7) {ad : Nat → Nat → Nat} {σ : g_S} {v1 : Int32} {v2 : Int32} {v3 : Int32} (n : Nat) (v : (Int32 × g_S)) (e : g_S) (h : g_lp (fun v => mB_M_cock_43 v.2 v1 v2 v3 v.1) n v = some e) (kx : g_Y gCl X (gM hid) ad e (0, 0) 135 [(0, .ref (ad 0 0)), (1, .int v1), (2, .int v2), (3, .int v3)] []) : g_Y gCl X (gM hid) ad v.2 (0, 0) 43 [(0, .ref (ad 0 0)), (1, .int v1), (2, .int v2), (3, .int v3), (4, .int v.1)] [] := by
  refine g_loop (P := fun v => g_Y gCl X (gM hid) ad v.2 (0, 0) 43 [(0, .ref (ad 0 0)), (1, .int v1), (2, .int v2), (3, .int v3), (4, .int v.1)] []) (T := fun e => g_Y gCl X (gM hid) ad e (0, 0) 135 [(0, .ref (ad 0 0)), (1, .int v1), (2, .int v2), (3, .int v3)] []) ?_ n v e h kx
  clear h kx
  clear n v e
  intro v o h kl kx
  obtain ⟨v4, σ⟩ := v
  have h : mB_M_cock_43 σ v1 v2 v3 v4 = some o := h
  unfold mB_M_cock_43 at h
  show g_Y gCl X (gM hid) ad σ (0, 0) 43 [(0, .ref (ad 0 0)), (1, .int v1), (2, .int v2), (3, .int v3), (4, .int v4)] []
  refine y_iload C dX6_cock_43 4 rfl ?_
  refine y_bipush (v := (10 : Int32)) C dX6_cock_45 (by decide) ?_
  refine y_icmp_ge (tgt := 135) C dX6_cock_47 rfl (fun hc => ?_) (fun hc => ?_)
  · replace h := g_it h hc
    refine y_sub (vs2 := [(0, .ref (ad 0 0)), (1, .int v1), (2, .int v2), (3, .int v3)]) [0, 1, 2, 3] rfl ?_
    exact kx _ (Option.some.inj h).symm
  · replace h := g_if h hc
    refine y_bipush (v := (10 : Int32)) C dX6_cock_50 (by decide) ?_
    refine y_iload_n C dX6_cock_52 3 rfl rfl ?_
    refine y_imul C dX6_cock_53 ?_
    refine y_iload C dX6_cock_54 4 rfl ?_
    refine y_iadd C dX6_cock_56 ?_
    obtain ⟨x4, hx4, h⟩ := g_lt h
    refine y_istore (vs1 := [(5, .int x4), (0, .ref (ad 0 0)), (1, .int v1), (2, .int v2), (3, .int v3), (4, .int v4)]) C hx4 dX6_cock_57 (g_lL hL rfl) rfl ?_
    refine y_aload_n C dX6_cock_59 1 rfl rfl ?_
    refine gf_M_43 C dX6_cock_60 ?_
    refine y_iload C dX6_cock_63 0 rfl ?_
    refine y_iconst (v := (0 : Int32)) C dX6_cock_65 (by decide) ?_
    obtain ⟨hg, h⟩ := g_gd h
    obtain ⟨σ5, hσ5, h⟩ := g_lt h
    refine as_M_24 C nM_24_0 hσ5 hg dX6_cock_66 ?_
    refine y_iload_n C dX6_cock_67 3 rfl rfl ?_
    refine y_iload_n C dX6_cock_68 4 rfl rfl ?_
    refine y_mmin C q1456 (g_rmM hR (by decide)) (Nat.le_of_ble_eq_true rfl) ⟨Nat.zero_le _, Nat.zero_le _⟩ dX6_cock_69 ?_
    obtain ⟨x6, hx6, h⟩ := g_lt h
    refine y_istore (vs1 := [(6, .int x6), (5, .int x4), (0, .ref (ad 0 0)), (1, .int v1), (2, .int v2), (3, .int v3), (4, .int v4)]) C hx6 dX6_cock_72 (g_lL hL rfl) rfl ?_
    refine y_sub (vs2 := [(0, .ref (ad 0 0)), (1, .int v1), (2, .int v2), (3, .int v3), (4, .int v4), (5, .int x4), (6, .int x6)]) [2, 3, 4, 5, 6, 1, 0] rfl ?_
    obtain ⟨e9, he9, h⟩ := g_bd h
    refine ml_M_cock_74 C hR hL (σ := σ5) _ _ _ he9 ?_
    obtain ⟨x10, hx10, h⟩ := g_lt h
    refine y_iinc (c := (1 : Int32)) (vs1 := [(4, .int x10), (0, .ref (ad 0 0)), (1, .int v1), (2, .int v2), (3, .int v3)]) C hx10 (by decide) dX6_cock_129 4 rfl (g_lL hL rfl) rfl ?_
    refine y_goto (tgt := 43) C dX6_cock_132 rfl ?_
    refine y_sub (vs2 := [(0, .ref (ad 0 0)), (1, .int v1), (2, .int v2), (3, .int v3), (4, .int x10)]) [1, 2, 3, 4, 0] rfl ?_
    exact kl _ (Option.some.inj h).symm
theorem ml_M_cock_35 {X : g_F} {hid : Bool} (C : g_M gCl X cX6_cock RX6 (some .int)) (hR : g_R X = g_rm 2 0 0) (hL : g_nL X = 7) {ad : Nat → Nat → Nat} {σ : g_S} {v1 : Int32} {v2 : Int32} (n : Nat) (v : (Int32 × g_S)) (e : g_S) (h : g_lp (fun v => mB_M_cock_35 v.2 v1 v2 v.1) n v = some e) (kx : g_Y gCl X (gM hid) ad e (0, 0) 141 [(0, .ref (ad 0 0)), (1, .int v1)] []) : g_Y gCl X (gM hid) ad v.2 (0, 0) 35 [(0, .ref (ad 0 0)), (1, .int v1), (2, .int v2), (3, .int v.1)] [] := by
  refine g_loop (P := fun v => g_Y gCl X (gM hid) ad v.2 (0, 0) 35 [(0, .ref (ad 0 0)), (1, .int v1), (2, .int v2), (3, .int v.1)] []) (T := fun e => g_Y gCl X (gM hid) ad e (0, 0) 141 [(0, .ref (ad 0 0)), (1, .int v1)] []) ?_ n v e h kx
  clear h kx
  clear n v e
  intro v o h kl kx
  obtain ⟨v3, σ⟩ := v
  have h : mB_M_cock_35 σ v1 v2 v3 = some o := h
  unfold mB_M_cock_35 at h
  show g_Y gCl X (gM hid) ad σ (0, 0) 35 [(0, .ref (ad 0 0)), (1, .int v1), (2, .int v2), (3, .int v3)] []
  refine y_iload_n C dX6_cock_35 3 rfl rfl ?_
  refine y_iload_n C dX6_cock_36 1 rfl rfl ?_
  refine y_icmp_gt (tgt := 141) C dX6_cock_37 rfl (fun hc => ?_) (fun hc => ?_)
  · replace h := g_it h hc
    refine y_sub (vs2 := [(0, .ref (ad 0 0)), (1, .int v1)]) [0, 1] rfl ?_
    exact kx _ (Option.some.inj h).symm
  · replace h := g_if h hc
    refine y_iconst (v := (0 : Int32)) C dX6_cock_40 (by decide) ?_
    refine y_istore (vs1 := [(4, .int (0 : Int32)), (0, .ref (ad 0 0)), (1, .int v1), (2, .int v2), (3, .int v3)]) C rfl dX6_cock_41 (g_lL hL rfl) rfl ?_
    refine y_sub (vs2 := [(0, .ref (ad 0 0)), (1, .int v1), (2, .int v2), (3, .int v3), (4, .int (0 : Int32))]) [1, 2, 3, 4, 0] rfl ?_
    obtain ⟨e11, he11, h⟩ := g_bd h
    refine ml_M_cock_43 C hR hL (σ := σ) _ _ _ he11 ?_
    obtain ⟨x12, hx12, h⟩ := g_lt h
    refine y_iinc (c := (1 : Int32)) (vs1 := [(3, .int x12), (0, .ref (ad 0 0)), (1, .int v1), (2, .int v2)]) C hx12 (by decide) dX6_cock_135 3 rfl (g_lL hL rfl) rfl ?_
    refine y_goto (tgt := 35) C dX6_cock_138 rfl ?_
    refine y_sub (vs2 := [(0, .ref (ad 0 0)), (1, .int v1), (2, .int v2), (3, .int x12)]) [1, 2, 3, 0] rfl ?_
    exact kl _ (Option.some.inj h).symm
theorem mw_M_cock {X : g_F} {hid : Bool} (C : g_M gCl X cX6_cock RX6 (some .int)) (hR : g_R X = g_rm 2 0 0) (hL : g_nL X = 7) {ad : Nat → Nat → Nat} {σ : g_S} {v1 : Int32} {v2 : Int32} {o : (Int32 × g_S)} (h : mF_M_cock σ v1 v2 = some o) (hQ : g_MQ gCl X (gM hid) ad o.2 (some (.int o.1)) = g_Q X) : g_Y gCl X (gM hid) ad σ (0, 0) 0 [(0, .ref (ad 0 0)), (1, .int v1), (2, .int v2)] [] := by
  unfold mF_M_cock at h
  refine y_aload_n C dX6_cock_0 0 rfl rfl ?_
  refine y_iconst (v := (0 : Int32)) C dX6_cock_1 (by decide) ?_
  obtain ⟨σ1, hσ1, h⟩ := g_lt h
  refine pf_M_0 C hσ1 dX6_cock_2 ?_
  refine y_iload_n C dX6_cock_5 1 rfl rfl ?_
  refine y_i2l C dX6_cock_6 ?_
  refine y_lconst (v := (0 : Int64)) C dX6_cock_7 (by decide) ?_
  refine y_ldc2 (v := (60 : Int64)) C q1663 dX6_cock_8 ?_
  obtain ⟨x2, hc, h⟩ := g_bd h
  refine y_callS C (As := [.long (v1.toInt64), .long (0 : Int64), .long (60 : Int64)]) (rest := []) (lk_X6_126 C hR (by decide)) (ct_M_in hc) rfl rfl (Nat.le_of_ble_eq_true rfl) ⟨Nat.zero_le _, Nat.zero_le _⟩ dX6_cock_11 ?_
  refine y_if_eq (tgt := 31) C dX6_cock_14 rfl (fun hc => ?_) (fun hc => ?_)
  · replace h := g_it h hc
    refine y_iconst (v := (-1 : Int32)) C dX6_cock_31 (by decide) ?_
    replace h := Option.some.inj h; subst h
    exact y_iret C hQ ⟨Nat.zero_le _, Nat.zero_le _⟩ dX6_cock_32
  · replace h := g_if h hc
    refine y_iload_n C dX6_cock_17 2 rfl rfl ?_
    refine y_i2l C dX6_cock_18 ?_
    refine y_ldc2 (v := (2 : Int64)) C q1637 dX6_cock_19 ?_
    refine y_ldc2 (v := (9 : Int64)) C q1906 dX6_cock_22 ?_
    obtain ⟨x3, hc, h⟩ := g_bd h
    refine y_callS C (As := [.long (v2.toInt64), .long (2 : Int64), .long (9 : Int64)]) (rest := []) (lk_X6_126 C hR (by decide)) (ct_M_in hc) rfl rfl (Nat.le_of_ble_eq_true rfl) ⟨Nat.zero_le _, Nat.zero_le _⟩ dX6_cock_25 ?_
    refine y_if_ne (tgt := 33) C dX6_cock_28 rfl (fun hc => ?_) (fun hc => ?_)
    · replace h := g_if h hc
      refine y_iconst (v := (0 : Int32)) C dX6_cock_33 (by decide) ?_
      refine y_istore_n (vs1 := [(3, .int (0 : Int32)), (0, .ref (ad 0 0)), (1, .int v1), (2, .int v2)]) C rfl dX6_cock_34 rfl (g_lL hL rfl) rfl ?_
      refine y_sub (vs2 := [(0, .ref (ad 0 0)), (1, .int v1), (2, .int v2), (3, .int (0 : Int32))]) [1, 2, 3, 0] rfl ?_
      obtain ⟨e13, he13, h⟩ := g_bd h
      refine ml_M_cock_35 C hR hL (σ := σ1) _ _ _ he13 ?_
      refine y_aload_n C dX6_cock_141 0 rfl rfl ?_
      refine gf_M_43 C dX6_cock_142 ?_
      refine y_bipush (v := (10 : Int32)) C dX6_cock_145 (by decide) ?_
      refine y_iload_n C dX6_cock_147 1 rfl rfl ?_
      refine y_imul C dX6_cock_148 ?_
      obtain ⟨hg, h⟩ := g_gd h
      refine al_M_24 C nM_24_0 hg dX6_cock_149 ?_
      replace h := Option.some.inj h; subst h
      exact y_iret C hQ ⟨Nat.zero_le _, Nat.zero_le _⟩ dX6_cock_150
    · replace h := g_it h hc
      refine y_iconst (v := (-1 : Int32)) C dX6_cock_31 (by decide) ?_
      replace h := Option.some.inj h; subst h
      exact y_iret C hQ ⟨Nat.zero_le _, Nat.zero_le _⟩ dX6_cock_32
theorem ct_M_cock {D : va_G} {dA : Nat → ClassId} {A : Nat → Prop} {s0 : State} {b0 : Nat} {l : Launch} {hid : Bool} {ad : Nat → Nat → Nat} {σ : g_S} {v1 : Int32} {v2 : Int32} {r : Int32} {σ1 : g_S} (h : mF_M_cock σ v1 v2 = some (r, σ1)) : g_Met gCl D dA A s0 b0 l yX6_cock cX6_cock 7 (some .int) 2 (0, 0) (gM hid) ad σ [.ref (ad 0 0), .int v1, .int v2] (gM hid) ad σ1 (some (.int r)) :=
  g_Met.of pl_X6 (Nat.le_of_ble_eq_true rfl) (fun X C hQ hR _ _ hL _ es eb => mw_M_cock C hR hL h hQ)
theorem ml_M_law_42 {X : g_F} (C : g_M gCl X cX6_law RX6 (some .int)) (hR : g_R X = g_rm 107 0 0) (hL : g_nL X = 5) {ad : Nat → Nat → Nat} {σ : g_S} {v2 : Int32} {v3 : Int32} (n : Nat) (v : (Int32 × g_S)) (e : g_S) (h : g_lp (fun v => mB_M_law_42 v.2 v2 v3 v.1) n v = some e) (kx : g_Y gCl X (gM true) ad e (0, 0) 71 [(0, .ref (ad 0 0)), (2, .int v2), (3, .int v3)] []) : g_Y gCl X (gM true) ad v.2 (0, 0) 42 [(0, .ref (ad 0 0)), (2, .int v2), (3, .int v3), (4, .int v.1)] [] := by
  refine g_loop (P := fun v => g_Y gCl X (gM true) ad v.2 (0, 0) 42 [(0, .ref (ad 0 0)), (2, .int v2), (3, .int v3), (4, .int v.1)] []) (T := fun e => g_Y gCl X (gM true) ad e (0, 0) 71 [(0, .ref (ad 0 0)), (2, .int v2), (3, .int v3)] []) ?_ n v e h kx
  clear h kx
  clear n v e
  intro v o h kl kx
  obtain ⟨v4, σ⟩ := v
  have h : mB_M_law_42 σ v2 v3 v4 = some o := h
  unfold mB_M_law_42 at h
  show g_Y gCl X (gM true) ad σ (0, 0) 42 [(0, .ref (ad 0 0)), (2, .int v2), (3, .int v3), (4, .int v4)] []
  refine y_iload C dX6_law_42 3 rfl ?_
  refine y_aload_n C dX6_law_44 0 rfl rfl ?_
  refine gf_M_23 C dX6_law_45 ?_
  refine y_icmp_ge (tgt := 71) C dX6_law_48 rfl (fun hc => ?_) (fun hc => ?_)
  · replace h := g_it h hc
    refine y_sub (vs2 := [(0, .ref (ad 0 0)), (2, .int v2), (3, .int v3)]) [0, 1, 2] rfl ?_
    exact kx _ (Option.some.inj h).symm
  · replace h := g_if h hc
    refine y_aload_n C dX6_law_51 0 rfl rfl ?_
    refine gf_M_44 C dX6_law_52 ?_
    refine y_iload C dX6_law_55 3 rfl ?_
    refine y_aload_n C dX6_law_57 0 rfl rfl ?_
    refine gf_M_21 C dX6_law_58 ?_
    refine y_iload C dX6_law_61 3 rfl ?_
    obtain ⟨hg, h⟩ := g_gd h
    refine al_M_8 C nM_8_0 hg dX6_law_63 ?_
    obtain ⟨hg, h⟩ := g_gd h
    obtain ⟨σ7, hσ7, h⟩ := g_lt h
    refine as_M_8 C nM_8_2 hσ7 hg dX6_law_64 ?_
    obtain ⟨x8, hx8, h⟩ := g_lt h
    refine y_iinc (c := (1 : Int32)) (vs1 := [(4, .int x8), (0, .ref (ad 0 0)), (2, .int v2), (3, .int v3)]) C hx8 (by decide) dX6_law_65 3 rfl (g_lL hL rfl) rfl ?_
    refine y_goto (tgt := 42) C dX6_law_68 rfl ?_
    refine y_sub (vs2 := [(0, .ref (ad 0 0)), (2, .int v2), (3, .int v3), (4, .int x8)]) [1, 2, 3, 0] rfl ?_
    exact kl _ (Option.some.inj h).symm
theorem mw_M_law {X : g_F} (C : g_M gCl X cX6_law RX6 (some .int)) (hR : g_R X = g_rm 107 0 0) (hL : g_nL X = 5) {ad : Nat → Nat → Nat} {σ : g_S} {o : (Int32 × g_S)} (h : mF_M_law σ = some o) (hQ : g_MQ gCl X (gM true) ad o.2 (some (.int o.1)) = g_Q X) : g_Y gCl X (gM true) ad σ (0, 0) 0 [(0, .ref (ad 0 0))] [] := by
  unfold mF_M_law at h
  refine y_aload_n C dX6_law_0 0 rfl rfl ?_
  refine y_iconst (v := (0 : Int32)) C dX6_law_1 (by decide) ?_
  obtain ⟨σ1, hσ1, h⟩ := g_lt h
  refine pf_M_0 C hσ1 dX6_law_2 ?_
  refine y_aload_n C dX6_law_5 0 rfl rfl ?_
  obtain ⟨x3, σ2, hc, h⟩ := g_bp h
  refine y_callV C (As := []) (rest := []) (hu := nM_0_0) (hc := (rfl : gCl[5]? = some (RX6, TX6, 49))) (hcell := obM_0) (lk_X6_251 C hR (by decide)) (ct_M_readsRule hc) rfl rfl (Nat.le_of_ble_eq_true rfl) ⟨Nat.zero_le _, Nat.zero_le _⟩ dX6_law_6 ?_
  refine y_istore_n (vs1 := [(1, .int x3), (0, .ref (ad 0 0))]) C rfl dX6_law_9 rfl (g_lL hL rfl) rfl ?_
  refine y_iload_n C dX6_law_10 0 rfl rfl ?_
  refine y_if_ge (tgt := 22) C dX6_law_11 rfl (fun hc => ?_) (fun hc => ?_)
  · replace h := g_it h hc
    refine y_aload_n C dX6_law_22 1 rfl rfl ?_
    refine y_aload_n C dX6_law_23 1 rfl rfl ?_
    refine gf_M_11 C dX6_law_24 ?_
    obtain ⟨x4, hc, h⟩ := g_bd h
    refine y_callV C (As := [.ref (ad 1 0)]) (rest := []) (hu := nM_0_0) (hc := (rfl : gCl[5]? = some (RX6, TX6, 49))) (hcell := obM_0) (lk_X6_417 C hR (by decide)) (ct_M_allSeen nM_1_0 hc) rfl rfl (Nat.le_of_ble_eq_true rfl) ⟨Nat.zero_le _, Nat.zero_le _⟩ dX6_law_27 ?_
    obtain ⟨x5, hc, h⟩ := g_bd h
    refine y_callS C (As := [.long x4]) (rest := []) (lk_X6_405 C hR (by decide)) (ct_J12_bitCount hc) rfl rfl (Nat.le_of_ble_eq_true rfl) ⟨Nat.zero_le _, Nat.zero_le _⟩ dX6_law_30 ?_
    refine y_istore_n (vs1 := [(2, .int x5), (1, .int x3), (0, .ref (ad 0 0))]) C rfl dX6_law_33 rfl (g_lL hL rfl) rfl ?_
    refine y_aload_n C dX6_law_34 2 rfl rfl ?_
    refine gf_M_23 C dX6_law_35 ?_
    obtain ⟨x6, hx6, h⟩ := g_lt h
    refine y_istore_n (vs1 := [(3, .int x6), (2, .int x5), (1, .int x3), (0, .ref (ad 0 0))]) C hx6 dX6_law_38 rfl (g_lL hL rfl) rfl ?_
    refine y_iconst (v := (0 : Int32)) C dX6_law_39 (by decide) ?_
    refine y_istore (vs1 := [(4, .int (0 : Int32)), (3, .int x6), (2, .int x5), (1, .int x3), (0, .ref (ad 0 0))]) C rfl dX6_law_40 (g_lL hL rfl) rfl ?_
    refine y_sub (vs2 := [(0, .ref (ad 0 0)), (2, .int x5), (3, .int x6), (4, .int (0 : Int32))]) [4, 2, 1, 0] rfl ?_
    obtain ⟨e9, he9, h⟩ := g_bd h
    refine ml_M_law_42 C hR hL (σ := σ2) _ _ _ he9 ?_
    refine y_aload_n C dX6_law_71 0 rfl rfl ?_
    refine y_aload_n C dX6_law_72 0 rfl rfl ?_
    refine gf_M_22 C dX6_law_73 ?_
    refine y_aload_n C dX6_law_76 0 rfl rfl ?_
    refine gf_M_24 C dX6_law_77 ?_
    obtain ⟨σ10, hc, h⟩ := g_bd h
    refine y_callVv C (As := [.ref (ad 8 1), .int (e9.1 0 0 24)]) (rest := []) (hu := nM_0_0) (hc := (rfl : gCl[5]? = some (RX6, TX6, 49))) (hcell := obM_0) (lk_X6_254 C hR (by decide)) (ct_M_laysCode nM_8_1 hc) rfl rfl (Nat.le_of_ble_eq_true rfl) ⟨Nat.zero_le _, Nat.zero_le _⟩ dX6_law_80 ?_
    refine y_aload_n C dX6_law_83 0 rfl rfl ?_
    refine y_aload_n C dX6_law_84 0 rfl rfl ?_
    refine gf_M_11 C dX6_law_85 ?_
    obtain ⟨x11, hc, h⟩ := g_bd h
    refine y_callV C (As := [.ref (ad 1 0)]) (rest := []) (hu := nM_0_0) (hc := (rfl : gCl[5]? = some (RX6, TX6, 49))) (hcell := obM_0) (lk_X6_417 C hR (by decide)) (ct_M_allSeen nM_1_0 hc) rfl rfl (Nat.le_of_ble_eq_true rfl) ⟨Nat.zero_le _, Nat.zero_le _⟩ dX6_law_88 ?_
    obtain ⟨x12, hc, h⟩ := g_bd h
    refine y_callS C (As := [.long x11]) (rest := []) (lk_X6_405 C hR (by decide)) (ct_J12_bitCount hc) rfl rfl (Nat.le_of_ble_eq_true rfl) ⟨Nat.zero_le _, Nat.zero_le _⟩ dX6_law_91 ?_
    refine y_istore (vs1 := [(4, .int x12), (0, .ref (ad 0 0)), (2, .int x5), (3, .int x6)]) C rfl dX6_law_94 (g_lL hL rfl) rfl ?_
    refine y_aload_n C dX6_law_96 1 rfl rfl ?_
    refine y_aload_n C dX6_law_97 1 rfl rfl ?_
    refine gf_M_44 C dX6_law_98 ?_
    refine y_iload_n C dX6_law_101 3 rfl rfl ?_
    obtain ⟨σ13, hc, h⟩ := g_bd h
    refine y_callVv C (As := [.ref (ad 8 2), .int x6]) (rest := []) (hu := nM_0_0) (hc := (rfl : gCl[5]? = some (RX6, TX6, 49))) (hcell := obM_0) (lk_X6_254 C hR (by decide)) (ct_M_laysCode nM_8_2 hc) rfl rfl (Nat.le_of_ble_eq_true rfl) ⟨Nat.zero_le _, Nat.zero_le _⟩ dX6_law_102 ?_
    refine y_aload_n C dX6_law_105 1 rfl rfl ?_
    refine y_iconst (v := (0 : Int32)) C dX6_law_106 (by decide) ?_
    obtain ⟨σ14, hσ14, h⟩ := g_lt h
    refine pf_M_1 C hσ14 dX6_law_107 ?_
    refine y_aload_n C dX6_law_110 1 rfl rfl ?_
    refine y_iload C dX6_law_111 0 rfl ?_
    refine y_i2l C dX6_law_113 ?_
    obtain ⟨σ15, hc, h⟩ := g_bd h
    refine y_callVv C (As := [.long (x12.toInt64)]) (rest := []) (hu := nM_0_0) (hc := (rfl : gCl[5]? = some (RX6, TX6, 49))) (hcell := obM_0) (lk_X6_373 C hR (by decide)) (ct_M_enters hc) rfl rfl (Nat.le_of_ble_eq_true rfl) ⟨Nat.zero_le _, Nat.zero_le _⟩ dX6_law_114 ?_
    refine y_aload_n C dX6_law_117 1 rfl rfl ?_
    refine y_iload_n C dX6_law_118 2 rfl rfl ?_
    refine y_i2l C dX6_law_119 ?_
    obtain ⟨σ16, hc, h⟩ := g_bd h
    refine y_callVv C (As := [.long (x5.toInt64)]) (rest := []) (hu := nM_0_0) (hc := (rfl : gCl[5]? = some (RX6, TX6, 49))) (hcell := obM_0) (lk_X6_373 C hR (by decide)) (ct_M_enters hc) rfl rfl (Nat.le_of_ble_eq_true rfl) ⟨Nat.zero_le _, Nat.zero_le _⟩ dX6_law_120 ?_
    refine y_iload C dX6_law_123 0 rfl ?_
    refine y_iload_n C dX6_law_125 2 rfl rfl ?_
    refine y_isub C dX6_law_126 ?_
    replace h := Option.some.inj h; subst h
    exact y_iret C hQ ⟨Nat.zero_le _, Nat.zero_le _⟩ dX6_law_127
  · replace h := g_if h hc
    refine y_iload_n C dX6_law_14 0 rfl rfl ?_
    refine y_iconst (v := (1 : Int32)) C dX6_law_15 (by decide) ?_
    refine y_iadd C dX6_law_16 ?_
    refine y_sipush (v := (10000 : Int32)) C dX6_law_17 (by decide) ?_
    refine y_isub C dX6_law_20 ?_
    replace h := Option.some.inj h; subst h
    exact y_iret C hQ ⟨Nat.zero_le _, Nat.zero_le _⟩ dX6_law_21
theorem ct_M_law {D : va_G} {dA : Nat → ClassId} {A : Nat → Prop} {s0 : State} {b0 : Nat} {l : Launch} {ad : Nat → Nat → Nat} {σ : g_S} {r : Int32} {σ1 : g_S} (h : mF_M_law σ = some (r, σ1)) : g_Met gCl D dA A s0 b0 l yX6_law cX6_law 5 (some .int) 107 (0, 0) (gM true) ad σ [.ref (ad 0 0)] (gM true) ad σ1 (some (.int r)) :=
  g_Met.of pl_X6 (Nat.le_of_ble_eq_true rfl) (fun X C hQ hR _ _ hL _ es eb => mw_M_law C hR hL h hQ)
theorem mw_M_gets {X : g_F} {LM : g_L} (C : g_M gCl X cX6_gets RX6 (some .int)) (hR : g_R X = g_rm 1 0 0) (hL : g_nL X = 3) {ad : Nat → Nat → Nat} {σ : g_S} {v0 : Int32} {v1 : Int32} {v2 : Int32} {o : Int32} (h : mF_M_gets v0 v1 v2 = some o) (hQ : g_MQ gCl X LM ad σ (some (.int o)) = g_Q X) : g_Y gCl X LM ad σ (0, 0) 0 [(0, .int v0), (1, .int v1), (2, .int v2)] [] := by
  unfold mF_M_gets at h
  refine y_iload_n C dX6_gets_0 2 rfl rfl ?_
  refine y_iload_n C dX6_gets_1 0 rfl rfl ?_
  refine y_iload_n C dX6_gets_2 1 rfl rfl ?_
  refine y_mmin C q1456 (g_rmM hR (by decide)) (Nat.le_of_ble_eq_true rfl) ⟨Nat.zero_le _, Nat.zero_le _⟩ dX6_gets_3 ?_
  refine y_imul C dX6_gets_6 ?_
  refine y_iconst (v := (4 : Int32)) C dX6_gets_7 (by decide) ?_
  refine y_idiv C dX6_gets_8 (by decide) ?_
  refine y_iload_n C dX6_gets_9 0 rfl rfl ?_
  refine y_isub C dX6_gets_10 ?_
  refine y_iconst (v := (0 : Int32)) C dX6_gets_11 (by decide) ?_
  refine y_iload_n C dX6_gets_12 0 rfl rfl ?_
  refine y_iconst (v := (4 : Int32)) C dX6_gets_13 (by decide) ?_
  refine y_isub C dX6_gets_14 ?_
  refine y_mmax C q1601 (g_rmM hR (by decide)) (Nat.le_of_ble_eq_true rfl) ⟨Nat.zero_le _, Nat.zero_le _⟩ dX6_gets_15 ?_
  refine y_isub C dX6_gets_18 ?_
  replace h := Option.some.inj h; subst h
  exact y_iret C hQ ⟨Nat.zero_le _, Nat.zero_le _⟩ dX6_gets_19
theorem ct_M_gets {D : va_G} {dA : Nat → ClassId} {A : Nat → Prop} {s0 : State} {b0 : Nat} {l : Launch} {LM : g_L} {ad : Nat → Nat → Nat} {σ : g_S} {v0 : Int32} {v1 : Int32} {v2 : Int32} {r : Int32} (h : mF_M_gets v0 v1 v2 = some r) : g_Met gCl D dA A s0 b0 l yX6_gets cX6_gets 3 (some .int) 1 (0, 0) LM ad σ [.int v0, .int v1, .int v2] LM ad σ (some (.int r)) :=
  g_Met.of pl_X6 (Nat.le_of_ble_eq_true rfl) (fun X C hQ hR _ _ hL _ es eb => mw_M_gets C hR hL h hQ)
theorem ml_M_isRest_5 {X : g_F} {LM : g_L} (C : g_M gCl X cX6_isRest RX6 (some .boolean)) (hR : g_R X = g_rm 2 0 0) (hL : g_nL X = 5) {ad : Nat → Nat → Nat} {σ : g_S} {v0 : Int32} {v1 : Int32} {v2 : Int32} (n : Nat) (v : (Int32 × Int32)) (e : Int32) (h : g_lp (fun v => mB_M_isRest_5 v0 v1 v2 v.1 v.2) n v = some e) (kx : g_Y gCl X LM ad σ (0, 0) 44 [(3, .int e)] []) : g_Y gCl X LM ad σ (0, 0) 5 [(0, .int v0), (1, .int v1), (2, .int v2), (3, .int v.1), (4, .int v.2)] [] := by
  refine g_loop (P := fun v => g_Y gCl X LM ad σ (0, 0) 5 [(0, .int v0), (1, .int v1), (2, .int v2), (3, .int v.1), (4, .int v.2)] []) (T := fun e => g_Y gCl X LM ad σ (0, 0) 44 [(3, .int e)] []) ?_ n v e h kx
  clear h kx
  clear n v e
  intro v o h kl kx
  obtain ⟨v3, v4⟩ := v
  have h : mB_M_isRest_5 v0 v1 v2 v3 v4 = some o := h
  unfold mB_M_isRest_5 at h
  show g_Y gCl X LM ad σ (0, 0) 5 [(0, .int v0), (1, .int v1), (2, .int v2), (3, .int v3), (4, .int v4)] []
  refine y_iload C dX6_isRest_5 4 rfl ?_
  refine y_bipush (v := (9 : Int32)) C dX6_isRest_7 (by decide) ?_
  refine y_icmp_gt (tgt := 44) C dX6_isRest_9 rfl (fun hc => ?_) (fun hc => ?_)
  · replace h := g_it h hc
    refine y_sub (vs2 := [(3, .int v3)]) [3] rfl ?_
    exact kx _ (Option.some.inj h).symm
  · replace h := g_if h hc
    refine y_iload_n C dX6_isRest_12 3 rfl rfl ?_
    refine y_if_eq (tgt := 36) C dX6_isRest_13 rfl (fun hc => ?_) (fun hc => ?_)
    · replace h := g_it h hc
      refine y_iconst (v := (0 : Int32)) C dX6_isRest_36 (by decide) ?_
      refine y_istore_n (vs1 := [(3, .int (0 : Int32)), (0, .int v0), (1, .int v1), (2, .int v2), (4, .int v4)]) C rfl dX6_isRest_37 rfl (g_lL hL rfl) rfl ?_
      obtain ⟨x1, hx1, h⟩ := g_lt h
      refine y_iinc (c := (1 : Int32)) (vs1 := [(4, .int x1), (3, .int (0 : Int32)), (0, .int v0), (1, .int v1), (2, .int v2)]) C hx1 (by decide) dX6_isRest_38 4 rfl (g_lL hL rfl) rfl ?_
      refine y_goto (tgt := 5) C dX6_isRest_41 rfl ?_
      refine y_sub (vs2 := [(0, .int v0), (1, .int v1), (2, .int v2), (3, .int (0 : Int32)), (4, .int x1)]) [2, 3, 4, 1, 0] rfl ?_
      exact kl _ (Option.some.inj h).symm
    · replace h := g_if h hc
      refine y_iload C dX6_isRest_16 4 rfl ?_
      refine y_iload_n C dX6_isRest_18 1 rfl rfl ?_
      refine y_iload_n C dX6_isRest_19 2 rfl rfl ?_
      obtain ⟨x2, hc, h⟩ := g_bd h
      refine y_callS C (As := [.int v4, .int v1, .int v2]) (rest := []) (lk_X6_463 C hR (by decide)) (ct_M_gets hc) rfl rfl (Nat.le_of_ble_eq_true rfl) ⟨Nat.zero_le _, Nat.zero_le _⟩ dX6_isRest_20 ?_
      refine y_iload_n C dX6_isRest_23 0 rfl rfl ?_
      refine y_iload_n C dX6_isRest_24 1 rfl rfl ?_
      refine y_iload_n C dX6_isRest_25 2 rfl rfl ?_
      obtain ⟨x3, hc, h⟩ := g_bd h
      refine y_callS C (As := [.int v0, .int v1, .int v2]) (rest := [.int x2]) (lk_X6_463 C hR (by decide)) (ct_M_gets hc) rfl rfl (Nat.le_of_ble_eq_true rfl) ⟨Nat.zero_le _, Nat.zero_le _⟩ dX6_isRest_26 ?_
      refine y_icmp_gt (tgt := 36) C dX6_isRest_29 rfl (fun hc => ?_) (fun hc => ?_)
      · replace h := g_it h hc
        refine y_iconst (v := (0 : Int32)) C dX6_isRest_36 (by decide) ?_
        refine y_istore_n (vs1 := [(3, .int (0 : Int32)), (0, .int v0), (1, .int v1), (2, .int v2), (4, .int v4)]) C rfl dX6_isRest_37 rfl (g_lL hL rfl) rfl ?_
        obtain ⟨x4, hx4, h⟩ := g_lt h
        refine y_iinc (c := (1 : Int32)) (vs1 := [(4, .int x4), (3, .int (0 : Int32)), (0, .int v0), (1, .int v1), (2, .int v2)]) C hx4 (by decide) dX6_isRest_38 4 rfl (g_lL hL rfl) rfl ?_
        refine y_goto (tgt := 5) C dX6_isRest_41 rfl ?_
        refine y_sub (vs2 := [(0, .int v0), (1, .int v1), (2, .int v2), (3, .int (0 : Int32)), (4, .int x4)]) [2, 3, 4, 1, 0] rfl ?_
        exact kl _ (Option.some.inj h).symm
      · replace h := g_if h hc
        refine y_iconst (v := (1 : Int32)) C dX6_isRest_32 (by decide) ?_
        refine y_goto (tgt := 37) C dX6_isRest_33 rfl ?_
        refine y_istore_n (vs1 := [(3, .int (1 : Int32)), (0, .int v0), (1, .int v1), (2, .int v2), (4, .int v4)]) C rfl dX6_isRest_37 rfl (g_lL hL rfl) rfl ?_
        obtain ⟨x5, hx5, h⟩ := g_lt h
        refine y_iinc (c := (1 : Int32)) (vs1 := [(4, .int x5), (3, .int (1 : Int32)), (0, .int v0), (1, .int v1), (2, .int v2)]) C hx5 (by decide) dX6_isRest_38 4 rfl (g_lL hL rfl) rfl ?_
        refine y_goto (tgt := 5) C dX6_isRest_41 rfl ?_
        refine y_sub (vs2 := [(0, .int v0), (1, .int v1), (2, .int v2), (3, .int (1 : Int32)), (4, .int x5)]) [2, 3, 4, 1, 0] rfl ?_
        exact kl _ (Option.some.inj h).symm
theorem mw_M_isRest {X : g_F} {LM : g_L} (C : g_M gCl X cX6_isRest RX6 (some .boolean)) (hR : g_R X = g_rm 2 0 0) (hL : g_nL X = 5) {ad : Nat → Nat → Nat} {σ : g_S} {v0 : Int32} {v1 : Int32} {v2 : Int32} {o : Int32} (h : mF_M_isRest v0 v1 v2 = some o) (hQ : g_MQ gCl X LM ad σ (some (.int o)) = g_Q X) : g_Y gCl X LM ad σ (0, 0) 0 [(0, .int v0), (1, .int v1), (2, .int v2)] [] := by
  unfold mF_M_isRest at h
  refine y_iconst (v := (1 : Int32)) C dX6_isRest_0 (by decide) ?_
  refine y_istore_n (vs1 := [(3, .int (1 : Int32)), (0, .int v0), (1, .int v1), (2, .int v2)]) C rfl dX6_isRest_1 rfl (g_lL hL rfl) rfl ?_
  refine y_iconst (v := (0 : Int32)) C dX6_isRest_2 (by decide) ?_
  refine y_istore (vs1 := [(4, .int (0 : Int32)), (3, .int (1 : Int32)), (0, .int v0), (1, .int v1), (2, .int v2)]) C rfl dX6_isRest_3 (g_lL hL rfl) rfl ?_
  refine y_sub (vs2 := [(0, .int v0), (1, .int v1), (2, .int v2), (3, .int (1 : Int32)), (4, .int (0 : Int32))]) [2, 3, 4, 1, 0] rfl ?_
  obtain ⟨e6, he6, h⟩ := g_bd h
  refine ml_M_isRest_5 C hR hL (σ := σ) _ _ _ he6 ?_
  refine y_iload_n C dX6_isRest_44 0 rfl rfl ?_
  obtain ⟨hg, h⟩ := g_gd h
  replace h := Option.some.inj h; subst h
  exact y_zret C (g_nz hg) hQ ⟨Nat.zero_le _, Nat.zero_le _⟩ dX6_isRest_45
theorem ct_M_isRest {D : va_G} {dA : Nat → ClassId} {A : Nat → Prop} {s0 : State} {b0 : Nat} {l : Launch} {LM : g_L} {ad : Nat → Nat → Nat} {σ : g_S} {v0 : Int32} {v1 : Int32} {v2 : Int32} {r : Int32} (h : mF_M_isRest v0 v1 v2 = some r) : g_Met gCl D dA A s0 b0 l yX6_isRest cX6_isRest 5 (some .boolean) 2 (0, 0) LM ad σ [.int v0, .int v1, .int v2] LM ad σ (some (.int r)) :=
  g_Met.of pl_X6 (Nat.le_of_ble_eq_true rfl) (fun X C hQ hR _ _ hL _ es eb => mw_M_isRest C hR hL h hQ)
theorem ml_M_rests_37 {X : g_F} {hid : Bool} (C : g_M gCl X cX6_rests RX6 (some .int)) (hR : g_R X = g_rm 3 0 0) (hL : g_nL X = 5) {ad : Nat → Nat → Nat} {σ : g_S} {v1 : Int32} {v3 : Int32} (n : Nat) (v : (Int32 × Int32 × g_S)) (e : (Int32 × g_S)) (h : g_lp (fun v => mB_M_rests_37 v.2.2 v1 v3 v.1 v.2.1) n v = some e) (kx : g_Y gCl X (gM hid) ad e.2 (0, 0) 90 [(0, .ref (ad 0 0)), (1, .int v1), (2, .int e.1), (3, .int v3)] []) : g_Y gCl X (gM hid) ad v.2.2 (0, 0) 37 [(0, .ref (ad 0 0)), (1, .int v1), (2, .int v.1), (3, .int v3), (4, .int v.2.1)] [] := by
  refine g_loop (P := fun v => g_Y gCl X (gM hid) ad v.2.2 (0, 0) 37 [(0, .ref (ad 0 0)), (1, .int v1), (2, .int v.1), (3, .int v3), (4, .int v.2.1)] []) (T := fun e => g_Y gCl X (gM hid) ad e.2 (0, 0) 90 [(0, .ref (ad 0 0)), (1, .int v1), (2, .int e.1), (3, .int v3)] []) ?_ n v e h kx
  clear h kx
  clear n v e
  intro v o h kl kx
  obtain ⟨v2, v4, σ⟩ := v
  have h : mB_M_rests_37 σ v1 v3 v2 v4 = some o := h
  unfold mB_M_rests_37 at h
  show g_Y gCl X (gM hid) ad σ (0, 0) 37 [(0, .ref (ad 0 0)), (1, .int v1), (2, .int v2), (3, .int v3), (4, .int v4)] []
  refine y_iload C dX6_rests_37 4 rfl ?_
  refine y_bipush (v := (9 : Int32)) C dX6_rests_39 (by decide) ?_
  refine y_icmp_gt (tgt := 90) C dX6_rests_41 rfl (fun hc => ?_) (fun hc => ?_)
  · replace h := g_it h hc
    refine y_sub (vs2 := [(0, .ref (ad 0 0)), (1, .int v1), (2, .int v2), (3, .int v3)]) [0, 1, 2, 3] rfl ?_
    exact kx _ (Option.some.inj h).symm
  · replace h := g_if h hc
    refine y_iload_n C dX6_rests_44 3 rfl rfl ?_
    refine y_iload C dX6_rests_45 4 rfl ?_
    refine y_iload_n C dX6_rests_47 1 rfl rfl ?_
    obtain ⟨x4, hc, h⟩ := g_bd h
    refine y_callS C (As := [.int v3, .int v4, .int v1]) (rest := []) (lk_X6_468 C hR (by decide)) (ct_M_isRest hc) rfl rfl (Nat.le_of_ble_eq_true rfl) ⟨Nat.zero_le _, Nat.zero_le _⟩ dX6_rests_48 ?_
    refine y_if_eq (tgt := 84) C dX6_rests_51 rfl (fun hc => ?_) (fun hc => ?_)
    · replace h := g_it h hc
      obtain ⟨x5, hx5, h⟩ := g_lt h
      refine y_iinc (c := (1 : Int32)) (vs1 := [(4, .int x5), (0, .ref (ad 0 0)), (1, .int v1), (2, .int v2), (3, .int v3)]) C hx5 (by decide) dX6_rests_84 4 rfl (g_lL hL rfl) rfl ?_
      refine y_goto (tgt := 37) C dX6_rests_87 rfl ?_
      refine y_sub (vs2 := [(0, .ref (ad 0 0)), (1, .int v1), (2, .int v2), (3, .int v3), (4, .int x5)]) [1, 2, 3, 4, 0] rfl ?_
      exact kl _ (Option.some.inj h).symm
    · replace h := g_if h hc
      refine y_iload C dX6_rests_54 4 rfl ?_
      refine y_iload_n C dX6_rests_56 3 rfl rfl ?_
      refine y_iload_n C dX6_rests_57 1 rfl rfl ?_
      obtain ⟨x6, hc, h⟩ := g_bd h
      refine y_callS C (As := [.int v4, .int v3, .int v1]) (rest := []) (lk_X6_468 C hR (by decide)) (ct_M_isRest hc) rfl rfl (Nat.le_of_ble_eq_true rfl) ⟨Nat.zero_le _, Nat.zero_le _⟩ dX6_rests_58 ?_
      refine y_if_eq (tgt := 84) C dX6_rests_61 rfl (fun hc => ?_) (fun hc => ?_)
      · replace h := g_it h hc
        obtain ⟨x7, hx7, h⟩ := g_lt h
        refine y_iinc (c := (1 : Int32)) (vs1 := [(4, .int x7), (0, .ref (ad 0 0)), (1, .int v1), (2, .int v2), (3, .int v3)]) C hx7 (by decide) dX6_rests_84 4 rfl (g_lL hL rfl) rfl ?_
        refine y_goto (tgt := 37) C dX6_rests_87 rfl ?_
        refine y_sub (vs2 := [(0, .ref (ad 0 0)), (1, .int v1), (2, .int v2), (3, .int v3), (4, .int x7)]) [1, 2, 3, 4, 0] rfl ?_
        exact kl _ (Option.some.inj h).symm
      · replace h := g_if h hc
        refine y_iload_n C dX6_rests_64 2 rfl rfl ?_
        refine y_if_ne (tgt := 81) C dX6_rests_65 rfl (fun hc => ?_) (fun hc => ?_)
        · replace h := g_if h hc
          obtain ⟨x8, hx8, h⟩ := g_lt h
          refine y_iinc (c := (1 : Int32)) (vs1 := [(2, .int x8), (0, .ref (ad 0 0)), (1, .int v1), (3, .int v3), (4, .int v4)]) C hx8 (by decide) dX6_rests_81 2 rfl (g_lL hL rfl) rfl ?_
          obtain ⟨x9, hx9, h⟩ := g_lt h
          refine y_iinc (c := (1 : Int32)) (vs1 := [(4, .int x9), (2, .int x8), (0, .ref (ad 0 0)), (1, .int v1), (3, .int v3)]) C hx9 (by decide) dX6_rests_84 4 rfl (g_lL hL rfl) rfl ?_
          refine y_goto (tgt := 37) C dX6_rests_87 rfl ?_
          refine y_sub (vs2 := [(0, .ref (ad 0 0)), (1, .int v1), (2, .int x8), (3, .int v3), (4, .int x9)]) [2, 3, 1, 4, 0] rfl ?_
          exact kl _ (Option.some.inj h).symm
        · replace h := g_it h hc
          refine y_aload_n C dX6_rests_68 0 rfl rfl ?_
          refine y_iload_n C dX6_rests_69 3 rfl rfl ?_
          refine y_i2l C dX6_rests_70 ?_
          obtain ⟨σ10, hc, h⟩ := g_bd h
          refine y_callVv C (As := [.long (v3.toInt64)]) (rest := []) (hu := nM_0_0) (hc := (rfl : gCl[5]? = some (RX6, TX6, 49))) (hcell := obM_0) (lk_X6_373 C hR (by decide)) (ct_M_enters hc) rfl rfl (Nat.le_of_ble_eq_true rfl) ⟨Nat.zero_le _, Nat.zero_le _⟩ dX6_rests_71 ?_
          refine y_aload_n C dX6_rests_74 0 rfl rfl ?_
          refine y_iload C dX6_rests_75 4 rfl ?_
          refine y_i2l C dX6_rests_77 ?_
          obtain ⟨σ11, hc, h⟩ := g_bd h
          refine y_callVv C (As := [.long (v4.toInt64)]) (rest := []) (hu := nM_0_0) (hc := (rfl : gCl[5]? = some (RX6, TX6, 49))) (hcell := obM_0) (lk_X6_373 C hR (by decide)) (ct_M_enters hc) rfl rfl (Nat.le_of_ble_eq_true rfl) ⟨Nat.zero_le _, Nat.zero_le _⟩ dX6_rests_78 ?_
          obtain ⟨x12, hx12, h⟩ := g_lt h
          refine y_iinc (c := (1 : Int32)) (vs1 := [(2, .int x12), (0, .ref (ad 0 0)), (1, .int v1), (3, .int v3), (4, .int v4)]) C hx12 (by decide) dX6_rests_81 2 rfl (g_lL hL rfl) rfl ?_
          obtain ⟨x13, hx13, h⟩ := g_lt h
          refine y_iinc (c := (1 : Int32)) (vs1 := [(4, .int x13), (2, .int x12), (0, .ref (ad 0 0)), (1, .int v1), (3, .int v3)]) C hx13 (by decide) dX6_rests_84 4 rfl (g_lL hL rfl) rfl ?_
          refine y_goto (tgt := 37) C dX6_rests_87 rfl ?_
          refine y_sub (vs2 := [(0, .ref (ad 0 0)), (1, .int v1), (2, .int x12), (3, .int v3), (4, .int x13)]) [2, 3, 1, 4, 0] rfl ?_
          exact kl _ (Option.some.inj h).symm
theorem ml_M_rests_28 {X : g_F} {hid : Bool} (C : g_M gCl X cX6_rests RX6 (some .int)) (hR : g_R X = g_rm 3 0 0) (hL : g_nL X = 5) {ad : Nat → Nat → Nat} {σ : g_S} {v1 : Int32} (n : Nat) (v : (Int32 × Int32 × g_S)) (e : (Int32 × g_S)) (h : g_lp (fun v => mB_M_rests_28 v.2.2 v1 v.1 v.2.1) n v = some e) (kx : g_Y gCl X (gM hid) ad e.2 (0, 0) 96 [(2, .int e.1)] []) : g_Y gCl X (gM hid) ad v.2.2 (0, 0) 28 [(0, .ref (ad 0 0)), (1, .int v1), (2, .int v.1), (3, .int v.2.1)] [] := by
  refine g_loop (P := fun v => g_Y gCl X (gM hid) ad v.2.2 (0, 0) 28 [(0, .ref (ad 0 0)), (1, .int v1), (2, .int v.1), (3, .int v.2.1)] []) (T := fun e => g_Y gCl X (gM hid) ad e.2 (0, 0) 96 [(2, .int e.1)] []) ?_ n v e h kx
  clear h kx
  clear n v e
  intro v o h kl kx
  obtain ⟨v2, v3, σ⟩ := v
  have h : mB_M_rests_28 σ v1 v2 v3 = some o := h
  unfold mB_M_rests_28 at h
  show g_Y gCl X (gM hid) ad σ (0, 0) 28 [(0, .ref (ad 0 0)), (1, .int v1), (2, .int v2), (3, .int v3)] []
  refine y_iload_n C dX6_rests_28 3 rfl rfl ?_
  refine y_bipush (v := (9 : Int32)) C dX6_rests_29 (by decide) ?_
  refine y_icmp_gt (tgt := 96) C dX6_rests_31 rfl (fun hc => ?_) (fun hc => ?_)
  · replace h := g_it h hc
    refine y_sub (vs2 := [(2, .int v2)]) [2] rfl ?_
    exact kx _ (Option.some.inj h).symm
  · replace h := g_if h hc
    refine y_iconst (v := (0 : Int32)) C dX6_rests_34 (by decide) ?_
    refine y_istore (vs1 := [(4, .int (0 : Int32)), (0, .ref (ad 0 0)), (1, .int v1), (2, .int v2), (3, .int v3)]) C rfl dX6_rests_35 (g_lL hL rfl) rfl ?_
    refine y_sub (vs2 := [(0, .ref (ad 0 0)), (1, .int v1), (2, .int v2), (3, .int v3), (4, .int (0 : Int32))]) [1, 2, 3, 4, 0] rfl ?_
    obtain ⟨e14, he14, h⟩ := g_bd h
    refine ml_M_rests_37 C hR hL (σ := σ) _ _ _ he14 ?_
    obtain ⟨x15, hx15, h⟩ := g_lt h
    refine y_iinc (c := (1 : Int32)) (vs1 := [(3, .int x15), (0, .ref (ad 0 0)), (1, .int v1), (2, .int e14.1)]) C hx15 (by decide) dX6_rests_90 3 rfl (g_lL hL rfl) rfl ?_
    refine y_goto (tgt := 28) C dX6_rests_93 rfl ?_
    refine y_sub (vs2 := [(0, .ref (ad 0 0)), (1, .int v1), (2, .int e14.1), (3, .int x15)]) [1, 2, 3, 0] rfl ?_
    exact kl _ (Option.some.inj h).symm
theorem mw_M_rests {X : g_F} {hid : Bool} (C : g_M gCl X cX6_rests RX6 (some .int)) (hR : g_R X = g_rm 3 0 0) (hL : g_nL X = 5) {ad : Nat → Nat → Nat} {σ : g_S} {v1 : Int32} {o : (Int32 × g_S)} (h : mF_M_rests σ v1 = some o) (hQ : g_MQ gCl X (gM hid) ad o.2 (some (.int o.1)) = g_Q X) : g_Y gCl X (gM hid) ad σ (0, 0) 0 [(0, .ref (ad 0 0)), (1, .int v1)] [] := by
  unfold mF_M_rests at h
  refine y_aload_n C dX6_rests_0 0 rfl rfl ?_
  refine y_iconst (v := (0 : Int32)) C dX6_rests_1 (by decide) ?_
  obtain ⟨σ1, hσ1, h⟩ := g_lt h
  refine pf_M_0 C hσ1 dX6_rests_2 ?_
  refine y_iload_n C dX6_rests_5 1 rfl rfl ?_
  refine y_i2l C dX6_rests_6 ?_
  refine y_lconst (v := (0 : Int64)) C dX6_rests_7 (by decide) ?_
  refine y_ldc2 (v := (20 : Int64)) C q1915 dX6_rests_8 ?_
  obtain ⟨x2, hc, h⟩ := g_bd h
  refine y_callS C (As := [.long (v1.toInt64), .long (0 : Int64), .long (20 : Int64)]) (rest := []) (lk_X6_126 C hR (by decide)) (ct_M_in hc) rfl rfl (Nat.le_of_ble_eq_true rfl) ⟨Nat.zero_le _, Nat.zero_le _⟩ dX6_rests_11 ?_
  refine y_if_ne (tgt := 19) C dX6_rests_14 rfl (fun hc => ?_) (fun hc => ?_)
  · replace h := g_if h hc
    refine y_iconst (v := (0 : Int32)) C dX6_rests_19 (by decide) ?_
    refine y_istore_n (vs1 := [(2, .int (0 : Int32)), (0, .ref (ad 0 0)), (1, .int v1)]) C rfl dX6_rests_20 rfl (g_lL hL rfl) rfl ?_
    refine y_aload_n C dX6_rests_21 1 rfl rfl ?_
    refine y_iconst (v := (0 : Int32)) C dX6_rests_22 (by decide) ?_
    obtain ⟨σ3, hσ3, h⟩ := g_lt h
    refine pf_M_1 C hσ3 dX6_rests_23 ?_
    refine y_iconst (v := (0 : Int32)) C dX6_rests_26 (by decide) ?_
    refine y_istore_n (vs1 := [(3, .int (0 : Int32)), (2, .int (0 : Int32)), (0, .ref (ad 0 0)), (1, .int v1)]) C rfl dX6_rests_27 rfl (g_lL hL rfl) rfl ?_
    refine y_sub (vs2 := [(0, .ref (ad 0 0)), (1, .int v1), (2, .int (0 : Int32)), (3, .int (0 : Int32))]) [2, 3, 1, 0] rfl ?_
    obtain ⟨e16, he16, h⟩ := g_bd h
    refine ml_M_rests_28 C hR hL (σ := σ3) _ _ _ he16 ?_
    refine y_iload_n C dX6_rests_96 0 rfl rfl ?_
    replace h := Option.some.inj h; subst h
    exact y_iret C hQ ⟨Nat.zero_le _, Nat.zero_le _⟩ dX6_rests_97
  · replace h := g_it h hc
    refine y_iconst (v := (-1 : Int32)) C dX6_rests_17 (by decide) ?_
    replace h := Option.some.inj h; subst h
    exact y_iret C hQ ⟨Nat.zero_le _, Nat.zero_le _⟩ dX6_rests_18
theorem ct_M_rests {D : va_G} {dA : Nat → ClassId} {A : Nat → Prop} {s0 : State} {b0 : Nat} {l : Launch} {hid : Bool} {ad : Nat → Nat → Nat} {σ : g_S} {v1 : Int32} {r : Int32} {σ1 : g_S} (h : mF_M_rests σ v1 = some (r, σ1)) : g_Met gCl D dA A s0 b0 l yX6_rests cX6_rests 5 (some .int) 3 (0, 0) (gM hid) ad σ [.ref (ad 0 0), .int v1] (gM hid) ad σ1 (some (.int r)) :=
  g_Met.of pl_X6 (Nat.le_of_ble_eq_true rfl) (fun X C hQ hR _ _ hL _ es eb => mw_M_rests C hR hL h hQ)
theorem mw_M_draws {X : g_F} {hid : Bool} (C : g_M gCl X cX6_draws RX6 (some .int)) (hR : g_R X = g_rm 1 0 0) (hL : g_nL X = 2) {ad : Nat → Nat → Nat} {σ : g_S} {v1 : Int32} {o : (Int32 × g_S)} (h : mF_M_draws σ v1 = some o) (hQ : g_MQ gCl X (gM hid) ad o.2 (some (.int o.1)) = g_Q X) : g_Y gCl X (gM hid) ad σ (0, 0) 0 [(0, .ref (ad 0 0)), (1, .int v1)] [] := by
  unfold mF_M_draws at h
  refine y_aload_n C dX6_draws_0 0 rfl rfl ?_
  refine y_aload_n C dX6_draws_1 0 rfl rfl ?_
  refine gf_M_45 C dX6_draws_2 ?_
  refine y_ldcw (v := (1103515245 : Int32)) C q1930 dX6_draws_5 ?_
  refine y_imul C dX6_draws_8 ?_
  refine y_sipush (v := (12345 : Int32)) C dX6_draws_9 (by decide) ?_
  refine y_iadd C dX6_draws_12 ?_
  obtain ⟨σ1, hσ1, h⟩ := g_lt h
  refine pf_M_45 C hσ1 dX6_draws_13 ?_
  refine y_aload_n C dX6_draws_16 0 rfl rfl ?_
  refine gf_M_45 C dX6_draws_17 ?_
  refine y_bipush (v := (16 : Int32)) C dX6_draws_20 (by decide) ?_
  refine y_iushr C dX6_draws_22 rfl ?_
  refine y_iload_n C dX6_draws_23 1 rfl rfl ?_
  obtain ⟨hg, h⟩ := g_gd h
  refine y_irem C dX6_draws_24 hg ?_
  replace h := Option.some.inj h; subst h
  exact y_iret C hQ ⟨Nat.zero_le _, Nat.zero_le _⟩ dX6_draws_25
theorem ct_M_draws {D : va_G} {dA : Nat → ClassId} {A : Nat → Prop} {s0 : State} {b0 : Nat} {l : Launch} {hid : Bool} {ad : Nat → Nat → Nat} {σ : g_S} {v1 : Int32} {r : Int32} {σ1 : g_S} (h : mF_M_draws σ v1 = some (r, σ1)) : g_Met gCl D dA A s0 b0 l yX6_draws cX6_draws 2 (some .int) 1 (0, 0) (gM hid) ad σ [.ref (ad 0 0), .int v1] (gM hid) ad σ1 (some (.int r)) :=
  g_Met.of pl_X6 (Nat.le_of_ble_eq_true rfl) (fun X C hQ hR _ _ hL _ es eb => mw_M_draws C hR hL h hQ)
theorem ml_M_years_30 {X : g_F} (C : g_M gCl X cX6_years RX6 (some .int)) (hR : g_R X = g_rm 9 0 0) (hL : g_nL X = 7) {ad : Nat → Nat → Nat} {σ : g_S} {v2 : Int32} (n : Nat) (v : (Int32 × g_S)) (e : g_S) (h : g_lp (fun v => mB_M_years_30 v.2 v2 v.1) n v = some e) (kx : g_Y gCl X (gM true) ad e (0, 0) 125 [(0, .ref (ad 0 0))] []) : g_Y gCl X (gM true) ad v.2 (0, 0) 30 [(0, .ref (ad 0 0)), (2, .int v2), (3, .int v.1)] [] := by
  refine g_loop (P := fun v => g_Y gCl X (gM true) ad v.2 (0, 0) 30 [(0, .ref (ad 0 0)), (2, .int v2), (3, .int v.1)] []) (T := fun e => g_Y gCl X (gM true) ad e (0, 0) 125 [(0, .ref (ad 0 0))] []) ?_ n v e h kx
  clear h kx
  clear n v e
  intro v o h kl kx
  obtain ⟨v3, σ⟩ := v
  have h : mB_M_years_30 σ v2 v3 = some o := h
  unfold mB_M_years_30 at h
  show g_Y gCl X (gM true) ad σ (0, 0) 30 [(0, .ref (ad 0 0)), (2, .int v2), (3, .int v3)] []
  refine y_iload_n C dX6_years_30 2 rfl rfl ?_
  refine y_iload_n C dX6_years_31 1 rfl rfl ?_
  refine y_icmp_ge (tgt := 125) C dX6_years_32 rfl (fun hc => ?_) (fun hc => ?_)
  · replace h := g_it h hc
    refine y_sub (vs2 := [(0, .ref (ad 0 0))]) [0] rfl ?_
    exact kx _ (Option.some.inj h).symm
  · replace h := g_if h hc
    refine y_aload_n C dX6_years_35 0 rfl rfl ?_
    refine y_iconst (v := (4 : Int32)) C dX6_years_36 (by decide) ?_
    obtain ⟨x6, σ5, hc, h⟩ := g_bp h
    refine y_callV C (As := [.int (4 : Int32)]) (rest := []) (hu := nM_0_0) (hc := (rfl : gCl[5]? = some (RX6, TX6, 49))) (hcell := obM_0) (lk_X6_475 C hR (by decide)) (ct_M_draws hc) rfl rfl (Nat.le_of_ble_eq_true rfl) ⟨Nat.zero_le _, Nat.zero_le _⟩ dX6_years_37 ?_
    refine y_istore (vs1 := [(4, .int x6), (0, .ref (ad 0 0)), (2, .int v2), (3, .int v3)]) C rfl dX6_years_40 (g_lL hL rfl) rfl ?_
    refine y_iload C dX6_years_42 0 rfl ?_
    refine y_iconst (v := (2 : Int32)) C dX6_years_44 (by decide) ?_
    refine y_icmp_ge (tgt := 59) C dX6_years_45 rfl (fun hc => ?_) (fun hc => ?_)
    · replace h := g_it h hc
      refine y_aload_n C dX6_years_59 1 rfl rfl ?_
      refine gf_M_5 C dX6_years_60 ?_
      refine y_if_le (tgt := 119) C dX6_years_63 rfl (fun hc => ?_) (fun hc => ?_)
      · replace h := g_it h hc
        obtain ⟨x7, hx7, h⟩ := g_lt h
        refine y_iinc (c := (1 : Int32)) (vs1 := [(3, .int x7), (4, .int x6), (0, .ref (ad 0 0)), (2, .int v2)]) C hx7 (by decide) dX6_years_119 3 rfl (g_lL hL rfl) rfl ?_
        refine y_goto (tgt := 30) C dX6_years_122 rfl ?_
        refine y_sub (vs2 := [(0, .ref (ad 0 0)), (2, .int v2), (3, .int x7)]) [2, 3, 0] rfl ?_
        exact kl _ (Option.some.inj h).symm
      · replace h := g_if h hc
        refine y_aload_n C dX6_years_66 1 rfl rfl ?_
        refine y_aload_n C dX6_years_67 1 rfl rfl ?_
        refine gf_M_5 C dX6_years_68 ?_
        obtain ⟨x9, σ8, hc, h⟩ := g_bp h
        refine y_callV C (As := [.int (σ5.1 0 0 5)]) (rest := []) (hu := nM_0_0) (hc := (rfl : gCl[5]? = some (RX6, TX6, 49))) (hcell := obM_0) (lk_X6_475 C hR (by decide)) (ct_M_draws hc) rfl rfl (Nat.le_of_ble_eq_true rfl) ⟨Nat.zero_le _, Nat.zero_le _⟩ dX6_years_71 ?_
        refine y_istore (vs1 := [(5, .int x9), (4, .int x6), (0, .ref (ad 0 0)), (2, .int v2), (3, .int v3)]) C rfl dX6_years_74 (g_lL hL rfl) rfl ?_
        refine y_aload_n C dX6_years_76 2 rfl rfl ?_
        refine y_bipush (v := (8 : Int32)) C dX6_years_77 (by decide) ?_
        obtain ⟨x11, σ10, hc, h⟩ := g_bp h
        refine y_callV C (As := [.int (8 : Int32)]) (rest := []) (hu := nM_0_0) (hc := (rfl : gCl[5]? = some (RX6, TX6, 49))) (hcell := obM_0) (lk_X6_475 C hR (by decide)) (ct_M_draws hc) rfl rfl (Nat.le_of_ble_eq_true rfl) ⟨Nat.zero_le _, Nat.zero_le _⟩ dX6_years_79 ?_
        refine y_istore (vs1 := [(6, .int x11), (5, .int x9), (4, .int x6), (0, .ref (ad 0 0)), (2, .int v2), (3, .int v3)]) C rfl dX6_years_82 (g_lL hL rfl) rfl ?_
        refine y_iload C dX6_years_84 2 rfl ?_
        refine y_iconst (v := (2 : Int32)) C dX6_years_86 (by decide) ?_
        refine y_icmp_ne (tgt := 106) C dX6_years_87 rfl (fun hc => ?_) (fun hc => ?_)
        · replace h := g_if h hc
          refine y_aload_n C dX6_years_106 3 rfl rfl ?_
          refine y_aload_n C dX6_years_107 3 rfl rfl ?_
          refine gf_M_12 C dX6_years_108 ?_
          refine y_iload C dX6_years_111 1 rfl ?_
          refine y_iload C dX6_years_113 0 rfl ?_
          obtain ⟨x13, σ12, hc, h⟩ := g_bp h
          refine y_callV C (As := [.ref (ad 1 1), .int x9, .int x11]) (rest := []) (hu := nM_0_0) (hc := (rfl : gCl[5]? = some (RX6, TX6, 49))) (hcell := obM_0) (lk_X6_383 C hR (by decide)) (ct_M_stepsOne nM_1_1 hc) rfl rfl (Nat.le_of_ble_eq_true rfl) ⟨Nat.zero_le _, Nat.zero_le _⟩ dX6_years_115 ?_
          refine y_pop C dX6_years_118 rfl ?_
          obtain ⟨x14, hx14, h⟩ := g_lt h
          refine y_iinc (c := (1 : Int32)) (vs1 := [(3, .int x14), (6, .int x11), (5, .int x9), (4, .int x6), (0, .ref (ad 0 0)), (2, .int v2)]) C hx14 (by decide) dX6_years_119 5 rfl (g_lL hL rfl) rfl ?_
          refine y_goto (tgt := 30) C dX6_years_122 rfl ?_
          refine y_sub (vs2 := [(0, .ref (ad 0 0)), (2, .int v2), (3, .int x14)]) [4, 5, 0] rfl ?_
          exact kl _ (Option.some.inj h).symm
        · replace h := g_it h hc
          refine y_aload_n C dX6_years_90 3 rfl rfl ?_
          refine y_aload_n C dX6_years_91 3 rfl rfl ?_
          refine gf_M_12 C dX6_years_92 ?_
          refine y_iload C dX6_years_95 1 rfl ?_
          refine y_iload C dX6_years_97 0 rfl ?_
          obtain ⟨x16, σ15, hc, h⟩ := g_bp h
          refine y_callV C (As := [.ref (ad 1 1), .int x9, .int x11]) (rest := []) (hu := nM_0_0) (hc := (rfl : gCl[5]? = some (RX6, TX6, 49))) (hcell := obM_0) (lk_X6_377 C hR (by decide)) (ct_M_facesOne nM_1_1 hc) rfl rfl (Nat.le_of_ble_eq_true rfl) ⟨Nat.zero_le _, Nat.zero_le _⟩ dX6_years_99 ?_
          refine y_pop C dX6_years_102 rfl ?_
          refine y_goto (tgt := 119) C dX6_years_103 rfl ?_
          obtain ⟨x17, hx17, h⟩ := g_lt h
          refine y_iinc (c := (1 : Int32)) (vs1 := [(3, .int x17), (6, .int x11), (5, .int x9), (4, .int x6), (0, .ref (ad 0 0)), (2, .int v2)]) C hx17 (by decide) dX6_years_119 5 rfl (g_lL hL rfl) rfl ?_
          refine y_goto (tgt := 30) C dX6_years_122 rfl ?_
          refine y_sub (vs2 := [(0, .ref (ad 0 0)), (2, .int v2), (3, .int x17)]) [4, 5, 0] rfl ?_
          exact kl _ (Option.some.inj h).symm
    · replace h := g_if h hc
      refine y_aload_n C dX6_years_48 1 rfl rfl ?_
      refine y_aload_n C dX6_years_49 1 rfl rfl ?_
      refine gf_M_12 C dX6_years_50 ?_
      obtain ⟨σ18, hc, h⟩ := g_bd h
      refine y_callVv C (As := [.ref (ad 1 1)]) (rest := []) (hu := nM_0_0) (hc := (rfl : gCl[5]? = some (RX6, TX6, 49))) (hcell := obM_0) (lk_X6_347 C hR (by decide)) (ct_M_hourGoes nM_1_1 hc) rfl rfl (Nat.le_of_ble_eq_true rfl) ⟨Nat.zero_le _, Nat.zero_le _⟩ dX6_years_53 ?_
      refine y_goto (tgt := 119) C dX6_years_56 rfl ?_
      obtain ⟨x19, hx19, h⟩ := g_lt h
      refine y_iinc (c := (1 : Int32)) (vs1 := [(3, .int x19), (4, .int x6), (0, .ref (ad 0 0)), (2, .int v2)]) C hx19 (by decide) dX6_years_119 3 rfl (g_lL hL rfl) rfl ?_
      refine y_goto (tgt := 30) C dX6_years_122 rfl ?_
      refine y_sub (vs2 := [(0, .ref (ad 0 0)), (2, .int v2), (3, .int x19)]) [2, 3, 0] rfl ?_
      exact kl _ (Option.some.inj h).symm
theorem ml_M_years_130 {X : g_F} (C : g_M gCl X cX6_years RX6 (some .int)) (hR : g_R X = g_rm 9 0 0) (hL : g_nL X = 7) {ad : Nat → Nat → Nat} {σ : g_S} (n : Nat) (v : (Int32 × Int32)) (e : Int32) (h : g_lp (fun v => mB_M_years_130 σ v.1 v.2) n v = some e) (kx : g_Y gCl X (gM true) ad σ (0, 0) 158 [(0, .ref (ad 0 0)), (3, .int e)] []) : g_Y gCl X (gM true) ad σ (0, 0) 130 [(0, .ref (ad 0 0)), (3, .int v.1), (4, .int v.2)] [] := by
  refine g_loop (P := fun v => g_Y gCl X (gM true) ad σ (0, 0) 130 [(0, .ref (ad 0 0)), (3, .int v.1), (4, .int v.2)] []) (T := fun e => g_Y gCl X (gM true) ad σ (0, 0) 158 [(0, .ref (ad 0 0)), (3, .int e)] []) ?_ n v e h kx
  clear h kx
  clear n v e
  intro v o h kl kx
  obtain ⟨v3, v4⟩ := v
  have h : mB_M_years_130 σ v3 v4 = some o := h
  unfold mB_M_years_130 at h
  show g_Y gCl X (gM true) ad σ (0, 0) 130 [(0, .ref (ad 0 0)), (3, .int v3), (4, .int v4)] []
  refine y_iload C dX6_years_130 2 rfl ?_
  refine y_aload_n C dX6_years_132 0 rfl rfl ?_
  refine gf_M_5 C dX6_years_133 ?_
  refine y_icmp_ge (tgt := 158) C dX6_years_136 rfl (fun hc => ?_) (fun hc => ?_)
  · replace h := g_it h hc
    refine y_sub (vs2 := [(0, .ref (ad 0 0)), (3, .int v3)]) [0, 1] rfl ?_
    exact kx _ (Option.some.inj h).symm
  · replace h := g_if h hc
    refine y_iload_n C dX6_years_139 1 rfl rfl ?_
    refine y_aload_n C dX6_years_140 0 rfl rfl ?_
    refine gf_M_12 C dX6_years_141 ?_
    refine y_bipush (v := (16 : Int32)) C dX6_years_144 (by decide) ?_
    refine y_iload C dX6_years_146 2 rfl ?_
    refine y_iadd C dX6_years_148 ?_
    obtain ⟨hg, h⟩ := g_gd h
    refine al_M_1 C nM_1_1 hg dX6_years_149 ?_
    refine y_iadd C dX6_years_150 ?_
    obtain ⟨x21, hx21, h⟩ := g_lt h
    refine y_istore_n (vs1 := [(3, .int x21), (0, .ref (ad 0 0)), (4, .int v4)]) C hx21 dX6_years_151 rfl (g_lL hL rfl) rfl ?_
    obtain ⟨x22, hx22, h⟩ := g_lt h
    refine y_iinc (c := (1 : Int32)) (vs1 := [(4, .int x22), (3, .int x21), (0, .ref (ad 0 0))]) C hx22 (by decide) dX6_years_152 2 rfl (g_lL hL rfl) rfl ?_
    refine y_goto (tgt := 130) C dX6_years_155 rfl ?_
    refine y_sub (vs2 := [(0, .ref (ad 0 0)), (3, .int x21), (4, .int x22)]) [2, 1, 0] rfl ?_
    exact kl _ (Option.some.inj h).symm
theorem mw_M_years {X : g_F} (C : g_M gCl X cX6_years RX6 (some .int)) (hR : g_R X = g_rm 9 0 0) (hL : g_nL X = 7) {ad : Nat → Nat → Nat} {σ : g_S} {v1 : Int32} {v2 : Int32} {o : (Int32 × g_S)} (h : mF_M_years σ v1 v2 = some o) (hQ : g_MQ gCl X (gM true) ad o.2 (some (.int o.1)) = g_Q X) : g_Y gCl X (gM true) ad σ (0, 0) 0 [(0, .ref (ad 0 0)), (1, .int v1), (2, .int v2)] [] := by
  unfold mF_M_years at h
  refine y_aload_n C dX6_years_0 0 rfl rfl ?_
  refine y_iconst (v := (0 : Int32)) C dX6_years_1 (by decide) ?_
  obtain ⟨σ1, hσ1, h⟩ := g_lt h
  refine pf_M_0 C hσ1 dX6_years_2 ?_
  refine y_iload_n C dX6_years_5 2 rfl rfl ?_
  refine y_i2l C dX6_years_6 ?_
  refine y_lconst (v := (1 : Int64)) C dX6_years_7 (by decide) ?_
  refine y_ldc2 (v := (60 : Int64)) C q1663 dX6_years_8 ?_
  obtain ⟨x2, hc, h⟩ := g_bd h
  refine y_callS C (As := [.long (v2.toInt64), .long (1 : Int64), .long (60 : Int64)]) (rest := []) (lk_X6_126 C hR (by decide)) (ct_M_in hc) rfl rfl (Nat.le_of_ble_eq_true rfl) ⟨Nat.zero_le _, Nat.zero_le _⟩ dX6_years_11 ?_
  refine y_if_ne (tgt := 19) C dX6_years_14 rfl (fun hc => ?_) (fun hc => ?_)
  · replace h := g_if h hc
    refine y_aload_n C dX6_years_19 0 rfl rfl ?_
    refine y_iload_n C dX6_years_20 1 rfl rfl ?_
    obtain ⟨σ3, hσ3, h⟩ := g_lt h
    refine pf_M_45 C hσ3 dX6_years_21 ?_
    refine y_aload_n C dX6_years_24 0 rfl rfl ?_
    obtain ⟨σ4, hc, h⟩ := g_bd h
    refine y_callVv C (As := []) (rest := []) (hu := nM_0_0) (hc := (rfl : gCl[5]? = some (RX6, TX6, 49))) (hcell := obM_0) (lk_X6_424 C hR (by decide)) (ct_M_copies hc) rfl rfl (Nat.le_of_ble_eq_true rfl) ⟨Nat.zero_le _, Nat.zero_le _⟩ dX6_years_25 ?_
    refine y_iconst (v := (0 : Int32)) C dX6_years_28 (by decide) ?_
    refine y_istore_n (vs1 := [(3, .int (0 : Int32)), (0, .ref (ad 0 0)), (1, .int v1), (2, .int v2)]) C rfl dX6_years_29 rfl (g_lL hL rfl) rfl ?_
    refine y_sub (vs2 := [(0, .ref (ad 0 0)), (2, .int v2), (3, .int (0 : Int32))]) [1, 3, 0] rfl ?_
    obtain ⟨e20, he20, h⟩ := g_bd h
    refine ml_M_years_30 C hR hL (σ := σ4) _ _ _ he20 ?_
    refine y_iconst (v := (0 : Int32)) C dX6_years_125 (by decide) ?_
    refine y_istore_n (vs1 := [(3, .int (0 : Int32)), (0, .ref (ad 0 0))]) C rfl dX6_years_126 rfl (g_lL hL rfl) rfl ?_
    refine y_iconst (v := (0 : Int32)) C dX6_years_127 (by decide) ?_
    refine y_istore (vs1 := [(4, .int (0 : Int32)), (3, .int (0 : Int32)), (0, .ref (ad 0 0))]) C rfl dX6_years_128 (g_lL hL rfl) rfl ?_
    refine y_sub (vs2 := [(0, .ref (ad 0 0)), (3, .int (0 : Int32)), (4, .int (0 : Int32))]) [2, 1, 0] rfl ?_
    obtain ⟨e23, he23, h⟩ := g_bd h
    refine ml_M_years_130 C hR hL (σ := e20) _ _ _ he23 ?_
    refine y_aload_n C dX6_years_158 0 rfl rfl ?_
    refine y_iconst (v := (0 : Int32)) C dX6_years_159 (by decide) ?_
    obtain ⟨σ24, hσ24, h⟩ := g_lt h
    refine pf_M_1 C hσ24 dX6_years_160 ?_
    refine y_aload_n C dX6_years_163 0 rfl rfl ?_
    refine y_aload_n C dX6_years_164 0 rfl rfl ?_
    refine y_aload_n C dX6_years_165 0 rfl rfl ?_
    refine gf_M_12 C dX6_years_166 ?_
    obtain ⟨x25, hc, h⟩ := g_bd h
    refine y_callV C (As := [.ref (ad 1 1)]) (rest := [.ref (ad 0 0)]) (hu := nM_0_0) (hc := (rfl : gCl[5]? = some (RX6, TX6, 49))) (hcell := obM_0) (lk_X6_417 C hR (by decide)) (ct_M_allSeen nM_1_1 hc) rfl rfl (Nat.le_of_ble_eq_true rfl) ⟨Nat.zero_le _, Nat.zero_le _⟩ dX6_years_169 ?_
    obtain ⟨x26, hc, h⟩ := g_bd h
    refine y_callS C (As := [.long x25]) (rest := [.ref (ad 0 0)]) (lk_X6_405 C hR (by decide)) (ct_J12_bitCount hc) rfl rfl (Nat.le_of_ble_eq_true rfl) ⟨Nat.zero_le _, Nat.zero_le _⟩ dX6_years_172 ?_
    refine y_i2l C dX6_years_175 ?_
    obtain ⟨σ27, hc, h⟩ := g_bd h
    refine y_callVv C (As := [.long (x26.toInt64)]) (rest := []) (hu := nM_0_0) (hc := (rfl : gCl[5]? = some (RX6, TX6, 49))) (hcell := obM_0) (lk_X6_373 C hR (by decide)) (ct_M_enters hc) rfl rfl (Nat.le_of_ble_eq_true rfl) ⟨Nat.zero_le _, Nat.zero_le _⟩ dX6_years_176 ?_
    refine y_aload_n C dX6_years_179 0 rfl rfl ?_
    refine y_iload_n C dX6_years_180 1 rfl rfl ?_
    refine y_i2l C dX6_years_181 ?_
    obtain ⟨σ28, hc, h⟩ := g_bd h
    refine y_callVv C (As := [.long (e23.toInt64)]) (rest := []) (hu := nM_0_0) (hc := (rfl : gCl[5]? = some (RX6, TX6, 49))) (hcell := obM_0) (lk_X6_373 C hR (by decide)) (ct_M_enters hc) rfl rfl (Nat.le_of_ble_eq_true rfl) ⟨Nat.zero_le _, Nat.zero_le _⟩ dX6_years_182 ?_
    refine y_aload_n C dX6_years_185 0 rfl rfl ?_
    refine y_aload_n C dX6_years_186 0 rfl rfl ?_
    refine gf_M_12 C dX6_years_187 ?_
    obtain ⟨x29, hc, h⟩ := g_bd h
    refine y_callV C (As := [.ref (ad 1 1)]) (rest := []) (hu := nM_0_0) (hc := (rfl : gCl[5]? = some (RX6, TX6, 49))) (hcell := obM_0) (lk_X6_366 C hR (by decide)) (ct_M_known nM_1_1 hc) rfl rfl (Nat.le_of_ble_eq_true rfl) ⟨Nat.zero_le _, Nat.zero_le _⟩ dX6_years_190 ?_
    replace h := Option.some.inj h; subst h
    exact y_iret C hQ ⟨Nat.zero_le _, Nat.zero_le _⟩ dX6_years_193
  · replace h := g_it h hc
    refine y_iconst (v := (-1 : Int32)) C dX6_years_17 (by decide) ?_
    replace h := Option.some.inj h; subst h
    exact y_iret C hQ ⟨Nat.zero_le _, Nat.zero_le _⟩ dX6_years_18
theorem ct_M_years {D : va_G} {dA : Nat → ClassId} {A : Nat → Prop} {s0 : State} {b0 : Nat} {l : Launch} {ad : Nat → Nat → Nat} {σ : g_S} {v1 : Int32} {v2 : Int32} {r : Int32} {σ1 : g_S} (h : mF_M_years σ v1 v2 = some (r, σ1)) : g_Met gCl D dA A s0 b0 l yX6_years cX6_years 7 (some .int) 9 (0, 0) (gM true) ad σ [.ref (ad 0 0), .int v1, .int v2] (gM true) ad σ1 (some (.int r)) :=
  g_Met.of pl_X6 (Nat.le_of_ble_eq_true rfl) (fun X C hQ hR _ _ hL _ es eb => mw_M_years C hR hL h hQ)
theorem ml_M_keep_38 {X : g_F} {hid : Bool} (C : g_M gCl X cX6_keep RX6 (some .boolean)) (hR : g_R X = g_rm 2 0 0) (hL : g_nL X = 3) {ad : Nat → Nat → Nat} {σ : g_S} {v1 : Int32} (n : Nat) (v : (Int32 × g_S)) (e : g_S) (h : g_lp (fun v => mB_M_keep_38 v.2 v1 v.1) n v = some e) (kx : g_Y gCl X (gM hid) ad e (0, 0) 67 [] []) : g_Y gCl X (gM hid) ad v.2 (0, 0) 38 [(0, .ref (ad 0 0)), (1, .int v1), (2, .int v.1)] [] := by
  refine g_loop (P := fun v => g_Y gCl X (gM hid) ad v.2 (0, 0) 38 [(0, .ref (ad 0 0)), (1, .int v1), (2, .int v.1)] []) (T := fun e => g_Y gCl X (gM hid) ad e (0, 0) 67 [] []) ?_ n v e h kx
  clear h kx
  clear n v e
  intro v o h kl kx
  obtain ⟨v2, σ⟩ := v
  have h : mB_M_keep_38 σ v1 v2 = some o := h
  unfold mB_M_keep_38 at h
  show g_Y gCl X (gM hid) ad σ (0, 0) 38 [(0, .ref (ad 0 0)), (1, .int v1), (2, .int v2)] []
  refine y_iload_n C dX6_keep_38 2 rfl rfl ?_
  refine y_bipush (v := (41 : Int32)) C dX6_keep_39 (by decide) ?_
  refine y_icmp_ge (tgt := 67) C dX6_keep_41 rfl (fun hc => ?_) (fun hc => ?_)
  · replace h := g_it h hc
    refine y_sub (vs2 := []) [] rfl ?_
    exact kx _ (Option.some.inj h).symm
  · replace h := g_if h hc
    refine y_aload_n C dX6_keep_44 0 rfl rfl ?_
    refine gf_M_48 C dX6_keep_45 ?_
    refine y_bipush (v := (41 : Int32)) C dX6_keep_48 (by decide) ?_
    refine y_iload_n C dX6_keep_50 1 rfl rfl ?_
    refine y_imul C dX6_keep_51 ?_
    refine y_iload_n C dX6_keep_52 2 rfl rfl ?_
    refine y_iadd C dX6_keep_53 ?_
    refine y_aload_n C dX6_keep_54 0 rfl rfl ?_
    refine gf_M_11 C dX6_keep_55 ?_
    refine y_iload_n C dX6_keep_58 2 rfl rfl ?_
    obtain ⟨hg, h⟩ := g_gd h
    refine al_M_1 C nM_1_0 hg dX6_keep_59 ?_
    obtain ⟨hg, h⟩ := g_gd h
    obtain ⟨σ5, hσ5, h⟩ := g_lt h
    refine as_M_27 C nM_27_0 hσ5 hg dX6_keep_60 ?_
    obtain ⟨x6, hx6, h⟩ := g_lt h
    refine y_iinc (c := (1 : Int32)) (vs1 := [(2, .int x6), (0, .ref (ad 0 0)), (1, .int v1)]) C hx6 (by decide) dX6_keep_61 2 rfl (g_lL hL rfl) rfl ?_
    refine y_goto (tgt := 38) C dX6_keep_64 rfl ?_
    refine y_sub (vs2 := [(0, .ref (ad 0 0)), (1, .int v1), (2, .int x6)]) [1, 2, 0] rfl ?_
    exact kl _ (Option.some.inj h).symm
theorem mw_M_keep {X : g_F} {hid : Bool} (C : g_M gCl X cX6_keep RX6 (some .boolean)) (hR : g_R X = g_rm 2 0 0) (hL : g_nL X = 3) {ad : Nat → Nat → Nat} {σ : g_S} {v1 : Int32} {o : (Int32 × g_S)} (h : mF_M_keep σ v1 = some o) (hQ : g_MQ gCl X (gM hid) ad o.2 (some (.int o.1)) = g_Q X) : g_Y gCl X (gM hid) ad σ (0, 0) 0 [(0, .ref (ad 0 0)), (1, .int v1)] [] := by
  unfold mF_M_keep at h
  refine y_aload_n C dX6_keep_0 0 rfl rfl ?_
  refine y_iconst (v := (0 : Int32)) C dX6_keep_1 (by decide) ?_
  obtain ⟨σ1, hσ1, h⟩ := g_lt h
  refine pf_M_0 C hσ1 dX6_keep_2 ?_
  refine y_iload_n C dX6_keep_5 1 rfl rfl ?_
  refine y_i2l C dX6_keep_6 ?_
  refine y_lconst (v := (0 : Int64)) C dX6_keep_7 (by decide) ?_
  refine y_ldc2 (v := (2 : Int64)) C q1637 dX6_keep_8 ?_
  obtain ⟨x2, hc, h⟩ := g_bd h
  refine y_callS C (As := [.long (v1.toInt64), .long (0 : Int64), .long (2 : Int64)]) (rest := []) (lk_X6_126 C hR (by decide)) (ct_M_in hc) rfl rfl (Nat.le_of_ble_eq_true rfl) ⟨Nat.zero_le _, Nat.zero_le _⟩ dX6_keep_11 ?_
  refine y_if_ne (tgt := 19) C dX6_keep_14 rfl (fun hc => ?_) (fun hc => ?_)
  · replace h := g_if h hc
    refine y_aload_n C dX6_keep_19 0 rfl rfl ?_
    refine gf_M_46 C dX6_keep_20 ?_
    refine y_iload_n C dX6_keep_23 1 rfl rfl ?_
    refine y_iconst (v := (1 : Int32)) C dX6_keep_24 (by decide) ?_
    obtain ⟨hg, h⟩ := g_gd h
    obtain ⟨σ3, hσ3, h⟩ := g_lt h
    refine as_M_25 C nM_25_0 hσ3 hg dX6_keep_25 ?_
    refine y_aload_n C dX6_keep_26 0 rfl rfl ?_
    refine gf_M_47 C dX6_keep_27 ?_
    refine y_iload_n C dX6_keep_30 1 rfl rfl ?_
    refine y_aload_n C dX6_keep_31 0 rfl rfl ?_
    refine gf_M_7 C dX6_keep_32 ?_
    obtain ⟨hg, h⟩ := g_gd h
    obtain ⟨σ4, hσ4, h⟩ := g_lt h
    refine as_M_26 C nM_26_0 hσ4 hg dX6_keep_35 ?_
    refine y_iconst (v := (0 : Int32)) C dX6_keep_36 (by decide) ?_
    refine y_istore_n (vs1 := [(2, .int (0 : Int32)), (0, .ref (ad 0 0)), (1, .int v1)]) C rfl dX6_keep_37 rfl (g_lL hL rfl) rfl ?_
    refine y_sub (vs2 := [(0, .ref (ad 0 0)), (1, .int v1), (2, .int (0 : Int32))]) [1, 2, 0] rfl ?_
    obtain ⟨e7, he7, h⟩ := g_bd h
    refine ml_M_keep_38 C hR hL (σ := σ4) _ _ _ he7 ?_
    refine y_iconst (v := (1 : Int32)) C dX6_keep_67 (by decide) ?_
    replace h := Option.some.inj h; subst h
    exact y_zret C (by decide) hQ ⟨Nat.zero_le _, Nat.zero_le _⟩ dX6_keep_68
  · replace h := g_it h hc
    refine y_iconst (v := (0 : Int32)) C dX6_keep_17 (by decide) ?_
    replace h := Option.some.inj h; subst h
    exact y_zret C (by decide) hQ ⟨Nat.zero_le _, Nat.zero_le _⟩ dX6_keep_18
theorem ct_M_keep {D : va_G} {dA : Nat → ClassId} {A : Nat → Prop} {s0 : State} {b0 : Nat} {l : Launch} {hid : Bool} {ad : Nat → Nat → Nat} {σ : g_S} {v1 : Int32} {r : Int32} {σ1 : g_S} (h : mF_M_keep σ v1 = some (r, σ1)) : g_Met gCl D dA A s0 b0 l yX6_keep cX6_keep 3 (some .boolean) 2 (0, 0) (gM hid) ad σ [.ref (ad 0 0), .int v1] (gM hid) ad σ1 (some (.int r)) :=
  g_Met.of pl_X6 (Nat.le_of_ble_eq_true rfl) (fun X C hQ hR _ _ hL _ es eb => mw_M_keep C hR hL h hQ)
theorem ml_M_again_43 {X : g_F} {hid : Bool} (C : g_M gCl X cX6_again RX6 (some .boolean)) (hR : g_R X = g_rm 2 0 0) (hL : g_nL X = 3) {ad : Nat → Nat → Nat} {σ : g_S} {v1 : Int32} (n : Nat) (v : (Int32 × g_S)) (e : g_S) (h : g_lp (fun v => mB_M_again_43 v.2 v1 v.1) n v = some e) (kx : g_Y gCl X (gM hid) ad e (0, 0) 72 [(0, .ref (ad 0 0))] []) : g_Y gCl X (gM hid) ad v.2 (0, 0) 43 [(0, .ref (ad 0 0)), (1, .int v1), (2, .int v.1)] [] := by
  refine g_loop (P := fun v => g_Y gCl X (gM hid) ad v.2 (0, 0) 43 [(0, .ref (ad 0 0)), (1, .int v1), (2, .int v.1)] []) (T := fun e => g_Y gCl X (gM hid) ad e (0, 0) 72 [(0, .ref (ad 0 0))] []) ?_ n v e h kx
  clear h kx
  clear n v e
  intro v o h kl kx
  obtain ⟨v2, σ⟩ := v
  have h : mB_M_again_43 σ v1 v2 = some o := h
  unfold mB_M_again_43 at h
  show g_Y gCl X (gM hid) ad σ (0, 0) 43 [(0, .ref (ad 0 0)), (1, .int v1), (2, .int v2)] []
  refine y_iload_n C dX6_again_43 2 rfl rfl ?_
  refine y_bipush (v := (41 : Int32)) C dX6_again_44 (by decide) ?_
  refine y_icmp_ge (tgt := 72) C dX6_again_46 rfl (fun hc => ?_) (fun hc => ?_)
  · replace h := g_it h hc
    refine y_sub (vs2 := [(0, .ref (ad 0 0))]) [0] rfl ?_
    exact kx _ (Option.some.inj h).symm
  · replace h := g_if h hc
    refine y_aload_n C dX6_again_49 0 rfl rfl ?_
    refine gf_M_11 C dX6_again_50 ?_
    refine y_iload_n C dX6_again_53 2 rfl rfl ?_
    refine y_aload_n C dX6_again_54 0 rfl rfl ?_
    refine gf_M_48 C dX6_again_55 ?_
    refine y_bipush (v := (41 : Int32)) C dX6_again_58 (by decide) ?_
    refine y_iload_n C dX6_again_60 1 rfl rfl ?_
    refine y_imul C dX6_again_61 ?_
    refine y_iload_n C dX6_again_62 2 rfl rfl ?_
    refine y_iadd C dX6_again_63 ?_
    obtain ⟨hg, h⟩ := g_gd h
    refine al_M_27 C nM_27_0 hg dX6_again_64 ?_
    obtain ⟨hg, h⟩ := g_gd h
    obtain ⟨σ3, hσ3, h⟩ := g_lt h
    refine as_M_1 C nM_1_0 hσ3 hg dX6_again_65 ?_
    obtain ⟨x4, hx4, h⟩ := g_lt h
    refine y_iinc (c := (1 : Int32)) (vs1 := [(2, .int x4), (0, .ref (ad 0 0)), (1, .int v1)]) C hx4 (by decide) dX6_again_66 2 rfl (g_lL hL rfl) rfl ?_
    refine y_goto (tgt := 43) C dX6_again_69 rfl ?_
    refine y_sub (vs2 := [(0, .ref (ad 0 0)), (1, .int v1), (2, .int x4)]) [1, 2, 0] rfl ?_
    exact kl _ (Option.some.inj h).symm
theorem mw_M_again {X : g_F} {hid : Bool} (C : g_M gCl X cX6_again RX6 (some .boolean)) (hR : g_R X = g_rm 2 0 0) (hL : g_nL X = 3) {ad : Nat → Nat → Nat} {σ : g_S} {v1 : Int32} {o : (Int32 × g_S)} (h : mF_M_again σ v1 = some o) (hQ : g_MQ gCl X (gM hid) ad o.2 (some (.int o.1)) = g_Q X) : g_Y gCl X (gM hid) ad σ (0, 0) 0 [(0, .ref (ad 0 0)), (1, .int v1)] [] := by
  unfold mF_M_again at h
  refine y_aload_n C dX6_again_0 0 rfl rfl ?_
  refine y_iconst (v := (0 : Int32)) C dX6_again_1 (by decide) ?_
  obtain ⟨σ1, hσ1, h⟩ := g_lt h
  refine pf_M_0 C hσ1 dX6_again_2 ?_
  refine y_iload_n C dX6_again_5 1 rfl rfl ?_
  refine y_i2l C dX6_again_6 ?_
  refine y_lconst (v := (0 : Int64)) C dX6_again_7 (by decide) ?_
  refine y_ldc2 (v := (2 : Int64)) C q1637 dX6_again_8 ?_
  obtain ⟨x2, hc, h⟩ := g_bd h
  refine y_callS C (As := [.long (v1.toInt64), .long (0 : Int64), .long (2 : Int64)]) (rest := []) (lk_X6_126 C hR (by decide)) (ct_M_in hc) rfl rfl (Nat.le_of_ble_eq_true rfl) ⟨Nat.zero_le _, Nat.zero_le _⟩ dX6_again_11 ?_
  refine y_if_eq (tgt := 39) C dX6_again_14 rfl (fun hc => ?_) (fun hc => ?_)
  · replace h := g_it h hc
    refine y_iconst (v := (0 : Int32)) C dX6_again_39 (by decide) ?_
    replace h := Option.some.inj h; subst h
    exact y_zret C (by decide) hQ ⟨Nat.zero_le _, Nat.zero_le _⟩ dX6_again_40
  · replace h := g_if h hc
    refine y_aload_n C dX6_again_17 0 rfl rfl ?_
    refine gf_M_46 C dX6_again_18 ?_
    refine y_iload_n C dX6_again_21 1 rfl rfl ?_
    obtain ⟨hg, h⟩ := g_gd h
    refine al_M_25 C nM_25_0 hg dX6_again_22 ?_
    refine y_if_eq (tgt := 39) C dX6_again_23 rfl (fun hc => ?_) (fun hc => ?_)
    · replace h := g_it h hc
      refine y_iconst (v := (0 : Int32)) C dX6_again_39 (by decide) ?_
      replace h := Option.some.inj h; subst h
      exact y_zret C (by decide) hQ ⟨Nat.zero_le _, Nat.zero_le _⟩ dX6_again_40
    · replace h := g_if h hc
      refine y_aload_n C dX6_again_26 0 rfl rfl ?_
      refine gf_M_47 C dX6_again_27 ?_
      refine y_iload_n C dX6_again_30 1 rfl rfl ?_
      obtain ⟨hg, h⟩ := g_gd h
      refine al_M_26 C nM_26_0 hg dX6_again_31 ?_
      refine y_aload_n C dX6_again_32 0 rfl rfl ?_
      refine gf_M_7 C dX6_again_33 ?_
      refine y_icmp_eq (tgt := 41) C dX6_again_36 rfl (fun hc => ?_) (fun hc => ?_)
      · replace h := g_it h hc
        refine y_iconst (v := (0 : Int32)) C dX6_again_41 (by decide) ?_
        refine y_istore_n (vs1 := [(2, .int (0 : Int32)), (0, .ref (ad 0 0)), (1, .int v1)]) C rfl dX6_again_42 rfl (g_lL hL rfl) rfl ?_
        refine y_sub (vs2 := [(0, .ref (ad 0 0)), (1, .int v1), (2, .int (0 : Int32))]) [1, 2, 0] rfl ?_
        obtain ⟨e5, he5, h⟩ := g_bd h
        refine ml_M_again_43 C hR hL (σ := σ1) _ _ _ he5 ?_
        refine y_aload_n C dX6_again_72 0 rfl rfl ?_
        refine y_iconst (v := (0 : Int32)) C dX6_again_73 (by decide) ?_
        obtain ⟨σ6, hσ6, h⟩ := g_lt h
        refine pf_M_27 C hσ6 dX6_again_74 ?_
        refine y_iconst (v := (1 : Int32)) C dX6_again_77 (by decide) ?_
        replace h := Option.some.inj h; subst h
        exact y_zret C (by decide) hQ ⟨Nat.zero_le _, Nat.zero_le _⟩ dX6_again_78
      · replace h := g_if h hc
        refine y_iconst (v := (0 : Int32)) C dX6_again_39 (by decide) ?_
        replace h := Option.some.inj h; subst h
        exact y_zret C (by decide) hQ ⟨Nat.zero_le _, Nat.zero_le _⟩ dX6_again_40
theorem ct_M_again {D : va_G} {dA : Nat → ClassId} {A : Nat → Prop} {s0 : State} {b0 : Nat} {l : Launch} {hid : Bool} {ad : Nat → Nat → Nat} {σ : g_S} {v1 : Int32} {r : Int32} {σ1 : g_S} (h : mF_M_again σ v1 = some (r, σ1)) : g_Met gCl D dA A s0 b0 l yX6_again cX6_again 3 (some .boolean) 2 (0, 0) (gM hid) ad σ [.ref (ad 0 0), .int v1] (gM hid) ad σ1 (some (.int r)) :=
  g_Met.of pl_X6 (Nat.le_of_ble_eq_true rfl) (fun X C hQ hR _ _ hL _ es eb => mw_M_again C hR hL h hQ)
theorem mw_M_count {X : g_F} (C : g_M gCl X cX6_count RX6 (some .int)) (hR : g_R X = g_rm 7 0 0) (hL : g_nL X = 2) {ad : Nat → Nat → Nat} {σ : g_S} {v1 : Int32} {o : (Int32 × g_S)} (h : mF_M_count σ v1 = some o) (hQ : g_MQ gCl X (gM true) ad o.2 (some (.int o.1)) = g_Q X) : g_Y gCl X (gM true) ad σ (0, 0) 0 [(0, .ref (ad 0 0)), (1, .int v1)] [] := by
  unfold mF_M_count at h
  refine y_aload_n C dX6_count_0 0 rfl rfl ?_
  refine y_iconst (v := (0 : Int32)) C dX6_count_1 (by decide) ?_
  obtain ⟨σ1, hσ1, h⟩ := g_lt h
  refine pf_M_0 C hσ1 dX6_count_2 ?_
  refine y_iload_n C dX6_count_5 1 rfl rfl ?_
  by_cases hc0 : v1 = (0 : Int32)
  · replace h := g_it h hc0
    refine y_tswI (tgt := 72) (off := 66) C dX6_count_6 hc0 (by decide) rfl ?_
    refine y_aload_n C dX6_count_72 0 rfl rfl ?_
    refine gf_M_3 C dX6_count_73 ?_
    replace h := Option.some.inj h; subst h
    exact y_iret C hQ ⟨Nat.zero_le _, Nat.zero_le _⟩ dX6_count_76
  replace h := g_if h hc0
  by_cases hc1 : v1 = (1 : Int32)
  · replace h := g_it h hc1
    refine y_tswI (tgt := 77) (off := 71) C dX6_count_6 hc1 (by decide) rfl ?_
    refine y_aload_n C dX6_count_77 0 rfl rfl ?_
    refine gf_M_4 C dX6_count_78 ?_
    replace h := Option.some.inj h; subst h
    exact y_iret C hQ ⟨Nat.zero_le _, Nat.zero_le _⟩ dX6_count_81
  replace h := g_if h hc1
  by_cases hc2 : v1 = (2 : Int32)
  · replace h := g_it h hc2
    refine y_tswI (tgt := 82) (off := 76) C dX6_count_6 hc2 (by decide) rfl ?_
    refine y_aload_n C dX6_count_82 0 rfl rfl ?_
    refine gf_M_5 C dX6_count_83 ?_
    replace h := Option.some.inj h; subst h
    exact y_iret C hQ ⟨Nat.zero_le _, Nat.zero_le _⟩ dX6_count_86
  replace h := g_if h hc2
  by_cases hc3 : v1 = (3 : Int32)
  · replace h := g_it h hc3
    refine y_tswI (tgt := 87) (off := 81) C dX6_count_6 hc3 (by decide) rfl ?_
    refine y_aload_n C dX6_count_87 0 rfl rfl ?_
    refine gf_M_6 C dX6_count_88 ?_
    replace h := Option.some.inj h; subst h
    exact y_iret C hQ ⟨Nat.zero_le _, Nat.zero_le _⟩ dX6_count_91
  replace h := g_if h hc3
  by_cases hc4 : v1 = (4 : Int32)
  · replace h := g_it h hc4
    refine y_tswI (tgt := 92) (off := 86) C dX6_count_6 hc4 (by decide) rfl ?_
    refine y_aload_n C dX6_count_92 0 rfl rfl ?_
    refine gf_M_11 C dX6_count_93 ?_
    refine y_bipush (v := (40 : Int32)) C dX6_count_96 (by decide) ?_
    obtain ⟨hg, h⟩ := g_gd h
    refine al_M_1 C nM_1_0 hg dX6_count_98 ?_
    replace h := Option.some.inj h; subst h
    exact y_iret C hQ ⟨Nat.zero_le _, Nat.zero_le _⟩ dX6_count_99
  replace h := g_if h hc4
  by_cases hc5 : v1 = (5 : Int32)
  · replace h := g_it h hc5
    refine y_tswI (tgt := 100) (off := 94) C dX6_count_6 hc5 (by decide) rfl ?_
    refine y_aload_n C dX6_count_100 0 rfl rfl ?_
    refine y_aload_n C dX6_count_101 0 rfl rfl ?_
    refine gf_M_11 C dX6_count_102 ?_
    refine y_bipush (v := (40 : Int32)) C dX6_count_105 (by decide) ?_
    obtain ⟨hg, h⟩ := g_gd h
    refine al_M_1 C nM_1_0 hg dX6_count_107 ?_
    obtain ⟨x2, hc, h⟩ := g_bd h
    refine y_callV C (As := [.int (σ1.1 1 0 (40 : Int32).toNatClampNeg)]) (rest := []) (hu := nM_0_0) (hc := (rfl : gCl[5]? = some (RX6, TX6, 49))) (hcell := obM_0) (lk_X6_262 C hR (by decide)) (ct_M_lightOn hc) rfl rfl (Nat.le_of_ble_eq_true rfl) ⟨Nat.zero_le _, Nat.zero_le _⟩ dX6_count_108 ?_
    replace h := Option.some.inj h; subst h
    exact y_iret C hQ ⟨Nat.zero_le _, Nat.zero_le _⟩ dX6_count_111
  replace h := g_if h hc5
  by_cases hc6 : v1 = (6 : Int32)
  · replace h := g_it h hc6
    refine y_tswI (tgt := 112) (off := 106) C dX6_count_6 hc6 (by decide) rfl ?_
    refine y_aload_n C dX6_count_112 0 rfl rfl ?_
    refine y_aload_n C dX6_count_113 0 rfl rfl ?_
    refine gf_M_11 C dX6_count_114 ?_
    obtain ⟨x3, hc, h⟩ := g_bd h
    refine y_callV C (As := [.ref (ad 1 0)]) (rest := []) (hu := nM_0_0) (hc := (rfl : gCl[5]? = some (RX6, TX6, 49))) (hcell := obM_0) (lk_X6_366 C hR (by decide)) (ct_M_known nM_1_0 hc) rfl rfl (Nat.le_of_ble_eq_true rfl) ⟨Nat.zero_le _, Nat.zero_le _⟩ dX6_count_117 ?_
    replace h := Option.some.inj h; subst h
    exact y_iret C hQ ⟨Nat.zero_le _, Nat.zero_le _⟩ dX6_count_120
  replace h := g_if h hc6
  by_cases hc7 : v1 = (7 : Int32)
  · replace h := g_it h hc7
    refine y_tswI (tgt := 121) (off := 115) C dX6_count_6 hc7 (by decide) rfl ?_
    refine y_aload_n C dX6_count_121 0 rfl rfl ?_
    obtain ⟨x4, hc, h⟩ := g_bd h
    refine y_callV C (As := []) (rest := []) (hu := nM_0_0) (hc := (rfl : gCl[5]? = some (RX6, TX6, 49))) (hcell := obM_0) (lk_X6_122 C hR (by decide)) (ct_M_fields hc) rfl rfl (Nat.le_of_ble_eq_true rfl) ⟨Nat.zero_le _, Nat.zero_le _⟩ dX6_count_122 ?_
    refine y_aload_n C dX6_count_125 0 rfl rfl ?_
    obtain ⟨x5, hc, h⟩ := g_bd h
    refine y_callV C (As := []) (rest := [.int x4]) (hu := nM_0_0) (hc := (rfl : gCl[5]? = some (RX6, TX6, 49))) (hcell := obM_0) (lk_X6_413 C hR (by decide)) (ct_M_free hc) rfl rfl (Nat.le_of_ble_eq_true rfl) ⟨Nat.zero_le _, Nat.zero_le _⟩ dX6_count_126 ?_
    obtain ⟨x6, hc, h⟩ := g_bd h
    refine y_callS C (As := [.long x5]) (rest := [.int x4]) (lk_X6_405 C hR (by decide)) (ct_J12_bitCount hc) rfl rfl (Nat.le_of_ble_eq_true rfl) ⟨Nat.zero_le _, Nat.zero_le _⟩ dX6_count_129 ?_
    refine y_isub C dX6_count_132 ?_
    replace h := Option.some.inj h; subst h
    exact y_iret C hQ ⟨Nat.zero_le _, Nat.zero_le _⟩ dX6_count_133
  replace h := g_if h hc7
  by_cases hc8 : v1 = (8 : Int32)
  · replace h := g_it h hc8
    refine y_tswI (tgt := 134) (off := 128) C dX6_count_6 hc8 (by decide) rfl ?_
    refine y_aload_n C dX6_count_134 0 rfl rfl ?_
    refine y_aload_n C dX6_count_135 0 rfl rfl ?_
    refine gf_M_11 C dX6_count_136 ?_
    obtain ⟨x7, hc, h⟩ := g_bd h
    refine y_callV C (As := [.ref (ad 1 0)]) (rest := []) (hu := nM_0_0) (hc := (rfl : gCl[5]? = some (RX6, TX6, 49))) (hcell := obM_0) (lk_X6_417 C hR (by decide)) (ct_M_allSeen nM_1_0 hc) rfl rfl (Nat.le_of_ble_eq_true rfl) ⟨Nat.zero_le _, Nat.zero_le _⟩ dX6_count_139 ?_
    obtain ⟨x8, hc, h⟩ := g_bd h
    refine y_callS C (As := [.long x7]) (rest := []) (lk_X6_405 C hR (by decide)) (ct_J12_bitCount hc) rfl rfl (Nat.le_of_ble_eq_true rfl) ⟨Nat.zero_le _, Nat.zero_le _⟩ dX6_count_142 ?_
    replace h := Option.some.inj h; subst h
    exact y_iret C hQ ⟨Nat.zero_le _, Nat.zero_le _⟩ dX6_count_145
  replace h := g_if h hc8
  by_cases hc9 : v1 = (9 : Int32)
  · replace h := g_it h hc9
    refine y_tswI (tgt := 146) (off := 140) C dX6_count_6 hc9 (by decide) rfl ?_
    refine y_aload_n C dX6_count_146 0 rfl rfl ?_
    refine gf_M_39 C dX6_count_147 ?_
    replace h := Option.some.inj h; subst h
    exact y_iret C hQ ⟨Nat.zero_le _, Nat.zero_le _⟩ dX6_count_150
  replace h := g_if h hc9
  by_cases hc10 : v1 = (10 : Int32)
  · replace h := g_it h hc10
    refine y_tswI (tgt := 151) (off := 145) C dX6_count_6 hc10 (by decide) rfl ?_
    refine y_aload_n C dX6_count_151 0 rfl rfl ?_
    refine gf_M_27 C dX6_count_152 ?_
    replace h := Option.some.inj h; subst h
    exact y_iret C hQ ⟨Nat.zero_le _, Nat.zero_le _⟩ dX6_count_155
  replace h := g_if h hc10
  by_cases hc11 : v1 = (11 : Int32)
  · replace h := g_it h hc11
    refine y_tswI (tgt := 156) (off := 150) C dX6_count_6 hc11 (by decide) rfl ?_
    refine y_aload_n C dX6_count_156 0 rfl rfl ?_
    refine gf_M_1 C dX6_count_157 ?_
    replace h := Option.some.inj h; subst h
    exact y_iret C hQ ⟨Nat.zero_le _, Nat.zero_le _⟩ dX6_count_160
  replace h := g_if h hc11
  by_cases hc12 : v1 = (12 : Int32)
  · replace h := g_it h hc12
    refine y_tswI (tgt := 161) (off := 155) C dX6_count_6 hc12 (by decide) rfl ?_
    refine y_aload_n C dX6_count_161 0 rfl rfl ?_
    refine gf_M_14 C dX6_count_162 ?_
    replace h := Option.some.inj h; subst h
    exact y_iret C hQ ⟨Nat.zero_le _, Nat.zero_le _⟩ dX6_count_165
  replace h := g_if h hc12
  refine y_tswO (tgt := 166) C dX6_count_6 (by have e0 := lv_neT hc0 (show (0 : Int32).toInt = 0 by decide); have e1 := lv_neT hc1 (show (1 : Int32).toInt = 1 by decide); have e2 := lv_neT hc2 (show (2 : Int32).toInt = 2 by decide); have e3 := lv_neT hc3 (show (3 : Int32).toInt = 3 by decide); have e4 := lv_neT hc4 (show (4 : Int32).toInt = 4 by decide); have e5 := lv_neT hc5 (show (5 : Int32).toInt = 5 by decide); have e6 := lv_neT hc6 (show (6 : Int32).toInt = 6 by decide); have e7 := lv_neT hc7 (show (7 : Int32).toInt = 7 by decide); have e8 := lv_neT hc8 (show (8 : Int32).toInt = 8 by decide); have e9 := lv_neT hc9 (show (9 : Int32).toInt = 9 by decide); have e10 := lv_neT hc10 (show (10 : Int32).toInt = 10 by decide); have e11 := lv_neT hc11 (show (11 : Int32).toInt = 11 by decide); have e12 := lv_neT hc12 (show (12 : Int32).toInt = 12 by decide); omega) rfl ?_
  refine y_bipush (v := (-100 : Int32)) C dX6_count_166 (by decide) ?_
  replace h := Option.some.inj h; subst h
  exact y_iret C hQ ⟨Nat.zero_le _, Nat.zero_le _⟩ dX6_count_168
theorem ct_M_count {D : va_G} {dA : Nat → ClassId} {A : Nat → Prop} {s0 : State} {b0 : Nat} {l : Launch} {ad : Nat → Nat → Nat} {σ : g_S} {v1 : Int32} {r : Int32} {σ1 : g_S} (h : mF_M_count σ v1 = some (r, σ1)) : g_Met gCl D dA A s0 b0 l yX6_count cX6_count 2 (some .int) 7 (0, 0) (gM true) ad σ [.ref (ad 0 0), .int v1] (gM true) ad σ1 (some (.int r)) :=
  g_Met.of pl_X6 (Nat.le_of_ble_eq_true rfl) (fun X C hQ hR _ _ hL _ es eb => mw_M_count C hR hL h hQ)
theorem mw_M_row {X : g_F} {hid : Bool} (C : g_M gCl X cX6_row RX6 (some .long)) (hR : g_R X = g_rm 2 0 0) (hL : g_nL X = 2) {ad : Nat → Nat → Nat} {σ : g_S} {v1 : Int32} {o : (Int64 × g_S)} (h : mF_M_row σ v1 = some o) (hQ : g_MQ gCl X (gM hid) ad o.2 (some (.long o.1)) = g_Q X) : g_Y gCl X (gM hid) ad σ (0, 0) 0 [(0, .ref (ad 0 0)), (1, .int v1)] [] := by
  unfold mF_M_row at h
  refine y_aload_n C dX6_row_0 0 rfl rfl ?_
  refine y_iconst (v := (0 : Int32)) C dX6_row_1 (by decide) ?_
  obtain ⟨σ1, hσ1, h⟩ := g_lt h
  refine pf_M_0 C hσ1 dX6_row_2 ?_
  refine y_iload_n C dX6_row_5 1 rfl rfl ?_
  refine y_i2l C dX6_row_6 ?_
  refine y_lconst (v := (0 : Int64)) C dX6_row_7 (by decide) ?_
  refine y_aload_n C dX6_row_8 0 rfl rfl ?_
  refine gf_M_1 C dX6_row_9 ?_
  refine y_iconst (v := (1 : Int32)) C dX6_row_12 (by decide) ?_
  refine y_isub C dX6_row_13 ?_
  refine y_i2l C dX6_row_14 ?_
  obtain ⟨x2, hc, h⟩ := g_bd h
  refine y_callS C (As := [.long (v1.toInt64), .long (0 : Int64), .long (((σ1.1 0 0 1) - (1 : Int32)).toInt64)]) (rest := []) (lk_X6_126 C hR (by decide)) (ct_M_in hc) rfl rfl (Nat.le_of_ble_eq_true rfl) ⟨Nat.zero_le _, Nat.zero_le _⟩ dX6_row_15 ?_
  refine y_if_ne (tgt := 28) C dX6_row_18 rfl (fun hc => ?_) (fun hc => ?_)
  · replace h := g_if h hc
    refine y_aload_n C dX6_row_28 0 rfl rfl ?_
    refine gf_M_2 C dX6_row_29 ?_
    refine y_iload_n C dX6_row_32 1 rfl rfl ?_
    obtain ⟨hg, h⟩ := g_gd h
    refine al_M_2 C nM_2_0 hg dX6_row_33 ?_
    replace h := Option.some.inj h; subst h
    exact y_lret C hQ ⟨Nat.zero_le _, Nat.zero_le _⟩ dX6_row_34
  · replace h := g_it h hc
    refine y_aload_n C dX6_row_21 0 rfl rfl ?_
    refine y_iconst (v := (1 : Int32)) C dX6_row_22 (by decide) ?_
    obtain ⟨σ3, hσ3, h⟩ := g_lt h
    refine pf_M_0 C hσ3 dX6_row_23 ?_
    refine y_lconst (v := (0 : Int64)) C dX6_row_26 (by decide) ?_
    replace h := Option.some.inj h; subst h
    exact y_lret C hQ ⟨Nat.zero_le _, Nat.zero_le _⟩ dX6_row_27
theorem ct_M_row {D : va_G} {dA : Nat → ClassId} {A : Nat → Prop} {s0 : State} {b0 : Nat} {l : Launch} {hid : Bool} {ad : Nat → Nat → Nat} {σ : g_S} {v1 : Int32} {r : Int64} {σ1 : g_S} (h : mF_M_row σ v1 = some (r, σ1)) : g_Met gCl D dA A s0 b0 l yX6_row cX6_row 2 (some .long) 2 (0, 0) (gM hid) ad σ [.ref (ad 0 0), .int v1] (gM hid) ad σ1 (some (.long r)) :=
  g_Met.of pl_X6 (Nat.le_of_ble_eq_true rfl) (fun X C hQ hR _ _ hL _ es eb => mw_M_row C hR hL h hQ)
