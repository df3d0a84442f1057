set_option maxRecDepth 100000
theorem ct_C1_learns {D : va_G} {dA : Nat → ClassId} {A : Nat → Prop} {s0 : State} {b0 : Nat} {l : Launch} {ad : Nat → Nat → Nat} {σ : g_S} {v1 : Int32} {v2 : Int32} {r : Int32} {σ1 : g_S} (h : mF_C1_learns σ v1 v2 = some (r, σ1)) : g_Met gCl D dA A s0 b0 l yX1_learns cX1_learns 4 (some .int) 308 (0, 0) (gC true) ad σ [.ref (ad 0 0), .int v1, .int v2] (gC true) ad σ1 (some (.int r)) :=
  g_Met.of pl_X1 (Nat.le_of_ble_eq_true rfl) (fun X C hQ hR _ _ hL _ es eb => mw_C1_learns C hR hL h hQ)
theorem mw_C1_allThings {X : g_F} {hid : Bool} (C : g_M gCl X cX1_allThings RX1 (some .int)) (hR : g_R X = g_rm 1 0 0) (hL : g_nL X = 1) {ad : Nat → Nat → Nat} {σ : g_S} {o : Int32} (h : mF_C1_allThings σ = some o) (hQ : g_MQ gCl X (gC hid) ad σ (some (.int o)) = g_Q X) : g_Y gCl X (gC hid) ad σ (0, 0) 0 [(0, .ref (ad 0 0))] [] := by
  unfold mF_C1_allThings at h
  refine y_iconst (v := (1 : Int32)) C dX1_allThings_0 (by decide) ?_
  refine y_aload_n C dX1_allThings_1 0 rfl rfl ?_
  refine gf_C_X1_153_0 C nC_0_0 dX1_allThings_2 ?_
  refine y_ishl C dX1_allThings_5 ?_
  refine y_iconst (v := (1 : Int32)) C dX1_allThings_6 (by decide) ?_
  refine y_isub C dX1_allThings_7 ?_
  replace h := Option.some.inj h; subst h
  exact y_iret C hQ ⟨Nat.zero_le _, Nat.zero_le _⟩ dX1_allThings_8
theorem ct_C1_allThings {D : va_G} {dA : Nat → ClassId} {A : Nat → Prop} {s0 : State} {b0 : Nat} {l : Launch} {hid : Bool} {ad : Nat → Nat → Nat} {σ : g_S} {r : Int32} (h : mF_C1_allThings σ = some r) : g_Met gCl D dA A s0 b0 l yX1_allThings cX1_allThings 1 (some .int) 1 (0, 0) (gC hid) ad σ [.ref (ad 0 0)] (gC hid) ad σ (some (.int r)) :=
  g_Met.of pl_X1 (Nat.le_of_ble_eq_true rfl) (fun X C hQ hR _ _ hL _ es eb => mw_C1_allThings C hR hL h hQ)
theorem ml_C1_lacking_2 {X : g_F} {hid : Bool} (C : g_M gCl X cX1_lacking RX1 (some .int)) (hR : g_R X = g_rm 2 0 0) (hL : g_nL X = 3) {u0 : Nat} (hu_u0 : u0 < g_n (gC hid) 4) {ad : Nat → Nat → Nat} {σ : g_S} (n : Nat) (v : Int32) (e : (Int32 ⊕ Unit)) (h : g_lp (fun v => mB_C1_lacking_2 σ u0 v) n v = some e) (kx : (∀ y, e = .inl y → g_Y gCl X (gC hid) ad σ (0, 0) 23 [(2, .int y)] []) ∧ (∀ y, e = .inr y → g_Y gCl X (gC hid) ad σ (0, 0) 31 [] [])) : g_Y gCl X (gC hid) ad σ (0, 0) 2 [(0, .ref (ad 0 0)), (1, .ref (ad 4 u0)), (2, .int v)] [] := by
  refine g_loop (P := fun v => g_Y gCl X (gC hid) ad σ (0, 0) 2 [(0, .ref (ad 0 0)), (1, .ref (ad 4 u0)), (2, .int v)] []) (T := fun e => (∀ y, e = .inl y → g_Y gCl X (gC hid) ad σ (0, 0) 23 [(2, .int y)] []) ∧ (∀ y, e = .inr y → g_Y gCl X (gC hid) ad σ (0, 0) 31 [] [])) ?_ n v e h kx
  clear h kx
  clear n v e
  intro v o h kl kx
  obtain ⟨v2, rfl⟩ : ∃ z, z = v := ⟨_, rfl⟩
  have h : mB_C1_lacking_2 σ u0 v2 = some o := h
  unfold mB_C1_lacking_2 at h
  show g_Y gCl X (gC hid) ad σ (0, 0) 2 [(0, .ref (ad 0 0)), (1, .ref (ad 4 u0)), (2, .int v2)] []
  refine y_iload_n C dX1_lacking_2 2 rfl rfl ?_
  refine y_aload_n C dX1_lacking_3 0 rfl rfl ?_
  refine gf_C_X1_150_0 C nC_0_0 dX1_lacking_4 ?_
  refine y_icmp_ge (tgt := 31) C dX1_lacking_7 rfl (fun hc => ?_) (fun hc => ?_)
  · replace h := g_it h hc
    refine y_sub (vs2 := []) [] rfl ?_
    exact (kx _ (Option.some.inj h).symm).2 _ rfl
  · replace h := g_if h hc
    refine y_aload_n C dX1_lacking_10 1 rfl rfl ?_
    refine gf_C_X1_225_4 C hu_u0 dX1_lacking_11 ?_
    refine y_iload_n C dX1_lacking_14 2 rfl rfl ?_
    obtain ⟨hg, h⟩ := g_gd h
    refine al_C_8 C hu_u0 hg dX1_lacking_15 ?_
    refine y_aload_n C dX1_lacking_16 0 rfl rfl ?_
    obtain ⟨x1, hc, h⟩ := g_bd h
    refine y_callV C (As := []) (rest := [.int (σ.1 8 u0 v2.toNatClampNeg)]) (k := 0) (hu := nC_0_0) (hc := (rfl : gCl[0]? = some (RX1, TX1, 31))) (hcell := obC_0) (lk_X1_415_X1_l1 C hR (by decide)) (ct_C1_allThings hc) rfl rfl (Nat.le_of_ble_eq_true rfl) ⟨Nat.zero_le _, Nat.zero_le _⟩ dX1_lacking_17 ?_
    refine y_icmp_eq (tgt := 25) C dX1_lacking_20 rfl (fun hc => ?_) (fun hc => ?_)
    · replace h := g_it h hc
      obtain ⟨x2, hx2, h⟩ := g_lt h
      refine y_iinc (c := (1 : Int32)) (vs1 := [(2, .int x2), (0, .ref (ad 0 0)), (1, .ref (ad 4 u0))]) C hx2 (by decide) dX1_lacking_25 2 rfl (g_lL hL rfl) rfl ?_
      refine y_goto (tgt := 2) C dX1_lacking_28 rfl ?_
      refine y_sub (vs2 := [(0, .ref (ad 0 0)), (1, .ref (ad 4 u0)), (2, .int x2)]) [1, 2, 0] rfl ?_
      exact kl _ (Option.some.inj h).symm
    · replace h := g_if h hc
      refine y_sub (vs2 := [(2, .int v2)]) [2] rfl ?_
      exact (kx _ (Option.some.inj h).symm).1 _ rfl
theorem mw_C1_lacking {X : g_F} {hid : Bool} (C : g_M gCl X cX1_lacking RX1 (some .int)) (hR : g_R X = g_rm 2 0 0) (hL : g_nL X = 3) {u0 : Nat} (hu_u0 : u0 < g_n (gC hid) 4) {ad : Nat → Nat → Nat} {σ : g_S} {o : Int32} (h : mF_C1_lacking σ u0 = some o) (hQ : g_MQ gCl X (gC hid) ad σ (some (.int o)) = g_Q X) : g_Y gCl X (gC hid) ad σ (0, 0) 0 [(0, .ref (ad 0 0)), (1, .ref (ad 4 u0))] [] := by
  unfold mF_C1_lacking at h
  refine y_iconst (v := (0 : Int32)) C dX1_lacking_0 (by decide) ?_
  refine y_istore_n (vs1 := [(2, .int (0 : Int32)), (0, .ref (ad 0 0)), (1, .ref (ad 4 u0))]) C rfl dX1_lacking_1 rfl (g_lL hL rfl) rfl ?_
  refine y_sub (vs2 := [(0, .ref (ad 0 0)), (1, .ref (ad 4 u0)), (2, .int (0 : Int32))]) [1, 2, 0] rfl ?_
  obtain ⟨e3, he3, h⟩ := g_bd h
  refine ml_C1_lacking_2 C hR hL hu_u0 (σ := σ) _ _ _ he3 ⟨fun y he => ?_, fun y he => ?_⟩
  · obtain ⟨y4, rfl⟩ : ∃ z, z = y := ⟨_, rfl⟩
    subst he
    dsimp only at h
    refine y_iload_n C dX1_lacking_23 0 rfl rfl ?_
    replace h := Option.some.inj h; subst h
    exact y_iret C hQ ⟨Nat.zero_le _, Nat.zero_le _⟩ dX1_lacking_24
  · obtain ⟨y5, rfl⟩ : ∃ z, z = y := ⟨_, rfl⟩
    subst he
    dsimp only at h
    refine y_iconst (v := (-1 : Int32)) C dX1_lacking_31 (by decide) ?_
    replace h := Option.some.inj h; subst h
    exact y_iret C hQ ⟨Nat.zero_le _, Nat.zero_le _⟩ dX1_lacking_32
theorem ct_C1_lacking {D : va_G} {dA : Nat → ClassId} {A : Nat → Prop} {s0 : State} {b0 : Nat} {l : Launch} {hid : Bool} {u0 : Nat} (hu_u0 : u0 < g_n (gC hid) 4) {ad : Nat → Nat → Nat} {σ : g_S} {r : Int32} (h : mF_C1_lacking σ u0 = some r) : g_Met gCl D dA A s0 b0 l yX1_lacking cX1_lacking 3 (some .int) 2 (0, 0) (gC hid) ad σ [.ref (ad 0 0), .ref (ad 4 u0)] (gC hid) ad σ (some (.int r)) :=
  g_Met.of pl_X1 (Nat.le_of_ble_eq_true rfl) (fun X C hQ hR _ _ hL _ es eb => mw_C1_lacking C hR hL hu_u0 h hQ)
theorem ml_C1_all_15 {X : g_F} (C : g_M gCl X cX1_all RX1 (some .int)) (hR : g_R X = g_rm 308 0 0) (hL : g_nL X = 4) {ad : Nat → Nat → Nat} {σ : g_S} (n : Nat) (v : (Int32 × Int32 × g_S)) (e : ((Int32 × Int32 × g_S) ⊕ g_S)) (h : g_lp (fun v => mB_C1_all_15 v.2.2 v.1 v.2.1) n v = some e) (kx : (∀ y, e = .inl y → g_Y gCl X (gC true) ad y.2.2 (0, 0) 35 [(0, .ref (ad 0 0)), (1, .int y.1), (2, .int y.2.1)] []) ∧ (∀ y, e = .inr y → g_Y gCl X (gC true) ad y (0, 0) 64 [] [])) : g_Y gCl X (gC true) ad v.2.2 (0, 0) 15 [(0, .ref (ad 0 0)), (1, .int v.1), (2, .int v.2.1)] [] := by
  refine g_loop (P := fun v => g_Y gCl X (gC true) ad v.2.2 (0, 0) 15 [(0, .ref (ad 0 0)), (1, .int v.1), (2, .int v.2.1)] []) (T := fun e => (∀ y, e = .inl y → g_Y gCl X (gC true) ad y.2.2 (0, 0) 35 [(0, .ref (ad 0 0)), (1, .int y.1), (2, .int y.2.1)] []) ∧ (∀ y, e = .inr y → g_Y gCl X (gC true) ad y (0, 0) 64 [] [])) ?_ n v e h kx
  clear h kx
  clear n v e
  intro v o h kl kx
  obtain ⟨v1, v2, σ⟩ := v
  have h : mB_C1_all_15 σ v1 v2 = some o := h
  unfold mB_C1_all_15 at h
  show g_Y gCl X (gC true) ad σ (0, 0) 15 [(0, .ref (ad 0 0)), (1, .int v1), (2, .int v2)] []
  refine y_iload_n C dX1_all_15 2 rfl rfl ?_
  refine y_bipush (v := (99 : Int32)) C dX1_all_16 (by decide) ?_
  refine y_icmp_gt (tgt := 64) C dX1_all_18 rfl (fun hc => ?_) (fun hc => ?_)
  · replace h := g_it h hc
    refine y_sub (vs2 := []) [] rfl ?_
    exact (kx _ (Option.some.inj h).symm).2 _ rfl
  · replace h := g_if h hc
    refine y_aload_n C dX1_all_21 0 rfl rfl ?_
    refine y_aload_n C dX1_all_22 0 rfl rfl ?_
    refine gf_C_X1_91_0 C nC_0_0 dX1_all_23 ?_
    obtain ⟨x2, hc, h⟩ := g_bd h
    refine y_callV C (As := [.ref (ad 4 2)]) (rest := []) (k := 0) (hu := nC_0_0) (hc := (rfl : gCl[0]? = some (RX1, TX1, 31))) (hcell := obC_0) (lk_X1_418_X1_l2 C hR (by decide)) (ct_C1_lacking nC_4_2 hc) rfl rfl (Nat.le_of_ble_eq_true rfl) ⟨Nat.zero_le _, Nat.zero_le _⟩ dX1_all_26 ?_
    refine y_istore_n (vs1 := [(3, .int x2), (0, .ref (ad 0 0)), (1, .int v1), (2, .int v2)]) C rfl dX1_all_29 rfl (g_lL hL rfl) rfl ?_
    refine y_iload_n C dX1_all_30 0 rfl rfl ?_
    refine y_iconst (v := (-1 : Int32)) C dX1_all_31 (by decide) ?_
    refine y_icmp_ne (tgt := 48) C dX1_all_32 rfl (fun hc => ?_) (fun hc => ?_)
    · replace h := g_if h hc
      refine y_iload_n C dX1_all_48 0 rfl rfl ?_
      refine y_istore_n (vs1 := [(1, .int x2), (3, .int x2), (0, .ref (ad 0 0)), (2, .int v2)]) C rfl dX1_all_49 rfl (g_lL hL rfl) rfl ?_
      refine y_aload_n C dX1_all_50 2 rfl rfl ?_
      refine y_aload_n C dX1_all_51 2 rfl rfl ?_
      refine gf_C_X1_91_0 C nC_0_0 dX1_all_52 ?_
      obtain ⟨σ3, hc, h⟩ := g_bd h
      refine y_callVv C (As := [.ref (ad 4 2)]) (rest := []) (k := 0) (hu := nC_0_0) (hc := (rfl : gCl[0]? = some (RX1, TX1, 31))) (hcell := obC_0) (lk_X1_312_X1_l307 C hR (by decide)) (ct_C1_goHour nC_4_2 hc) rfl rfl (Nat.le_of_ble_eq_true rfl) ⟨Nat.zero_le _, Nat.zero_le _⟩ dX1_all_55 ?_
      obtain ⟨x4, hx4, h⟩ := g_lt h
      refine y_iinc (c := (1 : Int32)) (vs1 := [(2, .int x4), (1, .int x2), (3, .int x2), (0, .ref (ad 0 0))]) C hx4 (by decide) dX1_all_58 3 rfl (g_lL hL rfl) rfl ?_
      refine y_goto (tgt := 15) C dX1_all_61 rfl ?_
      refine y_sub (vs2 := [(0, .ref (ad 0 0)), (1, .int x2), (2, .int x4)]) [3, 1, 0] rfl ?_
      exact kl _ (Option.some.inj h).symm
    · replace h := g_it h hc
      refine y_sub (vs2 := [(0, .ref (ad 0 0)), (1, .int v1), (2, .int v2)]) [1, 2, 3] rfl ?_
      exact (kx _ (Option.some.inj h).symm).1 _ rfl
theorem mw_C1_all {X : g_F} (C : g_M gCl X cX1_all RX1 (some .int)) (hR : g_R X = g_rm 308 0 0) (hL : g_nL X = 4) {ad : Nat → Nat → Nat} {σ : g_S} {o : (Int32 × g_S)} (h : mF_C1_all σ = some o) (hQ : g_MQ gCl X (gC true) ad o.2 (some (.int o.1)) = g_Q X) : g_Y gCl X (gC true) ad σ (0, 0) 0 [(0, .ref (ad 0 0))] [] := by
  unfold mF_C1_all at h
  refine y_aload_n C dX1_all_0 0 rfl rfl ?_
  refine gf_C_X1_91_0 C nC_0_0 dX1_all_1 ?_
  refine y_aload_n C dX1_all_4 0 rfl rfl ?_
  refine gf_C_X1_84_0 C nC_0_0 dX1_all_5 ?_
  obtain ⟨σ1, hc, h⟩ := g_bd h
  refine y_callVv C (As := [.ref (ad 4 0)]) (rest := []) (k := 4) (hu := nC_4_2) (hc := (rfl : gCl[4]? = some (RX5, TX5, 6))) (hcell := obC_4) (lk_X1_298_X5_l1 C hR (by decide)) (ct_C5_be_k4_4 nC_4_2 nC_4_0 hc) rfl rfl (Nat.le_of_ble_eq_true rfl) ⟨Nat.zero_le _, Nat.zero_le _⟩ dX1_all_8 ?_
  refine y_iconst (v := (-1 : Int32)) C dX1_all_11 (by decide) ?_
  refine y_istore_n (vs1 := [(1, .int (-1 : Int32)), (0, .ref (ad 0 0))]) C rfl dX1_all_12 rfl (g_lL hL rfl) rfl ?_
  refine y_iconst (v := (0 : Int32)) C dX1_all_13 (by decide) ?_
  refine y_istore_n (vs1 := [(2, .int (0 : Int32)), (1, .int (-1 : Int32)), (0, .ref (ad 0 0))]) C rfl dX1_all_14 rfl (g_lL hL rfl) rfl ?_
  refine y_sub (vs2 := [(0, .ref (ad 0 0)), (1, .int (-1 : Int32)), (2, .int (0 : Int32))]) [2, 1, 0] rfl ?_
  obtain ⟨e5, he5, h⟩ := g_bd h
  refine ml_C1_all_15 C hR hL (σ := σ1) _ _ _ he5 ⟨fun y he => ?_, fun y he => ?_⟩
  · obtain ⟨y6, rfl⟩ : ∃ z, z = y := ⟨_, rfl⟩
    subst he
    dsimp only at h
    refine y_aload_n C dX1_all_35 0 rfl rfl ?_
    refine y_iconst (v := (0 : Int32)) C dX1_all_36 (by decide) ?_
    obtain ⟨σ7, hσ7, h⟩ := g_lt h
    refine pf_C_X1_139_0 C nC_0_0 hσ7 dX1_all_37 ?_
    refine y_aload_n C dX1_all_40 0 rfl rfl ?_
    refine y_iload_n C dX1_all_41 1 rfl rfl ?_
    refine y_i2l C dX1_all_42 ?_
    obtain ⟨σ8, hc, h⟩ := g_bd h
    refine y_callVv C (As := [.long (y6.1.toInt64)]) (rest := []) (k := 0) (hu := nC_0_0) (hc := (rfl : gCl[0]? = some (RX1, TX1, 31))) (hcell := obC_0) (lk_X1_330_X1_l1 C hR (by decide)) (ct_C1_tell_2 hc) rfl rfl (Nat.le_of_ble_eq_true rfl) ⟨Nat.zero_le _, Nat.zero_le _⟩ dX1_all_43 ?_
    refine y_iload_n C dX1_all_46 2 rfl rfl ?_
    replace h := Option.some.inj h; subst h
    exact y_iret C hQ ⟨Nat.zero_le _, Nat.zero_le _⟩ dX1_all_47
  · obtain ⟨y9, rfl⟩ : ∃ z, z = y := ⟨_, rfl⟩
    subst he
    dsimp only at h
    refine y_bipush (v := (-2 : Int32)) C dX1_all_64 (by decide) ?_
    replace h := Option.some.inj h; subst h
    exact y_iret C hQ ⟨Nat.zero_le _, Nat.zero_le _⟩ dX1_all_66
theorem ct_C1_all {D : va_G} {dA : Nat → ClassId} {A : Nat → Prop} {s0 : State} {b0 : Nat} {l : Launch} {ad : Nat → Nat → Nat} {σ : g_S} {r : Int32} {σ1 : g_S} (h : mF_C1_all σ = some (r, σ1)) : g_Met gCl D dA A s0 b0 l yX1_all cX1_all 4 (some .int) 308 (0, 0) (gC true) ad σ [.ref (ad 0 0)] (gC true) ad σ1 (some (.int r)) :=
  g_Met.of pl_X1 (Nat.le_of_ble_eq_true rfl) (fun X C hQ hR _ _ hL _ es eb => mw_C1_all C hR hL h hQ)
theorem ml_C1_ahead_41 {X : g_F} (C : g_M gCl X cX1_ahead RX1 (some .int)) (hR : g_R X = g_rm 309 0 0) (hL : g_nL X = 3) {ad : Nat → Nat → Nat} {σ : g_S} (n : Nat) (v : (Int32 × g_S)) (e : g_S) (h : g_lp (fun v => mB_C1_ahead_41 v.2 v.1) n v = some e) (kx : g_Y gCl X (gC true) ad e (0, 0) 69 [(0, .ref (ad 0 0))] []) : g_Y gCl X (gC true) ad v.2 (0, 0) 41 [(0, .ref (ad 0 0)), (2, .int v.1)] [] := by
  refine g_loop (P := fun v => g_Y gCl X (gC true) ad v.2 (0, 0) 41 [(0, .ref (ad 0 0)), (2, .int v.1)] []) (T := fun e => g_Y gCl X (gC true) ad e (0, 0) 69 [(0, .ref (ad 0 0))] []) ?_ n v e h kx
  clear h kx
  clear n v e
  intro v o h kl kx
  obtain ⟨v2, σ⟩ := v
  have h : mB_C1_ahead_41 σ v2 = some o := h
  unfold mB_C1_ahead_41 at h
  show g_Y gCl X (gC true) ad σ (0, 0) 41 [(0, .ref (ad 0 0)), (2, .int v2)] []
  refine y_iload_n C dX1_ahead_41 1 rfl rfl ?_
  refine y_aload_n C dX1_ahead_42 0 rfl rfl ?_
  refine gf_C_X1_150_0 C nC_0_0 dX1_ahead_43 ?_
  refine y_icmp_ge (tgt := 69) C dX1_ahead_46 rfl (fun hc => ?_) (fun hc => ?_)
  · replace h := g_it h hc
    refine y_sub (vs2 := [(0, .ref (ad 0 0))]) [0] rfl ?_
    exact kx _ (Option.some.inj h).symm
  · replace h := g_if h hc
    refine y_aload_n C dX1_ahead_49 0 rfl rfl ?_
    refine y_aload_n C dX1_ahead_50 0 rfl rfl ?_
    refine gf_C_X1_91_0 C nC_0_0 dX1_ahead_51 ?_
    refine gf_C_X1_225_4 C nC_4_2 dX1_ahead_54 ?_
    refine y_iload_n C dX1_ahead_57 1 rfl rfl ?_
    obtain ⟨hg, h⟩ := g_gd h
    refine al_C_8 C nC_8_2 hg dX1_ahead_58 ?_
    refine y_i2l C dX1_ahead_59 ?_
    obtain ⟨σ5, hc, h⟩ := g_bd h
    refine y_callVv C (As := [.long ((σ.1 8 2 v2.toNatClampNeg).toInt64)]) (rest := []) (k := 0) (hu := nC_0_0) (hc := (rfl : gCl[0]? = some (RX1, TX1, 31))) (hcell := obC_0) (lk_X1_330_X1_l1 C hR (by decide)) (ct_C1_tell_2 hc) rfl rfl (Nat.le_of_ble_eq_true rfl) ⟨Nat.zero_le _, Nat.zero_le _⟩ dX1_ahead_60 ?_
    obtain ⟨x6, hx6, h⟩ := g_lt h
    refine y_iinc (c := (1 : Int32)) (vs1 := [(2, .int x6), (0, .ref (ad 0 0))]) C hx6 (by decide) dX1_ahead_63 1 rfl (g_lL hL rfl) rfl ?_
    refine y_goto (tgt := 41) C dX1_ahead_66 rfl ?_
    refine y_sub (vs2 := [(0, .ref (ad 0 0)), (2, .int x6)]) [1, 0] rfl ?_
    exact kl _ (Option.some.inj h).symm
theorem mw_C1_ahead {X : g_F} (C : g_M gCl X cX1_ahead RX1 (some .int)) (hR : g_R X = g_rm 309 0 0) (hL : g_nL X = 3) {ad : Nat → Nat → Nat} {σ : g_S} {v1 : Int32} {o : (Int32 × g_S)} (h : mF_C1_ahead σ v1 = some o) (hQ : g_MQ gCl X (gC true) ad o.2 (some (.int o.1)) = g_Q X) : g_Y gCl X (gC true) ad σ (0, 0) 0 [(0, .ref (ad 0 0)), (1, .int v1)] [] := by
  unfold mF_C1_ahead at h
  refine y_iload_n C dX1_ahead_0 1 rfl rfl ?_
  refine y_i2l C dX1_ahead_1 ?_
  refine y_lconst (v := (0 : Int64)) C dX1_ahead_2 (by decide) ?_
  refine y_ldc2 (v := (99 : Int64)) C q1081 dX1_ahead_3 ?_
  obtain ⟨x1, hc, h⟩ := g_bd h
  refine y_callS C (As := [.long (v1.toInt64), .long (0 : Int64), .long (99 : Int64)]) (rest := []) (lk_X1_146_l1 C hR (by decide)) (ct_C1_in hc) rfl rfl (Nat.le_of_ble_eq_true rfl) ⟨Nat.zero_le _, Nat.zero_le _⟩ dX1_ahead_6 ?_
  refine y_if_ne (tgt := 14) C dX1_ahead_9 rfl (fun hc => ?_) (fun hc => ?_)
  · replace h := g_if h hc
    refine y_aload_n C dX1_ahead_14 0 rfl rfl ?_
    refine gf_C_X1_91_0 C nC_0_0 dX1_ahead_15 ?_
    refine y_aload_n C dX1_ahead_18 0 rfl rfl ?_
    refine gf_C_X1_84_0 C nC_0_0 dX1_ahead_19 ?_
    obtain ⟨σ2, hc, h⟩ := g_bd h
    refine y_callVv C (As := [.ref (ad 4 0)]) (rest := []) (k := 4) (hu := nC_4_2) (hc := (rfl : gCl[4]? = some (RX5, TX5, 6))) (hcell := obC_4) (lk_X1_298_X5_l1 C hR (by decide)) (ct_C5_be_k4_4 nC_4_2 nC_4_0 hc) rfl rfl (Nat.le_of_ble_eq_true rfl) ⟨Nat.zero_le _, Nat.zero_le _⟩ dX1_ahead_22 ?_
    refine y_aload_n C dX1_ahead_25 0 rfl rfl ?_
    refine y_aload_n C dX1_ahead_26 0 rfl rfl ?_
    refine gf_C_X1_91_0 C nC_0_0 dX1_ahead_27 ?_
    refine y_iload_n C dX1_ahead_30 1 rfl rfl ?_
    obtain ⟨σ3, hc, h⟩ := g_bd h
    refine y_callVv C (As := [.ref (ad 4 2), .int v1]) (rest := []) (k := 0) (hu := nC_0_0) (hc := (rfl : gCl[0]? = some (RX1, TX1, 31))) (hcell := obC_0) (lk_X1_326_X1_l308 C hR (by decide)) (ct_C1_goHours nC_4_2 hc) rfl rfl (Nat.le_of_ble_eq_true rfl) ⟨Nat.zero_le _, Nat.zero_le _⟩ dX1_ahead_31 ?_
    refine y_aload_n C dX1_ahead_34 0 rfl rfl ?_
    refine y_iconst (v := (0 : Int32)) C dX1_ahead_35 (by decide) ?_
    obtain ⟨σ4, hσ4, h⟩ := g_lt h
    refine pf_C_X1_139_0 C nC_0_0 hσ4 dX1_ahead_36 ?_
    refine y_iconst (v := (0 : Int32)) C dX1_ahead_39 (by decide) ?_
    refine y_istore_n (vs1 := [(2, .int (0 : Int32)), (0, .ref (ad 0 0)), (1, .int v1)]) C rfl dX1_ahead_40 rfl (g_lL hL rfl) rfl ?_
    refine y_sub (vs2 := [(0, .ref (ad 0 0)), (2, .int (0 : Int32))]) [1, 0] rfl ?_
    obtain ⟨e7, he7, h⟩ := g_bd h
    refine ml_C1_ahead_41 C hR hL (σ := σ4) _ _ _ he7 ?_
    refine y_aload_n C dX1_ahead_69 0 rfl rfl ?_
    refine y_aload_n C dX1_ahead_70 0 rfl rfl ?_
    refine gf_C_X1_91_0 C nC_0_0 dX1_ahead_71 ?_
    obtain ⟨x8, hc, h⟩ := g_bd h
    refine y_callV C (As := [.ref (ad 4 2)]) (rest := []) (k := 0) (hu := nC_0_0) (hc := (rfl : gCl[0]? = some (RX1, TX1, 31))) (hcell := obC_0) (lk_X1_323_X1_l2 C hR (by decide)) (ct_C1_known nC_4_2 hc) rfl rfl (Nat.le_of_ble_eq_true rfl) ⟨Nat.zero_le _, Nat.zero_le _⟩ dX1_ahead_74 ?_
    replace h := Option.some.inj h; subst h
    exact y_iret C hQ ⟨Nat.zero_le _, Nat.zero_le _⟩ dX1_ahead_77
  · replace h := g_it h hc
    refine y_iconst (v := (-1 : Int32)) C dX1_ahead_12 (by decide) ?_
    replace h := Option.some.inj h; subst h
    exact y_iret C hQ ⟨Nat.zero_le _, Nat.zero_le _⟩ dX1_ahead_13
theorem ct_C1_ahead {D : va_G} {dA : Nat → ClassId} {A : Nat → Prop} {s0 : State} {b0 : Nat} {l : Launch} {ad : Nat → Nat → Nat} {σ : g_S} {v1 : Int32} {r : Int32} {σ1 : g_S} (h : mF_C1_ahead σ v1 = some (r, σ1)) : g_Met gCl D dA A s0 b0 l yX1_ahead cX1_ahead 3 (some .int) 309 (0, 0) (gC true) ad σ [.ref (ad 0 0), .int v1] (gC true) ad σ1 (some (.int r)) :=
  g_Met.of pl_X1 (Nat.le_of_ble_eq_true rfl) (fun X C hQ hR _ _ hL _ es eb => mw_C1_ahead C hR hL h hQ)
theorem ml_C1_gossip_34 {X : g_F} (C : g_M gCl X cX1_gossip RX1 (some .int)) (hR : g_R X = g_rm 307 0 0) (hL : g_nL X = 7) {ad : Nat → Nat → Nat} {σ : g_S} {v2 : Int32} {v3 : Int32} {v5 : Int32} (n : Nat) (v : (Int32 × Int32)) (e : Int32) (h : g_lp (fun v => mB_C1_gossip_34 σ v2 v3 v5 v.1 v.2) n v = some e) (kx : g_Y gCl X (gC true) ad σ (0, 0) 87 [(0, .ref (ad 0 0)), (2, .int v2), (3, .int v3), (4, .int e), (5, .int v5)] []) : g_Y gCl X (gC true) ad σ (0, 0) 34 [(0, .ref (ad 0 0)), (2, .int v2), (3, .int v3), (4, .int v.1), (5, .int v5), (6, .int v.2)] [] := by
  refine g_loop (P := fun v => g_Y gCl X (gC true) ad σ (0, 0) 34 [(0, .ref (ad 0 0)), (2, .int v2), (3, .int v3), (4, .int v.1), (5, .int v5), (6, .int v.2)] []) (T := fun e => g_Y gCl X (gC true) ad σ (0, 0) 87 [(0, .ref (ad 0 0)), (2, .int v2), (3, .int v3), (4, .int e), (5, .int v5)] []) ?_ n v e h kx
  clear h kx
  clear n v e
  intro v o h kl kx
  obtain ⟨v4, v6⟩ := v
  have h : mB_C1_gossip_34 σ v2 v3 v5 v4 v6 = some o := h
  unfold mB_C1_gossip_34 at h
  show g_Y gCl X (gC true) ad σ (0, 0) 34 [(0, .ref (ad 0 0)), (2, .int v2), (3, .int v3), (4, .int v4), (5, .int v5), (6, .int v6)] []
  refine y_iload C dX1_gossip_34 5 rfl ?_
  refine y_aload_n C dX1_gossip_36 0 rfl rfl ?_
  refine gf_C_X1_150_0 C nC_0_0 dX1_gossip_37 ?_
  refine y_icmp_ge (tgt := 87) C dX1_gossip_40 rfl (fun hc => ?_) (fun hc => ?_)
  · replace h := g_it h hc
    refine y_sub (vs2 := [(0, .ref (ad 0 0)), (2, .int v2), (3, .int v3), (4, .int v4), (5, .int v5)]) [0, 1, 2, 3, 4] rfl ?_
    exact kx _ (Option.some.inj h).symm
  · replace h := g_if h hc
    refine y_iload C dX1_gossip_43 3 rfl ?_
    refine y_iload_n C dX1_gossip_45 1 rfl rfl ?_
    refine y_i2l C dX1_gossip_46 ?_
    refine y_iload C dX1_gossip_47 4 rfl ?_
    obtain ⟨x3, hc, h⟩ := g_bd h
    refine y_callS C (As := [.long (v2.toInt64), .int v5]) (rest := [.int v4]) (lk_X1_26_l1 C hR (by decide)) (ct_C1_has hc) rfl rfl (Nat.le_of_ble_eq_true rfl) ⟨Nat.zero_le _, Nat.zero_le _⟩ dX1_gossip_49 ?_
    refine y_if_eq (tgt := 77) C dX1_gossip_52 rfl (fun hc => ?_) (fun hc => ?_)
    · replace h := g_it h hc
      refine y_iconst (v := (0 : Int32)) C dX1_gossip_77 (by decide) ?_
      refine y_ior C dX1_gossip_78 ?_
      obtain ⟨x4, hx4, h⟩ := g_lt h
      refine y_istore (vs1 := [(4, .int x4), (0, .ref (ad 0 0)), (2, .int v2), (3, .int v3), (5, .int v5), (6, .int v6)]) C hx4 dX1_gossip_79 (g_lL hL rfl) rfl ?_
      obtain ⟨x5, hx5, h⟩ := g_lt h
      refine y_iinc (c := (1 : Int32)) (vs1 := [(6, .int x5), (4, .int x4), (0, .ref (ad 0 0)), (2, .int v2), (3, .int v3), (5, .int v5)]) C hx5 (by decide) dX1_gossip_81 5 rfl (g_lL hL rfl) rfl ?_
      refine y_goto (tgt := 34) C dX1_gossip_84 rfl ?_
      refine y_sub (vs2 := [(0, .ref (ad 0 0)), (2, .int v2), (3, .int v3), (4, .int x4), (5, .int v5), (6, .int x5)]) [2, 3, 4, 1, 5, 0] rfl ?_
      exact kl _ (Option.some.inj h).symm
    · replace h := g_if h hc
      refine y_aload_n C dX1_gossip_55 0 rfl rfl ?_
      refine y_aload_n C dX1_gossip_56 0 rfl rfl ?_
      refine gf_C_X1_84_0 C nC_0_0 dX1_gossip_57 ?_
      refine y_iload C dX1_gossip_60 4 rfl ?_
      refine y_iload C dX1_gossip_62 5 rfl ?_
      obtain ⟨x6, hc, h⟩ := g_bd h
      refine y_callV C (As := [.ref (ad 4 0), .int v5, .int v6]) (rest := [.int v4]) (k := 0) (hu := nC_0_0) (hc := (rfl : gCl[0]? = some (RX1, TX1, 31))) (hcell := obC_0) (lk_X1_309_X1_l306 C hR (by decide)) (ct_C1_tell nC_4_0 hc) rfl rfl (Nat.le_of_ble_eq_true rfl) ⟨Nat.zero_le _, Nat.zero_le _⟩ dX1_gossip_64 ?_
      refine y_if_eq (tgt := 77) C dX1_gossip_67 rfl (fun hc => ?_) (fun hc => ?_)
      · replace h := g_it h hc
        refine y_iconst (v := (0 : Int32)) C dX1_gossip_77 (by decide) ?_
        refine y_ior C dX1_gossip_78 ?_
        obtain ⟨x7, hx7, h⟩ := g_lt h
        refine y_istore (vs1 := [(4, .int x7), (0, .ref (ad 0 0)), (2, .int v2), (3, .int v3), (5, .int v5), (6, .int v6)]) C hx7 dX1_gossip_79 (g_lL hL rfl) rfl ?_
        obtain ⟨x8, hx8, h⟩ := g_lt h
        refine y_iinc (c := (1 : Int32)) (vs1 := [(6, .int x8), (4, .int x7), (0, .ref (ad 0 0)), (2, .int v2), (3, .int v3), (5, .int v5)]) C hx8 (by decide) dX1_gossip_81 5 rfl (g_lL hL rfl) rfl ?_
        refine y_goto (tgt := 34) C dX1_gossip_84 rfl ?_
        refine y_sub (vs2 := [(0, .ref (ad 0 0)), (2, .int v2), (3, .int v3), (4, .int x7), (5, .int v5), (6, .int x8)]) [2, 3, 4, 1, 5, 0] rfl ?_
        exact kl _ (Option.some.inj h).symm
      · replace h := g_if h hc
        refine y_iconst (v := (1 : Int32)) C dX1_gossip_70 (by decide) ?_
        refine y_iload C dX1_gossip_71 5 rfl ?_
        refine y_ishl C dX1_gossip_73 ?_
        refine y_goto (tgt := 78) C dX1_gossip_74 rfl ?_
        refine y_ior C dX1_gossip_78 ?_
        obtain ⟨x9, hx9, h⟩ := g_lt h
        refine y_istore (vs1 := [(4, .int x9), (0, .ref (ad 0 0)), (2, .int v2), (3, .int v3), (5, .int v5), (6, .int v6)]) C hx9 dX1_gossip_79 (g_lL hL rfl) rfl ?_
        obtain ⟨x10, hx10, h⟩ := g_lt h
        refine y_iinc (c := (1 : Int32)) (vs1 := [(6, .int x10), (4, .int x9), (0, .ref (ad 0 0)), (2, .int v2), (3, .int v3), (5, .int v5)]) C hx10 (by decide) dX1_gossip_81 5 rfl (g_lL hL rfl) rfl ?_
        refine y_goto (tgt := 34) C dX1_gossip_84 rfl ?_
        refine y_sub (vs2 := [(0, .ref (ad 0 0)), (2, .int v2), (3, .int v3), (4, .int x9), (5, .int v5), (6, .int x10)]) [2, 3, 4, 1, 5, 0] rfl ?_
        exact kl _ (Option.some.inj h).symm
theorem ml_C1_gossip_22 {X : g_F} (C : g_M gCl X cX1_gossip RX1 (some .int)) (hR : g_R X = g_rm 307 0 0) (hL : g_nL X = 7) {ad : Nat → Nat → Nat} {σ : g_S} {v2 : Int32} {v3 : Int32} (n : Nat) (v : (Int32 × Int32)) (e : Int32) (h : g_lp (fun v => mB_C1_gossip_22 σ v2 v3 v.1 v.2) n v = some e) (kx : g_Y gCl X (gC true) ad σ (0, 0) 93 [(0, .ref (ad 0 0)), (2, .int v2), (3, .int v3), (4, .int e)] []) : g_Y gCl X (gC true) ad σ (0, 0) 22 [(0, .ref (ad 0 0)), (2, .int v2), (3, .int v3), (4, .int v.1), (5, .int v.2)] [] := by
  refine g_loop (P := fun v => g_Y gCl X (gC true) ad σ (0, 0) 22 [(0, .ref (ad 0 0)), (2, .int v2), (3, .int v3), (4, .int v.1), (5, .int v.2)] []) (T := fun e => g_Y gCl X (gC true) ad σ (0, 0) 93 [(0, .ref (ad 0 0)), (2, .int v2), (3, .int v3), (4, .int e)] []) ?_ n v e h kx
  clear h kx
  clear n v e
  intro v o h kl kx
  obtain ⟨v4, v5⟩ := v
  have h : mB_C1_gossip_22 σ v2 v3 v4 v5 = some o := h
  unfold mB_C1_gossip_22 at h
  show g_Y gCl X (gC true) ad σ (0, 0) 22 [(0, .ref (ad 0 0)), (2, .int v2), (3, .int v3), (4, .int v4), (5, .int v5)] []
  refine y_iload C dX1_gossip_22 4 rfl ?_
  refine y_aload_n C dX1_gossip_24 0 rfl rfl ?_
  refine gf_C_X1_150_0 C nC_0_0 dX1_gossip_25 ?_
  refine y_icmp_ge (tgt := 93) C dX1_gossip_28 rfl (fun hc => ?_) (fun hc => ?_)
  · replace h := g_it h hc
    refine y_sub (vs2 := [(0, .ref (ad 0 0)), (2, .int v2), (3, .int v3), (4, .int v4)]) [0, 1, 2, 3] rfl ?_
    exact kx _ (Option.some.inj h).symm
  · replace h := g_if h hc
    refine y_iconst (v := (0 : Int32)) C dX1_gossip_31 (by decide) ?_
    refine y_istore (vs1 := [(6, .int (0 : Int32)), (0, .ref (ad 0 0)), (2, .int v2), (3, .int v3), (4, .int v4), (5, .int v5)]) C rfl dX1_gossip_32 (g_lL hL rfl) rfl ?_
    refine y_sub (vs2 := [(0, .ref (ad 0 0)), (2, .int v2), (3, .int v3), (4, .int v4), (5, .int v5), (6, .int (0 : Int32))]) [1, 2, 3, 4, 5, 0] rfl ?_
    obtain ⟨e11, he11, h⟩ := g_bd h
    refine ml_C1_gossip_34 C hR hL (σ := σ) _ _ _ he11 ?_
    obtain ⟨x12, hx12, h⟩ := g_lt h
    refine y_iinc (c := (1 : Int32)) (vs1 := [(5, .int x12), (0, .ref (ad 0 0)), (2, .int v2), (3, .int v3), (4, .int e11)]) C hx12 (by decide) dX1_gossip_87 4 rfl (g_lL hL rfl) rfl ?_
    refine y_goto (tgt := 22) C dX1_gossip_90 rfl ?_
    refine y_sub (vs2 := [(0, .ref (ad 0 0)), (2, .int v2), (3, .int v3), (4, .int e11), (5, .int x12)]) [1, 2, 3, 4, 0] rfl ?_
    exact kl _ (Option.some.inj h).symm
theorem ml_C1_gossip_16 {X : g_F} (C : g_M gCl X cX1_gossip RX1 (some .int)) (hR : g_R X = g_rm 307 0 0) (hL : g_nL X = 7) {ad : Nat → Nat → Nat} {σ : g_S} (n : Nat) (v : (Int32 × Int32)) (e : (Int32 × Int32)) (h : g_lp (fun v => mB_C1_gossip_16 σ v.1 v.2) n v = some e) (kx : g_Y gCl X (gC true) ad σ (0, 0) 99 [(0, .ref (ad 0 0)), (2, .int e.1), (3, .int e.2)] []) : g_Y gCl X (gC true) ad σ (0, 0) 16 [(0, .ref (ad 0 0)), (2, .int v.1), (3, .int v.2)] [] := by
  refine g_loop (P := fun v => g_Y gCl X (gC true) ad σ (0, 0) 16 [(0, .ref (ad 0 0)), (2, .int v.1), (3, .int v.2)] []) (T := fun e => g_Y gCl X (gC true) ad σ (0, 0) 99 [(0, .ref (ad 0 0)), (2, .int e.1), (3, .int e.2)] []) ?_ n v e h kx
  clear h kx
  clear n v e
  intro v o h kl kx
  obtain ⟨v2, v3⟩ := v
  have h : mB_C1_gossip_16 σ v2 v3 = some o := h
  unfold mB_C1_gossip_16 at h
  show g_Y gCl X (gC true) ad σ (0, 0) 16 [(0, .ref (ad 0 0)), (2, .int v2), (3, .int v3)] []
  refine y_iload_n C dX1_gossip_16 1 rfl rfl ?_
  refine y_istore (vs1 := [(4, .int v2), (0, .ref (ad 0 0)), (2, .int v2), (3, .int v3)]) C rfl dX1_gossip_17 (g_lL hL rfl) rfl ?_
  refine y_iconst (v := (0 : Int32)) C dX1_gossip_19 (by decide) ?_
  refine y_istore (vs1 := [(5, .int (0 : Int32)), (4, .int v2), (0, .ref (ad 0 0)), (2, .int v2), (3, .int v3)]) C rfl dX1_gossip_20 (g_lL hL rfl) rfl ?_
  refine y_sub (vs2 := [(0, .ref (ad 0 0)), (2, .int v2), (3, .int v3), (4, .int v2), (5, .int (0 : Int32))]) [2, 3, 4, 1, 0] rfl ?_
  obtain ⟨e13, he13, h⟩ := g_bd h
  refine ml_C1_gossip_22 C hR hL (σ := σ) _ _ _ he13 ?_
  refine y_iload C dX1_gossip_93 3 rfl ?_
  refine y_iload_n C dX1_gossip_95 1 rfl rfl ?_
  refine y_icmp_ne (tgt := 102) C dX1_gossip_96 rfl (fun hc => ?_) (fun hc => ?_)
  · replace h := g_if h hc
    refine y_iload C dX1_gossip_102 3 rfl ?_
    refine y_istore_n (vs1 := [(2, .int e13), (0, .ref (ad 0 0)), (3, .int v3), (4, .int e13)]) C rfl dX1_gossip_104 rfl (g_lL hL rfl) rfl ?_
    obtain ⟨x14, hx14, h⟩ := g_lt h
    refine y_iinc (c := (1 : Int32)) (vs1 := [(3, .int x14), (2, .int e13), (0, .ref (ad 0 0)), (4, .int e13)]) C hx14 (by decide) dX1_gossip_105 2 rfl (g_lL hL rfl) rfl ?_
    refine y_goto (tgt := 16) C dX1_gossip_108 rfl ?_
    refine y_sub (vs2 := [(0, .ref (ad 0 0)), (2, .int e13), (3, .int x14)]) [2, 1, 0] rfl ?_
    exact kl _ (Option.some.inj h).symm
  · replace h := g_it h hc
    refine y_sub (vs2 := [(0, .ref (ad 0 0)), (2, .int v2), (3, .int v3)]) [0, 1, 2] rfl ?_
    exact kx _ (Option.some.inj h).symm
theorem mw_C1_gossip {X : g_F} (C : g_M gCl X cX1_gossip RX1 (some .int)) (hR : g_R X = g_rm 307 0 0) (hL : g_nL X = 7) {ad : Nat → Nat → Nat} {σ : g_S} {v1 : Int32} {o : (Int32 × g_S)} (h : mF_C1_gossip σ v1 = some o) (hQ : g_MQ gCl X (gC true) ad o.2 (some (.int o.1)) = g_Q X) : g_Y gCl X (gC true) ad σ (0, 0) 0 [(0, .ref (ad 0 0)), (1, .int v1)] [] := by
  unfold mF_C1_gossip at h
  refine y_aload_n C dX1_gossip_0 0 rfl rfl ?_
  refine y_iload_n C dX1_gossip_1 1 rfl rfl ?_
  obtain ⟨x1, hc, h⟩ := g_bd h
  refine y_callV C (As := [.int v1]) (rest := []) (k := 0) (hu := nC_0_0) (hc := (rfl : gCl[0]? = some (RX1, TX1, 31))) (hcell := obC_0) (lk_X1_250_X1_l2 C hR (by decide)) (ct_C1_isMan hc) rfl rfl (Nat.le_of_ble_eq_true rfl) ⟨Nat.zero_le _, Nat.zero_le _⟩ dX1_gossip_2 ?_
  refine y_if_ne (tgt := 10) C dX1_gossip_5 rfl (fun hc => ?_) (fun hc => ?_)
  · replace h := g_if h hc
    refine y_iconst (v := (1 : Int32)) C dX1_gossip_10 (by decide) ?_
    refine y_iload_n C dX1_gossip_11 1 rfl rfl ?_
    refine y_ishl C dX1_gossip_12 ?_
    obtain ⟨x2, hx2, h⟩ := g_lt h
    refine y_istore_n (vs1 := [(2, .int x2), (0, .ref (ad 0 0)), (1, .int v1)]) C hx2 dX1_gossip_13 rfl (g_lL hL rfl) rfl ?_
    refine y_iconst (v := (0 : Int32)) C dX1_gossip_14 (by decide) ?_
    refine y_istore_n (vs1 := [(3, .int (0 : Int32)), (2, .int x2), (0, .ref (ad 0 0)), (1, .int v1)]) C rfl dX1_gossip_15 rfl (g_lL hL rfl) rfl ?_
    refine y_sub (vs2 := [(0, .ref (ad 0 0)), (2, .int x2), (3, .int (0 : Int32))]) [2, 1, 0] rfl ?_
    obtain ⟨e15, he15, h⟩ := g_bd h
    refine ml_C1_gossip_16 C hR hL (σ := σ) _ _ _ he15 ?_
    refine y_goto (tgt := 111) C dX1_gossip_99 rfl ?_
    refine y_aload_n C dX1_gossip_111 0 rfl rfl ?_
    refine y_iconst (v := (0 : Int32)) C dX1_gossip_112 (by decide) ?_
    obtain ⟨σ16, hσ16, h⟩ := g_lt h
    refine pf_C_X1_139_0 C nC_0_0 hσ16 dX1_gossip_113 ?_
    refine y_aload_n C dX1_gossip_116 0 rfl rfl ?_
    refine y_iload_n C dX1_gossip_117 2 rfl rfl ?_
    refine y_i2l C dX1_gossip_118 ?_
    obtain ⟨σ17, hc, h⟩ := g_bd h
    refine y_callVv C (As := [.long (e15.2.toInt64)]) (rest := []) (k := 0) (hu := nC_0_0) (hc := (rfl : gCl[0]? = some (RX1, TX1, 31))) (hcell := obC_0) (lk_X1_330_X1_l1 C hR (by decide)) (ct_C1_tell_2 hc) rfl rfl (Nat.le_of_ble_eq_true rfl) ⟨Nat.zero_le _, Nat.zero_le _⟩ dX1_gossip_119 ?_
    refine y_iload_n C dX1_gossip_122 1 rfl rfl ?_
    replace h := Option.some.inj h; subst h
    exact y_iret C hQ ⟨Nat.zero_le _, Nat.zero_le _⟩ dX1_gossip_123
  · replace h := g_it h hc
    refine y_iconst (v := (-1 : Int32)) C dX1_gossip_8 (by decide) ?_
    replace h := Option.some.inj h; subst h
    exact y_iret C hQ ⟨Nat.zero_le _, Nat.zero_le _⟩ dX1_gossip_9
theorem ct_C1_gossip {D : va_G} {dA : Nat → ClassId} {A : Nat → Prop} {s0 : State} {b0 : Nat} {l : Launch} {ad : Nat → Nat → Nat} {σ : g_S} {v1 : Int32} {r : Int32} {σ1 : g_S} (h : mF_C1_gossip σ v1 = some (r, σ1)) : g_Met gCl D dA A s0 b0 l yX1_gossip cX1_gossip 7 (some .int) 307 (0, 0) (gC true) ad σ [.ref (ad 0 0), .int v1] (gC true) ad σ1 (some (.int r)) :=
  g_Met.of pl_X1 (Nat.le_of_ble_eq_true rfl) (fun X C hQ hR _ _ hL _ es eb => mw_C1_gossip C hR hL h hQ)
theorem mw_C3_to {X : g_F} {hid : Bool} (C : g_M gCl X cX3_to RX3 (some (.object "BonnetValley$Turned"))) (hR : g_R X = g_rm 1 0 0) (hL : g_nL X = 2) {ad : Nat → Nat → Nat} {σ : g_S} {v1 : Int32} {o : g_S} (h : mF_C3_to σ v1 = some o) (hQ : g_MQ gCl X (gC hid) ad o (some (.ref (ad 2 0))) = g_Q X) : g_Y gCl X (gC hid) ad σ (0, 0) 0 [(0, .ref (ad 2 0)), (1, .int v1)] [] := by
  unfold mF_C3_to at h
  refine y_aload_n C dX3_to_0 0 rfl rfl ?_
  refine y_iload_n C dX3_to_1 1 rfl rfl ?_
  obtain ⟨σ1, hσ1, h⟩ := g_lt h
  refine pf_C_X3_13_2 C nC_2_0 hσ1 dX3_to_2 ?_
  refine y_aload_n C dX3_to_5 0 rfl rfl ?_
  replace h := Option.some.inj h; subst h
  exact y_aret C (Or.inl ⟨_, rfl⟩) (Or.inr ⟨_, rfl⟩) hQ ⟨Nat.zero_le _, Nat.zero_le _⟩ dX3_to_6
theorem ct_C3_to {D : va_G} {dA : Nat → ClassId} {A : Nat → Prop} {s0 : State} {b0 : Nat} {l : Launch} {hid : Bool} {ad : Nat → Nat → Nat} {σ : g_S} {v1 : Int32} {σ1 : g_S} (h : mF_C3_to σ v1 = some σ1) : g_Met gCl D dA A s0 b0 l yX3_to cX3_to 2 (some (.object "BonnetValley$Turned")) 1 (0, 0) (gC hid) ad σ [.ref (ad 2 0), .int v1] (gC hid) ad σ1 (some (.ref (ad 2 0))) :=
  g_Met.of pl_X3 (Nat.le_of_ble_eq_true rfl) (fun X C hQ hR _ _ hL _ es eb => mw_C3_to C hR hL h hQ)
theorem mw_C2_reach_k2_4 {X : g_F} (C : g_M gCl X cX2_reach RX2 (some .int)) (hR : g_R X = g_rm 303 0 0) (hL : g_nL X = 3) {u0 : Nat} (hu_u0 : u0 < g_n (gC true) 4) {ad : Nat → Nat → Nat} {σ : g_S} {v2 : Int32} {o : Int32} (h : mF_C2_reach_k2_4 σ u0 v2 = some o) (hQ : g_MQ gCl X (gC true) ad σ (some (.int o)) = g_Q X) : g_Y gCl X (gC true) ad σ (0, 0) 0 [(0, .ref (ad 2 0)), (1, .ref (ad 4 u0)), (2, .int v2)] [] := by
  unfold mF_C2_reach_k2_4 at h
  refine y_aload_n C dX2_reach_0 0 rfl rfl ?_
  refine gf_C_X2_3_2 C nC_2_0 dX2_reach_1 ?_
  refine y_aload_n C dX2_reach_4 1 rfl rfl ?_
  refine y_iload_n C dX2_reach_5 2 rfl rfl ?_
  refine y_aload_n C dX2_reach_6 1 rfl rfl ?_
  refine gf_C_X2_21_4 C hu_u0 dX2_reach_7 ?_
  refine y_iload_n C dX2_reach_10 2 rfl rfl ?_
  obtain ⟨hg, h⟩ := g_gd h
  refine al_C_7 C hu_u0 hg dX2_reach_11 ?_
  obtain ⟨x1, hc, h⟩ := g_bd h
  refine y_callVN C (As := [.ref (ad 4 u0), .int v2, .int (σ.1 7 u0 v2.toNatClampNeg)]) (rest := []) (k := 0) (hu := nC_0_0) (hc := (rfl : gCl[0]? = some (RX1, TX1, 31))) (hcell := obC_0) (lk_X2_24_X1_l302 C hR (by decide)) (ct_R_C_reachBy hu_u0 hc) rfl rfl (Nat.le_of_ble_eq_true rfl) ⟨Nat.zero_le _, Nat.zero_le _⟩ dX2_reach_12 ?_
  replace h := Option.some.inj h; subst h
  exact y_iret C hQ ⟨Nat.zero_le _, Nat.zero_le _⟩ dX2_reach_15
theorem ct_C2_reach_k2_4 {D : va_G} {dA : Nat → ClassId} {A : Nat → Prop} {s0 : State} {b0 : Nat} {l : Launch} {u0 : Nat} (hu_u0 : u0 < g_n (gC true) 4) {ad : Nat → Nat → Nat} {σ : g_S} {v2 : Int32} {r : Int32} (h : mF_C2_reach_k2_4 σ u0 v2 = some r) : g_Met gCl D dA A s0 b0 l yX2_reach cX2_reach 3 (some .int) 303 (0, 0) (gC true) ad σ [.ref (ad 2 0), .ref (ad 4 u0), .int v2] (gC true) ad σ (some (.int r)) :=
  g_Met.of pl_X2 (Nat.le_of_ble_eq_true rfl) (fun X C hQ hR _ _ hL _ es eb => mw_C2_reach_k2_4 C hR hL hu_u0 h hQ)
theorem mw_C3_facing {X : g_F} {hid : Bool} (C : g_M gCl X cX3_facing RX3 (some .int)) (hR : g_R X = g_rm 1 0 0) (hL : g_nL X = 3) {u0 : Nat} (hu_u0 : u0 < g_n (gC hid) 4) {ad : Nat → Nat → Nat} {σ : g_S} {v2 : Int32} {o : Int32} (h : mF_C3_facing σ u0 v2 = some o) (hQ : g_MQ gCl X (gC hid) ad σ (some (.int o)) = g_Q X) : g_Y gCl X (gC hid) ad σ (0, 0) 0 [(0, .ref (ad 2 0)), (1, .ref (ad 4 u0)), (2, .int v2)] [] := by
  unfold mF_C3_facing at h
  refine y_aload_n C dX3_facing_0 0 rfl rfl ?_
  refine gf_C_X3_13_2 C nC_2_0 dX3_facing_1 ?_
  replace h := Option.some.inj h; subst h
  exact y_iret C hQ ⟨Nat.zero_le _, Nat.zero_le _⟩ dX3_facing_4
theorem ct_C3_facing {D : va_G} {dA : Nat → ClassId} {A : Nat → Prop} {s0 : State} {b0 : Nat} {l : Launch} {hid : Bool} {u0 : Nat} (hu_u0 : u0 < g_n (gC hid) 4) {ad : Nat → Nat → Nat} {σ : g_S} {v2 : Int32} {r : Int32} (h : mF_C3_facing σ u0 v2 = some r) : g_Met gCl D dA A s0 b0 l yX3_facing cX3_facing 3 (some .int) 1 (0, 0) (gC hid) ad σ [.ref (ad 2 0), .ref (ad 4 u0), .int v2] (gC hid) ad σ (some (.int r)) :=
  g_Met.of pl_X3 (Nat.le_of_ble_eq_true rfl) (fun X C hQ hR _ _ hL _ es eb => mw_C3_facing C hR hL hu_u0 h hQ)
theorem mw_C2_brim_k2_4 {X : g_F} {hid : Bool} (C : g_M gCl X cX2_brim RX2 (some .int)) (hR : g_R X = g_rm 1 0 0) (hL : g_nL X = 3) {u0 : Nat} (hu_u0 : u0 < g_n (gC hid) 4) {ad : Nat → Nat → Nat} {σ : g_S} {v2 : Int32} {o : Int32} (h : mF_C2_brim_k2_4 σ u0 v2 = some o) (hQ : g_MQ gCl X (gC hid) ad σ (some (.int o)) = g_Q X) : g_Y gCl X (gC hid) ad σ (0, 0) 0 [(0, .ref (ad 2 0)), (1, .ref (ad 4 u0)), (2, .int v2)] [] := by
  unfold mF_C2_brim_k2_4 at h
  refine y_aload_n C dX2_brim_0 1 rfl rfl ?_
  refine gf_C_X2_21_4 C hu_u0 dX2_brim_1 ?_
  refine y_iload_n C dX2_brim_4 2 rfl rfl ?_
  obtain ⟨hg, h⟩ := g_gd h
  refine al_C_7 C hu_u0 hg dX2_brim_5 ?_
  replace h := Option.some.inj h; subst h
  exact y_iret C hQ ⟨Nat.zero_le _, Nat.zero_le _⟩ dX2_brim_6
theorem ct_C2_brim_k2_4 {D : va_G} {dA : Nat → ClassId} {A : Nat → Prop} {s0 : State} {b0 : Nat} {l : Launch} {hid : Bool} {u0 : Nat} (hu_u0 : u0 < g_n (gC hid) 4) {ad : Nat → Nat → Nat} {σ : g_S} {v2 : Int32} {r : Int32} (h : mF_C2_brim_k2_4 σ u0 v2 = some r) : g_Met gCl D dA A s0 b0 l yX2_brim cX2_brim 3 (some .int) 1 (0, 0) (gC hid) ad σ [.ref (ad 2 0), .ref (ad 4 u0), .int v2] (gC hid) ad σ (some (.int r)) :=
  g_Met.of pl_X2 (Nat.le_of_ble_eq_true rfl) (fun X C hQ hR _ _ hL _ es eb => mw_C2_brim_k2_4 C hR hL hu_u0 h hQ)
theorem mw_C2_sees_k2_4 {X : g_F} (C : g_M gCl X cX2_sees RX2 (some .boolean)) (hR : g_R X = g_rm 304 0 0) (hL : g_nL X = 6) {u0 : Nat} (hu_u0 : u0 < g_n (gC true) 4) {ad : Nat → Nat → Nat} {σ : g_S} {v2 : Int32} {v3 : Int32} {o : Int32} (h : mF_C2_sees_k2_4 σ u0 v2 v3 = some o) (hQ : g_MQ gCl X (gC true) ad σ (some (.int o)) = g_Q X) : g_Y gCl X (gC true) ad σ (0, 0) 0 [(0, .ref (ad 2 0)), (1, .ref (ad 4 u0)), (2, .int v2), (3, .int v3)] [] := by
  unfold mF_C2_sees_k2_4 at h
  refine y_iload_n C dX2_sees_0 3 rfl rfl ?_
  refine y_aload_n C dX2_sees_1 1 rfl rfl ?_
  refine gf_C_X2_28_4 C hu_u0 dX2_sees_2 ?_
  refine y_iload_n C dX2_sees_5 2 rfl rfl ?_
  obtain ⟨hg, h⟩ := g_gd h
  refine al_C_5 C hu_u0 hg dX2_sees_6 ?_
  refine y_icmp_ne (tgt := 12) C dX2_sees_7 rfl (fun hc => ?_) (fun hc => ?_)
  · replace h := g_if h hc
    refine y_iload_n C dX2_sees_12 3 rfl rfl ?_
    refine y_aload_n C dX2_sees_13 0 rfl rfl ?_
    refine gf_C_X2_3_2 C nC_2_0 dX2_sees_14 ?_
    refine gf_C_X2_31_0 C nC_0_0 dX2_sees_17 ?_
    obtain ⟨hg, h⟩ := g_gd h
    refine y_idiv C dX2_sees_20 hg ?_
    refine y_aload_n C dX2_sees_21 1 rfl rfl ?_
    refine gf_C_X2_28_4 C hu_u0 dX2_sees_22 ?_
    refine y_iload_n C dX2_sees_25 2 rfl rfl ?_
    obtain ⟨hg, h⟩ := g_gd h
    refine al_C_5 C hu_u0 hg dX2_sees_26 ?_
    refine y_aload_n C dX2_sees_27 0 rfl rfl ?_
    refine gf_C_X2_3_2 C nC_2_0 dX2_sees_28 ?_
    refine gf_C_X2_31_0 C nC_0_0 dX2_sees_31 ?_
    obtain ⟨hg, h⟩ := g_gd h
    refine y_idiv C dX2_sees_34 hg ?_
    refine y_isub C dX2_sees_35 ?_
    obtain ⟨x1, hx1, h⟩ := g_lt h
    refine y_istore (vs1 := [(4, .int x1), (0, .ref (ad 2 0)), (1, .ref (ad 4 u0)), (2, .int v2), (3, .int v3)]) C hx1 dX2_sees_36 (g_lL hL rfl) rfl ?_
    refine y_iload_n C dX2_sees_38 4 rfl rfl ?_
    refine y_aload_n C dX2_sees_39 1 rfl rfl ?_
    refine gf_C_X2_3_2 C nC_2_0 dX2_sees_40 ?_
    refine gf_C_X2_31_0 C nC_0_0 dX2_sees_43 ?_
    obtain ⟨hg, h⟩ := g_gd h
    refine y_irem C dX2_sees_46 hg ?_
    refine y_aload_n C dX2_sees_47 2 rfl rfl ?_
    refine gf_C_X2_28_4 C hu_u0 dX2_sees_48 ?_
    refine y_iload_n C dX2_sees_51 3 rfl rfl ?_
    obtain ⟨hg, h⟩ := g_gd h
    refine al_C_5 C hu_u0 hg dX2_sees_52 ?_
    refine y_aload_n C dX2_sees_53 1 rfl rfl ?_
    refine gf_C_X2_3_2 C nC_2_0 dX2_sees_54 ?_
    refine gf_C_X2_31_0 C nC_0_0 dX2_sees_57 ?_
    obtain ⟨hg, h⟩ := g_gd h
    refine y_irem C dX2_sees_60 hg ?_
    refine y_isub C dX2_sees_61 ?_
    obtain ⟨x2, hx2, h⟩ := g_lt h
    refine y_istore (vs1 := [(5, .int x2), (4, .int x1), (0, .ref (ad 2 0)), (1, .ref (ad 4 u0)), (2, .int v2), (3, .int v3)]) C hx2 dX2_sees_62 (g_lL hL rfl) rfl ?_
    refine y_iload C dX2_sees_64 1 rfl ?_
    refine y_mabs C q788 (g_rmM hR (by decide)) (Nat.le_of_ble_eq_true rfl) ⟨Nat.zero_le _, Nat.zero_le _⟩ dX2_sees_66 ?_
    refine y_iload C dX2_sees_69 0 rfl ?_
    refine y_mabs C q788 (g_rmM hR (by decide)) (Nat.le_of_ble_eq_true rfl) ⟨Nat.zero_le _, Nat.zero_le _⟩ dX2_sees_71 ?_
    refine y_mmax C q791 (g_rmM hR (by decide)) (Nat.le_of_ble_eq_true rfl) ⟨Nat.zero_le _, Nat.zero_le _⟩ dX2_sees_74 ?_
    refine y_aload_n C dX2_sees_77 2 rfl rfl ?_
    refine y_aload_n C dX2_sees_78 3 rfl rfl ?_
    refine y_iload_n C dX2_sees_79 4 rfl rfl ?_
    obtain ⟨x3, hc, h⟩ := g_bd h
    refine y_callU C (As := [.ref (ad 4 u0), .int v2]) (rest := [.int (g_max (g_abs x1) (g_abs x2))]) (k := 2) (hu := nC_2_0) (hc := (rfl : gCl[2]? = some (RX3, TX3, 3))) (hcell := obC_2) (lk_X2_45_X3_X2_l303 C hR (by decide)) (ct_C2_reach_k2_4 hu_u0 hc) rfl rfl (Nat.le_of_ble_eq_true rfl) ⟨Nat.zero_le _, Nat.zero_le _⟩ dX2_sees_80 ?_
    refine y_icmp_le (tgt := 88) C dX2_sees_83 rfl (fun hc => ?_) (fun hc => ?_)
    · replace h := g_it h hc
      refine y_aload_n C dX2_sees_88 2 rfl rfl ?_
      refine y_aload_n C dX2_sees_89 3 rfl rfl ?_
      refine y_iload_n C dX2_sees_90 4 rfl rfl ?_
      obtain ⟨x4, hc, h⟩ := g_bd h
      refine y_callU C (As := [.ref (ad 4 u0), .int v2]) (rest := []) (k := 2) (hu := nC_2_0) (hc := (rfl : gCl[2]? = some (RX3, TX3, 3))) (hcell := obC_2) (lk_X2_49_X3_X3_l1 C hR (by decide)) (ct_C3_facing hu_u0 hc) rfl rfl (Nat.le_of_ble_eq_true rfl) ⟨Nat.zero_le _, Nat.zero_le _⟩ dX2_sees_91 ?_
      refine y_iload C dX2_sees_94 1 rfl ?_
      refine y_iload C dX2_sees_96 0 rfl ?_
      obtain ⟨x5, hc, h⟩ := g_bd h
      refine y_callSN C (As := [.int x1, .int x2]) (rest := [.int x4]) (lk_X2_51_l1 C hR (by decide)) (ct_C1_wayOf hc) rfl rfl (Nat.le_of_ble_eq_true rfl) ⟨Nat.zero_le _, Nat.zero_le _⟩ dX2_sees_98 ?_
      obtain ⟨x6, hc, h⟩ := g_bd h
      refine y_callSN C (As := [.int x4, .int x5]) (rest := []) (lk_X2_54_l1 C hR (by decide)) (ct_C1_offBy hc) rfl rfl (Nat.le_of_ble_eq_true rfl) ⟨Nat.zero_le _, Nat.zero_le _⟩ dX2_sees_101 ?_
      refine y_iconst (v := (4 : Int32)) C dX2_sees_104 (by decide) ?_
      refine y_aload_n C dX2_sees_105 2 rfl rfl ?_
      refine y_aload_n C dX2_sees_106 3 rfl rfl ?_
      refine y_iload_n C dX2_sees_107 4 rfl rfl ?_
      obtain ⟨x7, hc, h⟩ := g_bd h
      refine y_callU C (As := [.ref (ad 4 u0), .int v2]) (rest := [.int (4 : Int32), .int x6]) (k := 2) (hu := nC_2_0) (hc := (rfl : gCl[2]? = some (RX3, TX3, 3))) (hcell := obC_2) (lk_X2_57_X3_X2_l1 C hR (by decide)) (ct_C2_brim_k2_4 hu_u0 hc) rfl rfl (Nat.le_of_ble_eq_true rfl) ⟨Nat.zero_le _, Nat.zero_le _⟩ dX2_sees_108 ?_
      refine y_isub C dX2_sees_111 ?_
      refine y_icmp_gt (tgt := 136) C dX2_sees_112 rfl (fun hc => ?_) (fun hc => ?_)
      · replace h := g_it h hc
        refine y_iconst (v := (0 : Int32)) C dX2_sees_136 (by decide) ?_
        replace h := Option.some.inj h; subst h
        exact y_zret C (by decide) hQ ⟨Nat.zero_le _, Nat.zero_le _⟩ dX2_sees_137
      · replace h := g_if h hc
        refine y_aload_n C dX2_sees_115 2 rfl rfl ?_
        refine gf_C_X2_3_2 C nC_2_0 dX2_sees_116 ?_
        refine y_aload_n C dX2_sees_119 3 rfl rfl ?_
        refine gf_C_X2_28_4 C hu_u0 dX2_sees_120 ?_
        refine y_iload_n C dX2_sees_123 4 rfl rfl ?_
        obtain ⟨hg, h⟩ := g_gd h
        refine al_C_5 C hu_u0 hg dX2_sees_124 ?_
        refine y_iload_n C dX2_sees_125 5 rfl rfl ?_
        obtain ⟨x8, hc, h⟩ := g_bd h
        refine y_callVN C (As := [.int (σ.1 5 u0 v2.toNatClampNeg), .int v3]) (rest := []) (k := 0) (hu := nC_0_0) (hc := (rfl : gCl[0]? = some (RX1, TX1, 31))) (hcell := obC_0) (lk_X2_59_X1_l2 C hR (by decide)) (ct_C1_isClear hc) rfl rfl (Nat.le_of_ble_eq_true rfl) ⟨Nat.zero_le _, Nat.zero_le _⟩ dX2_sees_126 ?_
        refine y_if_eq (tgt := 136) C dX2_sees_129 rfl (fun hc => ?_) (fun hc => ?_)
        · replace h := g_it h hc
          refine y_iconst (v := (0 : Int32)) C dX2_sees_136 (by decide) ?_
          replace h := Option.some.inj h; subst h
          exact y_zret C (by decide) hQ ⟨Nat.zero_le _, Nat.zero_le _⟩ dX2_sees_137
        · replace h := g_if h hc
          refine y_iconst (v := (1 : Int32)) C dX2_sees_132 (by decide) ?_
          refine y_goto (tgt := 137) C dX2_sees_133 rfl ?_
          replace h := Option.some.inj h; subst h
          exact y_zret C (by decide) hQ ⟨Nat.zero_le _, Nat.zero_le _⟩ dX2_sees_137
    · replace h := g_if h hc
      refine y_iconst (v := (0 : Int32)) C dX2_sees_86 (by decide) ?_
      replace h := Option.some.inj h; subst h
      exact y_zret C (by decide) hQ ⟨Nat.zero_le _, Nat.zero_le _⟩ dX2_sees_87
  · replace h := g_it h hc
    refine y_iconst (v := (1 : Int32)) C dX2_sees_10 (by decide) ?_
    replace h := Option.some.inj h; subst h
    exact y_zret C (by decide) hQ ⟨Nat.zero_le _, Nat.zero_le _⟩ dX2_sees_11
theorem ct_C2_sees_k2_4 {D : va_G} {dA : Nat → ClassId} {A : Nat → Prop} {s0 : State} {b0 : Nat} {l : Launch} {u0 : Nat} (hu_u0 : u0 < g_n (gC true) 4) {ad : Nat → Nat → Nat} {σ : g_S} {v2 : Int32} {v3 : Int32} {r : Int32} (h : mF_C2_sees_k2_4 σ u0 v2 v3 = some r) : g_Met gCl D dA A s0 b0 l yX2_sees cX2_sees 6 (some .boolean) 304 (0, 0) (gC true) ad σ [.ref (ad 2 0), .ref (ad 4 u0), .int v2, .int v3] (gC true) ad σ (some (.int r)) :=
  g_Met.of pl_X2 (Nat.le_of_ble_eq_true rfl) (fun X C hQ hR _ _ hL _ es eb => mw_C2_sees_k2_4 C hR hL hu_u0 h hQ)
theorem ml_C1_eighths_23 {X : g_F} (C : g_M gCl X cX1_eighths RX1 (some .int)) (hR : g_R X = g_rm 305 0 0) (hL : g_nL X = 5) {ad : Nat → Nat → Nat} {σ : g_S} {v1 : Int32} {v2 : Int32} (n : Nat) (v : (Int32 × Int32 × g_S)) (e : (Int32 × g_S)) (h : g_lp (fun v => mB_C1_eighths_23 v.2.2 v1 v2 v.1 v.2.1) n v = some e) (kx : g_Y gCl X (gC true) ad e.2 (0, 0) 98 [(0, .ref (ad 0 0)), (1, .int v1), (3, .int e.1)] []) : g_Y gCl X (gC true) ad v.2.2 (0, 0) 23 [(0, .ref (ad 0 0)), (1, .int v1), (2, .int v2), (3, .int v.1), (4, .int v.2.1)] [] := by
  refine g_loop (P := fun v => g_Y gCl X (gC true) ad v.2.2 (0, 0) 23 [(0, .ref (ad 0 0)), (1, .int v1), (2, .int v2), (3, .int v.1), (4, .int v.2.1)] []) (T := fun e => g_Y gCl X (gC true) ad e.2 (0, 0) 98 [(0, .ref (ad 0 0)), (1, .int v1), (3, .int e.1)] []) ?_ n v e h kx
  clear h kx
  clear n v e
  intro v o h kl kx
  obtain ⟨v3, v4, σ⟩ := v
  have h : mB_C1_eighths_23 σ v1 v2 v3 v4 = some o := h
  unfold mB_C1_eighths_23 at h
  show g_Y gCl X (gC true) ad σ (0, 0) 23 [(0, .ref (ad 0 0)), (1, .int v1), (2, .int v2), (3, .int v3), (4, .int v4)] []
  refine y_iload C dX1_eighths_23 4 rfl ?_
  refine y_bipush (v := (8 : Int32)) C dX1_eighths_25 (by decide) ?_
  refine y_icmp_ge (tgt := 98) C dX1_eighths_27 rfl (fun hc => ?_) (fun hc => ?_)
  · replace h := g_it h hc
    refine y_sub (vs2 := [(0, .ref (ad 0 0)), (1, .int v1), (3, .int v3)]) [0, 1, 3] rfl ?_
    exact kx _ (Option.some.inj h).symm
  · replace h := g_if h hc
    refine y_aload_n C dX1_eighths_30 0 rfl rfl ?_
    refine gf_C_X1_69_0 C nC_0_0 dX1_eighths_31 ?_
    refine y_iload C dX1_eighths_34 4 rfl ?_
    obtain ⟨σ3, hc, h⟩ := g_bd h
    refine y_callV C (As := [.int v4]) (rest := []) (k := 2) (hu := nC_2_0) (hc := (rfl : gCl[2]? = some (RX3, TX3, 3))) (hcell := obC_2) (lk_X1_423_X3_l1 C hR (by decide)) (ct_C3_to hc) rfl rfl (Nat.le_of_ble_eq_true rfl) ⟨Nat.zero_le _, Nat.zero_le _⟩ dX1_eighths_36 ?_
    refine y_aload_n C dX1_eighths_39 0 rfl rfl ?_
    refine gf_C_X1_84_0 C nC_0_0 dX1_eighths_40 ?_
    refine y_iload_n C dX1_eighths_43 1 rfl rfl ?_
    refine y_iload_n C dX1_eighths_44 2 rfl rfl ?_
    obtain ⟨x4, hc, h⟩ := g_bd h
    refine y_callU C (As := [.ref (ad 4 0), .int v1, .int v2]) (rest := []) (k := 2) (hu := nC_2_0) (hc := (rfl : gCl[2]? = some (RX3, TX3, 3))) (hcell := obC_2) (lk_X1_427_X3_X2_l304 C hR (by decide)) (ct_C2_sees_k2_4 nC_4_0 hc) rfl rfl (Nat.le_of_ble_eq_true rfl) ⟨Nat.zero_le _, Nat.zero_le _⟩ dX1_eighths_45 ?_
    refine y_if_ne (tgt := 54) C dX1_eighths_48 rfl (fun hc => ?_) (fun hc => ?_)
    · replace h := g_if h hc
      refine y_iload_n C dX1_eighths_54 3 rfl rfl ?_
      refine y_iconst (v := (-1 : Int32)) C dX1_eighths_55 (by decide) ?_
      refine y_icmp_eq (tgt := 89) C dX1_eighths_56 rfl (fun hc => ?_) (fun hc => ?_)
      · replace h := g_it h hc
        refine y_iload C dX1_eighths_89 4 rfl ?_
        refine y_istore_n (vs1 := [(3, .int v4), (0, .ref (ad 0 0)), (1, .int v1), (2, .int v2), (4, .int v4)]) C rfl dX1_eighths_91 rfl (g_lL hL rfl) rfl ?_
        obtain ⟨x5, hx5, h⟩ := g_lt h
        refine y_iinc (c := (1 : Int32)) (vs1 := [(4, .int x5), (3, .int v4), (0, .ref (ad 0 0)), (1, .int v1), (2, .int v2)]) C hx5 (by decide) dX1_eighths_92 4 rfl (g_lL hL rfl) rfl ?_
        refine y_goto (tgt := 23) C dX1_eighths_95 rfl ?_
        refine y_sub (vs2 := [(0, .ref (ad 0 0)), (1, .int v1), (2, .int v2), (3, .int v4), (4, .int x5)]) [2, 3, 4, 1, 0] rfl ?_
        exact kl _ (Option.some.inj h).symm
      · replace h := g_if h hc
        refine y_aload_n C dX1_eighths_59 0 rfl rfl ?_
        refine gf_C_X1_84_0 C nC_0_0 dX1_eighths_60 ?_
        refine gf_C_X1_219_4 C nC_4_0 dX1_eighths_63 ?_
        refine y_iload_n C dX1_eighths_66 1 rfl rfl ?_
        obtain ⟨hg, h⟩ := g_gd h
        refine al_C_6 C nC_6_0 hg dX1_eighths_67 ?_
        refine y_iload C dX1_eighths_68 4 rfl ?_
        obtain ⟨x6, hc, h⟩ := g_bd h
        refine y_callS C (As := [.int (σ3.1 6 0 v1.toNatClampNeg), .int v4]) (rest := []) (lk_X1_338_l1 C hR (by decide)) (ct_C1_offBy hc) rfl rfl (Nat.le_of_ble_eq_true rfl) ⟨Nat.zero_le _, Nat.zero_le _⟩ dX1_eighths_70 ?_
        refine y_aload_n C dX1_eighths_73 0 rfl rfl ?_
        refine gf_C_X1_84_0 C nC_0_0 dX1_eighths_74 ?_
        refine gf_C_X1_219_4 C nC_4_0 dX1_eighths_77 ?_
        refine y_iload_n C dX1_eighths_80 1 rfl rfl ?_
        obtain ⟨hg, h⟩ := g_gd h
        refine al_C_6 C nC_6_0 hg dX1_eighths_81 ?_
        refine y_iload_n C dX1_eighths_82 3 rfl rfl ?_
        obtain ⟨x7, hc, h⟩ := g_bd h
        refine y_callS C (As := [.int (σ3.1 6 0 v1.toNatClampNeg), .int v3]) (rest := [.int x6]) (lk_X1_338_l1 C hR (by decide)) (ct_C1_offBy hc) rfl rfl (Nat.le_of_ble_eq_true rfl) ⟨Nat.zero_le _, Nat.zero_le _⟩ dX1_eighths_83 ?_
        refine y_icmp_ge (tgt := 92) C dX1_eighths_86 rfl (fun hc => ?_) (fun hc => ?_)
        · replace h := g_it h hc
          obtain ⟨x8, hx8, h⟩ := g_lt h
          refine y_iinc (c := (1 : Int32)) (vs1 := [(4, .int x8), (0, .ref (ad 0 0)), (1, .int v1), (2, .int v2), (3, .int v3)]) C hx8 (by decide) dX1_eighths_92 4 rfl (g_lL hL rfl) rfl ?_
          refine y_goto (tgt := 23) C dX1_eighths_95 rfl ?_
          refine y_sub (vs2 := [(0, .ref (ad 0 0)), (1, .int v1), (2, .int v2), (3, .int v3), (4, .int x8)]) [1, 2, 3, 4, 0] rfl ?_
          exact kl _ (Option.some.inj h).symm
        · replace h := g_if h hc
          refine y_iload C dX1_eighths_89 4 rfl ?_
          refine y_istore_n (vs1 := [(3, .int v4), (0, .ref (ad 0 0)), (1, .int v1), (2, .int v2), (4, .int v4)]) C rfl dX1_eighths_91 rfl (g_lL hL rfl) rfl ?_
          obtain ⟨x9, hx9, h⟩ := g_lt h
          refine y_iinc (c := (1 : Int32)) (vs1 := [(4, .int x9), (3, .int v4), (0, .ref (ad 0 0)), (1, .int v1), (2, .int v2)]) C hx9 (by decide) dX1_eighths_92 4 rfl (g_lL hL rfl) rfl ?_
          refine y_goto (tgt := 23) C dX1_eighths_95 rfl ?_
          refine y_sub (vs2 := [(0, .ref (ad 0 0)), (1, .int v1), (2, .int v2), (3, .int v4), (4, .int x9)]) [2, 3, 4, 1, 0] rfl ?_
          exact kl _ (Option.some.inj h).symm
    · replace h := g_it h hc
      refine y_goto (tgt := 92) C dX1_eighths_51 rfl ?_
      obtain ⟨x10, hx10, h⟩ := g_lt h
      refine y_iinc (c := (1 : Int32)) (vs1 := [(4, .int x10), (0, .ref (ad 0 0)), (1, .int v1), (2, .int v2), (3, .int v3)]) C hx10 (by decide) dX1_eighths_92 4 rfl (g_lL hL rfl) rfl ?_
      refine y_goto (tgt := 23) C dX1_eighths_95 rfl ?_
      refine y_sub (vs2 := [(0, .ref (ad 0 0)), (1, .int v1), (2, .int v2), (3, .int v3), (4, .int x10)]) [1, 2, 3, 4, 0] rfl ?_
      exact kl _ (Option.some.inj h).symm
theorem mw_C1_eighths {X : g_F} (C : g_M gCl X cX1_eighths RX1 (some .int)) (hR : g_R X = g_rm 305 0 0) (hL : g_nL X = 5) {ad : Nat → Nat → Nat} {σ : g_S} {v1 : Int32} {v2 : Int32} {o : (Int32 × g_S)} (h : mF_C1_eighths σ v1 v2 = some o) (hQ : g_MQ gCl X (gC true) ad o.2 (some (.int o.1)) = g_Q X) : g_Y gCl X (gC true) ad σ (0, 0) 0 [(0, .ref (ad 0 0)), (1, .int v1), (2, .int v2)] [] := by
  unfold mF_C1_eighths at h
  refine y_aload_n C dX1_eighths_0 0 rfl rfl ?_
  refine y_iload_n C dX1_eighths_1 1 rfl rfl ?_
  obtain ⟨x1, hc, h⟩ := g_bd h
  refine y_callV C (As := [.int v1]) (rest := []) (k := 0) (hu := nC_0_0) (hc := (rfl : gCl[0]? = some (RX1, TX1, 31))) (hcell := obC_0) (lk_X1_250_X1_l2 C hR (by decide)) (ct_C1_isMan hc) rfl rfl (Nat.le_of_ble_eq_true rfl) ⟨Nat.zero_le _, Nat.zero_le _⟩ dX1_eighths_2 ?_
  refine y_if_eq (tgt := 16) C dX1_eighths_5 rfl (fun hc => ?_) (fun hc => ?_)
  · replace h := g_it h hc
    refine y_iconst (v := (-1 : Int32)) C dX1_eighths_16 (by decide) ?_
    replace h := Option.some.inj h; subst h
    exact y_iret C hQ ⟨Nat.zero_le _, Nat.zero_le _⟩ dX1_eighths_17
  · replace h := g_if h hc
    refine y_aload_n C dX1_eighths_8 0 rfl rfl ?_
    refine y_iload_n C dX1_eighths_9 2 rfl rfl ?_
    obtain ⟨x2, hc, h⟩ := g_bd h
    refine y_callV C (As := [.int v2]) (rest := []) (k := 0) (hu := nC_0_0) (hc := (rfl : gCl[0]? = some (RX1, TX1, 31))) (hcell := obC_0) (lk_X1_358_X1_l2 C hR (by decide)) (ct_C1_isField hc) rfl rfl (Nat.le_of_ble_eq_true rfl) ⟨Nat.zero_le _, Nat.zero_le _⟩ dX1_eighths_10 ?_
    refine y_if_ne (tgt := 18) C dX1_eighths_13 rfl (fun hc => ?_) (fun hc => ?_)
    · replace h := g_if h hc
      refine y_iconst (v := (-1 : Int32)) C dX1_eighths_18 (by decide) ?_
      refine y_istore_n (vs1 := [(3, .int (-1 : Int32)), (0, .ref (ad 0 0)), (1, .int v1), (2, .int v2)]) C rfl dX1_eighths_19 rfl (g_lL hL rfl) rfl ?_
      refine y_iconst (v := (0 : Int32)) C dX1_eighths_20 (by decide) ?_
      refine y_istore (vs1 := [(4, .int (0 : Int32)), (3, .int (-1 : Int32)), (0, .ref (ad 0 0)), (1, .int v1), (2, .int v2)]) C rfl dX1_eighths_21 (g_lL hL rfl) rfl ?_
      refine y_sub (vs2 := [(0, .ref (ad 0 0)), (1, .int v1), (2, .int v2), (3, .int (-1 : Int32)), (4, .int (0 : Int32))]) [2, 3, 4, 1, 0] rfl ?_
      obtain ⟨e11, he11, h⟩ := g_bd h
      refine ml_C1_eighths_23 C hR hL (σ := σ) _ _ _ he11 ?_
      refine y_iload_n C dX1_eighths_98 2 rfl rfl ?_
      refine y_iconst (v := (-1 : Int32)) C dX1_eighths_99 (by decide) ?_
      refine y_icmp_ne (tgt := 106) C dX1_eighths_100 rfl (fun hc => ?_) (fun hc => ?_)
      · replace h := g_if h hc
        refine y_aload_n C dX1_eighths_106 0 rfl rfl ?_
        refine y_iconst (v := (0 : Int32)) C dX1_eighths_107 (by decide) ?_
        obtain ⟨σ12, hσ12, h⟩ := g_lt h
        refine pf_C_X1_139_0 C nC_0_0 hσ12 dX1_eighths_108 ?_
        refine y_aload_n C dX1_eighths_111 0 rfl rfl ?_
        refine y_iload_n C dX1_eighths_112 2 rfl rfl ?_
        refine y_i2l C dX1_eighths_113 ?_
        obtain ⟨σ13, hc, h⟩ := g_bd h
        refine y_callVv C (As := [.long (e11.1.toInt64)]) (rest := []) (k := 0) (hu := nC_0_0) (hc := (rfl : gCl[0]? = some (RX1, TX1, 31))) (hcell := obC_0) (lk_X1_330_X1_l1 C hR (by decide)) (ct_C1_tell_2 hc) rfl rfl (Nat.le_of_ble_eq_true rfl) ⟨Nat.zero_le _, Nat.zero_le _⟩ dX1_eighths_114 ?_
        refine y_aload_n C dX1_eighths_117 0 rfl rfl ?_
        refine gf_C_X1_84_0 C nC_0_0 dX1_eighths_118 ?_
        refine gf_C_X1_219_4 C nC_4_0 dX1_eighths_121 ?_
        refine y_iload_n C dX1_eighths_124 1 rfl rfl ?_
        obtain ⟨hg, h⟩ := g_gd h
        refine al_C_6 C nC_6_0 hg dX1_eighths_125 ?_
        refine y_iload_n C dX1_eighths_126 2 rfl rfl ?_
        obtain ⟨x14, hc, h⟩ := g_bd h
        refine y_callS C (As := [.int (σ13.1 6 0 v1.toNatClampNeg), .int e11.1]) (rest := []) (lk_X1_338_l1 C hR (by decide)) (ct_C1_offBy hc) rfl rfl (Nat.le_of_ble_eq_true rfl) ⟨Nat.zero_le _, Nat.zero_le _⟩ dX1_eighths_127 ?_
        replace h := Option.some.inj h; subst h
        exact y_iret C hQ ⟨Nat.zero_le _, Nat.zero_le _⟩ dX1_eighths_130
      · replace h := g_it h hc
        refine y_bipush (v := (-2 : Int32)) C dX1_eighths_103 (by decide) ?_
        replace h := Option.some.inj h; subst h
        exact y_iret C hQ ⟨Nat.zero_le _, Nat.zero_le _⟩ dX1_eighths_105
    · replace h := g_it h hc
      refine y_iconst (v := (-1 : Int32)) C dX1_eighths_16 (by decide) ?_
      replace h := Option.some.inj h; subst h
      exact y_iret C hQ ⟨Nat.zero_le _, Nat.zero_le _⟩ dX1_eighths_17
theorem ct_C1_eighths {D : va_G} {dA : Nat → ClassId} {A : Nat → Prop} {s0 : State} {b0 : Nat} {l : Launch} {ad : Nat → Nat → Nat} {σ : g_S} {v1 : Int32} {v2 : Int32} {r : Int32} {σ1 : g_S} (h : mF_C1_eighths σ v1 v2 = some (r, σ1)) : g_Met gCl D dA A s0 b0 l yX1_eighths cX1_eighths 5 (some .int) 305 (0, 0) (gC true) ad σ [.ref (ad 0 0), .int v1, .int v2] (gC true) ad σ1 (some (.int r)) :=
  g_Met.of pl_X1 (Nat.le_of_ble_eq_true rfl) (fun X C hQ hR _ _ hL _ es eb => mw_C1_eighths C hR hL h hQ)
theorem ml_C2_things_k2_4_5 {X : g_F} (C : g_M gCl X cX2_things RX2 (some .int)) (hR : g_R X = g_rm 305 0 0) (hL : g_nL X = 5) {u0 : Nat} (hu_u0 : u0 < g_n (gC true) 4) {ad : Nat → Nat → Nat} {σ : g_S} {v2 : Int32} (n : Nat) (v : (Int32 × Int32)) (e : Int32) (h : g_lp (fun v => mB_C2_things_k2_4_5 σ u0 v2 v.1 v.2) n v = some e) (kx : g_Y gCl X (gC true) ad σ (0, 0) 50 [(3, .int e)] []) : g_Y gCl X (gC true) ad σ (0, 0) 5 [(0, .ref (ad 2 0)), (1, .ref (ad 4 u0)), (2, .int v2), (3, .int v.1), (4, .int v.2)] [] := by
  refine g_loop (P := fun v => g_Y gCl X (gC true) ad σ (0, 0) 5 [(0, .ref (ad 2 0)), (1, .ref (ad 4 u0)), (2, .int v2), (3, .int v.1), (4, .int v.2)] []) (T := fun e => g_Y gCl X (gC true) ad σ (0, 0) 50 [(3, .int e)] []) ?_ n v e h kx
  clear h kx
  clear n v e
  intro v o h kl kx
  obtain ⟨v3, v4⟩ := v
  have h : mB_C2_things_k2_4_5 σ u0 v2 v3 v4 = some o := h
  unfold mB_C2_things_k2_4_5 at h
  show g_Y gCl X (gC true) ad σ (0, 0) 5 [(0, .ref (ad 2 0)), (1, .ref (ad 4 u0)), (2, .int v2), (3, .int v3), (4, .int v4)] []
  refine y_iload C dX2_things_5 4 rfl ?_
  refine y_aload_n C dX2_things_7 0 rfl rfl ?_
  refine gf_C_X2_3_2 C nC_2_0 dX2_things_8 ?_
  refine gf_C_X2_74_0 C nC_0_0 dX2_things_11 ?_
  refine y_icmp_ge (tgt := 50) C dX2_things_14 rfl (fun hc => ?_) (fun hc => ?_)
  · replace h := g_it h hc
    refine y_sub (vs2 := [(3, .int v3)]) [3] rfl ?_
    exact kx _ (Option.some.inj h).symm
  · replace h := g_if h hc
    refine y_iload_n C dX2_things_17 3 rfl rfl ?_
    refine y_aload_n C dX2_things_18 0 rfl rfl ?_
    refine y_aload_n C dX2_things_19 1 rfl rfl ?_
    refine y_iload_n C dX2_things_20 2 rfl rfl ?_
    refine y_aload_n C dX2_things_21 1 rfl rfl ?_
    refine gf_C_X2_77_4 C hu_u0 dX2_things_22 ?_
    refine y_iload C dX2_things_25 4 rfl ?_
    obtain ⟨hg, h⟩ := g_gd h
    refine al_C_9 C hu_u0 hg dX2_things_27 ?_
    obtain ⟨x1, hc, h⟩ := g_bd h
    refine y_callU C (As := [.ref (ad 4 u0), .int v2, .int (σ.1 9 u0 v4.toNatClampNeg)]) (rest := [.int v3]) (k := 2) (hu := nC_2_0) (hc := (rfl : gCl[2]? = some (RX3, TX3, 3))) (hcell := obC_2) (lk_X2_67_X3_X2_l304 C hR (by decide)) (ct_C2_sees_k2_4 hu_u0 hc) rfl rfl (Nat.le_of_ble_eq_true rfl) ⟨Nat.zero_le _, Nat.zero_le _⟩ dX2_things_28 ?_
    refine y_if_eq (tgt := 41) C dX2_things_31 rfl (fun hc => ?_) (fun hc => ?_)
    · replace h := g_it h hc
      refine y_iconst (v := (0 : Int32)) C dX2_things_41 (by decide) ?_
      refine y_ior C dX2_things_42 ?_
      obtain ⟨x2, hx2, h⟩ := g_lt h
      refine y_istore_n (vs1 := [(3, .int x2), (0, .ref (ad 2 0)), (1, .ref (ad 4 u0)), (2, .int v2), (4, .int v4)]) C hx2 dX2_things_43 rfl (g_lL hL rfl) rfl ?_
      obtain ⟨x3, hx3, h⟩ := g_lt h
      refine y_iinc (c := (1 : Int32)) (vs1 := [(4, .int x3), (3, .int x2), (0, .ref (ad 2 0)), (1, .ref (ad 4 u0)), (2, .int v2)]) C hx3 (by decide) dX2_things_44 4 rfl (g_lL hL rfl) rfl ?_
      refine y_goto (tgt := 5) C dX2_things_47 rfl ?_
      refine y_sub (vs2 := [(0, .ref (ad 2 0)), (1, .ref (ad 4 u0)), (2, .int v2), (3, .int x2), (4, .int x3)]) [2, 3, 4, 1, 0] rfl ?_
      exact kl _ (Option.some.inj h).symm
    · replace h := g_if h hc
      refine y_iconst (v := (1 : Int32)) C dX2_things_34 (by decide) ?_
      refine y_iload C dX2_things_35 4 rfl ?_
      refine y_ishl C dX2_things_37 ?_
      refine y_goto (tgt := 42) C dX2_things_38 rfl ?_
      refine y_ior C dX2_things_42 ?_
      obtain ⟨x4, hx4, h⟩ := g_lt h
      refine y_istore_n (vs1 := [(3, .int x4), (0, .ref (ad 2 0)), (1, .ref (ad 4 u0)), (2, .int v2), (4, .int v4)]) C hx4 dX2_things_43 rfl (g_lL hL rfl) rfl ?_
      obtain ⟨x5, hx5, h⟩ := g_lt h
      refine y_iinc (c := (1 : Int32)) (vs1 := [(4, .int x5), (3, .int x4), (0, .ref (ad 2 0)), (1, .ref (ad 4 u0)), (2, .int v2)]) C hx5 (by decide) dX2_things_44 4 rfl (g_lL hL rfl) rfl ?_
      refine y_goto (tgt := 5) C dX2_things_47 rfl ?_
      refine y_sub (vs2 := [(0, .ref (ad 2 0)), (1, .ref (ad 4 u0)), (2, .int v2), (3, .int x4), (4, .int x5)]) [2, 3, 4, 1, 0] rfl ?_
      exact kl _ (Option.some.inj h).symm
theorem mw_C2_things_k2_4 {X : g_F} (C : g_M gCl X cX2_things RX2 (some .int)) (hR : g_R X = g_rm 305 0 0) (hL : g_nL X = 5) {u0 : Nat} (hu_u0 : u0 < g_n (gC true) 4) {ad : Nat → Nat → Nat} {σ : g_S} {v2 : Int32} {o : Int32} (h : mF_C2_things_k2_4 σ u0 v2 = some o) (hQ : g_MQ gCl X (gC true) ad σ (some (.int o)) = g_Q X) : g_Y gCl X (gC true) ad σ (0, 0) 0 [(0, .ref (ad 2 0)), (1, .ref (ad 4 u0)), (2, .int v2)] [] := by
  unfold mF_C2_things_k2_4 at h
  refine y_iconst (v := (0 : Int32)) C dX2_things_0 (by decide) ?_
  refine y_istore_n (vs1 := [(3, .int (0 : Int32)), (0, .ref (ad 2 0)), (1, .ref (ad 4 u0)), (2, .int v2)]) C rfl dX2_things_1 rfl (g_lL hL rfl) rfl ?_
  refine y_iconst (v := (0 : Int32)) C dX2_things_2 (by decide) ?_
  refine y_istore (vs1 := [(4, .int (0 : Int32)), (3, .int (0 : Int32)), (0, .ref (ad 2 0)), (1, .ref (ad 4 u0)), (2, .int v2)]) C rfl dX2_things_3 (g_lL hL rfl) rfl ?_
  refine y_sub (vs2 := [(0, .ref (ad 2 0)), (1, .ref (ad 4 u0)), (2, .int v2), (3, .int (0 : Int32)), (4, .int (0 : Int32))]) [2, 3, 4, 1, 0] rfl ?_
  obtain ⟨e6, he6, h⟩ := g_bd h
  refine ml_C2_things_k2_4_5 C hR hL hu_u0 (σ := σ) _ _ _ he6 ?_
  refine y_iload_n C dX2_things_50 0 rfl rfl ?_
  replace h := Option.some.inj h; subst h
  exact y_iret C hQ ⟨Nat.zero_le _, Nat.zero_le _⟩ dX2_things_51
theorem ct_C2_things_k2_4 {D : va_G} {dA : Nat → ClassId} {A : Nat → Prop} {s0 : State} {b0 : Nat} {l : Launch} {u0 : Nat} (hu_u0 : u0 < g_n (gC true) 4) {ad : Nat → Nat → Nat} {σ : g_S} {v2 : Int32} {r : Int32} (h : mF_C2_things_k2_4 σ u0 v2 = some r) : g_Met gCl D dA A s0 b0 l yX2_things cX2_things 5 (some .int) 305 (0, 0) (gC true) ad σ [.ref (ad 2 0), .ref (ad 4 u0), .int v2] (gC true) ad σ (some (.int r)) :=
  g_Met.of pl_X2 (Nat.le_of_ble_eq_true rfl) (fun X C hQ hR _ _ hL _ es eb => mw_C2_things_k2_4 C hR hL hu_u0 h hQ)
theorem mw_C1_cost {X : g_F} {hid : Bool} (C : g_M gCl X cX1_cost RX1 (some .int)) (hR : g_R X = g_rm 1 0 0) (hL : g_nL X = 3) {ad : Nat → Nat → Nat} {σ : g_S} {v1 : Int32} {v2 : Int32} {o : Int32} (h : mF_C1_cost σ v1 v2 = some o) (hQ : g_MQ gCl X (gC hid) ad σ (some (.int o)) = g_Q X) : g_Y gCl X (gC hid) ad σ (0, 0) 0 [(0, .ref (ad 0 0)), (1, .int v1), (2, .int v2)] [] := by
  unfold mF_C1_cost at h
  refine y_iload_n C dX1_cost_0 2 rfl rfl ?_
  refine y_aload_n C dX1_cost_1 0 rfl rfl ?_
  refine gf_C_X1_84_0 C nC_0_0 dX1_cost_2 ?_
  refine gf_C_X1_219_4 C nC_4_0 dX1_cost_5 ?_
  refine y_iload_n C dX1_cost_8 1 rfl rfl ?_
  obtain ⟨hg, h⟩ := g_gd h
  refine al_C_6 C nC_6_0 hg dX1_cost_9 ?_
  refine y_icmp_ne (tgt := 17) C dX1_cost_10 rfl (fun hc => ?_) (fun hc => ?_)
  · replace h := g_if h hc
    refine y_iconst (v := (1 : Int32)) C dX1_cost_17 (by decide) ?_
    replace h := Option.some.inj h; subst h
    exact y_iret C hQ ⟨Nat.zero_le _, Nat.zero_le _⟩ dX1_cost_18
  · replace h := g_it h hc
    refine y_iconst (v := (0 : Int32)) C dX1_cost_13 (by decide) ?_
    refine y_goto (tgt := 18) C dX1_cost_14 rfl ?_
    replace h := Option.some.inj h; subst h
    exact y_iret C hQ ⟨Nat.zero_le _, Nat.zero_le _⟩ dX1_cost_18
theorem ct_C1_cost {D : va_G} {dA : Nat → ClassId} {A : Nat → Prop} {s0 : State} {b0 : Nat} {l : Launch} {hid : Bool} {ad : Nat → Nat → Nat} {σ : g_S} {v1 : Int32} {v2 : Int32} {r : Int32} (h : mF_C1_cost σ v1 v2 = some r) : g_Met gCl D dA A s0 b0 l yX1_cost cX1_cost 3 (some .int) 1 (0, 0) (gC hid) ad σ [.ref (ad 0 0), .int v1, .int v2] (gC hid) ad σ (some (.int r)) :=
  g_Met.of pl_X1 (Nat.le_of_ble_eq_true rfl) (fun X C hQ hR _ _ hL _ es eb => mw_C1_cost C hR hL h hQ)
theorem ml_C1_turned_12 {X : g_F} (C : g_M gCl X cX1_turned RX1 (some .int)) (hR : g_R X = g_rm 306 0 0) (hL : g_nL X = 4) {ad : Nat → Nat → Nat} {σ : g_S} {v1 : Int32} (n : Nat) (v : (Int32 × g_S)) (e : g_S) (h : g_lp (fun v => mB_C1_turned_12 v.2 v1 v.1) n v = some e) (kx : g_Y gCl X (gC true) ad e (0, 0) 48 [(0, .ref (ad 0 0)), (1, .int v1)] []) : g_Y gCl X (gC true) ad v.2 (0, 0) 12 [(0, .ref (ad 0 0)), (1, .int v1), (2, .int v.1)] [] := by
  refine g_loop (P := fun v => g_Y gCl X (gC true) ad v.2 (0, 0) 12 [(0, .ref (ad 0 0)), (1, .int v1), (2, .int v.1)] []) (T := fun e => g_Y gCl X (gC true) ad e (0, 0) 48 [(0, .ref (ad 0 0)), (1, .int v1)] []) ?_ n v e h kx
  clear h kx
  clear n v e
  intro v o h kl kx
  obtain ⟨v2, σ⟩ := v
  have h : mB_C1_turned_12 σ v1 v2 = some o := h
  unfold mB_C1_turned_12 at h
  show g_Y gCl X (gC true) ad σ (0, 0) 12 [(0, .ref (ad 0 0)), (1, .int v1), (2, .int v2)] []
  refine y_iload_n C dX1_turned_12 2 rfl rfl ?_
  refine y_bipush (v := (8 : Int32)) C dX1_turned_13 (by decide) ?_
  refine y_icmp_ge (tgt := 48) C dX1_turned_15 rfl (fun hc => ?_) (fun hc => ?_)
  · replace h := g_it h hc
    refine y_sub (vs2 := [(0, .ref (ad 0 0)), (1, .int v1)]) [0, 1] rfl ?_
    exact kx _ (Option.some.inj h).symm
  · replace h := g_if h hc
    refine y_aload_n C dX1_turned_18 0 rfl rfl ?_
    refine gf_C_X1_118_0 C nC_0_0 dX1_turned_19 ?_
    refine y_iload_n C dX1_turned_22 1 rfl rfl ?_
    obtain ⟨hg1, h⟩ := g_gd h
    refine aa_C_16 C hg1 dX1_turned_23 ?_
    refine y_iload_n C dX1_turned_24 2 rfl rfl ?_
    refine y_aload_n C dX1_turned_25 0 rfl rfl ?_
    refine gf_C_X1_69_0 C nC_0_0 dX1_turned_26 ?_
    refine y_iload_n C dX1_turned_29 2 rfl rfl ?_
    obtain ⟨σ2, hc, h⟩ := g_bd h
    refine y_callV C (As := [.int v2]) (rest := [.int v2, .ref (ad 17 v1.toNatClampNeg)]) (k := 2) (hu := nC_2_0) (hc := (rfl : gCl[2]? = some (RX3, TX3, 3))) (hcell := obC_2) (lk_X1_423_X3_l1 C hR (by decide)) (ct_C3_to hc) rfl rfl (Nat.le_of_ble_eq_true rfl) ⟨Nat.zero_le _, Nat.zero_le _⟩ dX1_turned_30 ?_
    refine y_aload_n C dX1_turned_33 0 rfl rfl ?_
    refine gf_C_X1_84_0 C nC_0_0 dX1_turned_34 ?_
    refine y_iload_n C dX1_turned_37 1 rfl rfl ?_
    obtain ⟨x3, hc, h⟩ := g_bd h
    refine y_callU C (As := [.ref (ad 4 0), .int v1]) (rest := [.int v2, .ref (ad 17 v1.toNatClampNeg)]) (k := 2) (hu := nC_2_0) (hc := (rfl : gCl[2]? = some (RX3, TX3, 3))) (hcell := obC_2) (lk_X1_428_X3_X2_l305 C hR (by decide)) (ct_C2_things_k2_4 nC_4_0 hc) rfl rfl (Nat.le_of_ble_eq_true rfl) ⟨Nat.zero_le _, Nat.zero_le _⟩ dX1_turned_38 ?_
    obtain ⟨hg, h⟩ := g_gd h
    obtain ⟨σ4, hσ4, h⟩ := g_lt h
    refine as_C_17 C (ux_C_16 hg1) hσ4 hg dX1_turned_41 ?_
    obtain ⟨x5, hx5, h⟩ := g_lt h
    refine y_iinc (c := (1 : Int32)) (vs1 := [(2, .int x5), (0, .ref (ad 0 0)), (1, .int v1)]) C hx5 (by decide) dX1_turned_42 2 rfl (g_lL hL rfl) rfl ?_
    refine y_goto (tgt := 12) C dX1_turned_45 rfl ?_
    refine y_sub (vs2 := [(0, .ref (ad 0 0)), (1, .int v1), (2, .int x5)]) [1, 2, 0] rfl ?_
    exact kl _ (Option.some.inj h).symm
theorem ml_C1_turned_2 {X : g_F} (C : g_M gCl X cX1_turned RX1 (some .int)) (hR : g_R X = g_rm 306 0 0) (hL : g_nL X = 4) {ad : Nat → Nat → Nat} {σ : g_S} (n : Nat) (v : (Int32 × g_S)) (e : g_S) (h : g_lp (fun v => mB_C1_turned_2 v.2 v.1) n v = some e) (kx : g_Y gCl X (gC true) ad e (0, 0) 54 [(0, .ref (ad 0 0))] []) : g_Y gCl X (gC true) ad v.2 (0, 0) 2 [(0, .ref (ad 0 0)), (1, .int v.1)] [] := by
  refine g_loop (P := fun v => g_Y gCl X (gC true) ad v.2 (0, 0) 2 [(0, .ref (ad 0 0)), (1, .int v.1)] []) (T := fun e => g_Y gCl X (gC true) ad e (0, 0) 54 [(0, .ref (ad 0 0))] []) ?_ n v e h kx
  clear h kx
  clear n v e
  intro v o h kl kx
  obtain ⟨v1, σ⟩ := v
  have h : mB_C1_turned_2 σ v1 = some o := h
  unfold mB_C1_turned_2 at h
  show g_Y gCl X (gC true) ad σ (0, 0) 2 [(0, .ref (ad 0 0)), (1, .int v1)] []
  refine y_iload_n C dX1_turned_2 1 rfl rfl ?_
  refine y_aload_n C dX1_turned_3 0 rfl rfl ?_
  refine gf_C_X1_150_0 C nC_0_0 dX1_turned_4 ?_
  refine y_icmp_ge (tgt := 54) C dX1_turned_7 rfl (fun hc => ?_) (fun hc => ?_)
  · replace h := g_it h hc
    refine y_sub (vs2 := [(0, .ref (ad 0 0))]) [0] rfl ?_
    exact kx _ (Option.some.inj h).symm
  · replace h := g_if h hc
    refine y_iconst (v := (0 : Int32)) C dX1_turned_10 (by decide) ?_
    refine y_istore_n (vs1 := [(2, .int (0 : Int32)), (0, .ref (ad 0 0)), (1, .int v1)]) C rfl dX1_turned_11 rfl (g_lL hL rfl) rfl ?_
    refine y_sub (vs2 := [(0, .ref (ad 0 0)), (1, .int v1), (2, .int (0 : Int32))]) [1, 2, 0] rfl ?_
    obtain ⟨e6, he6, h⟩ := g_bd h
    refine ml_C1_turned_12 C hR hL (σ := σ) _ _ _ he6 ?_
    obtain ⟨x7, hx7, h⟩ := g_lt h
    refine y_iinc (c := (1 : Int32)) (vs1 := [(1, .int x7), (0, .ref (ad 0 0))]) C hx7 (by decide) dX1_turned_48 1 rfl (g_lL hL rfl) rfl ?_
    refine y_goto (tgt := 2) C dX1_turned_51 rfl ?_
    refine y_sub (vs2 := [(0, .ref (ad 0 0)), (1, .int x7)]) [1, 0] rfl ?_
    exact kl _ (Option.some.inj h).symm
theorem mj_C1_turned_89 {X : g_F} (C : g_M gCl X cX1_turned RX1 (some .int)) (hR : g_R X = g_rm 306 0 0) (hL : g_nL X = 4) {ad : Nat → Nat → Nat} {σ : g_S} {v1 : Int32} {s0 : Nat} {s1 : Int32} {s2 : Int32} {o : ((Int32 × g_S) ⊕ g_S)} (h : mJ_C1_turned_89 σ v1 s0 s1 s2 = some o) (kl : ∀ z, o = .inl z → g_Y gCl X (gC true) ad z.2 (0, 0) 56 [(0, .ref (ad 0 0)), (1, .int z.1)] []) (kx : ∀ z, o = .inr z → g_Y gCl X (gC true) ad z (0, 0) 96 [(0, .ref (ad 0 0))] []) : g_Y gCl X (gC true) ad σ (0, 0) 89 [(0, .ref (ad 0 0)), (1, .int v1)] [.int s2, .int s1, .ref (ad 19 s0)] := by
  unfold mJ_C1_turned_89 at h
  obtain ⟨hu_s0, h⟩ := g_gd h
  obtain ⟨hg, h⟩ := g_gd h
  obtain ⟨σ12, hσ12, h⟩ := g_lt h
  refine as_C_19 C hu_s0 hσ12 hg dX1_turned_89 ?_
  obtain ⟨x13, hx13, h⟩ := g_lt h
  refine y_iinc (c := (1 : Int32)) (vs1 := [(1, .int x13), (0, .ref (ad 0 0))]) C hx13 (by decide) dX1_turned_90 1 rfl (g_lL hL rfl) rfl ?_
  refine y_goto (tgt := 56) C dX1_turned_93 rfl ?_
  refine y_sub (vs2 := [(0, .ref (ad 0 0)), (1, .int x13)]) [1, 0] rfl ?_
  exact kl _ (Option.some.inj h).symm
theorem ml_C1_turned_56 {X : g_F} (C : g_M gCl X cX1_turned RX1 (some .int)) (hR : g_R X = g_rm 306 0 0) (hL : g_nL X = 4) {ad : Nat → Nat → Nat} {σ : g_S} (n : Nat) (v : (Int32 × g_S)) (e : g_S) (h : g_lp (fun v => mB_C1_turned_56 v.2 v.1) n v = some e) (kx : g_Y gCl X (gC true) ad e (0, 0) 96 [(0, .ref (ad 0 0))] []) : g_Y gCl X (gC true) ad v.2 (0, 0) 56 [(0, .ref (ad 0 0)), (1, .int v.1)] [] := by
  refine g_loop (P := fun v => g_Y gCl X (gC true) ad v.2 (0, 0) 56 [(0, .ref (ad 0 0)), (1, .int v.1)] []) (T := fun e => g_Y gCl X (gC true) ad e (0, 0) 96 [(0, .ref (ad 0 0))] []) ?_ n v e h kx
  clear h kx
  clear n v e
  intro v o h kl kx
  obtain ⟨v1, σ⟩ := v
  have h : mB_C1_turned_56 σ v1 = some o := h
  unfold mB_C1_turned_56 at h
  show g_Y gCl X (gC true) ad σ (0, 0) 56 [(0, .ref (ad 0 0)), (1, .int v1)] []
  refine y_iload_n C dX1_turned_56 1 rfl rfl ?_
  refine y_aload_n C dX1_turned_57 0 rfl rfl ?_
  obtain ⟨x9, hc, h⟩ := g_bd h
  refine y_callV C (As := []) (rest := [.int v1]) (k := 0) (hu := nC_0_0) (hc := (rfl : gCl[0]? = some (RX1, TX1, 31))) (hcell := obC_0) (lk_X1_415_X1_l1 C hR (by decide)) (ct_C1_allThings hc) rfl rfl (Nat.le_of_ble_eq_true rfl) ⟨Nat.zero_le _, Nat.zero_le _⟩ dX1_turned_58 ?_
  refine y_icmp_gt (tgt := 96) C dX1_turned_61 rfl (fun hc => ?_) (fun hc => ?_)
  · replace h := g_it h hc
    refine y_sub (vs2 := [(0, .ref (ad 0 0))]) [0] rfl ?_
    exact kx _ (Option.some.inj h).symm
  · replace h := g_if h hc
    refine y_aload_n C dX1_turned_64 0 rfl rfl ?_
    refine gf_C_X1_121_0 C nC_0_0 dX1_turned_65 ?_
    refine y_aload_n C dX1_turned_68 0 rfl rfl ?_
    refine gf_C_X1_150_0 C nC_0_0 dX1_turned_69 ?_
    obtain ⟨hg10, h⟩ := g_gd h
    refine aa_C_18 C hg10 dX1_turned_72 ?_
    refine y_iload_n C dX1_turned_73 1 rfl rfl ?_
    refine y_iload_n C dX1_turned_74 1 rfl rfl ?_
    refine y_aload_n C dX1_turned_75 0 rfl rfl ?_
    obtain ⟨x11, hc, h⟩ := g_bd h
    refine y_callV C (As := []) (rest := [.int v1, .int v1, .ref (ad 19 (σ.1 0 0 5).toNatClampNeg)]) (k := 0) (hu := nC_0_0) (hc := (rfl : gCl[0]? = some (RX1, TX1, 31))) (hcell := obC_0) (lk_X1_415_X1_l1 C hR (by decide)) (ct_C1_allThings hc) rfl rfl (Nat.le_of_ble_eq_true rfl) ⟨Nat.zero_le _, Nat.zero_le _⟩ dX1_turned_76 ?_
    refine y_icmp_ne (tgt := 86) C dX1_turned_79 rfl (fun hc => ?_) (fun hc => ?_)
    · replace h := g_if h hc
      refine y_ldcw (v := (1000000 : Int32)) C q1106 dX1_turned_86 ?_
      exact mj_C1_turned_89 C hR hL h kl kx
    · replace h := g_it h hc
      refine y_iconst (v := (0 : Int32)) C dX1_turned_82 (by decide) ?_
      refine y_goto (tgt := 89) C dX1_turned_83 rfl ?_
      exact mj_C1_turned_89 C hR hL h kl kx
theorem ml_C1_turned_130 {X : g_F} (C : g_M gCl X cX1_turned RX1 (some .int)) (hR : g_R X = g_rm 306 0 0) (hL : g_nL X = 4) {ad : Nat → Nat → Nat} {σ : g_S} {v1 : Int32} {v2 : Int32} (n : Nat) (v : (Int32 × g_S)) (e : g_S) (h : g_lp (fun v => mB_C1_turned_130 v.2 v1 v2 v.1) n v = some e) (kx : g_Y gCl X (gC true) ad e (0, 0) 187 [(0, .ref (ad 0 0)), (1, .int v1), (2, .int v2)] []) : g_Y gCl X (gC true) ad v.2 (0, 0) 130 [(0, .ref (ad 0 0)), (1, .int v1), (2, .int v2), (3, .int v.1)] [] := by
  refine g_loop (P := fun v => g_Y gCl X (gC true) ad v.2 (0, 0) 130 [(0, .ref (ad 0 0)), (1, .int v1), (2, .int v2), (3, .int v.1)] []) (T := fun e => g_Y gCl X (gC true) ad e (0, 0) 187 [(0, .ref (ad 0 0)), (1, .int v1), (2, .int v2)] []) ?_ n v e h kx
  clear h kx
  clear n v e
  intro v o h kl kx
  obtain ⟨v3, σ⟩ := v
  have h : mB_C1_turned_130 σ v1 v2 v3 = some o := h
  unfold mB_C1_turned_130 at h
  show g_Y gCl X (gC true) ad σ (0, 0) 130 [(0, .ref (ad 0 0)), (1, .int v1), (2, .int v2), (3, .int v3)] []
  refine y_iload_n C dX1_turned_130 3 rfl rfl ?_
  refine y_bipush (v := (8 : Int32)) C dX1_turned_131 (by decide) ?_
  refine y_icmp_ge (tgt := 187) C dX1_turned_133 rfl (fun hc => ?_) (fun hc => ?_)
  · replace h := g_it h hc
    refine y_sub (vs2 := [(0, .ref (ad 0 0)), (1, .int v1), (2, .int v2)]) [0, 1, 2] rfl ?_
    exact kx _ (Option.some.inj h).symm
  · replace h := g_if h hc
    refine y_aload_n C dX1_turned_136 0 rfl rfl ?_
    refine gf_C_X1_121_0 C nC_0_0 dX1_turned_137 ?_
    refine y_iload_n C dX1_turned_140 1 rfl rfl ?_
    obtain ⟨hg19, h⟩ := g_gd h
    refine aa_C_18 C hg19 dX1_turned_141 ?_
    refine y_iload_n C dX1_turned_142 2 rfl rfl ?_
    refine y_aload_n C dX1_turned_143 0 rfl rfl ?_
    refine gf_C_X1_121_0 C nC_0_0 dX1_turned_144 ?_
    refine y_iload_n C dX1_turned_147 1 rfl rfl ?_
    obtain ⟨hg20, h⟩ := g_gd h
    refine aa_C_18 C hg20 dX1_turned_148 ?_
    refine y_iload_n C dX1_turned_149 2 rfl rfl ?_
    obtain ⟨hg, h⟩ := g_gd h
    refine al_C_19 C (ux_C_18 hg20) hg dX1_turned_150 ?_
    refine y_aload_n C dX1_turned_151 0 rfl rfl ?_
    refine y_iload_n C dX1_turned_152 1 rfl rfl ?_
    refine y_iload_n C dX1_turned_153 3 rfl rfl ?_
    obtain ⟨x21, hc, h⟩ := g_bd h
    refine y_callV C (As := [.int v1, .int v3]) (rest := [.int (σ.1 19 v1.toNatClampNeg v2.toNatClampNeg), .int v2, .ref (ad 19 v1.toNatClampNeg)]) (k := 0) (hu := nC_0_0) (hc := (rfl : gCl[0]? = some (RX1, TX1, 31))) (hcell := obC_0) (lk_X1_430_X1_l1 C hR (by decide)) (ct_C1_cost hc) rfl rfl (Nat.le_of_ble_eq_true rfl) ⟨Nat.zero_le _, Nat.zero_le _⟩ dX1_turned_154 ?_
    refine y_aload_n C dX1_turned_157 0 rfl rfl ?_
    refine gf_C_X1_121_0 C nC_0_0 dX1_turned_158 ?_
    refine y_iload_n C dX1_turned_161 1 rfl rfl ?_
    refine y_iconst (v := (1 : Int32)) C dX1_turned_162 (by decide) ?_
    refine y_iadd C dX1_turned_163 ?_
    obtain ⟨hg22, h⟩ := g_gd h
    refine aa_C_18 C hg22 dX1_turned_164 ?_
    refine y_iload_n C dX1_turned_165 2 rfl rfl ?_
    refine y_aload_n C dX1_turned_166 0 rfl rfl ?_
    refine gf_C_X1_118_0 C nC_0_0 dX1_turned_167 ?_
    refine y_iload_n C dX1_turned_170 1 rfl rfl ?_
    obtain ⟨hg23, h⟩ := g_gd h
    refine aa_C_16 C hg23 dX1_turned_171 ?_
    refine y_iload_n C dX1_turned_172 3 rfl rfl ?_
    obtain ⟨hg, h⟩ := g_gd h
    refine al_C_17 C (ux_C_16 hg23) hg dX1_turned_173 ?_
    refine y_ior C dX1_turned_174 ?_
    obtain ⟨hg, h⟩ := g_gd h
    refine al_C_19 C (ux_C_18 hg22) hg dX1_turned_175 ?_
    refine y_iadd C dX1_turned_176 ?_
    refine y_mmin C q509 (g_rmM hR (by decide)) (Nat.le_of_ble_eq_true rfl) ⟨Nat.zero_le _, Nat.zero_le _⟩ dX1_turned_177 ?_
    obtain ⟨hg, h⟩ := g_gd h
    obtain ⟨σ24, hσ24, h⟩ := g_lt h
    refine as_C_19 C (ux_C_18 hg20) hσ24 hg dX1_turned_180 ?_
    obtain ⟨x25, hx25, h⟩ := g_lt h
    refine y_iinc (c := (1 : Int32)) (vs1 := [(3, .int x25), (0, .ref (ad 0 0)), (1, .int v1), (2, .int v2)]) C hx25 (by decide) dX1_turned_181 3 rfl (g_lL hL rfl) rfl ?_
    refine y_goto (tgt := 130) C dX1_turned_184 rfl ?_
    refine y_sub (vs2 := [(0, .ref (ad 0 0)), (1, .int v1), (2, .int v2), (3, .int x25)]) [1, 2, 3, 0] rfl ?_
    exact kl _ (Option.some.inj h).symm
theorem ml_C1_turned_109 {X : g_F} (C : g_M gCl X cX1_turned RX1 (some .int)) (hR : g_R X = g_rm 306 0 0) (hL : g_nL X = 4) {ad : Nat → Nat → Nat} {σ : g_S} {v1 : Int32} (n : Nat) (v : (Int32 × g_S)) (e : g_S) (h : g_lp (fun v => mB_C1_turned_109 v.2 v1 v.1) n v = some e) (kx : g_Y gCl X (gC true) ad e (0, 0) 193 [(0, .ref (ad 0 0)), (1, .int v1)] []) : g_Y gCl X (gC true) ad v.2 (0, 0) 109 [(0, .ref (ad 0 0)), (1, .int v1), (2, .int v.1)] [] := by
  refine g_loop (P := fun v => g_Y gCl X (gC true) ad v.2 (0, 0) 109 [(0, .ref (ad 0 0)), (1, .int v1), (2, .int v.1)] []) (T := fun e => g_Y gCl X (gC true) ad e (0, 0) 193 [(0, .ref (ad 0 0)), (1, .int v1)] []) ?_ n v e h kx
  clear h kx
  clear n v e
  intro v o h kl kx
  obtain ⟨v2, σ⟩ := v
  have h : mB_C1_turned_109 σ v1 v2 = some o := h
  unfold mB_C1_turned_109 at h
  show g_Y gCl X (gC true) ad σ (0, 0) 109 [(0, .ref (ad 0 0)), (1, .int v1), (2, .int v2)] []
  refine y_iload_n C dX1_turned_109 2 rfl rfl ?_
  refine y_aload_n C dX1_turned_110 0 rfl rfl ?_
  obtain ⟨x16, hc, h⟩ := g_bd h
  refine y_callV C (As := []) (rest := [.int v2]) (k := 0) (hu := nC_0_0) (hc := (rfl : gCl[0]? = some (RX1, TX1, 31))) (hcell := obC_0) (lk_X1_415_X1_l1 C hR (by decide)) (ct_C1_allThings hc) rfl rfl (Nat.le_of_ble_eq_true rfl) ⟨Nat.zero_le _, Nat.zero_le _⟩ dX1_turned_111 ?_
  refine y_icmp_gt (tgt := 193) C dX1_turned_114 rfl (fun hc => ?_) (fun hc => ?_)
  · replace h := g_it h hc
    refine y_sub (vs2 := [(0, .ref (ad 0 0)), (1, .int v1)]) [0, 1] rfl ?_
    exact kx _ (Option.some.inj h).symm
  · replace h := g_if h hc
    refine y_aload_n C dX1_turned_117 0 rfl rfl ?_
    refine gf_C_X1_121_0 C nC_0_0 dX1_turned_118 ?_
    refine y_iload_n C dX1_turned_121 1 rfl rfl ?_
    obtain ⟨hg17, h⟩ := g_gd h
    refine aa_C_18 C hg17 dX1_turned_122 ?_
    refine y_iload_n C dX1_turned_123 2 rfl rfl ?_
    refine y_ldcw (v := (1000000 : Int32)) C q1106 dX1_turned_124 ?_
    obtain ⟨hg, h⟩ := g_gd h
    obtain ⟨σ18, hσ18, h⟩ := g_lt h
    refine as_C_19 C (ux_C_18 hg17) hσ18 hg dX1_turned_127 ?_
    refine y_iconst (v := (0 : Int32)) C dX1_turned_128 (by decide) ?_
    refine y_istore_n (vs1 := [(3, .int (0 : Int32)), (0, .ref (ad 0 0)), (1, .int v1), (2, .int v2)]) C rfl dX1_turned_129 rfl (g_lL hL rfl) rfl ?_
    refine y_sub (vs2 := [(0, .ref (ad 0 0)), (1, .int v1), (2, .int v2), (3, .int (0 : Int32))]) [1, 2, 3, 0] rfl ?_
    obtain ⟨e26, he26, h⟩ := g_bd h
    refine ml_C1_turned_130 C hR hL (σ := σ18) _ _ _ he26 ?_
    obtain ⟨x27, hx27, h⟩ := g_lt h
    refine y_iinc (c := (1 : Int32)) (vs1 := [(2, .int x27), (0, .ref (ad 0 0)), (1, .int v1)]) C hx27 (by decide) dX1_turned_187 2 rfl (g_lL hL rfl) rfl ?_
    refine y_goto (tgt := 109) C dX1_turned_190 rfl ?_
    refine y_sub (vs2 := [(0, .ref (ad 0 0)), (1, .int v1), (2, .int x27)]) [1, 2, 0] rfl ?_
    exact kl _ (Option.some.inj h).symm
theorem ml_C1_turned_103 {X : g_F} (C : g_M gCl X cX1_turned RX1 (some .int)) (hR : g_R X = g_rm 306 0 0) (hL : g_nL X = 4) {ad : Nat → Nat → Nat} {σ : g_S} (n : Nat) (v : (Int32 × g_S)) (e : g_S) (h : g_lp (fun v => mB_C1_turned_103 v.2 v.1) n v = some e) (kx : g_Y gCl X (gC true) ad e (0, 0) 199 [(0, .ref (ad 0 0))] []) : g_Y gCl X (gC true) ad v.2 (0, 0) 103 [(0, .ref (ad 0 0)), (1, .int v.1)] [] := by
  refine g_loop (P := fun v => g_Y gCl X (gC true) ad v.2 (0, 0) 103 [(0, .ref (ad 0 0)), (1, .int v.1)] []) (T := fun e => g_Y gCl X (gC true) ad e (0, 0) 199 [(0, .ref (ad 0 0))] []) ?_ n v e h kx
  clear h kx
  clear n v e
  intro v o h kl kx
  obtain ⟨v1, σ⟩ := v
  have h : mB_C1_turned_103 σ v1 = some o := h
  unfold mB_C1_turned_103 at h
  show g_Y gCl X (gC true) ad σ (0, 0) 103 [(0, .ref (ad 0 0)), (1, .int v1)] []
  refine y_iload_n C dX1_turned_103 1 rfl rfl ?_
  refine y_if_lt (tgt := 199) C dX1_turned_104 rfl (fun hc => ?_) (fun hc => ?_)
  · replace h := g_it h hc
    refine y_sub (vs2 := [(0, .ref (ad 0 0))]) [0] rfl ?_
    exact kx _ (Option.some.inj h).symm
  · replace h := g_if h hc
    refine y_iconst (v := (0 : Int32)) C dX1_turned_107 (by decide) ?_
    refine y_istore_n (vs1 := [(2, .int (0 : Int32)), (0, .ref (ad 0 0)), (1, .int v1)]) C rfl dX1_turned_108 rfl (g_lL hL rfl) rfl ?_
    refine y_sub (vs2 := [(0, .ref (ad 0 0)), (1, .int v1), (2, .int (0 : Int32))]) [1, 2, 0] rfl ?_
    obtain ⟨e28, he28, h⟩ := g_bd h
    refine ml_C1_turned_109 C hR hL (σ := σ) _ _ _ he28 ?_
    obtain ⟨x29, hx29, h⟩ := g_lt h
    refine y_iinc (c := (-1 : Int32)) (vs1 := [(1, .int x29), (0, .ref (ad 0 0))]) C hx29 (by decide) dX1_turned_193 1 rfl (g_lL hL rfl) rfl ?_
    refine y_goto (tgt := 103) C dX1_turned_196 rfl ?_
    refine y_sub (vs2 := [(0, .ref (ad 0 0)), (1, .int x29)]) [1, 0] rfl ?_
    exact kl _ (Option.some.inj h).symm
theorem ml_C1_turned_235 {X : g_F} (C : g_M gCl X cX1_turned RX1 (some .int)) (hR : g_R X = g_rm 306 0 0) (hL : g_nL X = 4) {ad : Nat → Nat → Nat} {σ : g_S} {v1 : Int32} {v2 : Int32} (n : Nat) (v : Int32) (e : Int32) (h : g_lp (fun v => mB_C1_turned_235 σ v1 v2 v) n v = some e) (kx : g_Y gCl X (gC true) ad σ (0, 0) 278 [(0, .ref (ad 0 0)), (1, .int v1), (2, .int v2), (3, .int e)] []) : g_Y gCl X (gC true) ad σ (0, 0) 235 [(0, .ref (ad 0 0)), (1, .int v1), (2, .int v2), (3, .int v)] [] := by
  refine g_loop (P := fun v => g_Y gCl X (gC true) ad σ (0, 0) 235 [(0, .ref (ad 0 0)), (1, .int v1), (2, .int v2), (3, .int v)] []) (T := fun e => g_Y gCl X (gC true) ad σ (0, 0) 278 [(0, .ref (ad 0 0)), (1, .int v1), (2, .int v2), (3, .int e)] []) ?_ n v e h kx
  clear h kx
  clear n v e
  intro v o h kl kx
  obtain ⟨v3, rfl⟩ : ∃ z, z = v := ⟨_, rfl⟩
  have h : mB_C1_turned_235 σ v1 v2 v3 = some o := h
  unfold mB_C1_turned_235 at h
  show g_Y gCl X (gC true) ad σ (0, 0) 235 [(0, .ref (ad 0 0)), (1, .int v1), (2, .int v2), (3, .int v3)] []
  refine y_aload_n C dX1_turned_235 0 rfl rfl ?_
  refine y_iload_n C dX1_turned_236 2 rfl rfl ?_
  refine y_iload_n C dX1_turned_237 3 rfl rfl ?_
  obtain ⟨x33, hc, h⟩ := g_bd h
  refine y_callV C (As := [.int v2, .int v3]) (rest := []) (k := 0) (hu := nC_0_0) (hc := (rfl : gCl[0]? = some (RX1, TX1, 31))) (hcell := obC_0) (lk_X1_430_X1_l1 C hR (by decide)) (ct_C1_cost hc) rfl rfl (Nat.le_of_ble_eq_true rfl) ⟨Nat.zero_le _, Nat.zero_le _⟩ dX1_turned_238 ?_
  refine y_aload_n C dX1_turned_241 0 rfl rfl ?_
  refine gf_C_X1_121_0 C nC_0_0 dX1_turned_242 ?_
  refine y_iload_n C dX1_turned_245 2 rfl rfl ?_
  refine y_iconst (v := (1 : Int32)) C dX1_turned_246 (by decide) ?_
  refine y_iadd C dX1_turned_247 ?_
  obtain ⟨hg34, h⟩ := g_gd h
  refine aa_C_18 C hg34 dX1_turned_248 ?_
  refine y_iload_n C dX1_turned_249 1 rfl rfl ?_
  refine y_aload_n C dX1_turned_250 0 rfl rfl ?_
  refine gf_C_X1_118_0 C nC_0_0 dX1_turned_251 ?_
  refine y_iload_n C dX1_turned_254 2 rfl rfl ?_
  obtain ⟨hg35, h⟩ := g_gd h
  refine aa_C_16 C hg35 dX1_turned_255 ?_
  refine y_iload_n C dX1_turned_256 3 rfl rfl ?_
  obtain ⟨hg, h⟩ := g_gd h
  refine al_C_17 C (ux_C_16 hg35) hg dX1_turned_257 ?_
  refine y_ior C dX1_turned_258 ?_
  obtain ⟨hg, h⟩ := g_gd h
  refine al_C_19 C (ux_C_18 hg34) hg dX1_turned_259 ?_
  refine y_iadd C dX1_turned_260 ?_
  refine y_aload_n C dX1_turned_261 0 rfl rfl ?_
  refine gf_C_X1_121_0 C nC_0_0 dX1_turned_262 ?_
  refine y_iload_n C dX1_turned_265 2 rfl rfl ?_
  obtain ⟨hg36, h⟩ := g_gd h
  refine aa_C_18 C hg36 dX1_turned_266 ?_
  refine y_iload_n C dX1_turned_267 1 rfl rfl ?_
  obtain ⟨hg, h⟩ := g_gd h
  refine al_C_19 C (ux_C_18 hg36) hg dX1_turned_268 ?_
  refine y_icmp_eq (tgt := 278) C dX1_turned_269 rfl (fun hc => ?_) (fun hc => ?_)
  · replace h := g_it h hc
    exact kx _ (Option.some.inj h).symm
  · replace h := g_if h hc
    obtain ⟨x37, hx37, h⟩ := g_lt h
    refine y_iinc (c := (1 : Int32)) (vs1 := [(3, .int x37), (0, .ref (ad 0 0)), (1, .int v1), (2, .int v2)]) C hx37 (by decide) dX1_turned_272 3 rfl (g_lL hL rfl) rfl ?_
    refine y_goto (tgt := 235) C dX1_turned_275 rfl ?_
    refine y_sub (vs2 := [(0, .ref (ad 0 0)), (1, .int v1), (2, .int v2), (3, .int x37)]) [1, 2, 3, 0] rfl ?_
    exact kl _ (Option.some.inj h).symm
theorem ml_C1_turned_225 {X : g_F} (C : g_M gCl X cX1_turned RX1 (some .int)) (hR : g_R X = g_rm 306 0 0) (hL : g_nL X = 4) {ad : Nat → Nat → Nat} {σ : g_S} (n : Nat) (v : (Int32 × Int32 × g_S)) (e : g_S) (h : g_lp (fun v => mB_C1_turned_225 v.2.2 v.1 v.2.1) n v = some e) (kx : g_Y gCl X (gC true) ad e (0, 0) 301 [(0, .ref (ad 0 0))] []) : g_Y gCl X (gC true) ad v.2.2 (0, 0) 225 [(0, .ref (ad 0 0)), (1, .int v.1), (2, .int v.2.1)] [] := by
  refine g_loop (P := fun v => g_Y gCl X (gC true) ad v.2.2 (0, 0) 225 [(0, .ref (ad 0 0)), (1, .int v.1), (2, .int v.2.1)] []) (T := fun e => g_Y gCl X (gC true) ad e (0, 0) 301 [(0, .ref (ad 0 0))] []) ?_ n v e h kx
  clear h kx
  clear n v e
  intro v o h kl kx
  obtain ⟨v1, v2, σ⟩ := v
  have h : mB_C1_turned_225 σ v1 v2 = some o := h
  unfold mB_C1_turned_225 at h
  show g_Y gCl X (gC true) ad σ (0, 0) 225 [(0, .ref (ad 0 0)), (1, .int v1), (2, .int v2)] []
  refine y_iload_n C dX1_turned_225 2 rfl rfl ?_
  refine y_aload_n C dX1_turned_226 0 rfl rfl ?_
  refine gf_C_X1_150_0 C nC_0_0 dX1_turned_227 ?_
  refine y_icmp_ge (tgt := 301) C dX1_turned_230 rfl (fun hc => ?_) (fun hc => ?_)
  · replace h := g_it h hc
    refine y_sub (vs2 := [(0, .ref (ad 0 0))]) [0] rfl ?_
    exact kx _ (Option.some.inj h).symm
  · replace h := g_if h hc
    refine y_iconst (v := (0 : Int32)) C dX1_turned_233 (by decide) ?_
    refine y_istore_n (vs1 := [(3, .int (0 : Int32)), (0, .ref (ad 0 0)), (1, .int v1), (2, .int v2)]) C rfl dX1_turned_234 rfl (g_lL hL rfl) rfl ?_
    refine y_sub (vs2 := [(0, .ref (ad 0 0)), (1, .int v1), (2, .int v2), (3, .int (0 : Int32))]) [1, 2, 3, 0] rfl ?_
    obtain ⟨e38, he38, h⟩ := g_bd h
    refine ml_C1_turned_235 C hR hL (σ := σ) _ _ _ he38 ?_
    refine y_aload_n C dX1_turned_278 0 rfl rfl ?_
    refine y_iload_n C dX1_turned_279 3 rfl rfl ?_
    refine y_i2l C dX1_turned_280 ?_
    obtain ⟨σ39, hc, h⟩ := g_bd h
    refine y_callVv C (As := [.long (e38.toInt64)]) (rest := []) (k := 0) (hu := nC_0_0) (hc := (rfl : gCl[0]? = some (RX1, TX1, 31))) (hcell := obC_0) (lk_X1_330_X1_l1 C hR (by decide)) (ct_C1_tell_2 hc) rfl rfl (Nat.le_of_ble_eq_true rfl) ⟨Nat.zero_le _, Nat.zero_le _⟩ dX1_turned_281 ?_
    refine y_iload_n C dX1_turned_284 1 rfl rfl ?_
    refine y_aload_n C dX1_turned_285 0 rfl rfl ?_
    refine gf_C_X1_118_0 C nC_0_0 dX1_turned_286 ?_
    refine y_iload_n C dX1_turned_289 2 rfl rfl ?_
    obtain ⟨hg40, h⟩ := g_gd h
    refine aa_C_16 C hg40 dX1_turned_290 ?_
    refine y_iload_n C dX1_turned_291 3 rfl rfl ?_
    obtain ⟨hg, h⟩ := g_gd h
    refine al_C_17 C (ux_C_16 hg40) hg dX1_turned_292 ?_
    refine y_ior C dX1_turned_293 ?_
    obtain ⟨x41, hx41, h⟩ := g_lt h
    refine y_istore_n (vs1 := [(1, .int x41), (0, .ref (ad 0 0)), (2, .int v2), (3, .int e38)]) C hx41 dX1_turned_294 rfl (g_lL hL rfl) rfl ?_
    obtain ⟨x42, hx42, h⟩ := g_lt h
    refine y_iinc (c := (1 : Int32)) (vs1 := [(2, .int x42), (1, .int x41), (0, .ref (ad 0 0)), (3, .int e38)]) C hx42 (by decide) dX1_turned_295 2 rfl (g_lL hL rfl) rfl ?_
    refine y_goto (tgt := 225) C dX1_turned_298 rfl ?_
    refine y_sub (vs2 := [(0, .ref (ad 0 0)), (1, .int x41), (2, .int x42)]) [2, 1, 0] rfl ?_
    exact kl _ (Option.some.inj h).symm
theorem mw_C1_turned {X : g_F} (C : g_M gCl X cX1_turned RX1 (some .int)) (hR : g_R X = g_rm 306 0 0) (hL : g_nL X = 4) {ad : Nat → Nat → Nat} {σ : g_S} {o : (Int32 × g_S)} (h : mF_C1_turned σ = some o) (hQ : g_MQ gCl X (gC true) ad o.2 (some (.int o.1)) = g_Q X) : g_Y gCl X (gC true) ad σ (0, 0) 0 [(0, .ref (ad 0 0))] [] := by
  unfold mF_C1_turned at h
  refine y_iconst (v := (0 : Int32)) C dX1_turned_0 (by decide) ?_
  refine y_istore_n (vs1 := [(1, .int (0 : Int32)), (0, .ref (ad 0 0))]) C rfl dX1_turned_1 rfl (g_lL hL rfl) rfl ?_
  refine y_sub (vs2 := [(0, .ref (ad 0 0)), (1, .int (0 : Int32))]) [1, 0] rfl ?_
  obtain ⟨e8, he8, h⟩ := g_bd h
  refine ml_C1_turned_2 C hR hL (σ := σ) _ _ _ he8 ?_
  refine y_iconst (v := (0 : Int32)) C dX1_turned_54 (by decide) ?_
  refine y_istore_n (vs1 := [(1, .int (0 : Int32)), (0, .ref (ad 0 0))]) C rfl dX1_turned_55 rfl (g_lL hL rfl) rfl ?_
  refine y_sub (vs2 := [(0, .ref (ad 0 0)), (1, .int (0 : Int32))]) [1, 0] rfl ?_
  obtain ⟨e14, he14, h⟩ := g_bd h
  refine ml_C1_turned_56 C hR hL (σ := e8) _ _ _ he14 ?_
  refine y_aload_n C dX1_turned_96 0 rfl rfl ?_
  refine gf_C_X1_150_0 C nC_0_0 dX1_turned_97 ?_
  refine y_iconst (v := (1 : Int32)) C dX1_turned_100 (by decide) ?_
  refine y_isub C dX1_turned_101 ?_
  obtain ⟨x15, hx15, h⟩ := g_lt h
  refine y_istore_n (vs1 := [(1, .int x15), (0, .ref (ad 0 0))]) C hx15 dX1_turned_102 rfl (g_lL hL rfl) rfl ?_
  refine y_sub (vs2 := [(0, .ref (ad 0 0)), (1, .int x15)]) [1, 0] rfl ?_
  obtain ⟨e30, he30, h⟩ := g_bd h
  refine ml_C1_turned_103 C hR hL (σ := e14) _ _ _ he30 ?_
  refine y_aload_n C dX1_turned_199 0 rfl rfl ?_
  refine gf_C_X1_121_0 C nC_0_0 dX1_turned_200 ?_
  refine y_iconst (v := (0 : Int32)) C dX1_turned_203 (by decide) ?_
  obtain ⟨hg31, h⟩ := g_gd h
  refine aa_C_18 C hg31 dX1_turned_204 ?_
  refine y_iconst (v := (0 : Int32)) C dX1_turned_205 (by decide) ?_
  obtain ⟨hg, h⟩ := g_gd h
  refine al_C_19 C (ux_C_18 hg31) hg dX1_turned_206 ?_
  refine y_ldcw (v := (1000000 : Int32)) C q1106 dX1_turned_207 ?_
  refine y_icmp_lt (tgt := 216) C dX1_turned_210 rfl (fun hc => ?_) (fun hc => ?_)
  · replace h := g_it h hc
    refine y_iconst (v := (0 : Int32)) C dX1_turned_216 (by decide) ?_
    refine y_istore_n (vs1 := [(1, .int (0 : Int32)), (0, .ref (ad 0 0))]) C rfl dX1_turned_217 rfl (g_lL hL rfl) rfl ?_
    refine y_aload_n C dX1_turned_218 1 rfl rfl ?_
    refine y_iconst (v := (0 : Int32)) C dX1_turned_219 (by decide) ?_
    obtain ⟨σ32, hσ32, h⟩ := g_lt h
    refine pf_C_X1_139_0 C nC_0_0 hσ32 dX1_turned_220 ?_
    refine y_iconst (v := (0 : Int32)) C dX1_turned_223 (by decide) ?_
    refine y_istore_n (vs1 := [(2, .int (0 : Int32)), (1, .int (0 : Int32)), (0, .ref (ad 0 0))]) C rfl dX1_turned_224 rfl (g_lL hL rfl) rfl ?_
    refine y_sub (vs2 := [(0, .ref (ad 0 0)), (1, .int (0 : Int32)), (2, .int (0 : Int32))]) [2, 1, 0] rfl ?_
    obtain ⟨e43, he43, h⟩ := g_bd h
    refine ml_C1_turned_225 C hR hL (σ := σ32) _ _ _ he43 ?_
    refine y_aload_n C dX1_turned_301 0 rfl rfl ?_
    refine gf_C_X1_121_0 C nC_0_0 dX1_turned_302 ?_
    refine y_iconst (v := (0 : Int32)) C dX1_turned_305 (by decide) ?_
    obtain ⟨hg44, h⟩ := g_gd h
    refine aa_C_18 C hg44 dX1_turned_306 ?_
    refine y_iconst (v := (0 : Int32)) C dX1_turned_307 (by decide) ?_
    obtain ⟨hg, h⟩ := g_gd h
    refine al_C_19 C (ux_C_18 hg44) hg dX1_turned_308 ?_
    replace h := Option.some.inj h; subst h
    exact y_iret C hQ ⟨Nat.zero_le _, Nat.zero_le _⟩ dX1_turned_309
  · replace h := g_if h hc
    refine y_bipush (v := (-2 : Int32)) C dX1_turned_213 (by decide) ?_
    replace h := Option.some.inj h; subst h
    exact y_iret C hQ ⟨Nat.zero_le _, Nat.zero_le _⟩ dX1_turned_215
theorem ct_C1_turned {D : va_G} {dA : Nat → ClassId} {A : Nat → Prop} {s0 : State} {b0 : Nat} {l : Launch} {ad : Nat → Nat → Nat} {σ : g_S} {r : Int32} {σ1 : g_S} (h : mF_C1_turned σ = some (r, σ1)) : g_Met gCl D dA A s0 b0 l yX1_turned cX1_turned 4 (some .int) 306 (0, 0) (gC true) ad σ [.ref (ad 0 0)] (gC true) ad σ1 (some (.int r)) :=
  g_Met.of pl_X1 (Nat.le_of_ble_eq_true rfl) (fun X C hQ hR _ _ hL _ es eb => mw_C1_turned C hR hL h hQ)
theorem ml_C1_best_32 {X : g_F} (C : g_M gCl X cX1_best RX1 (some .int)) (hR : g_R X = g_rm 306 0 0) (hL : g_nL X = 6) {ad : Nat → Nat → Nat} {σ : g_S} {v1 : Int32} (n : Nat) (v : (Int32 × Int32 × Int32 × g_S)) (e : (Int32 × Int32 × g_S)) (h : g_lp (fun v => mB_C1_best_32 v.2.2.2 v1 v.1 v.2.1 v.2.2.1) n v = some e) (kx : g_Y gCl X (gC true) ad e.2.2 (0, 0) 85 [(0, .ref (ad 0 0)), (2, .int e.1), (3, .int e.2.1)] []) : g_Y gCl X (gC true) ad v.2.2.2 (0, 0) 32 [(0, .ref (ad 0 0)), (1, .int v1), (2, .int v.1), (3, .int v.2.1), (4, .int v.2.2.1)] [] := by
  refine g_loop (P := fun v => g_Y gCl X (gC true) ad v.2.2.2 (0, 0) 32 [(0, .ref (ad 0 0)), (1, .int v1), (2, .int v.1), (3, .int v.2.1), (4, .int v.2.2.1)] []) (T := fun e => g_Y gCl X (gC true) ad e.2.2 (0, 0) 85 [(0, .ref (ad 0 0)), (2, .int e.1), (3, .int e.2.1)] []) ?_ n v e h kx
  clear h kx
  clear n v e
  intro v o h kl kx
  obtain ⟨v2, v3, v4, σ⟩ := v
  have h : mB_C1_best_32 σ v1 v2 v3 v4 = some o := h
  unfold mB_C1_best_32 at h
  show g_Y gCl X (gC true) ad σ (0, 0) 32 [(0, .ref (ad 0 0)), (1, .int v1), (2, .int v2), (3, .int v3), (4, .int v4)] []
  refine y_iload C dX1_best_32 4 rfl ?_
  refine y_bipush (v := (8 : Int32)) C dX1_best_34 (by decide) ?_
  refine y_icmp_ge (tgt := 85) C dX1_best_36 rfl (fun hc => ?_) (fun hc => ?_)
  · replace h := g_it h hc
    refine y_sub (vs2 := [(0, .ref (ad 0 0)), (2, .int v2), (3, .int v3)]) [0, 2, 3] rfl ?_
    exact kx _ (Option.some.inj h).symm
  · replace h := g_if h hc
    refine y_aload_n C dX1_best_39 0 rfl rfl ?_
    refine gf_C_X1_69_0 C nC_0_0 dX1_best_40 ?_
    refine y_iload C dX1_best_43 4 rfl ?_
    obtain ⟨σ4, hc, h⟩ := g_bd h
    refine y_callV C (As := [.int v4]) (rest := []) (k := 2) (hu := nC_2_0) (hc := (rfl : gCl[2]? = some (RX3, TX3, 3))) (hcell := obC_2) (lk_X1_423_X3_l1 C hR (by decide)) (ct_C3_to hc) rfl rfl (Nat.le_of_ble_eq_true rfl) ⟨Nat.zero_le _, Nat.zero_le _⟩ dX1_best_45 ?_
    refine y_aload_n C dX1_best_48 0 rfl rfl ?_
    refine gf_C_X1_84_0 C nC_0_0 dX1_best_49 ?_
    refine y_iload_n C dX1_best_52 1 rfl rfl ?_
    obtain ⟨x5, hc, h⟩ := g_bd h
    refine y_callU C (As := [.ref (ad 4 0), .int v1]) (rest := []) (k := 2) (hu := nC_2_0) (hc := (rfl : gCl[2]? = some (RX3, TX3, 3))) (hcell := obC_2) (lk_X1_428_X3_X2_l305 C hR (by decide)) (ct_C2_things_k2_4 nC_4_0 hc) rfl rfl (Nat.le_of_ble_eq_true rfl) ⟨Nat.zero_le _, Nat.zero_le _⟩ dX1_best_53 ?_
    refine y_istore (vs1 := [(5, .int x5), (0, .ref (ad 0 0)), (1, .int v1), (2, .int v2), (3, .int v3), (4, .int v4)]) C rfl dX1_best_56 (g_lL hL rfl) rfl ?_
    refine y_iload C dX1_best_58 0 rfl ?_
    obtain ⟨x6, hc, h⟩ := g_bd h
    refine y_callS C (As := [.int x5]) (rest := []) (lk_X1_315_l1 C hR (by decide)) (ct_J8_bitCount hc) rfl rfl (Nat.le_of_ble_eq_true rfl) ⟨Nat.zero_le _, Nat.zero_le _⟩ dX1_best_60 ?_
    refine y_iload_n C dX1_best_63 4 rfl rfl ?_
    obtain ⟨x7, hc, h⟩ := g_bd h
    refine y_callS C (As := [.int v3]) (rest := [.int x6]) (lk_X1_315_l1 C hR (by decide)) (ct_J8_bitCount hc) rfl rfl (Nat.le_of_ble_eq_true rfl) ⟨Nat.zero_le _, Nat.zero_le _⟩ dX1_best_64 ?_
    refine y_icmp_gt (tgt := 73) C dX1_best_67 rfl (fun hc => ?_) (fun hc => ?_)
    · replace h := g_it h hc
      refine y_iload C dX1_best_73 5 rfl ?_
      refine y_istore_n (vs1 := [(2, .int v4), (5, .int x5), (0, .ref (ad 0 0)), (1, .int v1), (3, .int v3), (4, .int v4)]) C rfl dX1_best_75 rfl (g_lL hL rfl) rfl ?_
      refine y_iload C dX1_best_76 1 rfl ?_
      refine y_istore_n (vs1 := [(3, .int x5), (2, .int v4), (5, .int x5), (0, .ref (ad 0 0)), (1, .int v1), (4, .int v4)]) C rfl dX1_best_78 rfl (g_lL hL rfl) rfl ?_
      obtain ⟨x8, hx8, h⟩ := g_lt h
      refine y_iinc (c := (1 : Int32)) (vs1 := [(4, .int x8), (3, .int x5), (2, .int v4), (5, .int x5), (0, .ref (ad 0 0)), (1, .int v1)]) C hx8 (by decide) dX1_best_79 5 rfl (g_lL hL rfl) rfl ?_
      refine y_goto (tgt := 32) C dX1_best_82 rfl ?_
      refine y_sub (vs2 := [(0, .ref (ad 0 0)), (1, .int v1), (2, .int v4), (3, .int x5), (4, .int x8)]) [4, 5, 2, 1, 0] rfl ?_
      exact kl _ (Option.some.inj h).symm
    · replace h := g_if h hc
      refine y_goto (tgt := 79) C dX1_best_70 rfl ?_
      obtain ⟨x9, hx9, h⟩ := g_lt h
      refine y_iinc (c := (1 : Int32)) (vs1 := [(4, .int x9), (5, .int x5), (0, .ref (ad 0 0)), (1, .int v1), (2, .int v2), (3, .int v3)]) C hx9 (by decide) dX1_best_79 5 rfl (g_lL hL rfl) rfl ?_
      refine y_goto (tgt := 32) C dX1_best_82 rfl ?_
      refine y_sub (vs2 := [(0, .ref (ad 0 0)), (1, .int v1), (2, .int v2), (3, .int v3), (4, .int x9)]) [2, 3, 4, 5, 0] rfl ?_
      exact kl _ (Option.some.inj h).symm
theorem mw_C1_best {X : g_F} (C : g_M gCl X cX1_best RX1 (some .int)) (hR : g_R X = g_rm 306 0 0) (hL : g_nL X = 6) {ad : Nat → Nat → Nat} {σ : g_S} {v1 : Int32} {o : (Int32 × g_S)} (h : mF_C1_best σ v1 = some o) (hQ : g_MQ gCl X (gC true) ad o.2 (some (.int o.1)) = g_Q X) : g_Y gCl X (gC true) ad σ (0, 0) 0 [(0, .ref (ad 0 0)), (1, .int v1)] [] := by
  unfold mF_C1_best at h
  refine y_aload_n C dX1_best_0 0 rfl rfl ?_
  refine y_iload_n C dX1_best_1 1 rfl rfl ?_
  obtain ⟨x1, hc, h⟩ := g_bd h
  refine y_callV C (As := [.int v1]) (rest := []) (k := 0) (hu := nC_0_0) (hc := (rfl : gCl[0]? = some (RX1, TX1, 31))) (hcell := obC_0) (lk_X1_250_X1_l2 C hR (by decide)) (ct_C1_isMan hc) rfl rfl (Nat.le_of_ble_eq_true rfl) ⟨Nat.zero_le _, Nat.zero_le _⟩ dX1_best_2 ?_
  refine y_if_ne (tgt := 10) C dX1_best_5 rfl (fun hc => ?_) (fun hc => ?_)
  · replace h := g_if h hc
    refine y_iconst (v := (0 : Int32)) C dX1_best_10 (by decide) ?_
    refine y_istore_n (vs1 := [(2, .int (0 : Int32)), (0, .ref (ad 0 0)), (1, .int v1)]) C rfl dX1_best_11 rfl (g_lL hL rfl) rfl ?_
    refine y_aload_n C dX1_best_12 1 rfl rfl ?_
    refine gf_C_X1_69_0 C nC_0_0 dX1_best_13 ?_
    refine y_iconst (v := (0 : Int32)) C dX1_best_16 (by decide) ?_
    obtain ⟨σ2, hc, h⟩ := g_bd h
    refine y_callV C (As := [.int (0 : Int32)]) (rest := []) (k := 2) (hu := nC_2_0) (hc := (rfl : gCl[2]? = some (RX3, TX3, 3))) (hcell := obC_2) (lk_X1_423_X3_l1 C hR (by decide)) (ct_C3_to hc) rfl rfl (Nat.le_of_ble_eq_true rfl) ⟨Nat.zero_le _, Nat.zero_le _⟩ dX1_best_17 ?_
    refine y_aload_n C dX1_best_20 1 rfl rfl ?_
    refine gf_C_X1_84_0 C nC_0_0 dX1_best_21 ?_
    refine y_iload_n C dX1_best_24 2 rfl rfl ?_
    obtain ⟨x3, hc, h⟩ := g_bd h
    refine y_callU C (As := [.ref (ad 4 0), .int v1]) (rest := []) (k := 2) (hu := nC_2_0) (hc := (rfl : gCl[2]? = some (RX3, TX3, 3))) (hcell := obC_2) (lk_X1_428_X3_X2_l305 C hR (by decide)) (ct_C2_things_k2_4 nC_4_0 hc) rfl rfl (Nat.le_of_ble_eq_true rfl) ⟨Nat.zero_le _, Nat.zero_le _⟩ dX1_best_25 ?_
    refine y_istore_n (vs1 := [(3, .int x3), (2, .int (0 : Int32)), (0, .ref (ad 0 0)), (1, .int v1)]) C rfl dX1_best_28 rfl (g_lL hL rfl) rfl ?_
    refine y_iconst (v := (1 : Int32)) C dX1_best_29 (by decide) ?_
    refine y_istore (vs1 := [(4, .int (1 : Int32)), (3, .int x3), (2, .int (0 : Int32)), (0, .ref (ad 0 0)), (1, .int v1)]) C rfl dX1_best_30 (g_lL hL rfl) rfl ?_
    refine y_sub (vs2 := [(0, .ref (ad 0 0)), (1, .int v1), (2, .int (0 : Int32)), (3, .int x3), (4, .int (1 : Int32))]) [3, 4, 2, 1, 0] rfl ?_
    obtain ⟨e10, he10, h⟩ := g_bd h
    refine ml_C1_best_32 C hR hL (σ := σ2) _ _ _ he10 ?_
    refine y_aload_n C dX1_best_85 0 rfl rfl ?_
    refine y_iconst (v := (0 : Int32)) C dX1_best_86 (by decide) ?_
    obtain ⟨σ11, hσ11, h⟩ := g_lt h
    refine pf_C_X1_139_0 C nC_0_0 hσ11 dX1_best_87 ?_
    refine y_aload_n C dX1_best_90 0 rfl rfl ?_
    refine y_iload_n C dX1_best_91 2 rfl rfl ?_
    refine y_i2l C dX1_best_92 ?_
    obtain ⟨σ12, hc, h⟩ := g_bd h
    refine y_callVv C (As := [.long (e10.2.1.toInt64)]) (rest := []) (k := 0) (hu := nC_0_0) (hc := (rfl : gCl[0]? = some (RX1, TX1, 31))) (hcell := obC_0) (lk_X1_330_X1_l1 C hR (by decide)) (ct_C1_tell_2 hc) rfl rfl (Nat.le_of_ble_eq_true rfl) ⟨Nat.zero_le _, Nat.zero_le _⟩ dX1_best_93 ?_
    refine y_iload_n C dX1_best_96 1 rfl rfl ?_
    replace h := Option.some.inj h; subst h
    exact y_iret C hQ ⟨Nat.zero_le _, Nat.zero_le _⟩ dX1_best_97
  · replace h := g_it h hc
    refine y_iconst (v := (-1 : Int32)) C dX1_best_8 (by decide) ?_
    replace h := Option.some.inj h; subst h
    exact y_iret C hQ ⟨Nat.zero_le _, Nat.zero_le _⟩ dX1_best_9
theorem ct_C1_best {D : va_G} {dA : Nat → ClassId} {A : Nat → Prop} {s0 : State} {b0 : Nat} {l : Launch} {ad : Nat → Nat → Nat} {σ : g_S} {v1 : Int32} {r : Int32} {σ1 : g_S} (h : mF_C1_best σ v1 = some (r, σ1)) : g_Met gCl D dA A s0 b0 l yX1_best cX1_best 6 (some .int) 306 (0, 0) (gC true) ad σ [.ref (ad 0 0), .int v1] (gC true) ad σ1 (some (.int r)) :=
  g_Met.of pl_X1 (Nat.le_of_ble_eq_true rfl) (fun X C hQ hR _ _ hL _ es eb => mw_C1_best C hR hL h hQ)
theorem mw_C4_to {X : g_F} {hid : Bool} (C : g_M gCl X cX4_to RX4 (some (.object "BonnetValley$Trimmed"))) (hR : g_R X = g_rm 1 0 0) (hL : g_nL X = 2) {ad : Nat → Nat → Nat} {σ : g_S} {v1 : Int32} {o : g_S} (h : mF_C4_to σ v1 = some o) (hQ : g_MQ gCl X (gC hid) ad o (some (.ref (ad 3 0))) = g_Q X) : g_Y gCl X (gC hid) ad σ (0, 0) 0 [(0, .ref (ad 3 0)), (1, .int v1)] [] := by
  unfold mF_C4_to at h
  refine y_aload_n C dX4_to_0 0 rfl rfl ?_
  refine y_iload_n C dX4_to_1 1 rfl rfl ?_
  obtain ⟨σ1, hσ1, h⟩ := g_lt h
  refine pf_C_X4_13_3 C nC_3_0 hσ1 dX4_to_2 ?_
  refine y_aload_n C dX4_to_5 0 rfl rfl ?_
  replace h := Option.some.inj h; subst h
  exact y_aret C (Or.inl ⟨_, rfl⟩) (Or.inr ⟨_, rfl⟩) hQ ⟨Nat.zero_le _, Nat.zero_le _⟩ dX4_to_6
theorem ct_C4_to {D : va_G} {dA : Nat → ClassId} {A : Nat → Prop} {s0 : State} {b0 : Nat} {l : Launch} {hid : Bool} {ad : Nat → Nat → Nat} {σ : g_S} {v1 : Int32} {σ1 : g_S} (h : mF_C4_to σ v1 = some σ1) : g_Met gCl D dA A s0 b0 l yX4_to cX4_to 2 (some (.object "BonnetValley$Trimmed")) 1 (0, 0) (gC hid) ad σ [.ref (ad 3 0), .int v1] (gC hid) ad σ1 (some (.ref (ad 3 0))) :=
  g_Met.of pl_X4 (Nat.le_of_ble_eq_true rfl) (fun X C hQ hR _ _ hL _ es eb => mw_C4_to C hR hL h hQ)
theorem mw_C4_reach {X : g_F} (C : g_M gCl X cX4_reach RX4 (some .int)) (hR : g_R X = g_rm 303 0 0) (hL : g_nL X = 3) {u0 : Nat} (hu_u0 : u0 < g_n (gC true) 4) {ad : Nat → Nat → Nat} {σ : g_S} {v2 : Int32} {o : Int32} (h : mF_C4_reach σ u0 v2 = some o) (hQ : g_MQ gCl X (gC true) ad σ (some (.int o)) = g_Q X) : g_Y gCl X (gC true) ad σ (0, 0) 0 [(0, .ref (ad 3 0)), (1, .ref (ad 4 u0)), (2, .int v2)] [] := by
  unfold mF_C4_reach at h
  refine y_aload_n C dX4_reach_0 0 rfl rfl ?_
  refine gf_C_X4_1_3 C nC_3_0 dX4_reach_1 ?_
  refine y_aload_n C dX4_reach_4 1 rfl rfl ?_
  refine y_iload_n C dX4_reach_5 2 rfl rfl ?_
  refine y_aload_n C dX4_reach_6 0 rfl rfl ?_
  refine gf_C_X4_13_3 C nC_3_0 dX4_reach_7 ?_
  obtain ⟨x1, hc, h⟩ := g_bd h
  refine y_callVN C (As := [.ref (ad 4 u0), .int v2, .int (σ.1 3 0 1)]) (rest := []) (k := 0) (hu := nC_0_0) (hc := (rfl : gCl[0]? = some (RX1, TX1, 31))) (hcell := obC_0) (lk_X4_17_X1_l302 C hR (by decide)) (ct_R_C_reachBy hu_u0 hc) rfl rfl (Nat.le_of_ble_eq_true rfl) ⟨Nat.zero_le _, Nat.zero_le _⟩ dX4_reach_10 ?_
  replace h := Option.some.inj h; subst h
  exact y_iret C hQ ⟨Nat.zero_le _, Nat.zero_le _⟩ dX4_reach_13
theorem ct_C4_reach {D : va_G} {dA : Nat → ClassId} {A : Nat → Prop} {s0 : State} {b0 : Nat} {l : Launch} {u0 : Nat} (hu_u0 : u0 < g_n (gC true) 4) {ad : Nat → Nat → Nat} {σ : g_S} {v2 : Int32} {r : Int32} (h : mF_C4_reach σ u0 v2 = some r) : g_Met gCl D dA A s0 b0 l yX4_reach cX4_reach 3 (some .int) 303 (0, 0) (gC true) ad σ [.ref (ad 3 0), .ref (ad 4 u0), .int v2] (gC true) ad σ (some (.int r)) :=
  g_Met.of pl_X4 (Nat.le_of_ble_eq_true rfl) (fun X C hQ hR _ _ hL _ es eb => mw_C4_reach C hR hL hu_u0 h hQ)
theorem mw_C2_facing_k3_4 {X : g_F} {hid : Bool} (C : g_M gCl X cX2_facing RX2 (some .int)) (hR : g_R X = g_rm 1 0 0) (hL : g_nL X = 3) {u0 : Nat} (hu_u0 : u0 < g_n (gC hid) 4) {ad : Nat → Nat → Nat} {σ : g_S} {v2 : Int32} {o : Int32} (h : mF_C2_facing_k3_4 σ u0 v2 = some o) (hQ : g_MQ gCl X (gC hid) ad σ (some (.int o)) = g_Q X) : g_Y gCl X (gC hid) ad σ (0, 0) 0 [(0, .ref (ad 3 0)), (1, .ref (ad 4 u0)), (2, .int v2)] [] := by
  unfold mF_C2_facing_k3_4 at h
  refine y_aload_n C dX2_facing_0 1 rfl rfl ?_
  refine gf_C_X2_15_4 C hu_u0 dX2_facing_1 ?_
  refine y_iload_n C dX2_facing_4 2 rfl rfl ?_
  obtain ⟨hg, h⟩ := g_gd h
  refine al_C_6 C hu_u0 hg dX2_facing_5 ?_
  replace h := Option.some.inj h; subst h
  exact y_iret C hQ ⟨Nat.zero_le _, Nat.zero_le _⟩ dX2_facing_6
theorem ct_C2_facing_k3_4 {D : va_G} {dA : Nat → ClassId} {A : Nat → Prop} {s0 : State} {b0 : Nat} {l : Launch} {hid : Bool} {u0 : Nat} (hu_u0 : u0 < g_n (gC hid) 4) {ad : Nat → Nat → Nat} {σ : g_S} {v2 : Int32} {r : Int32} (h : mF_C2_facing_k3_4 σ u0 v2 = some r) : g_Met gCl D dA A s0 b0 l yX2_facing cX2_facing 3 (some .int) 1 (0, 0) (gC hid) ad σ [.ref (ad 3 0), .ref (ad 4 u0), .int v2] (gC hid) ad σ (some (.int r)) :=
  g_Met.of pl_X2 (Nat.le_of_ble_eq_true rfl) (fun X C hQ hR _ _ hL _ es eb => mw_C2_facing_k3_4 C hR hL hu_u0 h hQ)
theorem mw_C4_brim {X : g_F} {hid : Bool} (C : g_M gCl X cX4_brim RX4 (some .int)) (hR : g_R X = g_rm 1 0 0) (hL : g_nL X = 3) {u0 : Nat} (hu_u0 : u0 < g_n (gC hid) 4) {ad : Nat → Nat → Nat} {σ : g_S} {v2 : Int32} {o : Int32} (h : mF_C4_brim σ u0 v2 = some o) (hQ : g_MQ gCl X (gC hid) ad σ (some (.int o)) = g_Q X) : g_Y gCl X (gC hid) ad σ (0, 0) 0 [(0, .ref (ad 3 0)), (1, .ref (ad 4 u0)), (2, .int v2)] [] := by
  unfold mF_C4_brim at h
  refine y_aload_n C dX4_brim_0 0 rfl rfl ?_
  refine gf_C_X4_13_3 C nC_3_0 dX4_brim_1 ?_
  replace h := Option.some.inj h; subst h
  exact y_iret C hQ ⟨Nat.zero_le _, Nat.zero_le _⟩ dX4_brim_4
theorem ct_C4_brim {D : va_G} {dA : Nat → ClassId} {A : Nat → Prop} {s0 : State} {b0 : Nat} {l : Launch} {hid : Bool} {u0 : Nat} (hu_u0 : u0 < g_n (gC hid) 4) {ad : Nat → Nat → Nat} {σ : g_S} {v2 : Int32} {r : Int32} (h : mF_C4_brim σ u0 v2 = some r) : g_Met gCl D dA A s0 b0 l yX4_brim cX4_brim 3 (some .int) 1 (0, 0) (gC hid) ad σ [.ref (ad 3 0), .ref (ad 4 u0), .int v2] (gC hid) ad σ (some (.int r)) :=
  g_Met.of pl_X4 (Nat.le_of_ble_eq_true rfl) (fun X C hQ hR _ _ hL _ es eb => mw_C4_brim C hR hL hu_u0 h hQ)
theorem mw_C2_sees_k3_4 {X : g_F} (C : g_M gCl X cX2_sees RX2 (some .boolean)) (hR : g_R X = g_rm 304 0 0) (hL : g_nL X = 6) {u0 : Nat} (hu_u0 : u0 < g_n (gC true) 4) {ad : Nat → Nat → Nat} {σ : g_S} {v2 : Int32} {v3 : Int32} {o : Int32} (h : mF_C2_sees_k3_4 σ u0 v2 v3 = some o) (hQ : g_MQ gCl X (gC true) ad σ (some (.int o)) = g_Q X) : g_Y gCl X (gC true) ad σ (0, 0) 0 [(0, .ref (ad 3 0)), (1, .ref (ad 4 u0)), (2, .int v2), (3, .int v3)] [] := by
  unfold mF_C2_sees_k3_4 at h
  refine y_iload_n C dX2_sees_0 3 rfl rfl ?_
  refine y_aload_n C dX2_sees_1 1 rfl rfl ?_
  refine gf_C_X2_28_4 C hu_u0 dX2_sees_2 ?_
  refine y_iload_n C dX2_sees_5 2 rfl rfl ?_
  obtain ⟨hg, h⟩ := g_gd h
  refine al_C_5 C hu_u0 hg dX2_sees_6 ?_
  refine y_icmp_ne (tgt := 12) C dX2_sees_7 rfl (fun hc => ?_) (fun hc => ?_)
  · replace h := g_if h hc
    refine y_iload_n C dX2_sees_12 3 rfl rfl ?_
    refine y_aload_n C dX2_sees_13 0 rfl rfl ?_
    refine gf_C_X2_3_3 C nC_3_0 dX2_sees_14 ?_
    refine gf_C_X2_31_0 C nC_0_0 dX2_sees_17 ?_
    obtain ⟨hg, h⟩ := g_gd h
    refine y_idiv C dX2_sees_20 hg ?_
    refine y_aload_n C dX2_sees_21 1 rfl rfl ?_
    refine gf_C_X2_28_4 C hu_u0 dX2_sees_22 ?_
    refine y_iload_n C dX2_sees_25 2 rfl rfl ?_
    obtain ⟨hg, h⟩ := g_gd h
    refine al_C_5 C hu_u0 hg dX2_sees_26 ?_
    refine y_aload_n C dX2_sees_27 0 rfl rfl ?_
    refine gf_C_X2_3_3 C nC_3_0 dX2_sees_28 ?_
    refine gf_C_X2_31_0 C nC_0_0 dX2_sees_31 ?_
    obtain ⟨hg, h⟩ := g_gd h
    refine y_idiv C dX2_sees_34 hg ?_
    refine y_isub C dX2_sees_35 ?_
    obtain ⟨x1, hx1, h⟩ := g_lt h
    refine y_istore (vs1 := [(4, .int x1), (0, .ref (ad 3 0)), (1, .ref (ad 4 u0)), (2, .int v2), (3, .int v3)]) C hx1 dX2_sees_36 (g_lL hL rfl) rfl ?_
    refine y_iload_n C dX2_sees_38 4 rfl rfl ?_
    refine y_aload_n C dX2_sees_39 1 rfl rfl ?_
    refine gf_C_X2_3_3 C nC_3_0 dX2_sees_40 ?_
    refine gf_C_X2_31_0 C nC_0_0 dX2_sees_43 ?_
    obtain ⟨hg, h⟩ := g_gd h
    refine y_irem C dX2_sees_46 hg ?_
    refine y_aload_n C dX2_sees_47 2 rfl rfl ?_
    refine gf_C_X2_28_4 C hu_u0 dX2_sees_48 ?_
    refine y_iload_n C dX2_sees_51 3 rfl rfl ?_
    obtain ⟨hg, h⟩ := g_gd h
    refine al_C_5 C hu_u0 hg dX2_sees_52 ?_
    refine y_aload_n C dX2_sees_53 1 rfl rfl ?_
    refine gf_C_X2_3_3 C nC_3_0 dX2_sees_54 ?_
    refine gf_C_X2_31_0 C nC_0_0 dX2_sees_57 ?_
    obtain ⟨hg, h⟩ := g_gd h
    refine y_irem C dX2_sees_60 hg ?_
    refine y_isub C dX2_sees_61 ?_
    obtain ⟨x2, hx2, h⟩ := g_lt h
    refine y_istore (vs1 := [(5, .int x2), (4, .int x1), (0, .ref (ad 3 0)), (1, .ref (ad 4 u0)), (2, .int v2), (3, .int v3)]) C hx2 dX2_sees_62 (g_lL hL rfl) rfl ?_
    refine y_iload C dX2_sees_64 1 rfl ?_
    refine y_mabs C q788 (g_rmM hR (by decide)) (Nat.le_of_ble_eq_true rfl) ⟨Nat.zero_le _, Nat.zero_le _⟩ dX2_sees_66 ?_
    refine y_iload C dX2_sees_69 0 rfl ?_
    refine y_mabs C q788 (g_rmM hR (by decide)) (Nat.le_of_ble_eq_true rfl) ⟨Nat.zero_le _, Nat.zero_le _⟩ dX2_sees_71 ?_
    refine y_mmax C q791 (g_rmM hR (by decide)) (Nat.le_of_ble_eq_true rfl) ⟨Nat.zero_le _, Nat.zero_le _⟩ dX2_sees_74 ?_
    refine y_aload_n C dX2_sees_77 2 rfl rfl ?_
    refine y_aload_n C dX2_sees_78 3 rfl rfl ?_
    refine y_iload_n C dX2_sees_79 4 rfl rfl ?_
    obtain ⟨x3, hc, h⟩ := g_bd h
    refine y_callU C (As := [.ref (ad 4 u0), .int v2]) (rest := [.int (g_max (g_abs x1) (g_abs x2))]) (k := 3) (hu := nC_3_0) (hc := (rfl : gCl[3]? = some (RX4, TX4, 3))) (hcell := obC_3) (lk_X2_45_X4_X4_l303 C hR (by decide)) (ct_C4_reach hu_u0 hc) rfl rfl (Nat.le_of_ble_eq_true rfl) ⟨Nat.zero_le _, Nat.zero_le _⟩ dX2_sees_80 ?_
    refine y_icmp_le (tgt := 88) C dX2_sees_83 rfl (fun hc => ?_) (fun hc => ?_)
    · replace h := g_it h hc
      refine y_aload_n C dX2_sees_88 2 rfl rfl ?_
      refine y_aload_n C dX2_sees_89 3 rfl rfl ?_
      refine y_iload_n C dX2_sees_90 4 rfl rfl ?_
      obtain ⟨x4, hc, h⟩ := g_bd h
      refine y_callU C (As := [.ref (ad 4 u0), .int v2]) (rest := []) (k := 3) (hu := nC_3_0) (hc := (rfl : gCl[3]? = some (RX4, TX4, 3))) (hcell := obC_3) (lk_X2_49_X4_X2_l1 C hR (by decide)) (ct_C2_facing_k3_4 hu_u0 hc) rfl rfl (Nat.le_of_ble_eq_true rfl) ⟨Nat.zero_le _, Nat.zero_le _⟩ dX2_sees_91 ?_
      refine y_iload C dX2_sees_94 1 rfl ?_
      refine y_iload C dX2_sees_96 0 rfl ?_
      obtain ⟨x5, hc, h⟩ := g_bd h
      refine y_callSN C (As := [.int x1, .int x2]) (rest := [.int x4]) (lk_X2_51_l1 C hR (by decide)) (ct_C1_wayOf hc) rfl rfl (Nat.le_of_ble_eq_true rfl) ⟨Nat.zero_le _, Nat.zero_le _⟩ dX2_sees_98 ?_
      obtain ⟨x6, hc, h⟩ := g_bd h
      refine y_callSN C (As := [.int x4, .int x5]) (rest := []) (lk_X2_54_l1 C hR (by decide)) (ct_C1_offBy hc) rfl rfl (Nat.le_of_ble_eq_true rfl) ⟨Nat.zero_le _, Nat.zero_le _⟩ dX2_sees_101 ?_
      refine y_iconst (v := (4 : Int32)) C dX2_sees_104 (by decide) ?_
      refine y_aload_n C dX2_sees_105 2 rfl rfl ?_
      refine y_aload_n C dX2_sees_106 3 rfl rfl ?_
      refine y_iload_n C dX2_sees_107 4 rfl rfl ?_
      obtain ⟨x7, hc, h⟩ := g_bd h
      refine y_callU C (As := [.ref (ad 4 u0), .int v2]) (rest := [.int (4 : Int32), .int x6]) (k := 3) (hu := nC_3_0) (hc := (rfl : gCl[3]? = some (RX4, TX4, 3))) (hcell := obC_3) (lk_X2_57_X4_X4_l1 C hR (by decide)) (ct_C4_brim hu_u0 hc) rfl rfl (Nat.le_of_ble_eq_true rfl) ⟨Nat.zero_le _, Nat.zero_le _⟩ dX2_sees_108 ?_
      refine y_isub C dX2_sees_111 ?_
      refine y_icmp_gt (tgt := 136) C dX2_sees_112 rfl (fun hc => ?_) (fun hc => ?_)
      · replace h := g_it h hc
        refine y_iconst (v := (0 : Int32)) C dX2_sees_136 (by decide) ?_
        replace h := Option.some.inj h; subst h
        exact y_zret C (by decide) hQ ⟨Nat.zero_le _, Nat.zero_le _⟩ dX2_sees_137
      · replace h := g_if h hc
        refine y_aload_n C dX2_sees_115 2 rfl rfl ?_
        refine gf_C_X2_3_3 C nC_3_0 dX2_sees_116 ?_
        refine y_aload_n C dX2_sees_119 3 rfl rfl ?_
        refine gf_C_X2_28_4 C hu_u0 dX2_sees_120 ?_
        refine y_iload_n C dX2_sees_123 4 rfl rfl ?_
        obtain ⟨hg, h⟩ := g_gd h
        refine al_C_5 C hu_u0 hg dX2_sees_124 ?_
        refine y_iload_n C dX2_sees_125 5 rfl rfl ?_
        obtain ⟨x8, hc, h⟩ := g_bd h
        refine y_callVN C (As := [.int (σ.1 5 u0 v2.toNatClampNeg), .int v3]) (rest := []) (k := 0) (hu := nC_0_0) (hc := (rfl : gCl[0]? = some (RX1, TX1, 31))) (hcell := obC_0) (lk_X2_59_X1_l2 C hR (by decide)) (ct_C1_isClear hc) rfl rfl (Nat.le_of_ble_eq_true rfl) ⟨Nat.zero_le _, Nat.zero_le _⟩ dX2_sees_126 ?_
        refine y_if_eq (tgt := 136) C dX2_sees_129 rfl (fun hc => ?_) (fun hc => ?_)
        · replace h := g_it h hc
          refine y_iconst (v := (0 : Int32)) C dX2_sees_136 (by decide) ?_
          replace h := Option.some.inj h; subst h
          exact y_zret C (by decide) hQ ⟨Nat.zero_le _, Nat.zero_le _⟩ dX2_sees_137
        · replace h := g_if h hc
          refine y_iconst (v := (1 : Int32)) C dX2_sees_132 (by decide) ?_
          refine y_goto (tgt := 137) C dX2_sees_133 rfl ?_
          replace h := Option.some.inj h; subst h
          exact y_zret C (by decide) hQ ⟨Nat.zero_le _, Nat.zero_le _⟩ dX2_sees_137
    · replace h := g_if h hc
      refine y_iconst (v := (0 : Int32)) C dX2_sees_86 (by decide) ?_
      replace h := Option.some.inj h; subst h
      exact y_zret C (by decide) hQ ⟨Nat.zero_le _, Nat.zero_le _⟩ dX2_sees_87
  · replace h := g_it h hc
    refine y_iconst (v := (1 : Int32)) C dX2_sees_10 (by decide) ?_
    replace h := Option.some.inj h; subst h
    exact y_zret C (by decide) hQ ⟨Nat.zero_le _, Nat.zero_le _⟩ dX2_sees_11
theorem ct_C2_sees_k3_4 {D : va_G} {dA : Nat → ClassId} {A : Nat → Prop} {s0 : State} {b0 : Nat} {l : Launch} {u0 : Nat} (hu_u0 : u0 < g_n (gC true) 4) {ad : Nat → Nat → Nat} {σ : g_S} {v2 : Int32} {v3 : Int32} {r : Int32} (h : mF_C2_sees_k3_4 σ u0 v2 v3 = some r) : g_Met gCl D dA A s0 b0 l yX2_sees cX2_sees 6 (some .boolean) 304 (0, 0) (gC true) ad σ [.ref (ad 3 0), .ref (ad 4 u0), .int v2, .int v3] (gC true) ad σ (some (.int r)) :=
  g_Met.of pl_X2 (Nat.le_of_ble_eq_true rfl) (fun X C hQ hR _ _ hL _ es eb => mw_C2_sees_k3_4 C hR hL hu_u0 h hQ)
theorem ml_C1_bears_20 {X : g_F} (C : g_M gCl X cX1_bears RX1 (some .int)) (hR : g_R X = g_rm 305 0 0) (hL : g_nL X = 4) {ad : Nat → Nat → Nat} {σ : g_S} {v1 : Int32} {v2 : Int32} (n : Nat) (v : (Int32 × g_S)) (e : ((Int32 × g_S) ⊕ g_S)) (h : g_lp (fun v => mB_C1_bears_20 v.2 v1 v2 v.1) n v = some e) (kx : (∀ y, e = .inl y → g_Y gCl X (gC true) ad y.2 (0, 0) 47 [(0, .ref (ad 0 0)), (1, .int v1), (3, .int y.1)] []) ∧ (∀ y, e = .inr y → g_Y gCl X (gC true) ad y (0, 0) 75 [] [])) : g_Y gCl X (gC true) ad v.2 (0, 0) 20 [(0, .ref (ad 0 0)), (1, .int v1), (2, .int v2), (3, .int v.1)] [] := by
  refine g_loop (P := fun v => g_Y gCl X (gC true) ad v.2 (0, 0) 20 [(0, .ref (ad 0 0)), (1, .int v1), (2, .int v2), (3, .int v.1)] []) (T := fun e => (∀ y, e = .inl y → g_Y gCl X (gC true) ad y.2 (0, 0) 47 [(0, .ref (ad 0 0)), (1, .int v1), (3, .int y.1)] []) ∧ (∀ y, e = .inr y → g_Y gCl X (gC true) ad y (0, 0) 75 [] [])) ?_ n v e h kx
  clear h kx
  clear n v e
  intro v o h kl kx
  obtain ⟨v3, σ⟩ := v
  have h : mB_C1_bears_20 σ v1 v2 v3 = some o := h
  unfold mB_C1_bears_20 at h
  show g_Y gCl X (gC true) ad σ (0, 0) 20 [(0, .ref (ad 0 0)), (1, .int v1), (2, .int v2), (3, .int v3)] []
  refine y_iload_n C dX1_bears_20 3 rfl rfl ?_
  refine y_if_lt (tgt := 75) C dX1_bears_21 rfl (fun hc => ?_) (fun hc => ?_)
  · replace h := g_it h hc
    refine y_sub (vs2 := []) [] rfl ?_
    exact (kx _ (Option.some.inj h).symm).2 _ rfl
  · replace h := g_if h hc
    refine y_aload_n C dX1_bears_24 0 rfl rfl ?_
    refine gf_C_X1_76_0 C nC_0_0 dX1_bears_25 ?_
    refine y_iload_n C dX1_bears_28 3 rfl rfl ?_
    obtain ⟨σ3, hc, h⟩ := g_bd h
    refine y_callV C (As := [.int v3]) (rest := []) (k := 3) (hu := nC_3_0) (hc := (rfl : gCl[3]? = some (RX4, TX4, 3))) (hcell := obC_3) (lk_X1_433_X4_l1 C hR (by decide)) (ct_C4_to hc) rfl rfl (Nat.le_of_ble_eq_true rfl) ⟨Nat.zero_le _, Nat.zero_le _⟩ dX1_bears_29 ?_
    refine y_aload_n C dX1_bears_32 0 rfl rfl ?_
    refine gf_C_X1_84_0 C nC_0_0 dX1_bears_33 ?_
    refine y_iload_n C dX1_bears_36 1 rfl rfl ?_
    refine y_iload_n C dX1_bears_37 2 rfl rfl ?_
    obtain ⟨x4, hc, h⟩ := g_bd h
    refine y_callU C (As := [.ref (ad 4 0), .int v1, .int v2]) (rest := []) (k := 3) (hu := nC_3_0) (hc := (rfl : gCl[3]? = some (RX4, TX4, 3))) (hcell := obC_3) (lk_X1_436_X4_X2_l304 C hR (by decide)) (ct_C2_sees_k3_4 nC_4_0 hc) rfl rfl (Nat.le_of_ble_eq_true rfl) ⟨Nat.zero_le _, Nat.zero_le _⟩ dX1_bears_38 ?_
    refine y_if_ne (tgt := 47) C dX1_bears_41 rfl (fun hc => ?_) (fun hc => ?_)
    · replace h := g_if h hc
      refine y_sub (vs2 := [(0, .ref (ad 0 0)), (1, .int v1), (3, .int v3)]) [0, 1, 3] rfl ?_
      exact (kx _ (Option.some.inj h).symm).1 _ rfl
    · replace h := g_it h hc
      refine y_goto (tgt := 69) C dX1_bears_44 rfl ?_
      obtain ⟨x5, hx5, h⟩ := g_lt h
      refine y_iinc (c := (-1 : Int32)) (vs1 := [(3, .int x5), (0, .ref (ad 0 0)), (1, .int v1), (2, .int v2)]) C hx5 (by decide) dX1_bears_69 3 rfl (g_lL hL rfl) rfl ?_
      refine y_goto (tgt := 20) C dX1_bears_72 rfl ?_
      refine y_sub (vs2 := [(0, .ref (ad 0 0)), (1, .int v1), (2, .int v2), (3, .int x5)]) [1, 2, 3, 0] rfl ?_
      exact kl _ (Option.some.inj h).symm
theorem mw_C1_bears {X : g_F} (C : g_M gCl X cX1_bears RX1 (some .int)) (hR : g_R X = g_rm 305 0 0) (hL : g_nL X = 4) {ad : Nat → Nat → Nat} {σ : g_S} {v1 : Int32} {v2 : Int32} {o : (Int32 × g_S)} (h : mF_C1_bears σ v1 v2 = some o) (hQ : g_MQ gCl X (gC true) ad o.2 (some (.int o.1)) = g_Q X) : g_Y gCl X (gC true) ad σ (0, 0) 0 [(0, .ref (ad 0 0)), (1, .int v1), (2, .int v2)] [] := by
  unfold mF_C1_bears at h
  refine y_aload_n C dX1_bears_0 0 rfl rfl ?_
  refine y_iload_n C dX1_bears_1 1 rfl rfl ?_
  obtain ⟨x1, hc, h⟩ := g_bd h
  refine y_callV C (As := [.int v1]) (rest := []) (k := 0) (hu := nC_0_0) (hc := (rfl : gCl[0]? = some (RX1, TX1, 31))) (hcell := obC_0) (lk_X1_250_X1_l2 C hR (by decide)) (ct_C1_isMan hc) rfl rfl (Nat.le_of_ble_eq_true rfl) ⟨Nat.zero_le _, Nat.zero_le _⟩ dX1_bears_2 ?_
  refine y_if_eq (tgt := 16) C dX1_bears_5 rfl (fun hc => ?_) (fun hc => ?_)
  · replace h := g_it h hc
    refine y_iconst (v := (-1 : Int32)) C dX1_bears_16 (by decide) ?_
    replace h := Option.some.inj h; subst h
    exact y_iret C hQ ⟨Nat.zero_le _, Nat.zero_le _⟩ dX1_bears_17
  · replace h := g_if h hc
    refine y_aload_n C dX1_bears_8 0 rfl rfl ?_
    refine y_iload_n C dX1_bears_9 2 rfl rfl ?_
    obtain ⟨x2, hc, h⟩ := g_bd h
    refine y_callV C (As := [.int v2]) (rest := []) (k := 0) (hu := nC_0_0) (hc := (rfl : gCl[0]? = some (RX1, TX1, 31))) (hcell := obC_0) (lk_X1_358_X1_l2 C hR (by decide)) (ct_C1_isField hc) rfl rfl (Nat.le_of_ble_eq_true rfl) ⟨Nat.zero_le _, Nat.zero_le _⟩ dX1_bears_10 ?_
    refine y_if_ne (tgt := 18) C dX1_bears_13 rfl (fun hc => ?_) (fun hc => ?_)
    · replace h := g_if h hc
      refine y_iconst (v := (4 : Int32)) C dX1_bears_18 (by decide) ?_
      refine y_istore_n (vs1 := [(3, .int (4 : Int32)), (0, .ref (ad 0 0)), (1, .int v1), (2, .int v2)]) C rfl dX1_bears_19 rfl (g_lL hL rfl) rfl ?_
      refine y_sub (vs2 := [(0, .ref (ad 0 0)), (1, .int v1), (2, .int v2), (3, .int (4 : Int32))]) [1, 2, 3, 0] rfl ?_
      obtain ⟨e6, he6, h⟩ := g_bd h
      refine ml_C1_bears_20 C hR hL (σ := σ) _ _ _ he6 ⟨fun y he => ?_, fun y he => ?_⟩
      · obtain ⟨y7, rfl⟩ : ∃ z, z = y := ⟨_, rfl⟩
        subst he
        dsimp only at h
        refine y_aload_n C dX1_bears_47 0 rfl rfl ?_
        refine y_iconst (v := (0 : Int32)) C dX1_bears_48 (by decide) ?_
        obtain ⟨σ8, hσ8, h⟩ := g_lt h
        refine pf_C_X1_139_0 C nC_0_0 hσ8 dX1_bears_49 ?_
        refine y_aload_n C dX1_bears_52 0 rfl rfl ?_
        refine y_aload_n C dX1_bears_53 0 rfl rfl ?_
        refine y_aload_n C dX1_bears_54 0 rfl rfl ?_
        refine gf_C_X1_84_0 C nC_0_0 dX1_bears_55 ?_
        refine y_iload_n C dX1_bears_58 1 rfl rfl ?_
        refine y_iload_n C dX1_bears_59 2 rfl rfl ?_
        obtain ⟨x9, hc, h⟩ := g_bd h
        refine y_callV C (As := [.ref (ad 4 0), .int v1, .int y7.1]) (rest := [.ref (ad 0 0)]) (k := 0) (hu := nC_0_0) (hc := (rfl : gCl[0]? = some (RX1, TX1, 31))) (hcell := obC_0) (lk_X1_437_X1_l302 C hR (by decide)) (ct_R_C_reachBy nC_4_0 hc) rfl rfl (Nat.le_of_ble_eq_true rfl) ⟨Nat.zero_le _, Nat.zero_le _⟩ dX1_bears_60 ?_
        refine y_i2l C dX1_bears_63 ?_
        obtain ⟨σ10, hc, h⟩ := g_bd h
        refine y_callVv C (As := [.long (x9.toInt64)]) (rest := []) (k := 0) (hu := nC_0_0) (hc := (rfl : gCl[0]? = some (RX1, TX1, 31))) (hcell := obC_0) (lk_X1_330_X1_l1 C hR (by decide)) (ct_C1_tell_2 hc) rfl rfl (Nat.le_of_ble_eq_true rfl) ⟨Nat.zero_le _, Nat.zero_le _⟩ dX1_bears_64 ?_
        refine y_iload_n C dX1_bears_67 2 rfl rfl ?_
        replace h := Option.some.inj h; subst h
        exact y_iret C hQ ⟨Nat.zero_le _, Nat.zero_le _⟩ dX1_bears_68
      · obtain ⟨y11, rfl⟩ : ∃ z, z = y := ⟨_, rfl⟩
        subst he
        dsimp only at h
        refine y_bipush (v := (-2 : Int32)) C dX1_bears_75 (by decide) ?_
        replace h := Option.some.inj h; subst h
        exact y_iret C hQ ⟨Nat.zero_le _, Nat.zero_le _⟩ dX1_bears_77
    · replace h := g_it h hc
      refine y_iconst (v := (-1 : Int32)) C dX1_bears_16 (by decide) ?_
      replace h := Option.some.inj h; subst h
      exact y_iret C hQ ⟨Nat.zero_le _, Nat.zero_le _⟩ dX1_bears_17
theorem ct_C1_bears {D : va_G} {dA : Nat → ClassId} {A : Nat → Prop} {s0 : State} {b0 : Nat} {l : Launch} {ad : Nat → Nat → Nat} {σ : g_S} {v1 : Int32} {v2 : Int32} {r : Int32} {σ1 : g_S} (h : mF_C1_bears σ v1 v2 = some (r, σ1)) : g_Met gCl D dA A s0 b0 l yX1_bears cX1_bears 4 (some .int) 305 (0, 0) (gC true) ad σ [.ref (ad 0 0), .int v1, .int v2] (gC true) ad σ1 (some (.int r)) :=
  g_Met.of pl_X1 (Nat.le_of_ble_eq_true rfl) (fun X C hQ hR _ _ hL _ es eb => mw_C1_bears C hR hL h hQ)
theorem ml_C13_fill_5 {X : g_F} {hid : Bool} (C : g_M gCl X cJ13_fill RJ13 none) (hR : g_R X = g_rm 1 0 0) (hL : g_nL X = 4) {ad : Nat → Nat → Nat} {σ : g_S} {v1 : Int32} {v3 : Int32} (n : Nat) (v : (Int32 × g_S)) (e : g_S) (h : g_lp (fun v => mB_C13_fill_5 v.2 v1 v3 v.1) n v = some e) (kx : g_Y gCl X (gC hid) ad e (0, 0) 20 [] []) : g_Y gCl X (gC hid) ad v.2 (0, 0) 5 [(0, .ref (ad 20 0)), (1, .int v1), (2, .int v.1), (3, .int v3)] [] := by
  refine g_loop (P := fun v => g_Y gCl X (gC hid) ad v.2 (0, 0) 5 [(0, .ref (ad 20 0)), (1, .int v1), (2, .int v.1), (3, .int v3)] []) (T := fun e => g_Y gCl X (gC hid) ad e (0, 0) 20 [] []) ?_ n v e h kx
  clear h kx
  clear n v e
  intro v o h kl kx
  obtain ⟨v2, σ⟩ := v
  have h : mB_C13_fill_5 σ v1 v3 v2 = some o := h
  unfold mB_C13_fill_5 at h
  show g_Y gCl X (gC hid) ad σ (0, 0) 5 [(0, .ref (ad 20 0)), (1, .int v1), (2, .int v2), (3, .int v3)] []
  refine y_iload_n C dJ13_fill_5 2 rfl rfl ?_
  refine y_iload_n C dJ13_fill_6 3 rfl rfl ?_
  refine y_icmp_ge (tgt := 20) C dJ13_fill_7 rfl (fun hc => ?_) (fun hc => ?_)
  · replace h := g_it h hc
    refine y_sub (vs2 := []) [] rfl ?_
    exact kx _ (Option.some.inj h).symm
  · replace h := g_if h hc
    refine y_aload_n C dJ13_fill_10 0 rfl rfl ?_
    refine y_iload_n C dJ13_fill_11 2 rfl rfl ?_
    refine y_iload_n C dJ13_fill_12 1 rfl rfl ?_
    obtain ⟨hg, h⟩ := g_gd h
    obtain ⟨σ1, hσ1, h⟩ := g_lt h
    refine as_C_20 C nC_20_0 hσ1 hg dJ13_fill_13 ?_
    obtain ⟨x2, hx2, h⟩ := g_lt h
    refine y_iinc (c := (1 : Int32)) (vs1 := [(2, .int x2), (0, .ref (ad 20 0)), (1, .int v1), (3, .int v3)]) C hx2 (by decide) dJ13_fill_14 2 rfl (g_lL hL rfl) rfl ?_
    refine y_goto (tgt := 5) C dJ13_fill_17 rfl ?_
    refine y_sub (vs2 := [(0, .ref (ad 20 0)), (1, .int v1), (2, .int x2), (3, .int v3)]) [1, 2, 0, 3] rfl ?_
    exact kl _ (Option.some.inj h).symm
theorem mw_C13_fill {X : g_F} {hid : Bool} (C : g_M gCl X cJ13_fill RJ13 none) (hR : g_R X = g_rm 1 0 0) (hL : g_nL X = 4) {ad : Nat → Nat → Nat} {σ : g_S} {v1 : Int32} {o : g_S} (h : mF_C13_fill σ v1 = some o) (hQ : g_MQ gCl X (gC hid) ad o none = g_Q X) : g_Y gCl X (gC hid) ad σ (0, 0) 0 [(0, .ref (ad 20 0)), (1, .int v1)] [] := by
  unfold mF_C13_fill at h
  refine y_iconst (v := (0 : Int32)) C dJ13_fill_0 (by decide) ?_
  refine y_istore_n (vs1 := [(2, .int (0 : Int32)), (0, .ref (ad 20 0)), (1, .int v1)]) C rfl dJ13_fill_1 rfl (g_lL hL rfl) rfl ?_
  refine y_aload_n C dJ13_fill_2 1 rfl rfl ?_
  refine ln_C_20 C dJ13_fill_3 ?_
  refine y_istore_n (vs1 := [(3, .int (49 : Int32)), (2, .int (0 : Int32)), (0, .ref (ad 20 0)), (1, .int v1)]) C rfl dJ13_fill_4 rfl (g_lL hL rfl) rfl ?_
  refine y_sub (vs2 := [(0, .ref (ad 20 0)), (1, .int v1), (2, .int (0 : Int32)), (3, .int (49 : Int32))]) [2, 3, 1, 0] rfl ?_
  obtain ⟨e3, he3, h⟩ := g_bd h
  refine ml_C13_fill_5 C hR hL (σ := σ) _ _ _ he3 ?_
  replace h := Option.some.inj h; subst h
  exact y_vret C hQ ⟨Nat.zero_le _, Nat.zero_le _⟩ dJ13_fill_20
theorem ct_C13_fill {D : va_G} {dA : Nat → ClassId} {A : Nat → Prop} {s0 : State} {b0 : Nat} {l : Launch} {hid : Bool} {ad : Nat → Nat → Nat} {σ : g_S} {v1 : Int32} {σ1 : g_S} (h : mF_C13_fill σ v1 = some σ1) : g_Met gCl D dA A s0 b0 l yJ13_fill cJ13_fill 4 none 1 (0, 0) (gC hid) ad σ [.ref (ad 20 0), .int v1] (gC hid) ad σ1 none :=
  g_Met.of pl_J13 (Nat.le_of_ble_eq_true rfl) (fun X C hQ hR _ _ hL _ es eb => mw_C13_fill C hR hL h hQ)
theorem ml_C1_lay_71 {X : g_F} {hid : Bool} (C : g_M gCl X cX1_lay RX1 none) (hR : g_R X = g_rm 4 0 0) (hL : g_nL X = 8) {ad : Nat → Nat → Nat} {σ : g_S} {v1 : Int32} {v3 : Int64} {v5 : Int32} {v6 : Int32} (n : Nat) (v : (Int32 × g_S)) (e : g_S) (h : g_lp (fun v => mB_C1_lay_71 v.2 v1 v3 v5 v6 v.1) n v = some e) (kx : g_Y gCl X (gC hid) ad e (0, 0) 128 [(0, .ref (ad 0 0)), (1, .int v1), (3, .long v3), (5, .int v5), (6, .int v6)] []) : g_Y gCl X (gC hid) ad v.2 (0, 0) 71 [(0, .ref (ad 0 0)), (1, .int v1), (3, .long v3), (5, .int v5), (6, .int v6), (7, .int v.1)] [] := by
  refine g_loop (P := fun v => g_Y gCl X (gC hid) ad v.2 (0, 0) 71 [(0, .ref (ad 0 0)), (1, .int v1), (3, .long v3), (5, .int v5), (6, .int v6), (7, .int v.1)] []) (T := fun e => g_Y gCl X (gC hid) ad e (0, 0) 128 [(0, .ref (ad 0 0)), (1, .int v1), (3, .long v3), (5, .int v5), (6, .int v6)] []) ?_ n v e h kx
  clear h kx
  clear n v e
  intro v o h kl kx
  obtain ⟨v7, σ⟩ := v
  have h : mB_C1_lay_71 σ v1 v3 v5 v6 v7 = some o := h
  unfold mB_C1_lay_71 at h
  show g_Y gCl X (gC hid) ad σ (0, 0) 71 [(0, .ref (ad 0 0)), (1, .int v1), (3, .long v3), (5, .int v5), (6, .int v6), (7, .int v7)] []
  refine y_iload C dX1_lay_71 5 rfl ?_
  refine y_bipush (v := (8 : Int32)) C dX1_lay_73 (by decide) ?_
  refine y_icmp_ge (tgt := 128) C dX1_lay_75 rfl (fun hc => ?_) (fun hc => ?_)
  · replace h := g_it h hc
    refine y_sub (vs2 := [(0, .ref (ad 0 0)), (1, .int v1), (3, .long v3), (5, .int v5), (6, .int v6)]) [0, 1, 2, 3, 4] rfl ?_
    exact kx _ (Option.some.inj h).symm
  · replace h := g_if h hc
    refine y_aload_n C dX1_lay_78 0 rfl rfl ?_
    refine y_iload C dX1_lay_79 4 rfl ?_
    refine y_iload C dX1_lay_81 5 rfl ?_
    obtain ⟨x7, hc, h⟩ := g_bd h
    refine y_callV C (As := [.int v6, .int v7]) (rest := []) (k := 0) (hu := nC_0_0) (hc := (rfl : gCl[0]? = some (RX1, TX1, 31))) (hcell := obC_0) (lk_X1_347_X1_l3 C hR (by decide)) (ct_C1_stepOf hc) rfl rfl (Nat.le_of_ble_eq_true rfl) ⟨Nat.zero_le _, Nat.zero_le _⟩ dX1_lay_83 ?_
    refine y_iconst (v := (-1 : Int32)) C dX1_lay_86 (by decide) ?_
    refine y_icmp_eq (tgt := 122) C dX1_lay_87 rfl (fun hc => ?_) (fun hc => ?_)
    · replace h := g_it h hc
      obtain ⟨x8, hx8, h⟩ := g_lt h
      refine y_iinc (c := (1 : Int32)) (vs1 := [(7, .int x8), (0, .ref (ad 0 0)), (1, .int v1), (3, .long v3), (5, .int v5), (6, .int v6)]) C hx8 (by decide) dX1_lay_122 5 rfl (g_lL hL rfl) rfl ?_
      refine y_goto (tgt := 71) C dX1_lay_125 rfl ?_
      refine y_sub (vs2 := [(0, .ref (ad 0 0)), (1, .int v1), (3, .long v3), (5, .int v5), (6, .int v6), (7, .int x8)]) [1, 2, 3, 4, 5, 0] rfl ?_
      exact kl _ (Option.some.inj h).symm
    · replace h := g_if h hc
      refine y_aload_n C dX1_lay_90 0 rfl rfl ?_
      refine gf_C_X1_124_0 C nC_0_0 dX1_lay_91 ?_
      refine y_iload C dX1_lay_94 4 rfl ?_
      refine y_aload_n C dX1_lay_96 0 rfl rfl ?_
      refine gf_C_X1_124_0 C nC_0_0 dX1_lay_97 ?_
      refine y_iload C dX1_lay_100 4 rfl ?_
      obtain ⟨hg, h⟩ := g_gd h
      refine al_C_20 C nC_20_0 hg dX1_lay_102 ?_
      refine y_aload_n C dX1_lay_103 0 rfl rfl ?_
      refine gf_C_X1_124_0 C nC_0_0 dX1_lay_104 ?_
      refine y_aload_n C dX1_lay_107 0 rfl rfl ?_
      refine y_iload C dX1_lay_108 4 rfl ?_
      refine y_iload C dX1_lay_110 5 rfl ?_
      obtain ⟨x9, hc, h⟩ := g_bd h
      refine y_callV C (As := [.int v6, .int v7]) (rest := [.ref (ad 20 0), .int (σ.1 20 0 v6.toNatClampNeg), .int v6, .ref (ad 20 0)]) (k := 0) (hu := nC_0_0) (hc := (rfl : gCl[0]? = some (RX1, TX1, 31))) (hcell := obC_0) (lk_X1_347_X1_l3 C hR (by decide)) (ct_C1_stepOf hc) rfl rfl (Nat.le_of_ble_eq_true rfl) ⟨Nat.zero_le _, Nat.zero_le _⟩ dX1_lay_112 ?_
      obtain ⟨hg, h⟩ := g_gd h
      refine al_C_20 C nC_20_0 hg dX1_lay_115 ?_
      refine y_iconst (v := (1 : Int32)) C dX1_lay_116 (by decide) ?_
      refine y_iadd C dX1_lay_117 ?_
      refine y_mmin C q509 (g_rmM hR (by decide)) (Nat.le_of_ble_eq_true rfl) ⟨Nat.zero_le _, Nat.zero_le _⟩ dX1_lay_118 ?_
      obtain ⟨hg, h⟩ := g_gd h
      obtain ⟨σ10, hσ10, h⟩ := g_lt h
      refine as_C_20 C nC_20_0 hσ10 hg dX1_lay_121 ?_
      obtain ⟨x11, hx11, h⟩ := g_lt h
      refine y_iinc (c := (1 : Int32)) (vs1 := [(7, .int x11), (0, .ref (ad 0 0)), (1, .int v1), (3, .long v3), (5, .int v5), (6, .int v6)]) C hx11 (by decide) dX1_lay_122 5 rfl (g_lL hL rfl) rfl ?_
      refine y_goto (tgt := 71) C dX1_lay_125 rfl ?_
      refine y_sub (vs2 := [(0, .ref (ad 0 0)), (1, .int v1), (3, .long v3), (5, .int v5), (6, .int v6), (7, .int x11)]) [1, 2, 3, 4, 5, 0] rfl ?_
      exact kl _ (Option.some.inj h).symm
theorem mj_C1_lay_68 {X : g_F} {hid : Bool} (C : g_M gCl X cX1_lay RX1 none) (hR : g_R X = g_rm 4 0 0) (hL : g_nL X = 8) {ad : Nat → Nat → Nat} {σ : g_S} {v1 : Int32} {v3 : Int64} {v5 : Int32} {v6 : Int32} {o : ((Int32 × g_S) ⊕ g_S)} (h : mJ_C1_lay_68 σ v1 v3 v5 v6 = some o) (kl : ∀ z, o = .inl z → g_Y gCl X (gC hid) ad z.2 (0, 0) 32 [(0, .ref (ad 0 0)), (1, .int v1), (3, .long v3), (5, .int v5), (6, .int z.1)] []) (kx : ∀ z, o = .inr z → g_Y gCl X (gC hid) ad z (0, 0) 134 [(0, .ref (ad 0 0)), (1, .int v1), (3, .long v3), (5, .int v5)] []) : g_Y gCl X (gC hid) ad σ (0, 0) 68 [(0, .ref (ad 0 0)), (1, .int v1), (3, .long v3), (5, .int v5), (6, .int v6)] [] := by
  unfold mJ_C1_lay_68 at h
  refine y_iconst (v := (0 : Int32)) C dX1_lay_68 (by decide) ?_
  refine y_istore (vs1 := [(7, .int (0 : Int32)), (0, .ref (ad 0 0)), (1, .int v1), (3, .long v3), (5, .int v5), (6, .int v6)]) C rfl dX1_lay_69 (g_lL hL rfl) rfl ?_
  refine y_sub (vs2 := [(0, .ref (ad 0 0)), (1, .int v1), (3, .long v3), (5, .int v5), (6, .int v6), (7, .int (0 : Int32))]) [1, 2, 3, 4, 5, 0] rfl ?_
  obtain ⟨e12, he12, h⟩ := g_bd h
  refine ml_C1_lay_71 C hR hL (σ := σ) _ _ _ he12 ?_
  obtain ⟨x13, hx13, h⟩ := g_lt h
  refine y_iinc (c := (1 : Int32)) (vs1 := [(6, .int x13), (0, .ref (ad 0 0)), (1, .int v1), (3, .long v3), (5, .int v5)]) C hx13 (by decide) dX1_lay_128 4 rfl (g_lL hL rfl) rfl ?_
  refine y_goto (tgt := 32) C dX1_lay_131 rfl ?_
  refine y_sub (vs2 := [(0, .ref (ad 0 0)), (1, .int v1), (3, .long v3), (5, .int v5), (6, .int x13)]) [1, 2, 3, 4, 0] rfl ?_
  exact kl _ (Option.some.inj h).symm
theorem ml_C1_lay_32 {X : g_F} {hid : Bool} (C : g_M gCl X cX1_lay RX1 none) (hR : g_R X = g_rm 4 0 0) (hL : g_nL X = 8) {ad : Nat → Nat → Nat} {σ : g_S} {v1 : Int32} {v3 : Int64} {v5 : Int32} (n : Nat) (v : (Int32 × g_S)) (e : g_S) (h : g_lp (fun v => mB_C1_lay_32 v.2 v1 v3 v5 v.1) n v = some e) (kx : g_Y gCl X (gC hid) ad e (0, 0) 134 [(0, .ref (ad 0 0)), (1, .int v1), (3, .long v3), (5, .int v5)] []) : g_Y gCl X (gC hid) ad v.2 (0, 0) 32 [(0, .ref (ad 0 0)), (1, .int v1), (3, .long v3), (5, .int v5), (6, .int v.1)] [] := by
  refine g_loop (P := fun v => g_Y gCl X (gC hid) ad v.2 (0, 0) 32 [(0, .ref (ad 0 0)), (1, .int v1), (3, .long v3), (5, .int v5), (6, .int v.1)] []) (T := fun e => g_Y gCl X (gC hid) ad e (0, 0) 134 [(0, .ref (ad 0 0)), (1, .int v1), (3, .long v3), (5, .int v5)] []) ?_ n v e h kx
  clear h kx
  clear n v e
  intro v o h kl kx
  obtain ⟨v6, σ⟩ := v
  have h : mB_C1_lay_32 σ v1 v3 v5 v6 = some o := h
  unfold mB_C1_lay_32 at h
  show g_Y gCl X (gC hid) ad σ (0, 0) 32 [(0, .ref (ad 0 0)), (1, .int v1), (3, .long v3), (5, .int v5), (6, .int v6)] []
  refine y_iload C dX1_lay_32 4 rfl ?_
  refine y_aload_n C dX1_lay_34 0 rfl rfl ?_
  obtain ⟨x4, hc, h⟩ := g_bd h
  refine y_callV C (As := []) (rest := [.int v6]) (k := 0) (hu := nC_0_0) (hc := (rfl : gCl[0]? = some (RX1, TX1, 31))) (hcell := obC_0) (lk_X1_142_X1_l1 C hR (by decide)) (ct_C1_fields hc) rfl rfl (Nat.le_of_ble_eq_true rfl) ⟨Nat.zero_le _, Nat.zero_le _⟩ dX1_lay_35 ?_
  refine y_icmp_ge (tgt := 134) C dX1_lay_38 rfl (fun hc => ?_) (fun hc => ?_)
  · replace h := g_it h hc
    refine y_sub (vs2 := [(0, .ref (ad 0 0)), (1, .int v1), (3, .long v3), (5, .int v5)]) [0, 1, 2, 3] rfl ?_
    exact kx _ (Option.some.inj h).symm
  · replace h := g_if h hc
    refine y_aload_n C dX1_lay_41 0 rfl rfl ?_
    refine y_iload C dX1_lay_42 4 rfl ?_
    obtain ⟨x5, hc, h⟩ := g_bd h
    refine y_callV C (As := [.int v6]) (rest := []) (k := 0) (hu := nC_0_0) (hc := (rfl : gCl[0]? = some (RX1, TX1, 31))) (hcell := obC_0) (lk_X1_209_X1_l2 C hR (by decide)) (ct_C1_isRock hc) rfl rfl (Nat.le_of_ble_eq_true rfl) ⟨Nat.zero_le _, Nat.zero_le _⟩ dX1_lay_44 ?_
    refine y_if_ne (tgt := 128) C dX1_lay_47 rfl (fun hc => ?_) (fun hc => ?_)
    · replace h := g_if h hc
      obtain ⟨x6, hx6, h⟩ := g_lt h
      refine y_iinc (c := (1 : Int32)) (vs1 := [(6, .int x6), (0, .ref (ad 0 0)), (1, .int v1), (3, .long v3), (5, .int v5)]) C hx6 (by decide) dX1_lay_128 4 rfl (g_lL hL rfl) rfl ?_
      refine y_goto (tgt := 32) C dX1_lay_131 rfl ?_
      refine y_sub (vs2 := [(0, .ref (ad 0 0)), (1, .int v1), (3, .long v3), (5, .int v5), (6, .int x6)]) [1, 2, 3, 4, 0] rfl ?_
      exact kl _ (Option.some.inj h).symm
    · replace h := g_it h hc
      refine y_iload C dX1_lay_50 4 rfl ?_
      refine y_iload_n C dX1_lay_52 1 rfl rfl ?_
      refine y_icmp_eq (tgt := 68) C dX1_lay_53 rfl (fun hc => ?_) (fun hc => ?_)
      · replace h := g_it h hc
        exact mj_C1_lay_68 C hR hL h kl kx
      · replace h := g_if h hc
        refine y_lload_n C dX1_lay_56 2 rfl rfl ?_
        refine y_iload C dX1_lay_57 4 rfl ?_
        obtain ⟨x14, hc, h⟩ := g_bd h
        refine y_callS C (As := [.long v3, .int v6]) (rest := []) (lk_X1_26_l1 C hR (by decide)) (ct_C1_has hc) rfl rfl (Nat.le_of_ble_eq_true rfl) ⟨Nat.zero_le _, Nat.zero_le _⟩ dX1_lay_59 ?_
        refine y_if_ne (tgt := 68) C dX1_lay_62 rfl (fun hc => ?_) (fun hc => ?_)
        · replace h := g_if h hc
          exact mj_C1_lay_68 C hR hL h kl kx
        · replace h := g_it h hc
          refine y_goto (tgt := 128) C dX1_lay_65 rfl ?_
          obtain ⟨x15, hx15, h⟩ := g_lt h
          refine y_iinc (c := (1 : Int32)) (vs1 := [(6, .int x15), (0, .ref (ad 0 0)), (1, .int v1), (3, .long v3), (5, .int v5)]) C hx15 (by decide) dX1_lay_128 4 rfl (g_lL hL rfl) rfl ?_
          refine y_goto (tgt := 32) C dX1_lay_131 rfl ?_
          refine y_sub (vs2 := [(0, .ref (ad 0 0)), (1, .int v1), (3, .long v3), (5, .int v5), (6, .int x15)]) [1, 2, 3, 4, 0] rfl ?_
          exact kl _ (Option.some.inj h).symm
theorem ml_C1_lay_20 {X : g_F} {hid : Bool} (C : g_M gCl X cX1_lay RX1 none) (hR : g_R X = g_rm 4 0 0) (hL : g_nL X = 8) {ad : Nat → Nat → Nat} {σ : g_S} {v1 : Int32} {v3 : Int64} (n : Nat) (v : (Int32 × g_S)) (e : g_S) (h : g_lp (fun v => mB_C1_lay_20 v.2 v1 v3 v.1) n v = some e) (kx : g_Y gCl X (gC hid) ad e (0, 0) 140 [] []) : g_Y gCl X (gC hid) ad v.2 (0, 0) 20 [(0, .ref (ad 0 0)), (1, .int v1), (3, .long v3), (5, .int v.1)] [] := by
  refine g_loop (P := fun v => g_Y gCl X (gC hid) ad v.2 (0, 0) 20 [(0, .ref (ad 0 0)), (1, .int v1), (3, .long v3), (5, .int v.1)] []) (T := fun e => g_Y gCl X (gC hid) ad e (0, 0) 140 [] []) ?_ n v e h kx
  clear h kx
  clear n v e
  intro v o h kl kx
  obtain ⟨v5, σ⟩ := v
  have h : mB_C1_lay_20 σ v1 v3 v5 = some o := h
  unfold mB_C1_lay_20 at h
  show g_Y gCl X (gC hid) ad σ (0, 0) 20 [(0, .ref (ad 0 0)), (1, .int v1), (3, .long v3), (5, .int v5)] []
  refine y_iload C dX1_lay_20 3 rfl ?_
  refine y_aload_n C dX1_lay_22 0 rfl rfl ?_
  obtain ⟨x3, hc, h⟩ := g_bd h
  refine y_callV C (As := []) (rest := [.int v5]) (k := 0) (hu := nC_0_0) (hc := (rfl : gCl[0]? = some (RX1, TX1, 31))) (hcell := obC_0) (lk_X1_142_X1_l1 C hR (by decide)) (ct_C1_fields hc) rfl rfl (Nat.le_of_ble_eq_true rfl) ⟨Nat.zero_le _, Nat.zero_le _⟩ dX1_lay_23 ?_
  refine y_icmp_ge (tgt := 140) C dX1_lay_26 rfl (fun hc => ?_) (fun hc => ?_)
  · replace h := g_it h hc
    refine y_sub (vs2 := []) [] rfl ?_
    exact kx _ (Option.some.inj h).symm
  · replace h := g_if h hc
    refine y_iconst (v := (0 : Int32)) C dX1_lay_29 (by decide) ?_
    refine y_istore (vs1 := [(6, .int (0 : Int32)), (0, .ref (ad 0 0)), (1, .int v1), (3, .long v3), (5, .int v5)]) C rfl dX1_lay_30 (g_lL hL rfl) rfl ?_
    refine y_sub (vs2 := [(0, .ref (ad 0 0)), (1, .int v1), (3, .long v3), (5, .int v5), (6, .int (0 : Int32))]) [1, 2, 3, 4, 0] rfl ?_
    obtain ⟨e16, he16, h⟩ := g_bd h
    refine ml_C1_lay_32 C hR hL (σ := σ) _ _ _ he16 ?_
    obtain ⟨x17, hx17, h⟩ := g_lt h
    refine y_iinc (c := (1 : Int32)) (vs1 := [(5, .int x17), (0, .ref (ad 0 0)), (1, .int v1), (3, .long v3)]) C hx17 (by decide) dX1_lay_134 3 rfl (g_lL hL rfl) rfl ?_
    refine y_goto (tgt := 20) C dX1_lay_137 rfl ?_
    refine y_sub (vs2 := [(0, .ref (ad 0 0)), (1, .int v1), (3, .long v3), (5, .int x17)]) [1, 2, 3, 0] rfl ?_
    exact kl _ (Option.some.inj h).symm
theorem mw_C1_lay {X : g_F} {hid : Bool} (C : g_M gCl X cX1_lay RX1 none) (hR : g_R X = g_rm 4 0 0) (hL : g_nL X = 8) {ad : Nat → Nat → Nat} {σ : g_S} {v1 : Int32} {v2 : Int32} {v3 : Int64} {o : g_S} (h : mF_C1_lay σ v1 v2 v3 = some o) (hQ : g_MQ gCl X (gC hid) ad o none = g_Q X) : g_Y gCl X (gC hid) ad σ (0, 0) 0 [(0, .ref (ad 0 0)), (1, .int v1), (2, .int v2), (3, .long v3)] [] := by
  unfold mF_C1_lay at h
  refine y_aload_n C dX1_lay_0 0 rfl rfl ?_
  refine gf_C_X1_124_0 C nC_0_0 dX1_lay_1 ?_
  refine y_ldcw (v := (1000000 : Int32)) C q1106 dX1_lay_4 ?_
  obtain ⟨σ1, hc, h⟩ := g_bd h
  refine y_callSv C (As := [.ref (ad 20 0), .int (1000000 : Int32)]) (rest := []) (lk_X1_440_l1 C hR (by decide)) (ct_C13_fill hc) rfl rfl (Nat.le_of_ble_eq_true rfl) ⟨Nat.zero_le _, Nat.zero_le _⟩ dX1_lay_7 ?_
  refine y_aload_n C dX1_lay_10 0 rfl rfl ?_
  refine gf_C_X1_124_0 C nC_0_0 dX1_lay_11 ?_
  refine y_iload_n C dX1_lay_14 2 rfl rfl ?_
  refine y_iconst (v := (0 : Int32)) C dX1_lay_15 (by decide) ?_
  obtain ⟨hg, h⟩ := g_gd h
  obtain ⟨σ2, hσ2, h⟩ := g_lt h
  refine as_C_20 C nC_20_0 hσ2 hg dX1_lay_16 ?_
  refine y_iconst (v := (0 : Int32)) C dX1_lay_17 (by decide) ?_
  refine y_istore (vs1 := [(5, .int (0 : Int32)), (0, .ref (ad 0 0)), (1, .int v1), (2, .int v2), (3, .long v3)]) C rfl dX1_lay_18 (g_lL hL rfl) rfl ?_
  refine y_sub (vs2 := [(0, .ref (ad 0 0)), (1, .int v1), (3, .long v3), (5, .int (0 : Int32))]) [1, 2, 4, 0] rfl ?_
  obtain ⟨e18, he18, h⟩ := g_bd h
  refine ml_C1_lay_20 C hR hL (σ := σ2) _ _ _ he18 ?_
  replace h := Option.some.inj h; subst h
  exact y_vret C hQ ⟨Nat.zero_le _, Nat.zero_le _⟩ dX1_lay_140
theorem ct_C1_lay {D : va_G} {dA : Nat → ClassId} {A : Nat → Prop} {s0 : State} {b0 : Nat} {l : Launch} {hid : Bool} {ad : Nat → Nat → Nat} {σ : g_S} {v1 : Int32} {v2 : Int32} {v3 : Int64} {σ1 : g_S} (h : mF_C1_lay σ v1 v2 v3 = some σ1) : g_Met gCl D dA A s0 b0 l yX1_lay cX1_lay 8 none 4 (0, 0) (gC hid) ad σ [.ref (ad 0 0), .int v1, .int v2, .long v3] (gC hid) ad σ1 none :=
  g_Met.of pl_X1 (Nat.le_of_ble_eq_true rfl) (fun X C hQ hR _ _ hL _ es eb => mw_C1_lay C hR hL h hQ)
theorem ml_C1_tellWay_26 {X : g_F} {hid : Bool} (C : g_M gCl X cX1_tellWay RX1 none) (hR : g_R X = g_rm 4 0 0) (hL : g_nL X = 7) {ad : Nat → Nat → Nat} {σ : g_S} {v2 : Int32} {v3 : Int32} (n : Nat) (v : (Int32 × Int32)) (e : Int32) (h : g_lp (fun v => mB_C1_tellWay_26 σ v2 v3 v.1 v.2) n v = some e) (kx : g_Y gCl X (gC hid) ad σ (0, 0) 81 [(0, .ref (ad 0 0)), (2, .int v2), (4, .int e)] []) : g_Y gCl X (gC hid) ad σ (0, 0) 26 [(0, .ref (ad 0 0)), (2, .int v2), (3, .int v3), (4, .int v.1), (5, .int v.2)] [] := by
  refine g_loop (P := fun v => g_Y gCl X (gC hid) ad σ (0, 0) 26 [(0, .ref (ad 0 0)), (2, .int v2), (3, .int v3), (4, .int v.1), (5, .int v.2)] []) (T := fun e => g_Y gCl X (gC hid) ad σ (0, 0) 81 [(0, .ref (ad 0 0)), (2, .int v2), (4, .int e)] []) ?_ n v e h kx
  clear h kx
  clear n v e
  intro v o h kl kx
  obtain ⟨v4, v5⟩ := v
  have h : mB_C1_tellWay_26 σ v2 v3 v4 v5 = some o := h
  unfold mB_C1_tellWay_26 at h
  show g_Y gCl X (gC hid) ad σ (0, 0) 26 [(0, .ref (ad 0 0)), (2, .int v2), (3, .int v3), (4, .int v4), (5, .int v5)] []
  refine y_iload C dX1_tellWay_26 4 rfl ?_
  refine y_bipush (v := (8 : Int32)) C dX1_tellWay_28 (by decide) ?_
  refine y_icmp_ge (tgt := 81) C dX1_tellWay_30 rfl (fun hc => ?_) (fun hc => ?_)
  · replace h := g_it h hc
    refine y_sub (vs2 := [(0, .ref (ad 0 0)), (2, .int v2), (4, .int v4)]) [0, 1, 3] rfl ?_
    exact kx _ (Option.some.inj h).symm
  · replace h := g_if h hc
    refine y_aload_n C dX1_tellWay_33 0 rfl rfl ?_
    refine y_iload_n C dX1_tellWay_34 2 rfl rfl ?_
    refine y_iload C dX1_tellWay_35 4 rfl ?_
    obtain ⟨x3, hc, h⟩ := g_bd h
    refine y_callV C (As := [.int v3, .int v5]) (rest := []) (k := 0) (hu := nC_0_0) (hc := (rfl : gCl[0]? = some (RX1, TX1, 31))) (hcell := obC_0) (lk_X1_347_X1_l3 C hR (by decide)) (ct_C1_stepOf hc) rfl rfl (Nat.le_of_ble_eq_true rfl) ⟨Nat.zero_le _, Nat.zero_le _⟩ dX1_tellWay_37 ?_
    refine y_istore (vs1 := [(6, .int x3), (0, .ref (ad 0 0)), (2, .int v2), (3, .int v3), (4, .int v4), (5, .int v5)]) C rfl dX1_tellWay_40 (g_lL hL rfl) rfl ?_
    refine y_iload C dX1_tellWay_42 0 rfl ?_
    refine y_iconst (v := (-1 : Int32)) C dX1_tellWay_44 (by decide) ?_
    refine y_icmp_eq (tgt := 75) C dX1_tellWay_45 rfl (fun hc => ?_) (fun hc => ?_)
    · replace h := g_it h hc
      obtain ⟨x4, hx4, h⟩ := g_lt h
      refine y_iinc (c := (1 : Int32)) (vs1 := [(5, .int x4), (6, .int x3), (0, .ref (ad 0 0)), (2, .int v2), (3, .int v3), (4, .int v4)]) C hx4 (by decide) dX1_tellWay_75 5 rfl (g_lL hL rfl) rfl ?_
      refine y_goto (tgt := 26) C dX1_tellWay_78 rfl ?_
      refine y_sub (vs2 := [(0, .ref (ad 0 0)), (2, .int v2), (3, .int v3), (4, .int v4), (5, .int x4)]) [2, 3, 4, 5, 0] rfl ?_
      exact kl _ (Option.some.inj h).symm
    · replace h := g_if h hc
      refine y_aload_n C dX1_tellWay_48 1 rfl rfl ?_
      refine gf_C_X1_124_0 C nC_0_0 dX1_tellWay_49 ?_
      refine y_iload C dX1_tellWay_52 0 rfl ?_
      obtain ⟨hg, h⟩ := g_gd h
      refine al_C_20 C nC_20_0 hg dX1_tellWay_54 ?_
      refine y_aload_n C dX1_tellWay_55 1 rfl rfl ?_
      refine gf_C_X1_124_0 C nC_0_0 dX1_tellWay_56 ?_
      refine y_iload_n C dX1_tellWay_59 3 rfl rfl ?_
      obtain ⟨hg, h⟩ := g_gd h
      refine al_C_20 C nC_20_0 hg dX1_tellWay_60 ?_
      refine y_iconst (v := (1 : Int32)) C dX1_tellWay_61 (by decide) ?_
      refine y_isub C dX1_tellWay_62 ?_
      refine y_icmp_ne (tgt := 75) C dX1_tellWay_63 rfl (fun hc => ?_) (fun hc => ?_)
      · replace h := g_if h hc
        obtain ⟨x5, hx5, h⟩ := g_lt h
        refine y_iinc (c := (1 : Int32)) (vs1 := [(5, .int x5), (6, .int x3), (0, .ref (ad 0 0)), (2, .int v2), (3, .int v3), (4, .int v4)]) C hx5 (by decide) dX1_tellWay_75 5 rfl (g_lL hL rfl) rfl ?_
        refine y_goto (tgt := 26) C dX1_tellWay_78 rfl ?_
        refine y_sub (vs2 := [(0, .ref (ad 0 0)), (2, .int v2), (3, .int v3), (4, .int v4), (5, .int x5)]) [2, 3, 4, 5, 0] rfl ?_
        exact kl _ (Option.some.inj h).symm
      · replace h := g_it h hc
        refine y_iload C dX1_tellWay_66 4 rfl ?_
        refine y_iload C dX1_tellWay_68 0 rfl ?_
        refine y_mmin C q509 (g_rmM hR (by decide)) (Nat.le_of_ble_eq_true rfl) ⟨Nat.zero_le _, Nat.zero_le _⟩ dX1_tellWay_70 ?_
        obtain ⟨x6, hx6, h⟩ := g_lt h
        refine y_istore (vs1 := [(4, .int x6), (6, .int x3), (0, .ref (ad 0 0)), (2, .int v2), (3, .int v3), (5, .int v5)]) C hx6 dX1_tellWay_73 (g_lL hL rfl) rfl ?_
        obtain ⟨x7, hx7, h⟩ := g_lt h
        refine y_iinc (c := (1 : Int32)) (vs1 := [(5, .int x7), (4, .int x6), (6, .int x3), (0, .ref (ad 0 0)), (2, .int v2), (3, .int v3)]) C hx7 (by decide) dX1_tellWay_75 5 rfl (g_lL hL rfl) rfl ?_
        refine y_goto (tgt := 26) C dX1_tellWay_78 rfl ?_
        refine y_sub (vs2 := [(0, .ref (ad 0 0)), (2, .int v2), (3, .int v3), (4, .int x6), (5, .int x7)]) [3, 4, 5, 1, 0] rfl ?_
        exact kl _ (Option.some.inj h).symm
theorem ml_C1_tellWay_13 {X : g_F} {hid : Bool} (C : g_M gCl X cX1_tellWay RX1 none) (hR : g_R X = g_rm 4 0 0) (hL : g_nL X = 7) {ad : Nat → Nat → Nat} {σ : g_S} {v2 : Int32} (n : Nat) (v : (Int32 × g_S)) (e : g_S) (h : g_lp (fun v => mB_C1_tellWay_13 v.2 v2 v.1) n v = some e) (kx : g_Y gCl X (gC hid) ad e (0, 0) 93 [] []) : g_Y gCl X (gC hid) ad v.2 (0, 0) 13 [(0, .ref (ad 0 0)), (2, .int v2), (3, .int v.1)] [] := by
  refine g_loop (P := fun v => g_Y gCl X (gC hid) ad v.2 (0, 0) 13 [(0, .ref (ad 0 0)), (2, .int v2), (3, .int v.1)] []) (T := fun e => g_Y gCl X (gC hid) ad e (0, 0) 93 [] []) ?_ n v e h kx
  clear h kx
  clear n v e
  intro v o h kl kx
  obtain ⟨v3, σ⟩ := v
  have h : mB_C1_tellWay_13 σ v2 v3 = some o := h
  unfold mB_C1_tellWay_13 at h
  show g_Y gCl X (gC hid) ad σ (0, 0) 13 [(0, .ref (ad 0 0)), (2, .int v2), (3, .int v3)] []
  refine y_iload_n C dX1_tellWay_13 2 rfl rfl ?_
  refine y_iload_n C dX1_tellWay_14 1 rfl rfl ?_
  refine y_icmp_eq (tgt := 93) C dX1_tellWay_15 rfl (fun hc => ?_) (fun hc => ?_)
  · replace h := g_it h hc
    refine y_sub (vs2 := []) [] rfl ?_
    exact kx _ (Option.some.inj h).symm
  · replace h := g_if h hc
    refine y_ldcw (v := (1000000 : Int32)) C q1106 dX1_tellWay_18 ?_
    refine y_istore (vs1 := [(4, .int (1000000 : Int32)), (0, .ref (ad 0 0)), (2, .int v2), (3, .int v3)]) C rfl dX1_tellWay_21 (g_lL hL rfl) rfl ?_
    refine y_iconst (v := (0 : Int32)) C dX1_tellWay_23 (by decide) ?_
    refine y_istore (vs1 := [(5, .int (0 : Int32)), (4, .int (1000000 : Int32)), (0, .ref (ad 0 0)), (2, .int v2), (3, .int v3)]) C rfl dX1_tellWay_24 (g_lL hL rfl) rfl ?_
    refine y_sub (vs2 := [(0, .ref (ad 0 0)), (2, .int v2), (3, .int v3), (4, .int (1000000 : Int32)), (5, .int (0 : Int32))]) [2, 3, 4, 1, 0] rfl ?_
    obtain ⟨e8, he8, h⟩ := g_bd h
    refine ml_C1_tellWay_26 C hR hL (σ := σ) _ _ _ he8 ?_
    refine y_iload C dX1_tellWay_81 2 rfl ?_
    refine y_istore_n (vs1 := [(3, .int e8), (0, .ref (ad 0 0)), (2, .int v2), (4, .int e8)]) C rfl dX1_tellWay_83 rfl (g_lL hL rfl) rfl ?_
    refine y_aload_n C dX1_tellWay_84 1 rfl rfl ?_
    refine y_iload_n C dX1_tellWay_85 0 rfl rfl ?_
    refine y_i2l C dX1_tellWay_86 ?_
    obtain ⟨σ9, hc, h⟩ := g_bd h
    refine y_callVv C (As := [.long (e8.toInt64)]) (rest := []) (k := 0) (hu := nC_0_0) (hc := (rfl : gCl[0]? = some (RX1, TX1, 31))) (hcell := obC_0) (lk_X1_330_X1_l1 C hR (by decide)) (ct_C1_tell_2 hc) rfl rfl (Nat.le_of_ble_eq_true rfl) ⟨Nat.zero_le _, Nat.zero_le _⟩ dX1_tellWay_87 ?_
    refine y_goto (tgt := 13) C dX1_tellWay_90 rfl ?_
    refine y_sub (vs2 := [(0, .ref (ad 0 0)), (2, .int v2), (3, .int e8)]) [1, 2, 0] rfl ?_
    exact kl _ (Option.some.inj h).symm
theorem mw_C1_tellWay {X : g_F} {hid : Bool} (C : g_M gCl X cX1_tellWay RX1 none) (hR : g_R X = g_rm 4 0 0) (hL : g_nL X = 7) {ad : Nat → Nat → Nat} {σ : g_S} {v1 : Int32} {v2 : Int32} {o : g_S} (h : mF_C1_tellWay σ v1 v2 = some o) (hQ : g_MQ gCl X (gC hid) ad o none = g_Q X) : g_Y gCl X (gC hid) ad σ (0, 0) 0 [(0, .ref (ad 0 0)), (1, .int v1), (2, .int v2)] [] := by
  unfold mF_C1_tellWay at h
  refine y_aload_n C dX1_tellWay_0 0 rfl rfl ?_
  refine y_iconst (v := (0 : Int32)) C dX1_tellWay_1 (by decide) ?_
  obtain ⟨σ1, hσ1, h⟩ := g_lt h
  refine pf_C_X1_139_0 C nC_0_0 hσ1 dX1_tellWay_2 ?_
  refine y_aload_n C dX1_tellWay_5 0 rfl rfl ?_
  refine y_iload_n C dX1_tellWay_6 1 rfl rfl ?_
  refine y_i2l C dX1_tellWay_7 ?_
  obtain ⟨σ2, hc, h⟩ := g_bd h
  refine y_callVv C (As := [.long (v1.toInt64)]) (rest := []) (k := 0) (hu := nC_0_0) (hc := (rfl : gCl[0]? = some (RX1, TX1, 31))) (hcell := obC_0) (lk_X1_330_X1_l1 C hR (by decide)) (ct_C1_tell_2 hc) rfl rfl (Nat.le_of_ble_eq_true rfl) ⟨Nat.zero_le _, Nat.zero_le _⟩ dX1_tellWay_8 ?_
  refine y_iload_n C dX1_tellWay_11 1 rfl rfl ?_
  refine y_istore_n (vs1 := [(3, .int v1), (0, .ref (ad 0 0)), (1, .int v1), (2, .int v2)]) C rfl dX1_tellWay_12 rfl (g_lL hL rfl) rfl ?_
  refine y_sub (vs2 := [(0, .ref (ad 0 0)), (2, .int v2), (3, .int v1)]) [1, 3, 0] rfl ?_
  obtain ⟨e10, he10, h⟩ := g_bd h
  refine ml_C1_tellWay_13 C hR hL (σ := σ2) _ _ _ he10 ?_
  replace h := Option.some.inj h; subst h
  exact y_vret C hQ ⟨Nat.zero_le _, Nat.zero_le _⟩ dX1_tellWay_93
theorem ct_C1_tellWay {D : va_G} {dA : Nat → ClassId} {A : Nat → Prop} {s0 : State} {b0 : Nat} {l : Launch} {hid : Bool} {ad : Nat → Nat → Nat} {σ : g_S} {v1 : Int32} {v2 : Int32} {σ1 : g_S} (h : mF_C1_tellWay σ v1 v2 = some σ1) : g_Met gCl D dA A s0 b0 l yX1_tellWay cX1_tellWay 7 none 4 (0, 0) (gC hid) ad σ [.ref (ad 0 0), .int v1, .int v2] (gC hid) ad σ1 none :=
  g_Met.of pl_X1 (Nat.le_of_ble_eq_true rfl) (fun X C hQ hR _ _ hL _ es eb => mw_C1_tellWay C hR hL h hQ)
theorem mw_C1_back {X : g_F} (C : g_M gCl X cX1_back RX1 (some .int)) (hR : g_R X = g_rm 307 0 0) (hL : g_nL X = 3) {ad : Nat → Nat → Nat} {σ : g_S} {v1 : Int32} {v2 : Int32} {o : (Int32 × g_S)} (h : mF_C1_back σ v1 v2 = some o) (hQ : g_MQ gCl X (gC true) ad o.2 (some (.int o.1)) = g_Q X) : g_Y gCl X (gC true) ad σ (0, 0) 0 [(0, .ref (ad 0 0)), (1, .int v1), (2, .int v2)] [] := by
  unfold mF_C1_back at h
  refine y_aload_n C dX1_back_0 0 rfl rfl ?_
  refine y_iload_n C dX1_back_1 1 rfl rfl ?_
  obtain ⟨x1, hc, h⟩ := g_bd h
  refine y_callV C (As := [.int v1]) (rest := []) (k := 0) (hu := nC_0_0) (hc := (rfl : gCl[0]? = some (RX1, TX1, 31))) (hcell := obC_0) (lk_X1_358_X1_l2 C hR (by decide)) (ct_C1_isField hc) rfl rfl (Nat.le_of_ble_eq_true rfl) ⟨Nat.zero_le _, Nat.zero_le _⟩ dX1_back_2 ?_
  refine y_if_eq (tgt := 16) C dX1_back_5 rfl (fun hc => ?_) (fun hc => ?_)
  · replace h := g_it h hc
    refine y_iconst (v := (-1 : Int32)) C dX1_back_16 (by decide) ?_
    replace h := Option.some.inj h; subst h
    exact y_iret C hQ ⟨Nat.zero_le _, Nat.zero_le _⟩ dX1_back_17
  · replace h := g_if h hc
    refine y_aload_n C dX1_back_8 0 rfl rfl ?_
    refine y_iload_n C dX1_back_9 2 rfl rfl ?_
    obtain ⟨x2, hc, h⟩ := g_bd h
    refine y_callV C (As := [.int v2]) (rest := []) (k := 0) (hu := nC_0_0) (hc := (rfl : gCl[0]? = some (RX1, TX1, 31))) (hcell := obC_0) (lk_X1_358_X1_l2 C hR (by decide)) (ct_C1_isField hc) rfl rfl (Nat.le_of_ble_eq_true rfl) ⟨Nat.zero_le _, Nat.zero_le _⟩ dX1_back_10 ?_
    refine y_if_ne (tgt := 18) C dX1_back_13 rfl (fun hc => ?_) (fun hc => ?_)
    · replace h := g_if h hc
      refine y_aload_n C dX1_back_18 0 rfl rfl ?_
      refine y_iload_n C dX1_back_19 1 rfl rfl ?_
      obtain ⟨x3, hc, h⟩ := g_bd h
      refine y_callV C (As := [.int v1]) (rest := []) (k := 0) (hu := nC_0_0) (hc := (rfl : gCl[0]? = some (RX1, TX1, 31))) (hcell := obC_0) (lk_X1_209_X1_l2 C hR (by decide)) (ct_C1_isRock hc) rfl rfl (Nat.le_of_ble_eq_true rfl) ⟨Nat.zero_le _, Nat.zero_le _⟩ dX1_back_20 ?_
      refine y_if_ne (tgt := 34) C dX1_back_23 rfl (fun hc => ?_) (fun hc => ?_)
      · replace h := g_if h hc
        refine y_bipush (v := (-2 : Int32)) C dX1_back_34 (by decide) ?_
        replace h := Option.some.inj h; subst h
        exact y_iret C hQ ⟨Nat.zero_le _, Nat.zero_le _⟩ dX1_back_36
      · replace h := g_it h hc
        refine y_aload_n C dX1_back_26 0 rfl rfl ?_
        refine y_iload_n C dX1_back_27 2 rfl rfl ?_
        obtain ⟨x4, hc, h⟩ := g_bd h
        refine y_callV C (As := [.int v2]) (rest := []) (k := 0) (hu := nC_0_0) (hc := (rfl : gCl[0]? = some (RX1, TX1, 31))) (hcell := obC_0) (lk_X1_209_X1_l2 C hR (by decide)) (ct_C1_isRock hc) rfl rfl (Nat.le_of_ble_eq_true rfl) ⟨Nat.zero_le _, Nat.zero_le _⟩ dX1_back_28 ?_
        refine y_if_eq (tgt := 37) C dX1_back_31 rfl (fun hc => ?_) (fun hc => ?_)
        · replace h := g_it h hc
          refine y_aload_n C dX1_back_37 0 rfl rfl ?_
          refine y_iload_n C dX1_back_38 1 rfl rfl ?_
          refine y_iload_n C dX1_back_39 2 rfl rfl ?_
          refine y_aload_n C dX1_back_40 0 rfl rfl ?_
          obtain ⟨x5, hc, h⟩ := g_bd h
          refine y_callV C (As := []) (rest := [.int v2, .int v1, .ref (ad 0 0)]) (k := 0) (hu := nC_0_0) (hc := (rfl : gCl[0]? = some (RX1, TX1, 31))) (hcell := obC_0) (lk_X1_401_X1_l2 C hR (by decide)) (ct_C1_open hc) rfl rfl (Nat.le_of_ble_eq_true rfl) ⟨Nat.zero_le _, Nat.zero_le _⟩ dX1_back_41 ?_
          refine y_aload_n C dX1_back_44 0 rfl rfl ?_
          refine y_aload_n C dX1_back_45 0 rfl rfl ?_
          refine gf_C_X1_84_0 C nC_0_0 dX1_back_46 ?_
          obtain ⟨x6, hc, h⟩ := g_bd h
          refine y_callV C (As := [.ref (ad 4 0)]) (rest := [.long x5, .int v2, .int v1, .ref (ad 0 0)]) (k := 0) (hu := nC_0_0) (hc := (rfl : gCl[0]? = some (RX1, TX1, 31))) (hcell := obC_0) (lk_X1_405_X1_l306 C hR (by decide)) (ct_C1_seen nC_4_0 hc) rfl rfl (Nat.le_of_ble_eq_true rfl) ⟨Nat.zero_le _, Nat.zero_le _⟩ dX1_back_49 ?_
          refine y_ldc2 (v := (-1 : Int64)) C q990 dX1_back_52 ?_
          refine y_lxor C dX1_back_55 ?_
          refine y_land C dX1_back_56 ?_
          obtain ⟨σ7, hc, h⟩ := g_bd h
          refine y_callVv C (As := [.int v1, .int v2, .long (x5 &&& (x6 ^^^ (-1 : Int64)))]) (rest := []) (k := 0) (hu := nC_0_0) (hc := (rfl : gCl[0]? = some (RX1, TX1, 31))) (hcell := obC_0) (lk_X1_446_X1_l4 C hR (by decide)) (ct_C1_lay hc) rfl rfl (Nat.le_of_ble_eq_true rfl) ⟨Nat.zero_le _, Nat.zero_le _⟩ dX1_back_57 ?_
          refine y_aload_n C dX1_back_60 0 rfl rfl ?_
          refine gf_C_X1_124_0 C nC_0_0 dX1_back_61 ?_
          refine y_iload_n C dX1_back_64 1 rfl rfl ?_
          obtain ⟨hg, h⟩ := g_gd h
          refine al_C_20 C nC_20_0 hg dX1_back_65 ?_
          refine y_ldcw (v := (1000000 : Int32)) C q1106 dX1_back_66 ?_
          refine y_icmp_lt (tgt := 75) C dX1_back_69 rfl (fun hc => ?_) (fun hc => ?_)
          · replace h := g_it h hc
            refine y_aload_n C dX1_back_75 0 rfl rfl ?_
            refine y_iload_n C dX1_back_76 1 rfl rfl ?_
            refine y_iload_n C dX1_back_77 2 rfl rfl ?_
            obtain ⟨σ8, hc, h⟩ := g_bd h
            refine y_callVv C (As := [.int v1, .int v2]) (rest := []) (k := 0) (hu := nC_0_0) (hc := (rfl : gCl[0]? = some (RX1, TX1, 31))) (hcell := obC_0) (lk_X1_450_X1_l4 C hR (by decide)) (ct_C1_tellWay hc) rfl rfl (Nat.le_of_ble_eq_true rfl) ⟨Nat.zero_le _, Nat.zero_le _⟩ dX1_back_78 ?_
            refine y_aload_n C dX1_back_81 0 rfl rfl ?_
            refine gf_C_X1_124_0 C nC_0_0 dX1_back_82 ?_
            refine y_iload_n C dX1_back_85 1 rfl rfl ?_
            obtain ⟨hg, h⟩ := g_gd h
            refine al_C_20 C nC_20_0 hg dX1_back_86 ?_
            replace h := Option.some.inj h; subst h
            exact y_iret C hQ ⟨Nat.zero_le _, Nat.zero_le _⟩ dX1_back_87
          · replace h := g_if h hc
            refine y_bipush (v := (-2 : Int32)) C dX1_back_72 (by decide) ?_
            replace h := Option.some.inj h; subst h
            exact y_iret C hQ ⟨Nat.zero_le _, Nat.zero_le _⟩ dX1_back_74
        · replace h := g_if h hc
          refine y_bipush (v := (-2 : Int32)) C dX1_back_34 (by decide) ?_
          replace h := Option.some.inj h; subst h
          exact y_iret C hQ ⟨Nat.zero_le _, Nat.zero_le _⟩ dX1_back_36
    · replace h := g_it h hc
      refine y_iconst (v := (-1 : Int32)) C dX1_back_16 (by decide) ?_
      replace h := Option.some.inj h; subst h
      exact y_iret C hQ ⟨Nat.zero_le _, Nat.zero_le _⟩ dX1_back_17
theorem ct_C1_back {D : va_G} {dA : Nat → ClassId} {A : Nat → Prop} {s0 : State} {b0 : Nat} {l : Launch} {ad : Nat → Nat → Nat} {σ : g_S} {v1 : Int32} {v2 : Int32} {r : Int32} {σ1 : g_S} (h : mF_C1_back σ v1 v2 = some (r, σ1)) : g_Met gCl D dA A s0 b0 l yX1_back cX1_back 3 (some .int) 307 (0, 0) (gC true) ad σ [.ref (ad 0 0), .int v1, .int v2] (gC true) ad σ1 (some (.int r)) :=
  g_Met.of pl_X1 (Nat.le_of_ble_eq_true rfl) (fun X C hQ hR _ _ hL _ es eb => mw_C1_back C hR hL h hQ)
theorem ml_C1_open_2_83 {X : g_F} (C : g_M gCl X cX1_open_2 RX1 (some .int)) (hR : g_R X = g_rm 307 0 0) (hL : g_nL X = 7) {ad : Nat → Nat → Nat} {σ : g_S} {v1 : Int32} {v3 : Int64} (n : Nat) (v : (Int32 × Int32)) (e : Int32) (h : g_lp (fun v => mB_C1_open_2_83 σ v1 v3 v.1 v.2) n v = some e) (kx : g_Y gCl X (gC true) ad σ (0, 0) 123 [(0, .ref (ad 0 0)), (1, .int v1), (5, .int e)] []) : g_Y gCl X (gC true) ad σ (0, 0) 83 [(0, .ref (ad 0 0)), (1, .int v1), (3, .long v3), (5, .int v.1), (6, .int v.2)] [] := by
  refine g_loop (P := fun v => g_Y gCl X (gC true) ad σ (0, 0) 83 [(0, .ref (ad 0 0)), (1, .int v1), (3, .long v3), (5, .int v.1), (6, .int v.2)] []) (T := fun e => g_Y gCl X (gC true) ad σ (0, 0) 123 [(0, .ref (ad 0 0)), (1, .int v1), (5, .int e)] []) ?_ n v e h kx
  clear h kx
  clear n v e
  intro v o h kl kx
  obtain ⟨v5, v6⟩ := v
  have h : mB_C1_open_2_83 σ v1 v3 v5 v6 = some o := h
  unfold mB_C1_open_2_83 at h
  show g_Y gCl X (gC true) ad σ (0, 0) 83 [(0, .ref (ad 0 0)), (1, .int v1), (3, .long v3), (5, .int v5), (6, .int v6)] []
  refine y_iload C dX1_open_2_83 4 rfl ?_
  refine y_aload_n C dX1_open_2_85 0 rfl rfl ?_
  refine gf_C_X1_139_0 C nC_0_0 dX1_open_2_86 ?_
  refine y_icmp_ge (tgt := 123) C dX1_open_2_89 rfl (fun hc => ?_) (fun hc => ?_)
  · replace h := g_it h hc
    refine y_sub (vs2 := [(0, .ref (ad 0 0)), (1, .int v1), (5, .int v5)]) [0, 1, 3] rfl ?_
    exact kx _ (Option.some.inj h).symm
  · replace h := g_if h hc
    refine y_iload C dX1_open_2_92 3 rfl ?_
    refine y_lload_n C dX1_open_2_94 2 rfl rfl ?_
    refine y_aload_n C dX1_open_2_95 0 rfl rfl ?_
    refine gf_C_X1_105_0 C nC_0_0 dX1_open_2_96 ?_
    refine y_iload C dX1_open_2_99 4 rfl ?_
    obtain ⟨hg, h⟩ := g_gd h
    refine al_C_13 C nC_13_0 hg dX1_open_2_101 ?_
    refine y_l2i C dX1_open_2_102 ?_
    obtain ⟨x9, hc, h⟩ := g_bd h
    refine y_callS C (As := [.long v3, .int ((σ.2.1 13 0 v6.toNatClampNeg).toInt32)]) (rest := [.int v5]) (lk_X1_26_l1 C hR (by decide)) (ct_C1_has hc) rfl rfl (Nat.le_of_ble_eq_true rfl) ⟨Nat.zero_le _, Nat.zero_le _⟩ dX1_open_2_103 ?_
    refine y_if_eq (tgt := 113) C dX1_open_2_106 rfl (fun hc => ?_) (fun hc => ?_)
    · replace h := g_it h hc
      refine y_iconst (v := (0 : Int32)) C dX1_open_2_113 (by decide) ?_
      refine y_iadd C dX1_open_2_114 ?_
      obtain ⟨x10, hx10, h⟩ := g_lt h
      refine y_istore (vs1 := [(5, .int x10), (0, .ref (ad 0 0)), (1, .int v1), (3, .long v3), (6, .int v6)]) C hx10 dX1_open_2_115 (g_lL hL rfl) rfl ?_
      obtain ⟨x11, hx11, h⟩ := g_lt h
      refine y_iinc (c := (1 : Int32)) (vs1 := [(6, .int x11), (5, .int x10), (0, .ref (ad 0 0)), (1, .int v1), (3, .long v3)]) C hx11 (by decide) dX1_open_2_117 4 rfl (g_lL hL rfl) rfl ?_
      refine y_goto (tgt := 83) C dX1_open_2_120 rfl ?_
      refine y_sub (vs2 := [(0, .ref (ad 0 0)), (1, .int v1), (3, .long v3), (5, .int x10), (6, .int x11)]) [2, 3, 4, 1, 0] rfl ?_
      exact kl _ (Option.some.inj h).symm
    · replace h := g_if h hc
      refine y_iconst (v := (1 : Int32)) C dX1_open_2_109 (by decide) ?_
      refine y_goto (tgt := 114) C dX1_open_2_110 rfl ?_
      refine y_iadd C dX1_open_2_114 ?_
      obtain ⟨x12, hx12, h⟩ := g_lt h
      refine y_istore (vs1 := [(5, .int x12), (0, .ref (ad 0 0)), (1, .int v1), (3, .long v3), (6, .int v6)]) C hx12 dX1_open_2_115 (g_lL hL rfl) rfl ?_
      obtain ⟨x13, hx13, h⟩ := g_lt h
      refine y_iinc (c := (1 : Int32)) (vs1 := [(6, .int x13), (5, .int x12), (0, .ref (ad 0 0)), (1, .int v1), (3, .long v3)]) C hx13 (by decide) dX1_open_2_117 4 rfl (g_lL hL rfl) rfl ?_
      refine y_goto (tgt := 83) C dX1_open_2_120 rfl ?_
      refine y_sub (vs2 := [(0, .ref (ad 0 0)), (1, .int v1), (3, .long v3), (5, .int x12), (6, .int x13)]) [2, 3, 4, 1, 0] rfl ?_
      exact kl _ (Option.some.inj h).symm
theorem mw_C1_open_2 {X : g_F} (C : g_M gCl X cX1_open_2 RX1 (some .int)) (hR : g_R X = g_rm 307 0 0) (hL : g_nL X = 7) {ad : Nat → Nat → Nat} {σ : g_S} {v1 : Int32} {v2 : Int32} {o : (Int32 × g_S)} (h : mF_C1_open_2 σ v1 v2 = some o) (hQ : g_MQ gCl X (gC true) ad o.2 (some (.int o.1)) = g_Q X) : g_Y gCl X (gC true) ad σ (0, 0) 0 [(0, .ref (ad 0 0)), (1, .int v1), (2, .int v2)] [] := by
  unfold mF_C1_open_2 at h
  refine y_aload_n C dX1_open_2_0 0 rfl rfl ?_
  refine y_iload_n C dX1_open_2_1 1 rfl rfl ?_
  obtain ⟨x1, hc, h⟩ := g_bd h
  refine y_callV C (As := [.int v1]) (rest := []) (k := 0) (hu := nC_0_0) (hc := (rfl : gCl[0]? = some (RX1, TX1, 31))) (hcell := obC_0) (lk_X1_358_X1_l2 C hR (by decide)) (ct_C1_isField hc) rfl rfl (Nat.le_of_ble_eq_true rfl) ⟨Nat.zero_le _, Nat.zero_le _⟩ dX1_open_2_2 ?_
  refine y_if_eq (tgt := 16) C dX1_open_2_5 rfl (fun hc => ?_) (fun hc => ?_)
  · replace h := g_it h hc
    refine y_iconst (v := (-1 : Int32)) C dX1_open_2_16 (by decide) ?_
    replace h := Option.some.inj h; subst h
    exact y_iret C hQ ⟨Nat.zero_le _, Nat.zero_le _⟩ dX1_open_2_17
  · replace h := g_if h hc
    refine y_aload_n C dX1_open_2_8 0 rfl rfl ?_
    refine y_iload_n C dX1_open_2_9 2 rfl rfl ?_
    obtain ⟨x2, hc, h⟩ := g_bd h
    refine y_callV C (As := [.int v2]) (rest := []) (k := 0) (hu := nC_0_0) (hc := (rfl : gCl[0]? = some (RX1, TX1, 31))) (hcell := obC_0) (lk_X1_358_X1_l2 C hR (by decide)) (ct_C1_isField hc) rfl rfl (Nat.le_of_ble_eq_true rfl) ⟨Nat.zero_le _, Nat.zero_le _⟩ dX1_open_2_10 ?_
    refine y_if_ne (tgt := 18) C dX1_open_2_13 rfl (fun hc => ?_) (fun hc => ?_)
    · replace h := g_if h hc
      refine y_aload_n C dX1_open_2_18 0 rfl rfl ?_
      refine y_iload_n C dX1_open_2_19 1 rfl rfl ?_
      obtain ⟨x3, hc, h⟩ := g_bd h
      refine y_callV C (As := [.int v1]) (rest := []) (k := 0) (hu := nC_0_0) (hc := (rfl : gCl[0]? = some (RX1, TX1, 31))) (hcell := obC_0) (lk_X1_209_X1_l2 C hR (by decide)) (ct_C1_isRock hc) rfl rfl (Nat.le_of_ble_eq_true rfl) ⟨Nat.zero_le _, Nat.zero_le _⟩ dX1_open_2_20 ?_
      refine y_if_ne (tgt := 34) C dX1_open_2_23 rfl (fun hc => ?_) (fun hc => ?_)
      · replace h := g_if h hc
        refine y_bipush (v := (-2 : Int32)) C dX1_open_2_34 (by decide) ?_
        replace h := Option.some.inj h; subst h
        exact y_iret C hQ ⟨Nat.zero_le _, Nat.zero_le _⟩ dX1_open_2_36
      · replace h := g_it h hc
        refine y_aload_n C dX1_open_2_26 0 rfl rfl ?_
        refine y_iload_n C dX1_open_2_27 2 rfl rfl ?_
        obtain ⟨x4, hc, h⟩ := g_bd h
        refine y_callV C (As := [.int v2]) (rest := []) (k := 0) (hu := nC_0_0) (hc := (rfl : gCl[0]? = some (RX1, TX1, 31))) (hcell := obC_0) (lk_X1_209_X1_l2 C hR (by decide)) (ct_C1_isRock hc) rfl rfl (Nat.le_of_ble_eq_true rfl) ⟨Nat.zero_le _, Nat.zero_le _⟩ dX1_open_2_28 ?_
        refine y_if_eq (tgt := 37) C dX1_open_2_31 rfl (fun hc => ?_) (fun hc => ?_)
        · replace h := g_it h hc
          refine y_aload_n C dX1_open_2_37 0 rfl rfl ?_
          refine y_iload_n C dX1_open_2_38 1 rfl rfl ?_
          refine y_iload_n C dX1_open_2_39 2 rfl rfl ?_
          refine y_aload_n C dX1_open_2_40 0 rfl rfl ?_
          obtain ⟨x5, hc, h⟩ := g_bd h
          refine y_callV C (As := []) (rest := [.int v2, .int v1, .ref (ad 0 0)]) (k := 0) (hu := nC_0_0) (hc := (rfl : gCl[0]? = some (RX1, TX1, 31))) (hcell := obC_0) (lk_X1_401_X1_l2 C hR (by decide)) (ct_C1_open hc) rfl rfl (Nat.le_of_ble_eq_true rfl) ⟨Nat.zero_le _, Nat.zero_le _⟩ dX1_open_2_41 ?_
          obtain ⟨σ6, hc, h⟩ := g_bd h
          refine y_callVv C (As := [.int v1, .int v2, .long x5]) (rest := []) (k := 0) (hu := nC_0_0) (hc := (rfl : gCl[0]? = some (RX1, TX1, 31))) (hcell := obC_0) (lk_X1_446_X1_l4 C hR (by decide)) (ct_C1_lay hc) rfl rfl (Nat.le_of_ble_eq_true rfl) ⟨Nat.zero_le _, Nat.zero_le _⟩ dX1_open_2_44 ?_
          refine y_aload_n C dX1_open_2_47 0 rfl rfl ?_
          refine gf_C_X1_124_0 C nC_0_0 dX1_open_2_48 ?_
          refine y_iload_n C dX1_open_2_51 1 rfl rfl ?_
          obtain ⟨hg, h⟩ := g_gd h
          refine al_C_20 C nC_20_0 hg dX1_open_2_52 ?_
          refine y_ldcw (v := (1000000 : Int32)) C q1106 dX1_open_2_53 ?_
          refine y_icmp_lt (tgt := 62) C dX1_open_2_56 rfl (fun hc => ?_) (fun hc => ?_)
          · replace h := g_it h hc
            refine y_aload_n C dX1_open_2_62 0 rfl rfl ?_
            refine y_iload_n C dX1_open_2_63 1 rfl rfl ?_
            refine y_iload_n C dX1_open_2_64 2 rfl rfl ?_
            obtain ⟨σ7, hc, h⟩ := g_bd h
            refine y_callVv C (As := [.int v1, .int v2]) (rest := []) (k := 0) (hu := nC_0_0) (hc := (rfl : gCl[0]? = some (RX1, TX1, 31))) (hcell := obC_0) (lk_X1_450_X1_l4 C hR (by decide)) (ct_C1_tellWay hc) rfl rfl (Nat.le_of_ble_eq_true rfl) ⟨Nat.zero_le _, Nat.zero_le _⟩ dX1_open_2_65 ?_
            refine y_aload_n C dX1_open_2_68 0 rfl rfl ?_
            refine y_aload_n C dX1_open_2_69 0 rfl rfl ?_
            refine gf_C_X1_84_0 C nC_0_0 dX1_open_2_70 ?_
            obtain ⟨x8, hc, h⟩ := g_bd h
            refine y_callV C (As := [.ref (ad 4 0)]) (rest := []) (k := 0) (hu := nC_0_0) (hc := (rfl : gCl[0]? = some (RX1, TX1, 31))) (hcell := obC_0) (lk_X1_405_X1_l306 C hR (by decide)) (ct_C1_seen nC_4_0 hc) rfl rfl (Nat.le_of_ble_eq_true rfl) ⟨Nat.zero_le _, Nat.zero_le _⟩ dX1_open_2_73 ?_
            refine y_lstore_n (vs1 := [(3, .long x8), (0, .ref (ad 0 0)), (1, .int v1), (2, .int v2)]) C rfl dX1_open_2_76 rfl (g_lL hL rfl) rfl ?_
            refine y_iconst (v := (0 : Int32)) C dX1_open_2_77 (by decide) ?_
            refine y_istore (vs1 := [(5, .int (0 : Int32)), (3, .long x8), (0, .ref (ad 0 0)), (1, .int v1), (2, .int v2)]) C rfl dX1_open_2_78 (g_lL hL rfl) rfl ?_
            refine y_iconst (v := (0 : Int32)) C dX1_open_2_80 (by decide) ?_
            refine y_istore (vs1 := [(6, .int (0 : Int32)), (5, .int (0 : Int32)), (3, .long x8), (0, .ref (ad 0 0)), (1, .int v1), (2, .int v2)]) C rfl dX1_open_2_81 (g_lL hL rfl) rfl ?_
            refine y_sub (vs2 := [(0, .ref (ad 0 0)), (1, .int v1), (3, .long x8), (5, .int (0 : Int32)), (6, .int (0 : Int32))]) [3, 4, 2, 1, 0] rfl ?_
            obtain ⟨e14, he14, h⟩ := g_bd h
            refine ml_C1_open_2_83 C hR hL (σ := σ7) _ _ _ he14 ?_
            refine y_aload_n C dX1_open_2_123 0 rfl rfl ?_
            refine y_iconst (v := (0 : Int32)) C dX1_open_2_124 (by decide) ?_
            obtain ⟨σ15, hσ15, h⟩ := g_lt h
            refine pf_C_X1_139_0 C nC_0_0 hσ15 dX1_open_2_125 ?_
            refine y_aload_n C dX1_open_2_128 0 rfl rfl ?_
            refine y_iload C dX1_open_2_129 2 rfl ?_
            refine y_i2l C dX1_open_2_131 ?_
            obtain ⟨σ16, hc, h⟩ := g_bd h
            refine y_callVv C (As := [.long (e14.toInt64)]) (rest := []) (k := 0) (hu := nC_0_0) (hc := (rfl : gCl[0]? = some (RX1, TX1, 31))) (hcell := obC_0) (lk_X1_330_X1_l1 C hR (by decide)) (ct_C1_tell_2 hc) rfl rfl (Nat.le_of_ble_eq_true rfl) ⟨Nat.zero_le _, Nat.zero_le _⟩ dX1_open_2_132 ?_
            refine y_aload_n C dX1_open_2_135 0 rfl rfl ?_
            refine gf_C_X1_124_0 C nC_0_0 dX1_open_2_136 ?_
            refine y_iload_n C dX1_open_2_139 1 rfl rfl ?_
            obtain ⟨hg, h⟩ := g_gd h
            refine al_C_20 C nC_20_0 hg dX1_open_2_140 ?_
            replace h := Option.some.inj h; subst h
            exact y_iret C hQ ⟨Nat.zero_le _, Nat.zero_le _⟩ dX1_open_2_141
          · replace h := g_if h hc
            refine y_bipush (v := (-2 : Int32)) C dX1_open_2_59 (by decide) ?_
            replace h := Option.some.inj h; subst h
            exact y_iret C hQ ⟨Nat.zero_le _, Nat.zero_le _⟩ dX1_open_2_61
        · replace h := g_if h hc
          refine y_bipush (v := (-2 : Int32)) C dX1_open_2_34 (by decide) ?_
          replace h := Option.some.inj h; subst h
          exact y_iret C hQ ⟨Nat.zero_le _, Nat.zero_le _⟩ dX1_open_2_36
    · replace h := g_it h hc
      refine y_iconst (v := (-1 : Int32)) C dX1_open_2_16 (by decide) ?_
      replace h := Option.some.inj h; subst h
      exact y_iret C hQ ⟨Nat.zero_le _, Nat.zero_le _⟩ dX1_open_2_17
theorem ct_C1_open_2 {D : va_G} {dA : Nat → ClassId} {A : Nat → Prop} {s0 : State} {b0 : Nat} {l : Launch} {ad : Nat → Nat → Nat} {σ : g_S} {v1 : Int32} {v2 : Int32} {r : Int32} {σ1 : g_S} (h : mF_C1_open_2 σ v1 v2 = some (r, σ1)) : g_Met gCl D dA A s0 b0 l yX1_open_2 cX1_open_2 7 (some .int) 307 (0, 0) (gC true) ad σ [.ref (ad 0 0), .int v1, .int v2] (gC true) ad σ1 (some (.int r)) :=
  g_Met.of pl_X1 (Nat.le_of_ble_eq_true rfl) (fun X C hQ hR _ _ hL _ es eb => mw_C1_open_2 C hR hL h hQ)
theorem mw_C1_heard {X : g_F} {hid : Bool} (C : g_M gCl X cX1_heard RX1 (some .int)) (hR : g_R X = g_rm 3 0 0) (hL : g_nL X = 3) {ad : Nat → Nat → Nat} {σ : g_S} {v1 : Int32} {v2 : Int32} {o : (Int32 × g_S)} (h : mF_C1_heard σ v1 v2 = some o) (hQ : g_MQ gCl X (gC hid) ad o.2 (some (.int o.1)) = g_Q X) : g_Y gCl X (gC hid) ad σ (0, 0) 0 [(0, .ref (ad 0 0)), (1, .int v1), (2, .int v2)] [] := by
  unfold mF_C1_heard at h
  refine y_aload_n C dX1_heard_0 0 rfl rfl ?_
  refine y_iload_n C dX1_heard_1 1 rfl rfl ?_
  obtain ⟨x1, hc, h⟩ := g_bd h
  refine y_callV C (As := [.int v1]) (rest := []) (k := 0) (hu := nC_0_0) (hc := (rfl : gCl[0]? = some (RX1, TX1, 31))) (hcell := obC_0) (lk_X1_250_X1_l2 C hR (by decide)) (ct_C1_isMan hc) rfl rfl (Nat.le_of_ble_eq_true rfl) ⟨Nat.zero_le _, Nat.zero_le _⟩ dX1_heard_2 ?_
  refine y_if_eq (tgt := 27) C dX1_heard_5 rfl (fun hc => ?_) (fun hc => ?_)
  · replace h := g_it h hc
    refine y_iconst (v := (-1 : Int32)) C dX1_heard_27 (by decide) ?_
    replace h := Option.some.inj h; subst h
    exact y_iret C hQ ⟨Nat.zero_le _, Nat.zero_le _⟩ dX1_heard_28
  · replace h := g_if h hc
    refine y_iload_n C dX1_heard_8 2 rfl rfl ?_
    refine y_i2l C dX1_heard_9 ?_
    refine y_lconst (v := (0 : Int64)) C dX1_heard_10 (by decide) ?_
    refine y_lconst (v := (1 : Int64)) C dX1_heard_11 (by decide) ?_
    obtain ⟨x2, hc, h⟩ := g_bd h
    refine y_callS C (As := [.long (v2.toInt64), .long (0 : Int64), .long (1 : Int64)]) (rest := []) (lk_X1_146_l1 C hR (by decide)) (ct_C1_in hc) rfl rfl (Nat.le_of_ble_eq_true rfl) ⟨Nat.zero_le _, Nat.zero_le _⟩ dX1_heard_12 ?_
    refine y_if_eq (tgt := 27) C dX1_heard_15 rfl (fun hc => ?_) (fun hc => ?_)
    · replace h := g_it h hc
      refine y_iconst (v := (-1 : Int32)) C dX1_heard_27 (by decide) ?_
      replace h := Option.some.inj h; subst h
      exact y_iret C hQ ⟨Nat.zero_le _, Nat.zero_le _⟩ dX1_heard_28
    · replace h := g_if h hc
      refine y_aload_n C dX1_heard_18 0 rfl rfl ?_
      refine gf_C_X1_190_0 C nC_0_0 dX1_heard_19 ?_
      refine y_bipush (v := (10 : Int32)) C dX1_heard_22 (by decide) ?_
      refine y_icmp_ne (tgt := 29) C dX1_heard_24 rfl (fun hc => ?_) (fun hc => ?_)
      · replace h := g_if h hc
        refine y_aload_n C dX1_heard_29 0 rfl rfl ?_
        refine gf_C_X1_127_0 C nC_0_0 dX1_heard_30 ?_
        refine y_aload_n C dX1_heard_33 0 rfl rfl ?_
        refine gf_C_X1_190_0 C nC_0_0 dX1_heard_34 ?_
        refine y_iload_n C dX1_heard_37 1 rfl rfl ?_
        obtain ⟨hg, h⟩ := g_gd h
        obtain ⟨σ3, hσ3, h⟩ := g_lt h
        refine as_C_23 C nC_23_0 hσ3 hg dX1_heard_38 ?_
        refine y_aload_n C dX1_heard_39 0 rfl rfl ?_
        refine y_aload_n C dX1_heard_40 0 rfl rfl ?_
        refine gf_C_X1_454_0 C nC_0_0 dX1_heard_41 ?_
        refine y_iconst (v := (1 : Int32)) C dX1_heard_44 (by decide) ?_
        refine y_aload_n C dX1_heard_45 0 rfl rfl ?_
        refine gf_C_X1_190_0 C nC_0_0 dX1_heard_46 ?_
        refine y_ishl C dX1_heard_49 ?_
        refine y_iconst (v := (-1 : Int32)) C dX1_heard_50 (by decide) ?_
        refine y_ixor C dX1_heard_51 ?_
        refine y_iand C dX1_heard_52 ?_
        refine y_iload_n C dX1_heard_53 2 rfl rfl ?_
        refine y_aload_n C dX1_heard_54 0 rfl rfl ?_
        refine gf_C_X1_190_0 C nC_0_0 dX1_heard_55 ?_
        refine y_ishl C dX1_heard_58 ?_
        refine y_ior C dX1_heard_59 ?_
        obtain ⟨σ4, hσ4, h⟩ := g_lt h
        refine pf_C_X1_454_0 C nC_0_0 hσ4 dX1_heard_60 ?_
        refine y_aload_n C dX1_heard_63 0 rfl rfl ?_
        refine y_dup C dX1_heard_64 rfl ?_
        refine gf_C_X1_190_0 C nC_0_0 dX1_heard_65 ?_
        refine y_iconst (v := (1 : Int32)) C dX1_heard_68 (by decide) ?_
        refine y_iadd C dX1_heard_69 ?_
        obtain ⟨σ5, hσ5, h⟩ := g_lt h
        refine pf_C_X1_190_0 C nC_0_0 hσ5 dX1_heard_70 ?_
        refine y_aload_n C dX1_heard_73 0 rfl rfl ?_
        refine gf_C_X1_190_0 C nC_0_0 dX1_heard_74 ?_
        replace h := Option.some.inj h; subst h
        exact y_iret C hQ ⟨Nat.zero_le _, Nat.zero_le _⟩ dX1_heard_77
      · replace h := g_it h hc
        refine y_iconst (v := (-1 : Int32)) C dX1_heard_27 (by decide) ?_
        replace h := Option.some.inj h; subst h
        exact y_iret C hQ ⟨Nat.zero_le _, Nat.zero_le _⟩ dX1_heard_28
theorem ct_C1_heard {D : va_G} {dA : Nat → ClassId} {A : Nat → Prop} {s0 : State} {b0 : Nat} {l : Launch} {hid : Bool} {ad : Nat → Nat → Nat} {σ : g_S} {v1 : Int32} {v2 : Int32} {r : Int32} {σ1 : g_S} (h : mF_C1_heard σ v1 v2 = some (r, σ1)) : g_Met gCl D dA A s0 b0 l yX1_heard cX1_heard 3 (some .int) 3 (0, 0) (gC hid) ad σ [.ref (ad 0 0), .int v1, .int v2] (gC hid) ad σ1 (some (.int r)) :=
  g_Met.of pl_X1 (Nat.le_of_ble_eq_true rfl) (fun X C hQ hR _ _ hL _ es eb => mw_C1_heard C hR hL h hQ)
theorem mw_C1_forget {X : g_F} {hid : Bool} (C : g_M gCl X cX1_forget RX1 (some .int)) (hR : g_R X = g_rm 1 0 0) (hL : g_nL X = 2) {ad : Nat → Nat → Nat} {σ : g_S} {o : (Int32 × g_S)} (h : mF_C1_forget σ = some o) (hQ : g_MQ gCl X (gC hid) ad o.2 (some (.int o.1)) = g_Q X) : g_Y gCl X (gC hid) ad σ (0, 0) 0 [(0, .ref (ad 0 0))] [] := by
  unfold mF_C1_forget at h
  refine y_aload_n C dX1_forget_0 0 rfl rfl ?_
  refine gf_C_X1_190_0 C nC_0_0 dX1_forget_1 ?_
  obtain ⟨x1, hx1, h⟩ := g_lt h
  refine y_istore_n (vs1 := [(1, .int x1), (0, .ref (ad 0 0))]) C hx1 dX1_forget_4 rfl (g_lL hL rfl) rfl ?_
  refine y_aload_n C dX1_forget_5 1 rfl rfl ?_
  refine y_iconst (v := (0 : Int32)) C dX1_forget_6 (by decide) ?_
  obtain ⟨σ2, hσ2, h⟩ := g_lt h
  refine pf_C_X1_190_0 C nC_0_0 hσ2 dX1_forget_7 ?_
  refine y_iload_n C dX1_forget_10 0 rfl rfl ?_
  replace h := Option.some.inj h; subst h
  exact y_iret C hQ ⟨Nat.zero_le _, Nat.zero_le _⟩ dX1_forget_11
theorem ct_C1_forget {D : va_G} {dA : Nat → ClassId} {A : Nat → Prop} {s0 : State} {b0 : Nat} {l : Launch} {hid : Bool} {ad : Nat → Nat → Nat} {σ : g_S} {r : Int32} {σ1 : g_S} (h : mF_C1_forget σ = some (r, σ1)) : g_Met gCl D dA A s0 b0 l yX1_forget cX1_forget 2 (some .int) 1 (0, 0) (gC hid) ad σ [.ref (ad 0 0)] (gC hid) ad σ1 (some (.int r)) :=
  g_Met.of pl_X1 (Nat.le_of_ble_eq_true rfl) (fun X C hQ hR _ _ hL _ es eb => mw_C1_forget C hR hL h hQ)
theorem ml_C1_lostAt_7 {X : g_F} (C : g_M gCl X cX1_lostAt RX1 (some .long)) (hR : g_R X = g_rm 306 0 0) (hL : g_nL X = 6) {ad : Nat → Nat → Nat} {σ : g_S} (n : Nat) (v : (Int64 × Int32)) (e : Int64) (h : g_lp (fun v => mB_C1_lostAt_7 σ v.1 v.2) n v = some e) (kx : g_Y gCl X (gC true) ad σ (0, 0) 66 [(1, .long e)] []) : g_Y gCl X (gC true) ad σ (0, 0) 7 [(0, .ref (ad 0 0)), (1, .long v.1), (3, .int v.2)] [] := by
  refine g_loop (P := fun v => g_Y gCl X (gC true) ad σ (0, 0) 7 [(0, .ref (ad 0 0)), (1, .long v.1), (3, .int v.2)] []) (T := fun e => g_Y gCl X (gC true) ad σ (0, 0) 66 [(1, .long e)] []) ?_ n v e h kx
  clear h kx
  clear n v e
  intro v o h kl kx
  obtain ⟨v1, v3⟩ := v
  have h : mB_C1_lostAt_7 σ v1 v3 = some o := h
  unfold mB_C1_lostAt_7 at h
  show g_Y gCl X (gC true) ad σ (0, 0) 7 [(0, .ref (ad 0 0)), (1, .long v1), (3, .int v3)] []
  refine y_iload_n C dX1_lostAt_7 2 rfl rfl ?_
  refine y_aload_n C dX1_lostAt_8 0 rfl rfl ?_
  refine gf_C_X1_190_0 C nC_0_0 dX1_lostAt_9 ?_
  refine y_icmp_ge (tgt := 66) C dX1_lostAt_12 rfl (fun hc => ?_) (fun hc => ?_)
  · replace h := g_it h hc
    refine y_sub (vs2 := [(1, .long v1)]) [1] rfl ?_
    exact kx _ (Option.some.inj h).symm
  · replace h := g_if h hc
    refine y_aload_n C dX1_lostAt_15 0 rfl rfl ?_
    refine gf_C_X1_62_0 C nC_0_0 dX1_lostAt_16 ?_
    refine y_aload_n C dX1_lostAt_19 0 rfl rfl ?_
    refine gf_C_X1_84_0 C nC_0_0 dX1_lostAt_20 ?_
    refine y_aload_n C dX1_lostAt_23 0 rfl rfl ?_
    refine gf_C_X1_127_0 C nC_0_0 dX1_lostAt_24 ?_
    refine y_iload_n C dX1_lostAt_27 2 rfl rfl ?_
    obtain ⟨hg, h⟩ := g_gd h
    refine al_C_23 C nC_23_0 hg dX1_lostAt_28 ?_
    obtain ⟨x2, hc, h⟩ := g_bd h
    refine y_callV C (As := [.ref (ad 4 0), .int (σ.1 23 0 v3.toNatClampNeg)]) (rest := []) (k := 1) (hu := nC_1_0) (hc := (rfl : gCl[1]? = some (RX2, TX2, 1))) (hcell := obC_1) (lk_X1_386_X2_l305 C hR (by decide)) (ct_C2_fields_k1_4 nC_4_0 hc) rfl rfl (Nat.le_of_ble_eq_true rfl) ⟨Nat.zero_le _, Nat.zero_le _⟩ dX1_lostAt_29 ?_
    refine y_lstore (vs1 := [(4, .long x2), (0, .ref (ad 0 0)), (1, .long v1), (3, .int v3)]) C rfl dX1_lostAt_32 (g_lL hL rfl) rfl ?_
    refine y_lload_n C dX1_lostAt_34 2 rfl rfl ?_
    refine y_aload_n C dX1_lostAt_35 1 rfl rfl ?_
    refine gf_C_X1_454_0 C nC_0_0 dX1_lostAt_36 ?_
    refine y_i2l C dX1_lostAt_39 ?_
    refine y_iload_n C dX1_lostAt_40 3 rfl rfl ?_
    obtain ⟨x3, hc, h⟩ := g_bd h
    refine y_callS C (As := [.long ((σ.1 0 0 27).toInt64), .int v3]) (rest := [.long v1]) (lk_X1_26_l1 C hR (by decide)) (ct_C1_has hc) rfl rfl (Nat.le_of_ble_eq_true rfl) ⟨Nat.zero_le _, Nat.zero_le _⟩ dX1_lostAt_41 ?_
    refine y_if_eq (tgt := 52) C dX1_lostAt_44 rfl (fun hc => ?_) (fun hc => ?_)
    · replace h := g_it h hc
      refine y_lload C dX1_lostAt_52 0 rfl ?_
      refine y_ldc2 (v := (-1 : Int64)) C q990 dX1_lostAt_54 ?_
      refine y_lxor C dX1_lostAt_57 ?_
      refine y_land C dX1_lostAt_58 ?_
      obtain ⟨x4, hx4, h⟩ := g_lt h
      refine y_lstore_n (vs1 := [(1, .long x4), (4, .long x2), (0, .ref (ad 0 0)), (3, .int v3)]) C hx4 dX1_lostAt_59 rfl (g_lL hL rfl) rfl ?_
      obtain ⟨x5, hx5, h⟩ := g_lt h
      refine y_iinc (c := (1 : Int32)) (vs1 := [(3, .int x5), (1, .long x4), (4, .long x2), (0, .ref (ad 0 0))]) C hx5 (by decide) dX1_lostAt_60 3 rfl (g_lL hL rfl) rfl ?_
      refine y_goto (tgt := 7) C dX1_lostAt_63 rfl ?_
      refine y_sub (vs2 := [(0, .ref (ad 0 0)), (1, .long x4), (3, .int x5)]) [3, 1, 0] rfl ?_
      exact kl _ (Option.some.inj h).symm
    · replace h := g_if h hc
      refine y_lload C dX1_lostAt_47 0 rfl ?_
      refine y_goto (tgt := 58) C dX1_lostAt_49 rfl ?_
      refine y_land C dX1_lostAt_58 ?_
      obtain ⟨x6, hx6, h⟩ := g_lt h
      refine y_lstore_n (vs1 := [(1, .long x6), (4, .long x2), (0, .ref (ad 0 0)), (3, .int v3)]) C hx6 dX1_lostAt_59 rfl (g_lL hL rfl) rfl ?_
      obtain ⟨x7, hx7, h⟩ := g_lt h
      refine y_iinc (c := (1 : Int32)) (vs1 := [(3, .int x7), (1, .long x6), (4, .long x2), (0, .ref (ad 0 0))]) C hx7 (by decide) dX1_lostAt_60 3 rfl (g_lL hL rfl) rfl ?_
      refine y_goto (tgt := 7) C dX1_lostAt_63 rfl ?_
      refine y_sub (vs2 := [(0, .ref (ad 0 0)), (1, .long x6), (3, .int x7)]) [3, 1, 0] rfl ?_
      exact kl _ (Option.some.inj h).symm
theorem mw_C1_lostAt {X : g_F} (C : g_M gCl X cX1_lostAt RX1 (some .long)) (hR : g_R X = g_rm 306 0 0) (hL : g_nL X = 6) {ad : Nat → Nat → Nat} {σ : g_S} {o : Int64} (h : mF_C1_lostAt σ = some o) (hQ : g_MQ gCl X (gC true) ad σ (some (.long o)) = g_Q X) : g_Y gCl X (gC true) ad σ (0, 0) 0 [(0, .ref (ad 0 0))] [] := by
  unfold mF_C1_lostAt at h
  refine y_aload_n C dX1_lostAt_0 0 rfl rfl ?_
  obtain ⟨x1, hc, h⟩ := g_bd h
  refine y_callV C (As := []) (rest := []) (k := 0) (hu := nC_0_0) (hc := (rfl : gCl[0]? = some (RX1, TX1, 31))) (hcell := obC_0) (lk_X1_401_X1_l2 C hR (by decide)) (ct_C1_open hc) rfl rfl (Nat.le_of_ble_eq_true rfl) ⟨Nat.zero_le _, Nat.zero_le _⟩ dX1_lostAt_1 ?_
  refine y_lstore_n (vs1 := [(1, .long x1), (0, .ref (ad 0 0))]) C rfl dX1_lostAt_4 rfl (g_lL hL rfl) rfl ?_
  refine y_iconst (v := (0 : Int32)) C dX1_lostAt_5 (by decide) ?_
  refine y_istore_n (vs1 := [(3, .int (0 : Int32)), (1, .long x1), (0, .ref (ad 0 0))]) C rfl dX1_lostAt_6 rfl (g_lL hL rfl) rfl ?_
  refine y_sub (vs2 := [(0, .ref (ad 0 0)), (1, .long x1), (3, .int (0 : Int32))]) [2, 1, 0] rfl ?_
  obtain ⟨e8, he8, h⟩ := g_bd h
  refine ml_C1_lostAt_7 C hR hL (σ := σ) _ _ _ he8 ?_
  refine y_lload_n C dX1_lostAt_66 0 rfl rfl ?_
  replace h := Option.some.inj h; subst h
  exact y_lret C hQ ⟨Nat.zero_le _, Nat.zero_le _⟩ dX1_lostAt_67
theorem ct_C1_lostAt {D : va_G} {dA : Nat → ClassId} {A : Nat → Prop} {s0 : State} {b0 : Nat} {l : Launch} {ad : Nat → Nat → Nat} {σ : g_S} {r : Int64} (h : mF_C1_lostAt σ = some r) : g_Met gCl D dA A s0 b0 l yX1_lostAt cX1_lostAt 6 (some .long) 306 (0, 0) (gC true) ad σ [.ref (ad 0 0)] (gC true) ad σ (some (.long r)) :=
  g_Met.of pl_X1 (Nat.le_of_ble_eq_true rfl) (fun X C hQ hR _ _ hL _ es eb => mw_C1_lostAt C hR hL h hQ)
theorem mw_C1_lost {X : g_F} (C : g_M gCl X cX1_lost RX1 (some .long)) (hR : g_R X = g_rm 307 0 0) (hL : g_nL X = 3) {ad : Nat → Nat → Nat} {σ : g_S} {o : (Int64 × g_S)} (h : mF_C1_lost σ = some o) (hQ : g_MQ gCl X (gC true) ad o.2 (some (.long o.1)) = g_Q X) : g_Y gCl X (gC true) ad σ (0, 0) 0 [(0, .ref (ad 0 0))] [] := by
  unfold mF_C1_lost at h
  refine y_aload_n C dX1_lost_0 0 rfl rfl ?_
  obtain ⟨x1, hc, h⟩ := g_bd h
  refine y_callV C (As := []) (rest := []) (k := 0) (hu := nC_0_0) (hc := (rfl : gCl[0]? = some (RX1, TX1, 31))) (hcell := obC_0) (lk_X1_457_X1_l306 C hR (by decide)) (ct_C1_lostAt hc) rfl rfl (Nat.le_of_ble_eq_true rfl) ⟨Nat.zero_le _, Nat.zero_le _⟩ dX1_lost_1 ?_
  refine y_lstore_n (vs1 := [(1, .long x1), (0, .ref (ad 0 0))]) C rfl dX1_lost_4 rfl (g_lL hL rfl) rfl ?_
  refine y_aload_n C dX1_lost_5 1 rfl rfl ?_
  refine y_iconst (v := (0 : Int32)) C dX1_lost_6 (by decide) ?_
  obtain ⟨σ2, hσ2, h⟩ := g_lt h
  refine pf_C_X1_139_0 C nC_0_0 hσ2 dX1_lost_7 ?_
  refine y_aload_n C dX1_lost_10 1 rfl rfl ?_
  refine y_lload_n C dX1_lost_11 0 rfl rfl ?_
  obtain ⟨x3, hc, h⟩ := g_bd h
  refine y_callS C (As := [.long x1]) (rest := [.ref (ad 0 0)]) (lk_X1_389_l1 C hR (by decide)) (ct_J12_bitCount hc) rfl rfl (Nat.le_of_ble_eq_true rfl) ⟨Nat.zero_le _, Nat.zero_le _⟩ dX1_lost_12 ?_
  refine y_i2l C dX1_lost_15 ?_
  obtain ⟨σ4, hc, h⟩ := g_bd h
  refine y_callVv C (As := [.long (x3.toInt64)]) (rest := []) (k := 0) (hu := nC_0_0) (hc := (rfl : gCl[0]? = some (RX1, TX1, 31))) (hcell := obC_0) (lk_X1_330_X1_l1 C hR (by decide)) (ct_C1_tell_2 hc) rfl rfl (Nat.le_of_ble_eq_true rfl) ⟨Nat.zero_le _, Nat.zero_le _⟩ dX1_lost_16 ?_
  refine y_lload_n C dX1_lost_19 0 rfl rfl ?_
  replace h := Option.some.inj h; subst h
  exact y_lret C hQ ⟨Nat.zero_le _, Nat.zero_le _⟩ dX1_lost_20
theorem ct_C1_lost {D : va_G} {dA : Nat → ClassId} {A : Nat → Prop} {s0 : State} {b0 : Nat} {l : Launch} {ad : Nat → Nat → Nat} {σ : g_S} {r : Int64} {σ1 : g_S} (h : mF_C1_lost σ = some (r, σ1)) : g_Met gCl D dA A s0 b0 l yX1_lost cX1_lost 3 (some .long) 307 (0, 0) (gC true) ad σ [.ref (ad 0 0)] (gC true) ad σ1 (some (.long r)) :=
  g_Met.of pl_X1 (Nat.le_of_ble_eq_true rfl) (fun X C hQ hR _ _ hL _ es eb => mw_C1_lost C hR hL h hQ)
theorem ml_C1_asks_31 {X : g_F} (C : g_M gCl X cX1_asks RX1 (some .int)) (hR : g_R X = g_rm 307 0 0) (hL : g_nL X = 8) {ad : Nat → Nat → Nat} {σ : g_S} {v1 : Int64} (n : Nat) (v : (Int32 × Int32 × Int32)) (e : (Int32 × Int32)) (h : g_lp (fun v => mB_C1_asks_31 σ v1 v.1 v.2.1 v.2.2) n v = some e) (kx : g_Y gCl X (gC true) ad σ (0, 0) 97 [(0, .ref (ad 0 0)), (3, .int e.1), (4, .int e.2)] []) : g_Y gCl X (gC true) ad σ (0, 0) 31 [(0, .ref (ad 0 0)), (1, .long v1), (3, .int v.1), (4, .int v.2.1), (5, .int v.2.2)] [] := by
  refine g_loop (P := fun v => g_Y gCl X (gC true) ad σ (0, 0) 31 [(0, .ref (ad 0 0)), (1, .long v1), (3, .int v.1), (4, .int v.2.1), (5, .int v.2.2)] []) (T := fun e => g_Y gCl X (gC true) ad σ (0, 0) 97 [(0, .ref (ad 0 0)), (3, .int e.1), (4, .int e.2)] []) ?_ n v e h kx
  clear h kx
  clear n v e
  intro v o h kl kx
  obtain ⟨v3, v4, v5⟩ := v
  have h : mB_C1_asks_31 σ v1 v3 v4 v5 = some o := h
  unfold mB_C1_asks_31 at h
  show g_Y gCl X (gC true) ad σ (0, 0) 31 [(0, .ref (ad 0 0)), (1, .long v1), (3, .int v3), (4, .int v4), (5, .int v5)] []
  refine y_iload C dX1_asks_31 4 rfl ?_
  refine y_aload_n C dX1_asks_33 0 rfl rfl ?_
  refine gf_C_X1_150_0 C nC_0_0 dX1_asks_34 ?_
  refine y_icmp_ge (tgt := 97) C dX1_asks_37 rfl (fun hc => ?_) (fun hc => ?_)
  · replace h := g_it h hc
    refine y_sub (vs2 := [(0, .ref (ad 0 0)), (3, .int v3), (4, .int v4)]) [0, 2, 3] rfl ?_
    exact kx _ (Option.some.inj h).symm
  · replace h := g_if h hc
    refine y_lload_n C dX1_asks_40 1 rfl rfl ?_
    refine y_aload_n C dX1_asks_41 0 rfl rfl ?_
    refine gf_C_X1_62_0 C nC_0_0 dX1_asks_42 ?_
    refine y_aload_n C dX1_asks_45 0 rfl rfl ?_
    refine gf_C_X1_84_0 C nC_0_0 dX1_asks_46 ?_
    refine y_iload C dX1_asks_49 4 rfl ?_
    obtain ⟨x2, hc, h⟩ := g_bd h
    refine y_callV C (As := [.ref (ad 4 0), .int v5]) (rest := [.long v1]) (k := 1) (hu := nC_1_0) (hc := (rfl : gCl[1]? = some (RX2, TX2, 1))) (hcell := obC_1) (lk_X1_386_X2_l305 C hR (by decide)) (ct_C2_fields_k1_4 nC_4_0 hc) rfl rfl (Nat.le_of_ble_eq_true rfl) ⟨Nat.zero_le _, Nat.zero_le _⟩ dX1_asks_51 ?_
    refine y_land C dX1_asks_54 ?_
    obtain ⟨x3, hc, h⟩ := g_bd h
    refine y_callS C (As := [.long (v1 &&& x2)]) (rest := []) (lk_X1_389_l1 C hR (by decide)) (ct_J12_bitCount hc) rfl rfl (Nat.le_of_ble_eq_true rfl) ⟨Nat.zero_le _, Nat.zero_le _⟩ dX1_asks_55 ?_
    refine y_istore (vs1 := [(6, .int x3), (0, .ref (ad 0 0)), (1, .long v1), (3, .int v3), (4, .int v4), (5, .int v5)]) C rfl dX1_asks_58 (g_lL hL rfl) rfl ?_
    refine y_iload C dX1_asks_60 0 rfl ?_
    refine y_lload_n C dX1_asks_62 2 rfl rfl ?_
    obtain ⟨x4, hc, h⟩ := g_bd h
    refine y_callS C (As := [.long v1]) (rest := [.int x3]) (lk_X1_389_l1 C hR (by decide)) (ct_J12_bitCount hc) rfl rfl (Nat.le_of_ble_eq_true rfl) ⟨Nat.zero_le _, Nat.zero_le _⟩ dX1_asks_63 ?_
    refine y_iload C dX1_asks_66 0 rfl ?_
    refine y_isub C dX1_asks_68 ?_
    refine y_mmax C q510 (g_rmM hR (by decide)) (Nat.le_of_ble_eq_true rfl) ⟨Nat.zero_le _, Nat.zero_le _⟩ dX1_asks_69 ?_
    obtain ⟨x5, hx5, h⟩ := g_lt h
    refine y_istore (vs1 := [(7, .int x5), (6, .int x3), (0, .ref (ad 0 0)), (1, .long v1), (3, .int v3), (4, .int v4), (5, .int v5)]) C hx5 dX1_asks_72 (g_lL hL rfl) rfl ?_
    refine y_iload C dX1_asks_74 0 rfl ?_
    refine y_iload C dX1_asks_76 5 rfl ?_
    refine y_icmp_lt (tgt := 84) C dX1_asks_78 rfl (fun hc => ?_) (fun hc => ?_)
    · replace h := g_it h hc
      refine y_iload C dX1_asks_84 6 rfl ?_
      refine y_istore_n (vs1 := [(3, .int v5), (7, .int x5), (6, .int x3), (0, .ref (ad 0 0)), (1, .long v1), (4, .int v4), (5, .int v5)]) C rfl dX1_asks_86 rfl (g_lL hL rfl) rfl ?_
      refine y_iload C dX1_asks_87 1 rfl ?_
      refine y_istore (vs1 := [(4, .int x5), (3, .int v5), (7, .int x5), (6, .int x3), (0, .ref (ad 0 0)), (1, .long v1), (5, .int v5)]) C rfl dX1_asks_89 (g_lL hL rfl) rfl ?_
      obtain ⟨x6, hx6, h⟩ := g_lt h
      refine y_iinc (c := (1 : Int32)) (vs1 := [(5, .int x6), (4, .int x5), (3, .int v5), (7, .int x5), (6, .int x3), (0, .ref (ad 0 0)), (1, .long v1)]) C hx6 (by decide) dX1_asks_91 6 rfl (g_lL hL rfl) rfl ?_
      refine y_goto (tgt := 31) C dX1_asks_94 rfl ?_
      refine y_sub (vs2 := [(0, .ref (ad 0 0)), (1, .long v1), (3, .int v5), (4, .int x5), (5, .int x6)]) [5, 6, 2, 1, 0] rfl ?_
      exact kl _ (Option.some.inj h).symm
    · replace h := g_if h hc
      refine y_goto (tgt := 91) C dX1_asks_81 rfl ?_
      obtain ⟨x7, hx7, h⟩ := g_lt h
      refine y_iinc (c := (1 : Int32)) (vs1 := [(5, .int x7), (7, .int x5), (6, .int x3), (0, .ref (ad 0 0)), (1, .long v1), (3, .int v3), (4, .int v4)]) C hx7 (by decide) dX1_asks_91 6 rfl (g_lL hL rfl) rfl ?_
      refine y_goto (tgt := 31) C dX1_asks_94 rfl ?_
      refine y_sub (vs2 := [(0, .ref (ad 0 0)), (1, .long v1), (3, .int v3), (4, .int v4), (5, .int x7)]) [3, 4, 5, 6, 0] rfl ?_
      exact kl _ (Option.some.inj h).symm
theorem mw_C1_asks {X : g_F} (C : g_M gCl X cX1_asks RX1 (some .int)) (hR : g_R X = g_rm 307 0 0) (hL : g_nL X = 8) {ad : Nat → Nat → Nat} {σ : g_S} {o : (Int32 × g_S)} (h : mF_C1_asks σ = some o) (hQ : g_MQ gCl X (gC true) ad o.2 (some (.int o.1)) = g_Q X) : g_Y gCl X (gC true) ad σ (0, 0) 0 [(0, .ref (ad 0 0))] [] := by
  unfold mF_C1_asks at h
  refine y_aload_n C dX1_asks_0 0 rfl rfl ?_
  obtain ⟨x1, hc, h⟩ := g_bd h
  refine y_callV C (As := []) (rest := []) (k := 0) (hu := nC_0_0) (hc := (rfl : gCl[0]? = some (RX1, TX1, 31))) (hcell := obC_0) (lk_X1_457_X1_l306 C hR (by decide)) (ct_C1_lostAt hc) rfl rfl (Nat.le_of_ble_eq_true rfl) ⟨Nat.zero_le _, Nat.zero_le _⟩ dX1_asks_1 ?_
  refine y_lstore_n (vs1 := [(1, .long x1), (0, .ref (ad 0 0))]) C rfl dX1_asks_4 rfl (g_lL hL rfl) rfl ?_
  refine y_lload_n C dX1_asks_5 0 rfl rfl ?_
  refine y_lconst (v := (0 : Int64)) C dX1_asks_6 (by decide) ?_
  refine y_lcmp C dX1_asks_7 ?_
  refine y_if_eq (tgt := 18) C dX1_asks_8 rfl (fun hc => ?_) (fun hc => ?_)
  · replace h := g_it h hc
    refine y_bipush (v := (-2 : Int32)) C dX1_asks_18 (by decide) ?_
    replace h := Option.some.inj h; subst h
    exact y_iret C hQ ⟨Nat.zero_le _, Nat.zero_le _⟩ dX1_asks_20
  · replace h := g_if h hc
    refine y_aload_n C dX1_asks_11 1 rfl rfl ?_
    refine gf_C_X1_150_0 C nC_0_0 dX1_asks_12 ?_
    refine y_if_ne (tgt := 21) C dX1_asks_15 rfl (fun hc => ?_) (fun hc => ?_)
    · replace h := g_if h hc
      refine y_iconst (v := (-1 : Int32)) C dX1_asks_21 (by decide) ?_
      refine y_istore_n (vs1 := [(3, .int (-1 : Int32)), (1, .long x1), (0, .ref (ad 0 0))]) C rfl dX1_asks_22 rfl (g_lL hL rfl) rfl ?_
      refine y_ldcw (v := (1000000 : Int32)) C q1106 dX1_asks_23 ?_
      refine y_istore (vs1 := [(4, .int (1000000 : Int32)), (3, .int (-1 : Int32)), (1, .long x1), (0, .ref (ad 0 0))]) C rfl dX1_asks_26 (g_lL hL rfl) rfl ?_
      refine y_iconst (v := (0 : Int32)) C dX1_asks_28 (by decide) ?_
      refine y_istore (vs1 := [(5, .int (0 : Int32)), (4, .int (1000000 : Int32)), (3, .int (-1 : Int32)), (1, .long x1), (0, .ref (ad 0 0))]) C rfl dX1_asks_29 (g_lL hL rfl) rfl ?_
      refine y_sub (vs2 := [(0, .ref (ad 0 0)), (1, .long x1), (3, .int (-1 : Int32)), (4, .int (1000000 : Int32)), (5, .int (0 : Int32))]) [4, 3, 2, 1, 0] rfl ?_
      obtain ⟨e8, he8, h⟩ := g_bd h
      refine ml_C1_asks_31 C hR hL (σ := σ) _ _ _ he8 ?_
      refine y_aload_n C dX1_asks_97 0 rfl rfl ?_
      refine y_iconst (v := (0 : Int32)) C dX1_asks_98 (by decide) ?_
      obtain ⟨σ9, hσ9, h⟩ := g_lt h
      refine pf_C_X1_139_0 C nC_0_0 hσ9 dX1_asks_99 ?_
      refine y_aload_n C dX1_asks_102 0 rfl rfl ?_
      refine y_iload C dX1_asks_103 2 rfl ?_
      refine y_i2l C dX1_asks_105 ?_
      obtain ⟨σ10, hc, h⟩ := g_bd h
      refine y_callVv C (As := [.long (e8.2.toInt64)]) (rest := []) (k := 0) (hu := nC_0_0) (hc := (rfl : gCl[0]? = some (RX1, TX1, 31))) (hcell := obC_0) (lk_X1_330_X1_l1 C hR (by decide)) (ct_C1_tell_2 hc) rfl rfl (Nat.le_of_ble_eq_true rfl) ⟨Nat.zero_le _, Nat.zero_le _⟩ dX1_asks_106 ?_
      refine y_iload_n C dX1_asks_109 1 rfl rfl ?_
      replace h := Option.some.inj h; subst h
      exact y_iret C hQ ⟨Nat.zero_le _, Nat.zero_le _⟩ dX1_asks_110
    · replace h := g_it h hc
      refine y_bipush (v := (-2 : Int32)) C dX1_asks_18 (by decide) ?_
      replace h := Option.some.inj h; subst h
      exact y_iret C hQ ⟨Nat.zero_le _, Nat.zero_le _⟩ dX1_asks_20
theorem ct_C1_asks {D : va_G} {dA : Nat → ClassId} {A : Nat → Prop} {s0 : State} {b0 : Nat} {l : Launch} {ad : Nat → Nat → Nat} {σ : g_S} {r : Int32} {σ1 : g_S} (h : mF_C1_asks σ = some (r, σ1)) : g_Met gCl D dA A s0 b0 l yX1_asks cX1_asks 8 (some .int) 307 (0, 0) (gC true) ad σ [.ref (ad 0 0)] (gC true) ad σ1 (some (.int r)) :=
  g_Met.of pl_X1 (Nat.le_of_ble_eq_true rfl) (fun X C hQ hR _ _ hL _ es eb => mw_C1_asks C hR hL h hQ)
theorem mj_C1_storm_161 {X : g_F} (C : g_M gCl X cX1_storm RX1 (some .int)) (hR : g_R X = g_rm 305 1 10) (hL : g_nL X = 11) (hmc : g_mc X = 1 ∧ g_ms X = 10) {ad : Nat → Nat → Nat} {σ : g_S} {a0 : Nat} (ha0 : ad 0 0 = a0) {v1 : Int32} {v2 : Int32} {v3 : Int32} {v5 : Int64} {v7 : Int32} {v8 : Int32} {v9 : Int32} {s1 : Int32} {s2 : Int64} {s3 : Int64} {o : ((Int32 × g_S) ⊕ g_S)} (h : mJ_C1_storm_161 σ v1 v2 v3 v5 v7 v8 v9 s1 s2 s3 = some o) (kl : ∀ z, o = .inl z → g_Y gCl X (gC true) ad z.2 (1, 10) 120 [(0, .ref (ad 0 0)), (1, .int v1), (2, .int v2), (3, .int v3), (4, .ref (ad 51 0)), (5, .long v5), (7, .int v7), (8, .int v8), (9, .int z.1)] []) (kx : ∀ z, o = .inr z → g_Y gCl X (gC true) ad z (1, 10) 169 [(0, .ref (ad 0 0)), (1, .int v1), (2, .int v2), (3, .int v3), (4, .ref (ad 51 0)), (5, .long v5), (7, .int v7)] []) : g_Y gCl X (gC true) ad σ (1, 10) 161 [(0, .ref (ad 0 0)), (1, .int v1), (2, .int v2), (3, .int v3), (4, .ref (ad 51 0)), (5, .long v5), (7, .int v7), (8, .int v8), (9, .int v9)] [.long s3, .long s2, .int s1, .ref (ad 51 0)] := by
  unfold mJ_C1_storm_161 at h
  refine y_ladd C dX1_storm_161 ?_
  obtain ⟨hg, h⟩ := g_gd h
  obtain ⟨σ12, hσ12, h⟩ := g_lt h
  refine as_C_51 C nC_51_0 hσ12 hg dX1_storm_162 ?_
  obtain ⟨x13, hx13, h⟩ := g_lt h
  refine y_iinc (c := (-1 : Int32)) (vs1 := [(9, .int x13), (0, .ref (ad 0 0)), (1, .int v1), (2, .int v2), (3, .int v3), (4, .ref (ad 51 0)), (5, .long v5), (7, .int v7), (8, .int v8)]) C hx13 (by decide) dX1_storm_163 8 rfl (g_lL hL rfl) rfl ?_
  refine y_goto (tgt := 120) C dX1_storm_166 rfl ?_
  refine y_sub (vs2 := [(0, .ref (ad 0 0)), (1, .int v1), (2, .int v2), (3, .int v3), (4, .ref (ad 51 0)), (5, .long v5), (7, .int v7), (8, .int v8), (9, .int x13)]) [1, 2, 3, 4, 5, 6, 7, 8, 0] rfl ?_
  exact kl _ (Option.some.inj h).symm
theorem ml_C1_storm_120 {X : g_F} (C : g_M gCl X cX1_storm RX1 (some .int)) (hR : g_R X = g_rm 305 1 10) (hL : g_nL X = 11) (hmc : g_mc X = 1 ∧ g_ms X = 10) {ad : Nat → Nat → Nat} {σ : g_S} {a0 : Nat} (ha0 : ad 0 0 = a0) {v1 : Int32} {v2 : Int32} {v3 : Int32} {v5 : Int64} {v7 : Int32} {v8 : Int32} (n : Nat) (v : (Int32 × g_S)) (e : g_S) (h : g_lp (fun v => mB_C1_storm_120 v.2 v1 v2 v3 v5 v7 v8 v.1) n v = some e) (kx : g_Y gCl X (gC true) ad e (1, 10) 169 [(0, .ref (ad 0 0)), (1, .int v1), (2, .int v2), (3, .int v3), (4, .ref (ad 51 0)), (5, .long v5), (7, .int v7)] []) : g_Y gCl X (gC true) ad v.2 (1, 10) 120 [(0, .ref (ad 0 0)), (1, .int v1), (2, .int v2), (3, .int v3), (4, .ref (ad 51 0)), (5, .long v5), (7, .int v7), (8, .int v8), (9, .int v.1)] [] := by
  refine g_loop (P := fun v => g_Y gCl X (gC true) ad v.2 (1, 10) 120 [(0, .ref (ad 0 0)), (1, .int v1), (2, .int v2), (3, .int v3), (4, .ref (ad 51 0)), (5, .long v5), (7, .int v7), (8, .int v8), (9, .int v.1)] []) (T := fun e => g_Y gCl X (gC true) ad e (1, 10) 169 [(0, .ref (ad 0 0)), (1, .int v1), (2, .int v2), (3, .int v3), (4, .ref (ad 51 0)), (5, .long v5), (7, .int v7)] []) ?_ n v e h kx
  clear h kx
  clear n v e
  intro v o h kl kx
  obtain ⟨v9, σ⟩ := v
  have h : mB_C1_storm_120 σ v1 v2 v3 v5 v7 v8 v9 = some o := h
  unfold mB_C1_storm_120 at h
  show g_Y gCl X (gC true) ad σ (1, 10) 120 [(0, .ref (ad 0 0)), (1, .int v1), (2, .int v2), (3, .int v3), (4, .ref (ad 51 0)), (5, .long v5), (7, .int v7), (8, .int v8), (9, .int v9)] []
  refine y_iload C dX1_storm_120 8 rfl ?_
  refine y_if_lt (tgt := 169) C dX1_storm_122 rfl (fun hc => ?_) (fun hc => ?_)
  · replace h := g_it h hc
    refine y_sub (vs2 := [(0, .ref (ad 0 0)), (1, .int v1), (2, .int v2), (3, .int v3), (4, .ref (ad 51 0)), (5, .long v5), (7, .int v7)]) [0, 1, 2, 3, 4, 5, 6] rfl ?_
    exact kx _ (Option.some.inj h).symm
  · replace h := g_if h hc
    refine y_aload C dX1_storm_125 4 rfl ?_
    refine y_iload C dX1_storm_127 8 rfl ?_
    refine y_aload C dX1_storm_129 4 rfl ?_
    refine y_iload C dX1_storm_131 8 rfl ?_
    obtain ⟨hg, h⟩ := g_gd h
    refine al_C_51 C nC_51_0 hg dX1_storm_133 ?_
    refine y_bipush (v := (10 : Int32)) C dX1_storm_134 (by decide) ?_
    refine y_iload C dX1_storm_136 7 rfl ?_
    refine y_isub C dX1_storm_138 ?_
    refine y_i2l C dX1_storm_139 ?_
    refine y_lmul C dX1_storm_140 ?_
    refine y_iload C dX1_storm_141 8 rfl ?_
    refine y_if_le (tgt := 160) C dX1_storm_143 rfl (fun hc => ?_) (fun hc => ?_)
    · replace h := g_it h hc
      refine y_lconst (v := (0 : Int64)) C dX1_storm_160 (by decide) ?_
      exact mj_C1_storm_161 C hR hL hmc ha0 h kl kx
    · replace h := g_if h hc
      refine y_aload C dX1_storm_146 4 rfl ?_
      refine y_iload C dX1_storm_148 8 rfl ?_
      refine y_iconst (v := (1 : Int32)) C dX1_storm_150 (by decide) ?_
      refine y_isub C dX1_storm_151 ?_
      obtain ⟨hg, h⟩ := g_gd h
      refine al_C_51 C nC_51_0 hg dX1_storm_152 ?_
      refine y_iload C dX1_storm_153 7 rfl ?_
      refine y_i2l C dX1_storm_155 ?_
      refine y_lmul C dX1_storm_156 ?_
      refine y_goto (tgt := 161) C dX1_storm_157 rfl ?_
      exact mj_C1_storm_161 C hR hL hmc ha0 h kl kx
theorem mj_C1_storm_111 {X : g_F} (C : g_M gCl X cX1_storm RX1 (some .int)) (hR : g_R X = g_rm 305 1 10) (hL : g_nL X = 11) (hmc : g_mc X = 1 ∧ g_ms X = 10) {ad : Nat → Nat → Nat} {σ : g_S} {a0 : Nat} (ha0 : ad 0 0 = a0) {v1 : Int32} {v2 : Int32} {v3 : Int32} {v5 : Int64} {v7 : Int32} {s0 : Int32} {s1 : Int32} {o : ((Int64 × Int32 × g_S) ⊕ (Int64 × g_S))} (h : mJ_C1_storm_111 σ v1 v2 v3 v5 v7 s0 s1 = some o) (kl : ∀ z, o = .inl z → g_Y gCl X (gC true) ad z.2.2 (1, 10) 51 [(0, .ref (ad 0 0)), (1, .int v1), (2, .int v2), (3, .int v3), (4, .ref (ad 51 0)), (5, .long z.1), (7, .int z.2.1)] []) (kx : ∀ z, o = .inr z → g_Y gCl X (gC true) ad z.2 (1, 10) 183 [(0, .ref (ad 0 0)), (2, .int v2), (4, .ref (ad 51 0)), (5, .long z.1)] []) : g_Y gCl X (gC true) ad σ (1, 10) 111 [(0, .ref (ad 0 0)), (1, .int v1), (2, .int v2), (3, .int v3), (4, .ref (ad 51 0)), (5, .long v5), (7, .int v7)] [.int s1, .int s0] := by
  unfold mJ_C1_storm_111 at h
  refine y_iadd C dX1_storm_111 ?_
  obtain ⟨x10, hx10, h⟩ := g_lt h
  refine y_istore (vs1 := [(8, .int x10), (0, .ref (ad 0 0)), (1, .int v1), (2, .int v2), (3, .int v3), (4, .ref (ad 51 0)), (5, .long v5), (7, .int v7)]) C hx10 dX1_storm_112 (g_lL hL rfl) rfl ?_
  refine y_iload C dX1_storm_114 7 rfl ?_
  refine y_iconst (v := (1 : Int32)) C dX1_storm_116 (by decide) ?_
  refine y_iadd C dX1_storm_117 ?_
  obtain ⟨x11, hx11, h⟩ := g_lt h
  refine y_istore (vs1 := [(9, .int x11), (8, .int x10), (0, .ref (ad 0 0)), (1, .int v1), (2, .int v2), (3, .int v3), (4, .ref (ad 51 0)), (5, .long v5), (7, .int v7)]) C hx11 dX1_storm_118 (g_lL hL rfl) rfl ?_
  refine y_sub (vs2 := [(0, .ref (ad 0 0)), (1, .int v1), (2, .int v2), (3, .int v3), (4, .ref (ad 51 0)), (5, .long v5), (7, .int v7), (8, .int x10), (9, .int x11)]) [2, 3, 4, 5, 6, 7, 8, 1, 0] rfl ?_
  obtain ⟨e14, he14, h⟩ := g_bd h
  refine ml_C1_storm_120 C hR hL hmc ha0 (σ := σ) _ _ _ he14 ?_
  refine y_lload C dX1_storm_169 5 rfl ?_
  refine y_ldc2 (v := (10 : Int64)) C q1171 dX1_storm_171 ?_
  refine y_lmul C dX1_storm_174 ?_
  obtain ⟨x15, hx15, h⟩ := g_lt h
  refine y_lstore (vs1 := [(5, .long x15), (0, .ref (ad 0 0)), (1, .int v1), (2, .int v2), (3, .int v3), (4, .ref (ad 51 0)), (7, .int v7)]) C hx15 dX1_storm_175 (g_lL hL rfl) rfl ?_
  obtain ⟨x16, hx16, h⟩ := g_lt h
  refine y_iinc (c := (1 : Int32)) (vs1 := [(7, .int x16), (5, .long x15), (0, .ref (ad 0 0)), (1, .int v1), (2, .int v2), (3, .int v3), (4, .ref (ad 51 0))]) C hx16 (by decide) dX1_storm_177 6 rfl (g_lL hL rfl) rfl ?_
  refine y_goto (tgt := 51) C dX1_storm_180 rfl ?_
  refine y_sub (vs2 := [(0, .ref (ad 0 0)), (1, .int v1), (2, .int v2), (3, .int v3), (4, .ref (ad 51 0)), (5, .long x15), (7, .int x16)]) [2, 3, 4, 5, 6, 1, 0] rfl ?_
  exact kl _ (Option.some.inj h).symm
theorem mj_C1_storm_85 {X : g_F} (C : g_M gCl X cX1_storm RX1 (some .int)) (hR : g_R X = g_rm 305 1 10) (hL : g_nL X = 11) (hmc : g_mc X = 1 ∧ g_ms X = 10) {ad : Nat → Nat → Nat} {σ : g_S} {a0 : Nat} (ha0 : ad 0 0 = a0) {v1 : Int32} {v2 : Int32} {v3 : Int32} {v5 : Int64} {v7 : Int32} {s0 : Int32} {o : ((Int64 × Int32 × g_S) ⊕ (Int64 × g_S))} (h : mJ_C1_storm_85 σ v1 v2 v3 v5 v7 s0 = some o) (kl : ∀ z, o = .inl z → g_Y gCl X (gC true) ad z.2.2 (1, 10) 51 [(0, .ref (ad 0 0)), (1, .int v1), (2, .int v2), (3, .int v3), (4, .ref (ad 51 0)), (5, .long z.1), (7, .int z.2.1)] []) (kx : ∀ z, o = .inr z → g_Y gCl X (gC true) ad z.2 (1, 10) 183 [(0, .ref (ad 0 0)), (2, .int v2), (4, .ref (ad 51 0)), (5, .long z.1)] []) : g_Y gCl X (gC true) ad σ (1, 10) 85 [(0, .ref (ad 0 0)), (1, .int v1), (2, .int v2), (3, .int v3), (4, .ref (ad 51 0)), (5, .long v5), (7, .int v7)] [.int s0] := by
  unfold mJ_C1_storm_85 at h
  refine y_aload_n C dX1_storm_85 0 rfl rfl ?_
  refine gf_C_X1_76_0 C nC_0_0 dX1_storm_86 ?_
  refine y_iconst (v := (0 : Int32)) C dX1_storm_89 (by decide) ?_
  obtain ⟨σ8, hc, h⟩ := g_bd h
  refine y_callV C (As := [.int (0 : Int32)]) (rest := [.int s0]) (k := 3) (hu := nC_3_0) (hc := (rfl : gCl[3]? = some (RX4, TX4, 3))) (hcell := obC_3) (lk_X1_433_X4_l1 C hR (by decide)) (ct_C4_to hc) rfl rfl (Nat.le_of_ble_eq_true rfl) (by rw [hR]; exact ⟨Nat.le_of_ble_eq_true rfl, Nat.le_of_ble_eq_true rfl⟩) dX1_storm_90 ?_
  refine y_aload_n C dX1_storm_93 0 rfl rfl ?_
  refine gf_C_X1_84_0 C nC_0_0 dX1_storm_94 ?_
  refine y_iload C dX1_storm_97 6 rfl ?_
  refine y_iload_n C dX1_storm_99 1 rfl rfl ?_
  obtain ⟨x9, hc, h⟩ := g_bd h
  refine y_callU C (As := [.ref (ad 4 0), .int v7, .int v1]) (rest := [.int s0]) (k := 3) (hu := nC_3_0) (hc := (rfl : gCl[3]? = some (RX4, TX4, 3))) (hcell := obC_3) (lk_X1_436_X4_X2_l304 C hR (by decide)) (ct_C2_sees_k3_4 nC_4_0 hc) rfl rfl (Nat.le_of_ble_eq_true rfl) (by rw [hR]; exact ⟨Nat.le_of_ble_eq_true rfl, Nat.le_of_ble_eq_true rfl⟩) dX1_storm_100 ?_
  refine y_if_eq (tgt := 110) C dX1_storm_103 rfl (fun hc => ?_) (fun hc => ?_)
  · replace h := g_it h hc
    refine y_iconst (v := (0 : Int32)) C dX1_storm_110 (by decide) ?_
    exact mj_C1_storm_111 C hR hL hmc ha0 h kl kx
  · replace h := g_if h hc
    refine y_iload_n C dX1_storm_106 3 rfl rfl ?_
    refine y_goto (tgt := 111) C dX1_storm_107 rfl ?_
    exact mj_C1_storm_111 C hR hL hmc ha0 h kl kx
theorem ml_C1_storm_51 {X : g_F} (C : g_M gCl X cX1_storm RX1 (some .int)) (hR : g_R X = g_rm 305 1 10) (hL : g_nL X = 11) (hmc : g_mc X = 1 ∧ g_ms X = 10) {ad : Nat → Nat → Nat} {σ : g_S} {a0 : Nat} (ha0 : ad 0 0 = a0) {v1 : Int32} {v2 : Int32} {v3 : Int32} (n : Nat) (v : (Int64 × Int32 × g_S)) (e : (Int64 × g_S)) (h : g_lp (fun v => mB_C1_storm_51 v.2.2 v1 v2 v3 v.1 v.2.1) n v = some e) (kx : g_Y gCl X (gC true) ad e.2 (1, 10) 183 [(0, .ref (ad 0 0)), (2, .int v2), (4, .ref (ad 51 0)), (5, .long e.1)] []) : g_Y gCl X (gC true) ad v.2.2 (1, 10) 51 [(0, .ref (ad 0 0)), (1, .int v1), (2, .int v2), (3, .int v3), (4, .ref (ad 51 0)), (5, .long v.1), (7, .int v.2.1)] [] := by
  refine g_loop (P := fun v => g_Y gCl X (gC true) ad v.2.2 (1, 10) 51 [(0, .ref (ad 0 0)), (1, .int v1), (2, .int v2), (3, .int v3), (4, .ref (ad 51 0)), (5, .long v.1), (7, .int v.2.1)] []) (T := fun e => g_Y gCl X (gC true) ad e.2 (1, 10) 183 [(0, .ref (ad 0 0)), (2, .int v2), (4, .ref (ad 51 0)), (5, .long e.1)] []) ?_ n v e h kx
  clear h kx
  clear n v e
  intro v o h kl kx
  obtain ⟨v5, v7, σ⟩ := v
  have h : mB_C1_storm_51 σ v1 v2 v3 v5 v7 = some o := h
  unfold mB_C1_storm_51 at h
  show g_Y gCl X (gC true) ad σ (1, 10) 51 [(0, .ref (ad 0 0)), (1, .int v1), (2, .int v2), (3, .int v3), (4, .ref (ad 51 0)), (5, .long v5), (7, .int v7)] []
  refine y_iload C dX1_storm_51 6 rfl ?_
  refine y_aload_n C dX1_storm_53 0 rfl rfl ?_
  refine gf_C_X1_150_0 C nC_0_0 dX1_storm_54 ?_
  refine y_icmp_ge (tgt := 183) C dX1_storm_57 rfl (fun hc => ?_) (fun hc => ?_)
  · replace h := g_it h hc
    refine y_sub (vs2 := [(0, .ref (ad 0 0)), (2, .int v2), (4, .ref (ad 51 0)), (5, .long v5)]) [0, 2, 4, 5] rfl ?_
    exact kx _ (Option.some.inj h).symm
  · replace h := g_if h hc
    refine y_aload_n C dX1_storm_60 0 rfl rfl ?_
    refine gf_C_X1_62_0 C nC_0_0 dX1_storm_61 ?_
    refine y_aload_n C dX1_storm_64 0 rfl rfl ?_
    refine gf_C_X1_84_0 C nC_0_0 dX1_storm_65 ?_
    refine y_iload C dX1_storm_68 6 rfl ?_
    refine y_iload_n C dX1_storm_70 1 rfl rfl ?_
    obtain ⟨x7, hc, h⟩ := g_bd h
    refine y_callV C (As := [.ref (ad 4 0), .int v7, .int v1]) (rest := []) (k := 1) (hu := nC_1_0) (hc := (rfl : gCl[1]? = some (RX2, TX2, 1))) (hcell := obC_1) (lk_X1_246_X2_l304 C hR (by decide)) (ct_C2_sees_k1_4 nC_4_0 hc) rfl rfl (Nat.le_of_ble_eq_true rfl) (by rw [hR]; exact ⟨Nat.le_of_ble_eq_true rfl, Nat.le_of_ble_eq_true rfl⟩) dX1_storm_71 ?_
    refine y_if_eq (tgt := 84) C dX1_storm_74 rfl (fun hc => ?_) (fun hc => ?_)
    · replace h := g_it h hc
      refine y_iconst (v := (0 : Int32)) C dX1_storm_84 (by decide) ?_
      exact mj_C1_storm_85 C hR hL hmc ha0 h kl kx
    · replace h := g_if h hc
      refine y_bipush (v := (10 : Int32)) C dX1_storm_77 (by decide) ?_
      refine y_iload_n C dX1_storm_79 3 rfl rfl ?_
      refine y_isub C dX1_storm_80 ?_
      refine y_goto (tgt := 85) C dX1_storm_81 rfl ?_
      exact mj_C1_storm_85 C hR hL hmc ha0 h kl kx
theorem ml_C1_storm_189 {X : g_F} (C : g_M gCl X cX1_storm RX1 (some .int)) (hR : g_R X = g_rm 305 1 10) (hL : g_nL X = 11) (hmc : g_mc X = 1 ∧ g_ms X = 10) {ad : Nat → Nat → Nat} {σ : g_S} {a0 : Nat} (ha0 : ad 0 0 = a0) {v5 : Int64} (n : Nat) (v : (Int64 × Int32)) (e : Int64) (h : g_lp (fun v => mB_C1_storm_189 σ v5 v.1 v.2) n v = some e) (kx : g_Y gCl X (gC true) ad σ (1, 10) 212 [(0, .ref (ad 0 0)), (5, .long v5), (7, .long e)] []) : g_Y gCl X (gC true) ad σ (1, 10) 189 [(0, .ref (ad 0 0)), (4, .ref (ad 51 0)), (5, .long v5), (7, .long v.1), (9, .int v.2)] [] := by
  refine g_loop (P := fun v => g_Y gCl X (gC true) ad σ (1, 10) 189 [(0, .ref (ad 0 0)), (4, .ref (ad 51 0)), (5, .long v5), (7, .long v.1), (9, .int v.2)] []) (T := fun e => g_Y gCl X (gC true) ad σ (1, 10) 212 [(0, .ref (ad 0 0)), (5, .long v5), (7, .long e)] []) ?_ n v e h kx
  clear h kx
  clear n v e
  intro v o h kl kx
  obtain ⟨v7, v9⟩ := v
  have h : mB_C1_storm_189 σ v5 v7 v9 = some o := h
  unfold mB_C1_storm_189 at h
  show g_Y gCl X (gC true) ad σ (1, 10) 189 [(0, .ref (ad 0 0)), (4, .ref (ad 51 0)), (5, .long v5), (7, .long v7), (9, .int v9)] []
  refine y_iload C dX1_storm_189 4 rfl ?_
  refine y_bipush (v := (8 : Int32)) C dX1_storm_191 (by decide) ?_
  refine y_icmp_gt (tgt := 212) C dX1_storm_193 rfl (fun hc => ?_) (fun hc => ?_)
  · replace h := g_it h hc
    refine y_sub (vs2 := [(0, .ref (ad 0 0)), (5, .long v5), (7, .long v7)]) [0, 2, 3] rfl ?_
    exact kx _ (Option.some.inj h).symm
  · replace h := g_if h hc
    refine y_lload C dX1_storm_196 3 rfl ?_
    refine y_aload C dX1_storm_198 1 rfl ?_
    refine y_iload C dX1_storm_200 4 rfl ?_
    obtain ⟨hg, h⟩ := g_gd h
    refine al_C_51 C nC_51_0 hg dX1_storm_202 ?_
    refine y_ladd C dX1_storm_203 ?_
    obtain ⟨x18, hx18, h⟩ := g_lt h
    refine y_lstore (vs1 := [(7, .long x18), (0, .ref (ad 0 0)), (4, .ref (ad 51 0)), (5, .long v5), (9, .int v9)]) C hx18 dX1_storm_204 (g_lL hL rfl) rfl ?_
    obtain ⟨x19, hx19, h⟩ := g_lt h
    refine y_iinc (c := (1 : Int32)) (vs1 := [(9, .int x19), (7, .long x18), (0, .ref (ad 0 0)), (4, .ref (ad 51 0)), (5, .long v5)]) C hx19 (by decide) dX1_storm_206 4 rfl (g_lL hL rfl) rfl ?_
    refine y_goto (tgt := 189) C dX1_storm_209 rfl ?_
    refine y_sub (vs2 := [(0, .ref (ad 0 0)), (4, .ref (ad 51 0)), (5, .long v5), (7, .long x18), (9, .int x19)]) [2, 3, 4, 1, 0] rfl ?_
    exact kl _ (Option.some.inj h).symm
theorem mw_C1_storm {X : g_F} (C : g_M gCl X cX1_storm RX1 (some .int)) (hR : g_R X = g_rm 305 1 10) (hL : g_nL X = 11) (hmc : g_mc X = 1 ∧ g_ms X = 10) {ad : Nat → Nat → Nat} {σ : g_S} {a0 : Nat} (ha0 : ad 0 0 = a0) {v1 : Int32} {v2 : Int32} {v3 : Int32} {o : (Int32 × g_S)} (h : mF_C1_storm σ v1 v2 v3 = some o) (hQ : g_MQG gCl X (gC true) (fun v ad2 s2 => v = some (.int o.1) ∧ s2 = o.2 ∧ ad2 0 0 = a0) (fun _ _ _ _ => False) = g_Q X) : g_Y gCl X (gC true) ad σ (0, 0) 0 [(0, .ref (ad 0 0)), (1, .int v1), (2, .int v2), (3, .int v3)] [] := by
  unfold mF_C1_storm at h
  refine y_aload_n C dX1_storm_0 0 rfl rfl ?_
  refine y_iload_n C dX1_storm_1 1 rfl rfl ?_
  obtain ⟨x1, hc, h⟩ := g_bd h
  refine y_callV C (As := [.int v1]) (rest := []) (k := 0) (hu := nC_0_0) (hc := (rfl : gCl[0]? = some (RX1, TX1, 31))) (hcell := obC_0) (lk_X1_358_X1_l2 C hR (by decide)) (ct_C1_isField hc) rfl rfl (Nat.le_of_ble_eq_true rfl) ⟨Nat.zero_le _, Nat.zero_le _⟩ dX1_storm_2 ?_
  refine y_if_eq (tgt := 32) C dX1_storm_5 rfl (fun hc => ?_) (fun hc => ?_)
  · replace h := g_it h hc
    refine y_iconst (v := (-1 : Int32)) C dX1_storm_32 (by decide) ?_
    replace h := Option.some.inj h; subst h
    exact y_iretG C hQ ⟨rfl, rfl, ha0⟩ ⟨Nat.zero_le _, Nat.zero_le _⟩ dX1_storm_33
  · replace h := g_if h hc
    refine y_iload_n C dX1_storm_8 2 rfl rfl ?_
    refine y_i2l C dX1_storm_9 ?_
    refine y_lconst (v := (0 : Int64)) C dX1_storm_10 (by decide) ?_
    refine y_ldc2 (v := (8 : Int64)) C q1170 dX1_storm_11 ?_
    obtain ⟨x2, hc, h⟩ := g_bd h
    refine y_callS C (As := [.long (v2.toInt64), .long (0 : Int64), .long (8 : Int64)]) (rest := []) (lk_X1_146_l1 C hR (by decide)) (ct_C1_in hc) rfl rfl (Nat.le_of_ble_eq_true rfl) ⟨Nat.zero_le _, Nat.zero_le _⟩ dX1_storm_14 ?_
    refine y_if_eq (tgt := 32) C dX1_storm_17 rfl (fun hc => ?_) (fun hc => ?_)
    · replace h := g_it h hc
      refine y_iconst (v := (-1 : Int32)) C dX1_storm_32 (by decide) ?_
      replace h := Option.some.inj h; subst h
      exact y_iretG C hQ ⟨rfl, rfl, ha0⟩ ⟨Nat.zero_le _, Nat.zero_le _⟩ dX1_storm_33
    · replace h := g_if h hc
      refine y_iload_n C dX1_storm_20 3 rfl rfl ?_
      refine y_i2l C dX1_storm_21 ?_
      refine y_lconst (v := (0 : Int64)) C dX1_storm_22 (by decide) ?_
      refine y_ldc2 (v := (10 : Int64)) C q1171 dX1_storm_23 ?_
      obtain ⟨x3, hc, h⟩ := g_bd h
      refine y_callS C (As := [.long (v3.toInt64), .long (0 : Int64), .long (10 : Int64)]) (rest := []) (lk_X1_146_l1 C hR (by decide)) (ct_C1_in hc) rfl rfl (Nat.le_of_ble_eq_true rfl) ⟨Nat.zero_le _, Nat.zero_le _⟩ dX1_storm_26 ?_
      refine y_if_ne (tgt := 34) C dX1_storm_29 rfl (fun hc => ?_) (fun hc => ?_)
      · replace h := g_if h hc
        refine y_bipush (v := (10 : Int32)) C dX1_storm_34 (by decide) ?_
        obtain ⟨σ4, hσ4, h⟩ := g_lt h
        refine y_newa (atype := .long) (ty := .long) (σ1 := σ4) (a0 := (10, .inr (.inl fun _ => 0))) (t0 := 1) C 51 0 rfl rfl q330 (fun _ => rfl) (by decide) rfl (by decide) (by rw [hR]; exact ⟨Nat.le_of_ble_eq_true rfl, Nat.le_of_ble_eq_true rfl⟩) dX1_storm_36 (by rw [hσ4]; exact fr_51) (fun q => by rw [hσ4]; exact me_51) (fun q5 => ?_)
        have hq5 : (g_ua ad 51 0 q5) 51 0 = q5 := g_ua_s
        suffices key : g_Y gCl X (gC true) (g_ua ad 51 0 q5) σ4 (1, 10) 38 [(0, .ref ((g_ua ad 51 0 q5) 0 0)), (1, .int v1), (2, .int v2), (3, .int v3)] [.ref ((g_ua ad 51 0 q5) 51 0)] by rw [hq5] at key; exact key
        refine y_astore (vs1 := [(4, .ref ((g_ua ad 51 0 q5) 51 0)), (0, .ref ((g_ua ad 51 0 q5) 0 0)), (1, .int v1), (2, .int v2), (3, .int v3)]) C rfl dX1_storm_38 (g_lL hL rfl) rfl ?_
        refine y_aload C dX1_storm_40 0 rfl ?_
        refine y_iconst (v := (0 : Int32)) C dX1_storm_42 (by decide) ?_
        refine y_lconst (v := (1 : Int64)) C dX1_storm_43 (by decide) ?_
        obtain ⟨hg, h⟩ := g_gd h
        obtain ⟨σ6, hσ6, h⟩ := g_lt h
        refine as_C_51 C nC_51_0 hσ6 hg dX1_storm_44 ?_
        refine y_lconst (v := (1 : Int64)) C dX1_storm_45 (by decide) ?_
        refine y_lstore (vs1 := [(5, .long (1 : Int64)), (4, .ref ((g_ua ad 51 0 q5) 51 0)), (0, .ref ((g_ua ad 51 0 q5) 0 0)), (1, .int v1), (2, .int v2), (3, .int v3)]) C rfl dX1_storm_46 (g_lL hL rfl) rfl ?_
        refine y_iconst (v := (0 : Int32)) C dX1_storm_48 (by decide) ?_
        refine y_istore (vs1 := [(7, .int (0 : Int32)), (5, .long (1 : Int64)), (4, .ref ((g_ua ad 51 0 q5) 51 0)), (0, .ref ((g_ua ad 51 0 q5) 0 0)), (1, .int v1), (2, .int v2), (3, .int v3)]) C rfl dX1_storm_49 (g_lL hL rfl) rfl ?_
        refine y_sub (vs2 := [(0, .ref ((g_ua ad 51 0 q5) 0 0)), (1, .int v1), (2, .int v2), (3, .int v3), (4, .ref ((g_ua ad 51 0 q5) 51 0)), (5, .long (1 : Int64)), (7, .int (0 : Int32))]) [3, 4, 5, 6, 2, 1, 0] rfl ?_
        obtain ⟨e17, he17, h⟩ := g_bd h
        refine ml_C1_storm_51 C hR hL hmc (show (g_ua ad 51 0 q5) 0 0 = a0 from ha0) (σ := σ6) _ _ _ he17 ?_
        refine y_lconst (v := (0 : Int64)) C dX1_storm_183 (by decide) ?_
        refine y_lstore (vs1 := [(7, .long (0 : Int64)), (0, .ref ((g_ua ad 51 0 q5) 0 0)), (2, .int v2), (4, .ref ((g_ua ad 51 0 q5) 51 0)), (5, .long e17.1)]) C rfl dX1_storm_184 (g_lL hL rfl) rfl ?_
        refine y_iload_n C dX1_storm_186 2 rfl rfl ?_
        refine y_istore (vs1 := [(9, .int v2), (7, .long (0 : Int64)), (0, .ref ((g_ua ad 51 0 q5) 0 0)), (2, .int v2), (4, .ref ((g_ua ad 51 0 q5) 51 0)), (5, .long e17.1)]) C rfl dX1_storm_187 (g_lL hL rfl) rfl ?_
        refine y_sub (vs2 := [(0, .ref ((g_ua ad 51 0 q5) 0 0)), (4, .ref ((g_ua ad 51 0 q5) 51 0)), (5, .long e17.1), (7, .long (0 : Int64)), (9, .int v2)]) [2, 4, 5, 1, 0] rfl ?_
        obtain ⟨e20, he20, h⟩ := g_bd h
        refine ml_C1_storm_189 C hR hL hmc (show (g_ua ad 51 0 q5) 0 0 = a0 from ha0) (σ := e17.2) _ _ _ he20 ?_
        refine y_lload C dX1_storm_212 2 rfl ?_
        refine y_lload C dX1_storm_214 1 rfl ?_
        obtain ⟨x21, hc, h⟩ := g_bd h
        refine y_callS C (As := [.long e20, .long e17.1]) (rest := []) (lk_X1_460_l100 C hR (by decide)) (ct_C1_common hc) rfl rfl (Nat.le_of_ble_eq_true rfl) (by rw [hR]; exact ⟨Nat.le_of_ble_eq_true rfl, Nat.le_of_ble_eq_true rfl⟩) dX1_storm_216 ?_
        refine y_lstore (vs1 := [(9, .long x21), (0, .ref ((g_ua ad 51 0 q5) 0 0)), (5, .long e17.1), (7, .long e20)]) C rfl dX1_storm_219 (g_lL hL rfl) rfl ?_
        refine y_aload_n C dX1_storm_221 1 rfl rfl ?_
        refine y_iconst (v := (0 : Int32)) C dX1_storm_222 (by decide) ?_
        obtain ⟨σ22, hσ22, h⟩ := g_lt h
        refine pf_C_X1_139_0 C nC_0_0 hσ22 dX1_storm_223 ?_
        refine y_aload_n C dX1_storm_226 1 rfl rfl ?_
        refine y_lload C dX1_storm_227 3 rfl ?_
        refine y_lload C dX1_storm_229 0 rfl ?_
        obtain ⟨hg, h⟩ := g_gd h
        refine y_ldiv C dX1_storm_231 hg ?_
        obtain ⟨σ23, hc, h⟩ := g_bd h
        refine y_callVv C (As := [.long (e20 / x21)]) (rest := []) (k := 0) (hu := nC_0_0) (hc := (rfl : gCl[0]? = some (RX1, TX1, 31))) (hcell := obC_0) (lk_X1_330_X1_l1 C hR (by decide)) (ct_C1_tell_2 hc) rfl rfl (Nat.le_of_ble_eq_true rfl) (by rw [hR]; exact ⟨Nat.le_of_ble_eq_true rfl, Nat.le_of_ble_eq_true rfl⟩) dX1_storm_232 ?_
        refine y_aload_n C dX1_storm_235 1 rfl rfl ?_
        refine y_lload C dX1_storm_236 2 rfl ?_
        refine y_lload C dX1_storm_238 0 rfl ?_
        obtain ⟨hg, h⟩ := g_gd h
        refine y_ldiv C dX1_storm_240 hg ?_
        obtain ⟨σ24, hc, h⟩ := g_bd h
        refine y_callVv C (As := [.long (e17.1 / x21)]) (rest := []) (k := 0) (hu := nC_0_0) (hc := (rfl : gCl[0]? = some (RX1, TX1, 31))) (hcell := obC_0) (lk_X1_330_X1_l1 C hR (by decide)) (ct_C1_tell_2 hc) rfl rfl (Nat.le_of_ble_eq_true rfl) (by rw [hR]; exact ⟨Nat.le_of_ble_eq_true rfl, Nat.le_of_ble_eq_true rfl⟩) dX1_storm_241 ?_
        refine y_iconst (v := (0 : Int32)) C dX1_storm_244 (by decide) ?_
        replace h := Option.some.inj h; subst h
        exact y_iretG C hQ ⟨rfl, rfl, ha0⟩ (by rw [hmc.1, hmc.2]; exact ⟨Nat.le_of_ble_eq_true rfl, Nat.le_of_ble_eq_true rfl⟩) dX1_storm_245
      · replace h := g_it h hc
        refine y_iconst (v := (-1 : Int32)) C dX1_storm_32 (by decide) ?_
        replace h := Option.some.inj h; subst h
        exact y_iretG C hQ ⟨rfl, rfl, ha0⟩ ⟨Nat.zero_le _, Nat.zero_le _⟩ dX1_storm_33
theorem ct_C1_storm {D : va_G} {dA : Nat → ClassId} {A : Nat → Prop} {s0 : State} {b0 : Nat} {l : Launch} {ad : Nat → Nat → Nat} {σ : g_S} {v1 : Int32} {v2 : Int32} {v3 : Int32}{r : Int32} {σ1 : g_S} (h : mF_C1_storm σ v1 v2 v3 = some (r, σ1)) : g_MetG gCl D dA A s0 b0 l yX1_storm (ws_ yX1_storm cX1_storm 11 (some .int)) 305 (1, 10) (gC true) ad σ [.ref (ad 0 0), .int v1, .int v2, .int v3] (gC true) (fun v ad2 s2 => v = some (.int r) ∧ s2 = σ1 ∧ ad2 0 0 = (ad 0 0)) (fun _ _ _ _ => False) :=
  g_MetG.of pl_X1 (Nat.le_of_ble_eq_true rfl) (fun X C hQ hR hmc hms hL hnm es eb el hT => mw_C1_storm C hR hL ⟨hmc, hms⟩ rfl h hQ)
theorem ml_C1_cock_48 {X : g_F} {hid : Bool} (C : g_M gCl X cX1_cock RX1 (some .int)) (hR : g_R X = g_rm 2 0 0) (hL : g_nL X = 6) {ad : Nat → Nat → Nat} {σ : g_S} {v1 : Int32} {v2 : Int32} {v3 : Int32} {v4 : Int32} (n : Nat) (v : Int32) (e : Int32) (h : g_lp (fun v => mB_C1_cock_48 σ v1 v2 v3 v4 v) n v = some e) (kx : g_Y gCl X (gC hid) ad σ (0, 0) 92 [(0, .ref (ad 0 0)), (1, .int v1), (2, .int v2), (3, .int v3), (4, .int v4), (5, .int e)] []) : g_Y gCl X (gC hid) ad σ (0, 0) 48 [(0, .ref (ad 0 0)), (1, .int v1), (2, .int v2), (3, .int v3), (4, .int v4), (5, .int v)] [] := by
  refine g_loop (P := fun v => g_Y gCl X (gC hid) ad σ (0, 0) 48 [(0, .ref (ad 0 0)), (1, .int v1), (2, .int v2), (3, .int v3), (4, .int v4), (5, .int v)] []) (T := fun e => g_Y gCl X (gC hid) ad σ (0, 0) 92 [(0, .ref (ad 0 0)), (1, .int v1), (2, .int v2), (3, .int v3), (4, .int v4), (5, .int e)] []) ?_ n v e h kx
  clear h kx
  clear n v e
  intro v o h kl kx
  obtain ⟨v5, rfl⟩ : ∃ z, z = v := ⟨_, rfl⟩
  have h : mB_C1_cock_48 σ v1 v2 v3 v4 v5 = some o := h
  unfold mB_C1_cock_48 at h
  show g_Y gCl X (gC hid) ad σ (0, 0) 48 [(0, .ref (ad 0 0)), (1, .int v1), (2, .int v2), (3, .int v3), (4, .int v4), (5, .int v5)] []
  refine y_iload C dX1_cock_48 5 rfl ?_
  refine y_iload_n C dX1_cock_50 2 rfl rfl ?_
  refine y_iload_n C dX1_cock_51 3 rfl rfl ?_
  refine y_mmin C q509 (g_rmM hR (by decide)) (Nat.le_of_ble_eq_true rfl) ⟨Nat.zero_le _, Nat.zero_le _⟩ dX1_cock_52 ?_
  refine y_icmp_gt (tgt := 92) C dX1_cock_55 rfl (fun hc => ?_) (fun hc => ?_)
  · replace h := g_it h hc
    exact kx _ (Option.some.inj h).symm
  · replace h := g_if h hc
    refine y_iload C dX1_cock_58 5 rfl ?_
    refine y_iload C dX1_cock_60 4 rfl ?_
    refine y_icmp_eq (tgt := 86) C dX1_cock_62 rfl (fun hc => ?_) (fun hc => ?_)
    · replace h := g_it h hc
      obtain ⟨x3, hx3, h⟩ := g_lt h
      refine y_iinc (c := (1 : Int32)) (vs1 := [(5, .int x3), (0, .ref (ad 0 0)), (1, .int v1), (2, .int v2), (3, .int v3), (4, .int v4)]) C hx3 (by decide) dX1_cock_86 5 rfl (g_lL hL rfl) rfl ?_
      refine y_goto (tgt := 48) C dX1_cock_89 rfl ?_
      refine y_sub (vs2 := [(0, .ref (ad 0 0)), (1, .int v1), (2, .int v2), (3, .int v3), (4, .int v4), (5, .int x3)]) [1, 2, 3, 4, 5, 0] rfl ?_
      exact kl _ (Option.some.inj h).symm
    · replace h := g_if h hc
      refine y_iload_n C dX1_cock_65 3 rfl rfl ?_
      refine y_iload C dX1_cock_66 5 rfl ?_
      refine y_icmp_le (tgt := 92) C dX1_cock_68 rfl (fun hc => ?_) (fun hc => ?_)
      · replace h := g_it h hc
        exact kx _ (Option.some.inj h).symm
      · replace h := g_if h hc
        refine y_aload_n C dX1_cock_71 0 rfl rfl ?_
        refine gf_C_X1_130_0 C nC_0_0 dX1_cock_72 ?_
        refine y_iload_n C dX1_cock_75 3 rfl rfl ?_
        refine y_iload C dX1_cock_76 5 rfl ?_
        refine y_isub C dX1_cock_78 ?_
        obtain ⟨hg4, h⟩ := g_gd h
        refine aa_C_21 C hg4 dX1_cock_79 ?_
        refine y_iload C dX1_cock_80 5 rfl ?_
        obtain ⟨hg, h⟩ := g_gd h
        refine al_C_22 C (ux_C_21 hg4) hg dX1_cock_82 ?_
        refine y_if_eq (tgt := 92) C dX1_cock_83 rfl (fun hc => ?_) (fun hc => ?_)
        · replace h := g_it h hc
          exact kx _ (Option.some.inj h).symm
        · replace h := g_if h hc
          obtain ⟨x5, hx5, h⟩ := g_lt h
          refine y_iinc (c := (1 : Int32)) (vs1 := [(5, .int x5), (0, .ref (ad 0 0)), (1, .int v1), (2, .int v2), (3, .int v3), (4, .int v4)]) C hx5 (by decide) dX1_cock_86 5 rfl (g_lL hL rfl) rfl ?_
          refine y_goto (tgt := 48) C dX1_cock_89 rfl ?_
          refine y_sub (vs2 := [(0, .ref (ad 0 0)), (1, .int v1), (2, .int v2), (3, .int v3), (4, .int v4), (5, .int x5)]) [1, 2, 3, 4, 5, 0] rfl ?_
          exact kl _ (Option.some.inj h).symm
theorem mj_C1_cock_116 {X : g_F} {hid : Bool} (C : g_M gCl X cX1_cock RX1 (some .int)) (hR : g_R X = g_rm 2 0 0) (hL : g_nL X = 6) {ad : Nat → Nat → Nat} {σ : g_S} {v1 : Int32} {v2 : Int32} {v3 : Int32} {v4 : Int32} {s0 : Nat} {s1 : Int32} {s2 : Int32} {o : ((Int32 × g_S) ⊕ g_S)} (h : mJ_C1_cock_116 σ v1 v2 v3 v4 s0 s1 s2 = some o) (kl : ∀ z, o = .inl z → g_Y gCl X (gC hid) ad z.2 (0, 0) 38 [(0, .ref (ad 0 0)), (1, .int v1), (2, .int v2), (3, .int v3), (4, .int z.1)] []) (kx : ∀ z, o = .inr z → g_Y gCl X (gC hid) ad z (0, 0) 123 [(0, .ref (ad 0 0)), (1, .int v1), (2, .int v2), (3, .int v3)] []) : g_Y gCl X (gC hid) ad σ (0, 0) 116 [(0, .ref (ad 0 0)), (1, .int v1), (2, .int v2), (3, .int v3), (4, .int v4)] [.int s2, .int s1, .ref (ad 22 s0)] := by
  unfold mJ_C1_cock_116 at h
  obtain ⟨hu_s0, h⟩ := g_gd h
  obtain ⟨hg, h⟩ := g_gd h
  obtain ⟨σ8, hσ8, h⟩ := g_lt h
  refine as_C_22 C hu_s0 hσ8 hg dX1_cock_116 ?_
  obtain ⟨x9, hx9, h⟩ := g_lt h
  refine y_iinc (c := (1 : Int32)) (vs1 := [(4, .int x9), (0, .ref (ad 0 0)), (1, .int v1), (2, .int v2), (3, .int v3)]) C hx9 (by decide) dX1_cock_117 4 rfl (g_lL hL rfl) rfl ?_
  refine y_goto (tgt := 38) C dX1_cock_120 rfl ?_
  refine y_sub (vs2 := [(0, .ref (ad 0 0)), (1, .int v1), (2, .int v2), (3, .int v3), (4, .int x9)]) [1, 2, 3, 4, 0] rfl ?_
  exact kl _ (Option.some.inj h).symm
theorem ml_C1_cock_38 {X : g_F} {hid : Bool} (C : g_M gCl X cX1_cock RX1 (some .int)) (hR : g_R X = g_rm 2 0 0) (hL : g_nL X = 6) {ad : Nat → Nat → Nat} {σ : g_S} {v1 : Int32} {v2 : Int32} {v3 : Int32} (n : Nat) (v : (Int32 × g_S)) (e : g_S) (h : g_lp (fun v => mB_C1_cock_38 v.2 v1 v2 v3 v.1) n v = some e) (kx : g_Y gCl X (gC hid) ad e (0, 0) 123 [(0, .ref (ad 0 0)), (1, .int v1), (2, .int v2), (3, .int v3)] []) : g_Y gCl X (gC hid) ad v.2 (0, 0) 38 [(0, .ref (ad 0 0)), (1, .int v1), (2, .int v2), (3, .int v3), (4, .int v.1)] [] := by
  refine g_loop (P := fun v => g_Y gCl X (gC hid) ad v.2 (0, 0) 38 [(0, .ref (ad 0 0)), (1, .int v1), (2, .int v2), (3, .int v3), (4, .int v.1)] []) (T := fun e => g_Y gCl X (gC hid) ad e (0, 0) 123 [(0, .ref (ad 0 0)), (1, .int v1), (2, .int v2), (3, .int v3)] []) ?_ n v e h kx
  clear h kx
  clear n v e
  intro v o h kl kx
  obtain ⟨v4, σ⟩ := v
  have h : mB_C1_cock_38 σ v1 v2 v3 v4 = some o := h
  unfold mB_C1_cock_38 at h
  show g_Y gCl X (gC hid) ad σ (0, 0) 38 [(0, .ref (ad 0 0)), (1, .int v1), (2, .int v2), (3, .int v3), (4, .int v4)] []
  refine y_iload C dX1_cock_38 4 rfl ?_
  refine y_bipush (v := (9 : Int32)) C dX1_cock_40 (by decide) ?_
  refine y_icmp_gt (tgt := 123) C dX1_cock_42 rfl (fun hc => ?_) (fun hc => ?_)
  · replace h := g_it h hc
    refine y_sub (vs2 := [(0, .ref (ad 0 0)), (1, .int v1), (2, .int v2), (3, .int v3)]) [0, 1, 2, 3] rfl ?_
    exact kx _ (Option.some.inj h).symm
  · replace h := g_if h hc
    refine y_iconst (v := (1 : Int32)) C dX1_cock_45 (by decide) ?_
    refine y_istore (vs1 := [(5, .int (1 : Int32)), (0, .ref (ad 0 0)), (1, .int v1), (2, .int v2), (3, .int v3), (4, .int v4)]) C rfl dX1_cock_46 (g_lL hL rfl) rfl ?_
    refine y_sub (vs2 := [(0, .ref (ad 0 0)), (1, .int v1), (2, .int v2), (3, .int v3), (4, .int v4), (5, .int (1 : Int32))]) [1, 2, 3, 4, 5, 0] rfl ?_
    obtain ⟨e6, he6, h⟩ := g_bd h
    refine ml_C1_cock_48 C hR hL (σ := σ) _ _ _ he6 ?_
    refine y_aload_n C dX1_cock_92 0 rfl rfl ?_
    refine gf_C_X1_130_0 C nC_0_0 dX1_cock_93 ?_
    refine y_iload_n C dX1_cock_96 3 rfl rfl ?_
    obtain ⟨hg7, h⟩ := g_gd h
    refine aa_C_21 C hg7 dX1_cock_97 ?_
    refine y_iload C dX1_cock_98 4 rfl ?_
    refine y_iload C dX1_cock_100 5 rfl ?_
    refine y_iload_n C dX1_cock_102 2 rfl rfl ?_
    refine y_iload_n C dX1_cock_103 3 rfl rfl ?_
    refine y_mmin C q509 (g_rmM hR (by decide)) (Nat.le_of_ble_eq_true rfl) ⟨Nat.zero_le _, Nat.zero_le _⟩ dX1_cock_104 ?_
    refine y_icmp_gt (tgt := 115) C dX1_cock_107 rfl (fun hc => ?_) (fun hc => ?_)
    · replace h := g_it h hc
      refine y_iconst (v := (0 : Int32)) C dX1_cock_115 (by decide) ?_
      refine y_sub (vs2 := [(0, .ref (ad 0 0)), (1, .int v1), (2, .int v2), (3, .int v3), (4, .int v4)]) [0, 1, 2, 3, 4] rfl ?_
      exact mj_C1_cock_116 C hR hL h kl kx
    · replace h := g_if h hc
      refine y_iload C dX1_cock_110 5 rfl ?_
      refine y_goto (tgt := 116) C dX1_cock_112 rfl ?_
      refine y_sub (vs2 := [(0, .ref (ad 0 0)), (1, .int v1), (2, .int v2), (3, .int v3), (4, .int v4)]) [0, 1, 2, 3, 4] rfl ?_
      exact mj_C1_cock_116 C hR hL h kl kx
theorem ml_C1_cock_30 {X : g_F} {hid : Bool} (C : g_M gCl X cX1_cock RX1 (some .int)) (hR : g_R X = g_rm 2 0 0) (hL : g_nL X = 6) {ad : Nat → Nat → Nat} {σ : g_S} {v1 : Int32} {v2 : Int32} (n : Nat) (v : (Int32 × g_S)) (e : g_S) (h : g_lp (fun v => mB_C1_cock_30 v.2 v1 v2 v.1) n v = some e) (kx : g_Y gCl X (gC hid) ad e (0, 0) 129 [(0, .ref (ad 0 0)), (1, .int v1)] []) : g_Y gCl X (gC hid) ad v.2 (0, 0) 30 [(0, .ref (ad 0 0)), (1, .int v1), (2, .int v2), (3, .int v.1)] [] := by
  refine g_loop (P := fun v => g_Y gCl X (gC hid) ad v.2 (0, 0) 30 [(0, .ref (ad 0 0)), (1, .int v1), (2, .int v2), (3, .int v.1)] []) (T := fun e => g_Y gCl X (gC hid) ad e (0, 0) 129 [(0, .ref (ad 0 0)), (1, .int v1)] []) ?_ n v e h kx
  clear h kx
  clear n v e
  intro v o h kl kx
  obtain ⟨v3, σ⟩ := v
  have h : mB_C1_cock_30 σ v1 v2 v3 = some o := h
  unfold mB_C1_cock_30 at h
  show g_Y gCl X (gC hid) ad σ (0, 0) 30 [(0, .ref (ad 0 0)), (1, .int v1), (2, .int v2), (3, .int v3)] []
  refine y_iload_n C dX1_cock_30 3 rfl rfl ?_
  refine y_iload_n C dX1_cock_31 1 rfl rfl ?_
  refine y_icmp_gt (tgt := 129) C dX1_cock_32 rfl (fun hc => ?_) (fun hc => ?_)
  · replace h := g_it h hc
    refine y_sub (vs2 := [(0, .ref (ad 0 0)), (1, .int v1)]) [0, 1] rfl ?_
    exact kx _ (Option.some.inj h).symm
  · replace h := g_if h hc
    refine y_iconst (v := (0 : Int32)) C dX1_cock_35 (by decide) ?_
    refine y_istore (vs1 := [(4, .int (0 : Int32)), (0, .ref (ad 0 0)), (1, .int v1), (2, .int v2), (3, .int v3)]) C rfl dX1_cock_36 (g_lL hL rfl) rfl ?_
    refine y_sub (vs2 := [(0, .ref (ad 0 0)), (1, .int v1), (2, .int v2), (3, .int v3), (4, .int (0 : Int32))]) [1, 2, 3, 4, 0] rfl ?_
    obtain ⟨e10, he10, h⟩ := g_bd h
    refine ml_C1_cock_38 C hR hL (σ := σ) _ _ _ he10 ?_
    obtain ⟨x11, hx11, h⟩ := g_lt h
    refine y_iinc (c := (1 : Int32)) (vs1 := [(3, .int x11), (0, .ref (ad 0 0)), (1, .int v1), (2, .int v2)]) C hx11 (by decide) dX1_cock_123 3 rfl (g_lL hL rfl) rfl ?_
    refine y_goto (tgt := 30) C dX1_cock_126 rfl ?_
    refine y_sub (vs2 := [(0, .ref (ad 0 0)), (1, .int v1), (2, .int v2), (3, .int x11)]) [1, 2, 3, 0] rfl ?_
    exact kl _ (Option.some.inj h).symm
theorem mw_C1_cock {X : g_F} {hid : Bool} (C : g_M gCl X cX1_cock RX1 (some .int)) (hR : g_R X = g_rm 2 0 0) (hL : g_nL X = 6) {ad : Nat → Nat → Nat} {σ : g_S} {v1 : Int32} {v2 : Int32} {o : (Int32 × g_S)} (h : mF_C1_cock σ v1 v2 = some o) (hQ : g_MQ gCl X (gC hid) ad o.2 (some (.int o.1)) = g_Q X) : g_Y gCl X (gC hid) ad σ (0, 0) 0 [(0, .ref (ad 0 0)), (1, .int v1), (2, .int v2)] [] := by
  unfold mF_C1_cock at h
  refine y_iload_n C dX1_cock_0 1 rfl rfl ?_
  refine y_i2l C dX1_cock_1 ?_
  refine y_lconst (v := (0 : Int64)) C dX1_cock_2 (by decide) ?_
  refine y_ldc2 (v := (60 : Int64)) C q748 dX1_cock_3 ?_
  obtain ⟨x1, hc, h⟩ := g_bd h
  refine y_callS C (As := [.long (v1.toInt64), .long (0 : Int64), .long (60 : Int64)]) (rest := []) (lk_X1_146_l1 C hR (by decide)) (ct_C1_in hc) rfl rfl (Nat.le_of_ble_eq_true rfl) ⟨Nat.zero_le _, Nat.zero_le _⟩ dX1_cock_6 ?_
  refine y_if_eq (tgt := 26) C dX1_cock_9 rfl (fun hc => ?_) (fun hc => ?_)
  · replace h := g_it h hc
    refine y_iconst (v := (-1 : Int32)) C dX1_cock_26 (by decide) ?_
    replace h := Option.some.inj h; subst h
    exact y_iret C hQ ⟨Nat.zero_le _, Nat.zero_le _⟩ dX1_cock_27
  · replace h := g_if h hc
    refine y_iload_n C dX1_cock_12 2 rfl rfl ?_
    refine y_i2l C dX1_cock_13 ?_
    refine y_ldc2 (v := (2 : Int64)) C q1179 dX1_cock_14 ?_
    refine y_ldc2 (v := (9 : Int64)) C q1180 dX1_cock_17 ?_
    obtain ⟨x2, hc, h⟩ := g_bd h
    refine y_callS C (As := [.long (v2.toInt64), .long (2 : Int64), .long (9 : Int64)]) (rest := []) (lk_X1_146_l1 C hR (by decide)) (ct_C1_in hc) rfl rfl (Nat.le_of_ble_eq_true rfl) ⟨Nat.zero_le _, Nat.zero_le _⟩ dX1_cock_20 ?_
    refine y_if_ne (tgt := 28) C dX1_cock_23 rfl (fun hc => ?_) (fun hc => ?_)
    · replace h := g_if h hc
      refine y_iconst (v := (0 : Int32)) C dX1_cock_28 (by decide) ?_
      refine y_istore_n (vs1 := [(3, .int (0 : Int32)), (0, .ref (ad 0 0)), (1, .int v1), (2, .int v2)]) C rfl dX1_cock_29 rfl (g_lL hL rfl) rfl ?_
      refine y_sub (vs2 := [(0, .ref (ad 0 0)), (1, .int v1), (2, .int v2), (3, .int (0 : Int32))]) [1, 2, 3, 0] rfl ?_
      obtain ⟨e12, he12, h⟩ := g_bd h
      refine ml_C1_cock_30 C hR hL (σ := σ) _ _ _ he12 ?_
      refine y_aload_n C dX1_cock_129 0 rfl rfl ?_
      refine gf_C_X1_130_0 C nC_0_0 dX1_cock_130 ?_
      refine y_iload_n C dX1_cock_133 1 rfl rfl ?_
      obtain ⟨hg13, h⟩ := g_gd h
      refine aa_C_21 C hg13 dX1_cock_134 ?_
      refine y_iconst (v := (0 : Int32)) C dX1_cock_135 (by decide) ?_
      obtain ⟨hg, h⟩ := g_gd h
      refine al_C_22 C (ux_C_21 hg13) hg dX1_cock_136 ?_
      replace h := Option.some.inj h; subst h
      exact y_iret C hQ ⟨Nat.zero_le _, Nat.zero_le _⟩ dX1_cock_137
    · replace h := g_it h hc
      refine y_iconst (v := (-1 : Int32)) C dX1_cock_26 (by decide) ?_
      replace h := Option.some.inj h; subst h
      exact y_iret C hQ ⟨Nat.zero_le _, Nat.zero_le _⟩ dX1_cock_27
theorem ct_C1_cock {D : va_G} {dA : Nat → ClassId} {A : Nat → Prop} {s0 : State} {b0 : Nat} {l : Launch} {hid : Bool} {ad : Nat → Nat → Nat} {σ : g_S} {v1 : Int32} {v2 : Int32} {r : Int32} {σ1 : g_S} (h : mF_C1_cock σ v1 v2 = some (r, σ1)) : g_Met gCl D dA A s0 b0 l yX1_cock cX1_cock 6 (some .int) 2 (0, 0) (gC hid) ad σ [.ref (ad 0 0), .int v1, .int v2] (gC hid) ad σ1 (some (.int r)) :=
  g_Met.of pl_X1 (Nat.le_of_ble_eq_true rfl) (fun X C hQ hR _ _ hL _ es eb => mw_C1_cock C hR hL h hQ)
theorem mw_C1_law {X : g_F} (C : g_M gCl X cX1_law RX1 (some .int)) (hR : g_R X = g_rm 307 3 95) (hL : g_nL X = 9) {s1 : Nat} (hu_s1 : s1 < g_n (gC true) 26) (hlt : (g_l X).stackTraces = false) (hT : (g_c X).exceptionTable.toList = tableOf [((39 : Nat), (77 : Nat), (85 : Nat), (185 : Nat)), ((39 : Nat), (77 : Nat), (106 : Nat), (0 : Nat)), ((85 : Nat), (98 : Nat), (106 : Nat), (0 : Nat)), ((106 : Nat), (108 : Nat), (106 : Nat), (0 : Nat))]) (hmc : g_mc X = 3 ∧ g_ms X = 95) {ad : Nat → Nat → Nat} {σ : g_S} {a0 : Nat} (ha0 : ad 0 0 = a0) {o : (Int32 × g_S)} (h : mF_C1_law σ s1 = some o) (hQ : g_MQG gCl X (gC true) (fun v ad2 s2 => v = some (.int o.1) ∧ s2 = o.2 ∧ ad2 0 0 = a0) (fun _ _ _ _ => False) = g_Q X) : g_Y gCl X (gC true) ad σ (0, 0) 0 [(0, .ref (ad 0 0))] [] := by
  unfold mF_C1_law at h
  refine y_aload_n C dX1_law_0 0 rfl rfl ?_
  by_cases hc : (σ.2.2 0 0 19) = 0
  · replace h := g_it h hc
    refine gf_C_X1_30_0_n C nC_0_0 hc dX1_law_1 ?_
    refine y_astore_nN (vs1 := [(1, .null), (0, .ref (ad 0 0))]) C dX1_law_4 rfl (g_lL hL rfl) rfl ?_
    refine y_aload_n C dX1_law_5 1 rfl rfl ?_
    refine gf_C_X1_102_0 C nC_0_0 dX1_law_6 ?_
    obtain ⟨σ1, hσ1, h⟩ := g_lt h
    refine y_drop (σ1 := σ1) (by rw [hσ1]; exact dr_26) ?_
    obtain ⟨σ2, hσ2, h⟩ := g_lt h
    refine y_drop (σ1 := σ2) (by rw [hσ2]; exact dr_53) ?_
    obtain ⟨hp, h⟩ := g_gd h
    obtain ⟨σ3, hσ3, h⟩ := g_lt h
    refine y_cloneB (σ1 := σ3) C nC_12_0 rfl hp.2.2 27 s1 q518 q519 q520 q521 q522 q523 (g_rmM hR (Nat.le_of_ble_eq_true rfl)) (by decide) (by rw [hR]; exact ⟨Nat.le_of_ble_eq_true rfl, Nat.le_of_ble_eq_true rfl⟩) dX1_law_9 (by rw [hσ3]; exact fr_27 ⟨hp.1, hp.2.1⟩) (fun q => by rw [hσ3]; exact me_27) (fun q4 => ?_)
    have hq4 : (g_ua ad 27 s1 q4) 27 s1 = q4 := g_ua_s
    suffices key : g_Y gCl X (gC true) (g_ua ad 27 s1 q4) σ3 (1, 80) 12 [(1, .null), (0, .ref ((g_ua ad 27 s1 q4) 0 0))] [.ref ((g_ua ad 27 s1 q4) 27 s1)] by rw [hq4] at key; exact key
    obtain ⟨hp, h⟩ := g_gd h
    refine y_castB C hu_s1 (if_neg hp) q524 dX1_law_12 ?_
    refine y_astore_n (vs1 := [(2, .ref ((g_ua ad 27 s1 q4) 27 s1)), (1, .null), (0, .ref ((g_ua ad 27 s1 q4) 0 0))]) C rfl dX1_law_15 rfl (g_lL hL rfl) rfl ?_
    refine y_aload_n C dX1_law_16 2 rfl rfl ?_
    refine gf_C_X1_160_0 C nC_0_0 dX1_law_17 ?_
    obtain ⟨x5, hx5, h⟩ := g_lt h
    refine y_istore_n (vs1 := [(3, .int x5), (2, .ref ((g_ua ad 27 s1 q4) 27 s1)), (1, .null), (0, .ref ((g_ua ad 27 s1 q4) 0 0))]) C hx5 dX1_law_20 rfl (g_lL hL rfl) rfl ?_
    refine y_aload_n C dX1_law_21 3 rfl rfl ?_
    refine y_iconst (v := (0 : Int32)) C dX1_law_22 (by decide) ?_
    obtain ⟨σ6, hσ6, h⟩ := g_lt h
    refine pf_C_X1_160_0 C nC_0_0 hσ6 dX1_law_23 ?_
    refine y_aload_n C dX1_law_26 3 rfl rfl ?_
    refine y_aload_n C dX1_law_27 3 rfl rfl ?_
    refine gf_C_X1_84_0 C nC_0_0 dX1_law_28 ?_
    obtain ⟨x7, hc, h⟩ := g_bd h
    refine y_callV C (As := [.ref ((g_ua ad 27 s1 q4) 4 0)]) (rest := []) (k := 0) (hu := nC_0_0) (hc := (rfl : gCl[0]? = some (RX1, TX1, 31))) (hcell := obC_0) (lk_X1_405_X1_l306 C hR (by decide)) (ct_C1_seen nC_4_0 hc) rfl rfl (Nat.le_of_ble_eq_true rfl) (by rw [hR]; exact ⟨Nat.le_of_ble_eq_true rfl, Nat.le_of_ble_eq_true rfl⟩) dX1_law_31 ?_
    obtain ⟨x8, hc, h⟩ := g_bd h
    refine y_callS C (As := [.long x7]) (rest := []) (lk_X1_389_l1 C hR (by decide)) (ct_J12_bitCount hc) rfl rfl (Nat.le_of_ble_eq_true rfl) (by rw [hR]; exact ⟨Nat.le_of_ble_eq_true rfl, Nat.le_of_ble_eq_true rfl⟩) dX1_law_34 ?_
    refine y_istore (vs1 := [(4, .int x8), (3, .int x5), (2, .ref ((g_ua ad 27 s1 q4) 27 s1)), (1, .null), (0, .ref ((g_ua ad 27 s1 q4) 0 0))]) C rfl dX1_law_37 (g_lL hL rfl) rfl ?_
    refine y_aload_n C dX1_law_39 4 rfl rfl ?_
    refine y_iload_n C dX1_law_40 1 rfl rfl ?_
    refine y_if_ne (tgt := 48) C dX1_law_41 rfl (fun hc => ?_) (fun hc => ?_)
    · replace h := g_if h hc
      obtain ⟨σ9, hσ9, h⟩ := g_lt h
      refine y_new (σ1 := σ9) (fs := [.null, .int 0, .int 0, .int 0, .null, .int 0, .int 0, .null]) C 53 0 in_X9 tyX9 tyX9_ok q525 q526 q125 (rfl : gCl[7]? = _) (fun j hj => by rcases (show j = 0 ∨ j = 1 ∨ j = 2 ∨ j = 3 ∨ j = 4 ∨ j = 5 ∨ j = 6 ∨ j = 7 by omega) with rfl | rfl | rfl | rfl | rfl | rfl | rfl | rfl <;> rfl) (by rw [hR]; exact ⟨Nat.le_of_ble_eq_true rfl, Nat.le_of_ble_eq_true rfl⟩) dX1_law_48 (by rw [hσ9]; exact fr_53) (fun q => by rw [hσ9]; exact me_53) (fun q10 => ?_)
      have hq10 : (g_ua (g_ua ad 27 s1 q4) 53 0 q10) 53 0 = q10 := g_ua_s
      suffices key : g_Y gCl X (gC true) (g_ua (g_ua ad 27 s1 q4) 53 0 q10) σ9 (2, 88) 51 [(4, .int x8), (3, .int x5), (2, .ref ((g_ua (g_ua ad 27 s1 q4) 53 0 q10) 27 s1)), (1, .null), (0, .ref ((g_ua (g_ua ad 27 s1 q4) 53 0 q10) 0 0))] [.ref ((g_ua (g_ua ad 27 s1 q4) 53 0 q10) 53 0), .ref ((g_ua (g_ua ad 27 s1 q4) 53 0 q10) 0 0)] by rw [hq10] at key; exact key
      refine y_dup C dX1_law_51 rfl ?_
      refine y_aload_n C dX1_law_52 4 rfl rfl ?_
      refine y_aload_n C dX1_law_53 2 rfl rfl ?_
      refine y_iload_n C dX1_law_54 1 rfl rfl ?_
      obtain ⟨σ11, hc, h⟩ := g_bd h
      refine y_callIv C (As := [.ref ((g_ua (g_ua ad 27 s1 q4) 53 0 q10) 0 0), .ref ((g_ua (g_ua ad 27 s1 q4) 53 0 q10) 27 s1), .int x5]) (rest := [.ref ((g_ua (g_ua ad 27 s1 q4) 53 0 q10) 53 0), .ref ((g_ua (g_ua ad 27 s1 q4) 53 0 q10) 0 0)]) (lk_X1_239_X9_l2 C hR (by decide)) (ct_C9_init_k53_0_27 hu_s1 hc) rfl rfl (Nat.le_of_ble_eq_true rfl) (by rw [hR]; exact ⟨Nat.le_of_ble_eq_true rfl, Nat.le_of_ble_eq_true rfl⟩) dX1_law_55 ?_
      obtain ⟨hp, h⟩ := g_gd h
      rcases g_txE h with ⟨z13, hc, h⟩ | ⟨σ12, hc, h⟩
      · refine y_callVX C (As := []) (rest := [.ref ((g_ua (g_ua ad 27 s1 q4) 53 0 q10) 0 0)]) (k := 53) (hu := nC_53_0) (hc := (rfl : gCl[7]? = some (RX9, TX9, 8))) (hcell := (obC_53 hp)) (lk_X1_242_X9x_l301 C hR (by decide)) (cx_C9_read_k53 hlt hc) rfl rfl (Nat.le_of_ble_eq_true rfl) (by rw [hR]; exact ⟨Nat.le_of_ble_eq_true rfl, Nat.le_of_ble_eq_true rfl⟩) dX1_law_58 (fun q => ?_)
        refine y_catchX C hT rfl (by decide) (by decide) q346 q405 ?_
        show g_Y gCl X (gC true) (g_ua (g_ua (g_ua ad 27 s1 q4) 53 0 q10) 52 0 q) z13 (3, 95) 85 [(4, .int x8), (3, .int x5), (2, .ref ((g_ua (g_ua (g_ua ad 27 s1 q4) 53 0 q10) 52 0 q) 27 s1)), (1, .null), (0, .ref ((g_ua (g_ua (g_ua ad 27 s1 q4) 53 0 q10) 52 0 q) 0 0))] [.ref ((g_ua (g_ua (g_ua ad 27 s1 q4) 53 0 q10) 52 0 q) 52 0)]
        refine y_astore (vs1 := [(6, .ref ((g_ua (g_ua (g_ua ad 27 s1 q4) 53 0 q10) 52 0 q) 52 0)), (4, .int x8), (3, .int x5), (2, .ref ((g_ua (g_ua (g_ua ad 27 s1 q4) 53 0 q10) 52 0 q) 27 s1)), (1, .null), (0, .ref ((g_ua (g_ua (g_ua ad 27 s1 q4) 53 0 q10) 52 0 q) 0 0))]) C rfl dX1_law_85 (g_lL hL rfl) rfl ?_
        refine y_sipush (v := (-10000 : Int32)) C dX1_law_87 (by decide) ?_
        refine y_aload C dX1_law_90 0 rfl ?_
        obtain ⟨hp, h⟩ := g_gd h
        refine gf_C_X1_187_52 C nC_52_0 hp dX1_law_92 ?_
        refine y_isub C dX1_law_95 ?_
        obtain ⟨x14, hx14, h⟩ := g_lt h
        refine y_istore (vs1 := [(7, .int x14), (6, .ref ((g_ua (g_ua (g_ua ad 27 s1 q4) 53 0 q10) 52 0 q) 52 0)), (4, .int x8), (3, .int x5), (2, .ref ((g_ua (g_ua (g_ua ad 27 s1 q4) 53 0 q10) 52 0 q) 27 s1)), (1, .null), (0, .ref ((g_ua (g_ua (g_ua ad 27 s1 q4) 53 0 q10) 52 0 q) 0 0))]) C hx14 dX1_law_96 (g_lL hL rfl) rfl ?_
        refine y_aload_n C dX1_law_98 6 rfl rfl ?_
        refine y_aload_nN C dX1_law_99 5 rfl rfl ?_
        obtain ⟨σ15, hσ15, h⟩ := g_lt h
        refine pf_C_X1_30_0_n C nC_0_0 hσ15 dX1_law_100 ?_
        refine y_iload C dX1_law_103 0 rfl ?_
        replace h := Option.some.inj h; subst h
        exact y_iretG C hQ ⟨rfl, rfl, ha0⟩ (by rw [hmc.1, hmc.2]; exact ⟨Nat.le_of_ble_eq_true rfl, Nat.le_of_ble_eq_true rfl⟩) dX1_law_105
      refine y_callV C (As := []) (rest := [.ref ((g_ua (g_ua ad 27 s1 q4) 53 0 q10) 0 0)]) (k := 53) (hu := nC_53_0) (hc := (rfl : gCl[7]? = some (RX9, TX9, 8))) (hcell := (obC_53 hp)) (lk_X1_242_X9_l301 C hR (by decide)) (ct_C9_read_k53 hlt hc) rfl rfl (Nat.le_of_ble_eq_true rfl) (by rw [hR]; exact ⟨Nat.le_of_ble_eq_true rfl, Nat.le_of_ble_eq_true rfl⟩) dX1_law_58 ?_
      obtain ⟨hg_mv, h⟩ := g_gd h
      obtain ⟨σ16, hσ16, h⟩ := g_lt h
      refine y_mv53 (σ1 := σ16) C hσ16 hg_mv ?_
      have hmv : (g_ua (g_ua (g_ua ad 27 s1 q4) 53 0 q10) 26 s1 ((g_ua (g_ua ad 27 s1 q4) 53 0 q10) 53 0)) 26 s1 = (g_ua (g_ua ad 27 s1 q4) 53 0 q10) 53 0 := g_ua_s
      suffices key : g_Y gCl X (gC true) (g_ua (g_ua (g_ua ad 27 s1 q4) 53 0 q10) 26 s1 ((g_ua (g_ua ad 27 s1 q4) 53 0 q10) 53 0)) σ16 (2, 88) 61 [(4, .int x8), (3, .int x5), (2, .ref ((g_ua (g_ua (g_ua ad 27 s1 q4) 53 0 q10) 26 s1 ((g_ua (g_ua ad 27 s1 q4) 53 0 q10) 53 0)) 27 s1)), (1, .null), (0, .ref ((g_ua (g_ua (g_ua ad 27 s1 q4) 53 0 q10) 26 s1 ((g_ua (g_ua ad 27 s1 q4) 53 0 q10) 53 0)) 0 0))] [.ref ((g_ua (g_ua (g_ua ad 27 s1 q4) 53 0 q10) 26 s1 ((g_ua (g_ua ad 27 s1 q4) 53 0 q10) 53 0)) 26 s1), .ref ((g_ua (g_ua (g_ua ad 27 s1 q4) 53 0 q10) 26 s1 ((g_ua (g_ua ad 27 s1 q4) 53 0 q10) 53 0)) 0 0)] by rw [hmv] at key; exact key
      obtain ⟨σ17, hσ17, h⟩ := g_lt h
      refine pf_C_X1_30_0_r C nC_0_0 hσ17 dX1_law_61 ?_
      refine y_aload_n C dX1_law_64 4 rfl rfl ?_
      refine y_aload_n C dX1_law_65 4 rfl rfl ?_
      refine gf_C_X1_84_0 C nC_0_0 dX1_law_66 ?_
      obtain ⟨x18, hc, h⟩ := g_bd h
      refine y_callV C (As := [.ref ((g_ua (g_ua (g_ua ad 27 s1 q4) 53 0 q10) 26 s1 ((g_ua (g_ua ad 27 s1 q4) 53 0 q10) 53 0)) 4 0)]) (rest := []) (k := 0) (hu := nC_0_0) (hc := (rfl : gCl[0]? = some (RX1, TX1, 31))) (hcell := obC_0) (lk_X1_405_X1_l306 C hR (by decide)) (ct_C1_seen nC_4_0 hc) rfl rfl (Nat.le_of_ble_eq_true rfl) (by rw [hR]; exact ⟨Nat.le_of_ble_eq_true rfl, Nat.le_of_ble_eq_true rfl⟩) dX1_law_69 ?_
      obtain ⟨x19, hc, h⟩ := g_bd h
      refine y_callS C (As := [.long x18]) (rest := []) (lk_X1_389_l1 C hR (by decide)) (ct_J12_bitCount hc) rfl rfl (Nat.le_of_ble_eq_true rfl) (by rw [hR]; exact ⟨Nat.le_of_ble_eq_true rfl, Nat.le_of_ble_eq_true rfl⟩) dX1_law_72 ?_
      refine y_istore (vs1 := [(5, .int x19), (4, .int x8), (3, .int x5), (2, .ref ((g_ua (g_ua (g_ua ad 27 s1 q4) 53 0 q10) 26 s1 ((g_ua (g_ua ad 27 s1 q4) 53 0 q10) 53 0)) 27 s1)), (1, .null), (0, .ref ((g_ua (g_ua (g_ua ad 27 s1 q4) 53 0 q10) 26 s1 ((g_ua (g_ua ad 27 s1 q4) 53 0 q10) 53 0)) 0 0))]) C rfl dX1_law_75 (g_lL hL rfl) rfl ?_
      refine y_aload_n C dX1_law_77 5 rfl rfl ?_
      refine y_aload_nN C dX1_law_78 4 rfl rfl ?_
      obtain ⟨σ20, hσ20, h⟩ := g_lt h
      refine pf_C_X1_30_0_n C nC_0_0 hσ20 dX1_law_79 ?_
      refine y_goto (tgt := 116) C dX1_law_82 rfl ?_
      refine y_aload_n C dX1_law_116 5 rfl rfl ?_
      refine y_iconst (v := (0 : Int32)) C dX1_law_117 (by decide) ?_
      obtain ⟨σ21, hσ21, h⟩ := g_lt h
      refine pf_C_X1_139_0 C nC_0_0 hσ21 dX1_law_118 ?_
      refine y_aload_n C dX1_law_121 5 rfl rfl ?_
      refine y_iload C dX1_law_122 0 rfl ?_
      refine y_i2l C dX1_law_124 ?_
      obtain ⟨σ22, hc, h⟩ := g_bd h
      refine y_callVv C (As := [.long (x19.toInt64)]) (rest := []) (k := 0) (hu := nC_0_0) (hc := (rfl : gCl[0]? = some (RX1, TX1, 31))) (hcell := obC_0) (lk_X1_330_X1_l1 C hR (by decide)) (ct_C1_tell_2 hc) rfl rfl (Nat.le_of_ble_eq_true rfl) (by rw [hR]; exact ⟨Nat.le_of_ble_eq_true rfl, Nat.le_of_ble_eq_true rfl⟩) dX1_law_125 ?_
      refine y_aload_n C dX1_law_128 5 rfl rfl ?_
      refine y_iload C dX1_law_129 1 rfl ?_
      refine y_i2l C dX1_law_131 ?_
      obtain ⟨σ23, hc, h⟩ := g_bd h
      refine y_callVv C (As := [.long (x8.toInt64)]) (rest := []) (k := 0) (hu := nC_0_0) (hc := (rfl : gCl[0]? = some (RX1, TX1, 31))) (hcell := obC_0) (lk_X1_330_X1_l1 C hR (by decide)) (ct_C1_tell_2 hc) rfl rfl (Nat.le_of_ble_eq_true rfl) (by rw [hR]; exact ⟨Nat.le_of_ble_eq_true rfl, Nat.le_of_ble_eq_true rfl⟩) dX1_law_132 ?_
      refine y_iload C dX1_law_135 0 rfl ?_
      refine y_iload C dX1_law_137 1 rfl ?_
      refine y_isub C dX1_law_139 ?_
      replace h := Option.some.inj h; subst h
      exact y_iretG C hQ ⟨rfl, rfl, ha0⟩ (by rw [hmc.1, hmc.2]; exact ⟨Nat.le_of_ble_eq_true rfl, Nat.le_of_ble_eq_true rfl⟩) dX1_law_140
    · replace h := g_it h hc
      refine y_null C dX1_law_44 ?_
      refine y_goto (tgt := 61) C dX1_law_45 rfl ?_
      obtain ⟨σ24, hσ24, h⟩ := g_lt h
      refine pf_C_X1_30_0_n C nC_0_0 hσ24 dX1_law_61 ?_
      refine y_aload_n C dX1_law_64 4 rfl rfl ?_
      refine y_aload_n C dX1_law_65 4 rfl rfl ?_
      refine gf_C_X1_84_0 C nC_0_0 dX1_law_66 ?_
      obtain ⟨x25, hc, h⟩ := g_bd h
      refine y_callV C (As := [.ref ((g_ua ad 27 s1 q4) 4 0)]) (rest := []) (k := 0) (hu := nC_0_0) (hc := (rfl : gCl[0]? = some (RX1, TX1, 31))) (hcell := obC_0) (lk_X1_405_X1_l306 C hR (by decide)) (ct_C1_seen nC_4_0 hc) rfl rfl (Nat.le_of_ble_eq_true rfl) (by rw [hR]; exact ⟨Nat.le_of_ble_eq_true rfl, Nat.le_of_ble_eq_true rfl⟩) dX1_law_69 ?_
      obtain ⟨x26, hc, h⟩ := g_bd h
      refine y_callS C (As := [.long x25]) (rest := []) (lk_X1_389_l1 C hR (by decide)) (ct_J12_bitCount hc) rfl rfl (Nat.le_of_ble_eq_true rfl) (by rw [hR]; exact ⟨Nat.le_of_ble_eq_true rfl, Nat.le_of_ble_eq_true rfl⟩) dX1_law_72 ?_
      refine y_istore (vs1 := [(5, .int x26), (4, .int x8), (3, .int x5), (2, .ref ((g_ua ad 27 s1 q4) 27 s1)), (1, .null), (0, .ref ((g_ua ad 27 s1 q4) 0 0))]) C rfl dX1_law_75 (g_lL hL rfl) rfl ?_
      refine y_aload_n C dX1_law_77 5 rfl rfl ?_
      refine y_aload_nN C dX1_law_78 4 rfl rfl ?_
      obtain ⟨σ27, hσ27, h⟩ := g_lt h
      refine pf_C_X1_30_0_n C nC_0_0 hσ27 dX1_law_79 ?_
      refine y_goto (tgt := 116) C dX1_law_82 rfl ?_
      refine y_aload_n C dX1_law_116 5 rfl rfl ?_
      refine y_iconst (v := (0 : Int32)) C dX1_law_117 (by decide) ?_
      obtain ⟨σ28, hσ28, h⟩ := g_lt h
      refine pf_C_X1_139_0 C nC_0_0 hσ28 dX1_law_118 ?_
      refine y_aload_n C dX1_law_121 5 rfl rfl ?_
      refine y_iload C dX1_law_122 0 rfl ?_
      refine y_i2l C dX1_law_124 ?_
      obtain ⟨σ29, hc, h⟩ := g_bd h
      refine y_callVv C (As := [.long (x26.toInt64)]) (rest := []) (k := 0) (hu := nC_0_0) (hc := (rfl : gCl[0]? = some (RX1, TX1, 31))) (hcell := obC_0) (lk_X1_330_X1_l1 C hR (by decide)) (ct_C1_tell_2 hc) rfl rfl (Nat.le_of_ble_eq_true rfl) (by rw [hR]; exact ⟨Nat.le_of_ble_eq_true rfl, Nat.le_of_ble_eq_true rfl⟩) dX1_law_125 ?_
      refine y_aload_n C dX1_law_128 5 rfl rfl ?_
      refine y_iload C dX1_law_129 1 rfl ?_
      refine y_i2l C dX1_law_131 ?_
      obtain ⟨σ30, hc, h⟩ := g_bd h
      refine y_callVv C (As := [.long (x8.toInt64)]) (rest := []) (k := 0) (hu := nC_0_0) (hc := (rfl : gCl[0]? = some (RX1, TX1, 31))) (hcell := obC_0) (lk_X1_330_X1_l1 C hR (by decide)) (ct_C1_tell_2 hc) rfl rfl (Nat.le_of_ble_eq_true rfl) (by rw [hR]; exact ⟨Nat.le_of_ble_eq_true rfl, Nat.le_of_ble_eq_true rfl⟩) dX1_law_132 ?_
      refine y_iload C dX1_law_135 0 rfl ?_
      refine y_iload C dX1_law_137 1 rfl ?_
      refine y_isub C dX1_law_139 ?_
      replace h := Option.some.inj h; subst h
      exact y_iretG C hQ ⟨rfl, rfl, ha0⟩ (by rw [hmc.1, hmc.2]; exact ⟨Nat.le_of_ble_eq_true rfl, Nat.le_of_ble_eq_true rfl⟩) dX1_law_140
  · replace h := g_if h hc
    refine gf_C_X1_30_0_r C nC_0_0 hc dX1_law_1 ?_
    obtain ⟨hu31, h⟩ := g_gd h
    refine y_astore_n (vs1 := [(1, .ref (ad 26 ((σ.2.2 0 0 19) - 1))), (0, .ref (ad 0 0))]) C rfl dX1_law_4 rfl (g_lL hL rfl) rfl ?_
    refine y_aload_n C dX1_law_5 1 rfl rfl ?_
    refine gf_C_X1_102_0 C nC_0_0 dX1_law_6 ?_
    obtain ⟨σ32, hσ32, h⟩ := g_lt h
    refine y_drop (σ1 := σ32) (by rw [hσ32]; exact dr_26) ?_
    obtain ⟨σ33, hσ33, h⟩ := g_lt h
    refine y_drop (σ1 := σ33) (by rw [hσ33]; exact dr_53) ?_
    obtain ⟨hp, h⟩ := g_gd h
    obtain ⟨σ34, hσ34, h⟩ := g_lt h
    refine y_cloneB (σ1 := σ34) C nC_12_0 rfl hp.2.2 27 s1 q518 q519 q520 q521 q522 q523 (g_rmM hR (Nat.le_of_ble_eq_true rfl)) (by decide) (by rw [hR]; exact ⟨Nat.le_of_ble_eq_true rfl, Nat.le_of_ble_eq_true rfl⟩) dX1_law_9 (by rw [hσ34]; exact fr_27 ⟨hp.1, hp.2.1⟩) (fun q => by rw [hσ34]; exact me_27) (fun q35 => ?_)
    have hq35 : (g_ua ad 27 s1 q35) 27 s1 = q35 := g_ua_s
    suffices key : g_Y gCl X (gC true) (g_ua ad 27 s1 q35) σ34 (1, 80) 12 [(1, .ref ((g_ua ad 27 s1 q35) 26 ((σ.2.2 0 0 19) - 1))), (0, .ref ((g_ua ad 27 s1 q35) 0 0))] [.ref ((g_ua ad 27 s1 q35) 27 s1)] by rw [hq35] at key; exact key
    obtain ⟨hp, h⟩ := g_gd h
    refine y_castB C hu_s1 (if_neg hp) q524 dX1_law_12 ?_
    refine y_astore_n (vs1 := [(2, .ref ((g_ua ad 27 s1 q35) 27 s1)), (1, .ref ((g_ua ad 27 s1 q35) 26 ((σ.2.2 0 0 19) - 1))), (0, .ref ((g_ua ad 27 s1 q35) 0 0))]) C rfl dX1_law_15 rfl (g_lL hL rfl) rfl ?_
    refine y_aload_n C dX1_law_16 2 rfl rfl ?_
    refine gf_C_X1_160_0 C nC_0_0 dX1_law_17 ?_
    obtain ⟨x36, hx36, h⟩ := g_lt h
    refine y_istore_n (vs1 := [(3, .int x36), (2, .ref ((g_ua ad 27 s1 q35) 27 s1)), (1, .ref ((g_ua ad 27 s1 q35) 26 ((σ.2.2 0 0 19) - 1))), (0, .ref ((g_ua ad 27 s1 q35) 0 0))]) C hx36 dX1_law_20 rfl (g_lL hL rfl) rfl ?_
    refine y_aload_n C dX1_law_21 3 rfl rfl ?_
    refine y_iconst (v := (0 : Int32)) C dX1_law_22 (by decide) ?_
    obtain ⟨σ37, hσ37, h⟩ := g_lt h
    refine pf_C_X1_160_0 C nC_0_0 hσ37 dX1_law_23 ?_
    refine y_aload_n C dX1_law_26 3 rfl rfl ?_
    refine y_aload_n C dX1_law_27 3 rfl rfl ?_
    refine gf_C_X1_84_0 C nC_0_0 dX1_law_28 ?_
    obtain ⟨x38, hc, h⟩ := g_bd h
    refine y_callV C (As := [.ref ((g_ua ad 27 s1 q35) 4 0)]) (rest := []) (k := 0) (hu := nC_0_0) (hc := (rfl : gCl[0]? = some (RX1, TX1, 31))) (hcell := obC_0) (lk_X1_405_X1_l306 C hR (by decide)) (ct_C1_seen nC_4_0 hc) rfl rfl (Nat.le_of_ble_eq_true rfl) (by rw [hR]; exact ⟨Nat.le_of_ble_eq_true rfl, Nat.le_of_ble_eq_true rfl⟩) dX1_law_31 ?_
    obtain ⟨x39, hc, h⟩ := g_bd h
    refine y_callS C (As := [.long x38]) (rest := []) (lk_X1_389_l1 C hR (by decide)) (ct_J12_bitCount hc) rfl rfl (Nat.le_of_ble_eq_true rfl) (by rw [hR]; exact ⟨Nat.le_of_ble_eq_true rfl, Nat.le_of_ble_eq_true rfl⟩) dX1_law_34 ?_
    refine y_istore (vs1 := [(4, .int x39), (3, .int x36), (2, .ref ((g_ua ad 27 s1 q35) 27 s1)), (1, .ref ((g_ua ad 27 s1 q35) 26 ((σ.2.2 0 0 19) - 1))), (0, .ref ((g_ua ad 27 s1 q35) 0 0))]) C rfl dX1_law_37 (g_lL hL rfl) rfl ?_
    refine y_aload_n C dX1_law_39 4 rfl rfl ?_
    refine y_iload_n C dX1_law_40 1 rfl rfl ?_
    refine y_if_ne (tgt := 48) C dX1_law_41 rfl (fun hc => ?_) (fun hc => ?_)
    · replace h := g_if h hc
      obtain ⟨σ40, hσ40, h⟩ := g_lt h
      refine y_new (σ1 := σ40) (fs := [.null, .int 0, .int 0, .int 0, .null, .int 0, .int 0, .null]) C 53 0 in_X9 tyX9 tyX9_ok q525 q526 q125 (rfl : gCl[7]? = _) (fun j hj => by rcases (show j = 0 ∨ j = 1 ∨ j = 2 ∨ j = 3 ∨ j = 4 ∨ j = 5 ∨ j = 6 ∨ j = 7 by omega) with rfl | rfl | rfl | rfl | rfl | rfl | rfl | rfl <;> rfl) (by rw [hR]; exact ⟨Nat.le_of_ble_eq_true rfl, Nat.le_of_ble_eq_true rfl⟩) dX1_law_48 (by rw [hσ40]; exact fr_53) (fun q => by rw [hσ40]; exact me_53) (fun q41 => ?_)
      have hq41 : (g_ua (g_ua ad 27 s1 q35) 53 0 q41) 53 0 = q41 := g_ua_s
      suffices key : g_Y gCl X (gC true) (g_ua (g_ua ad 27 s1 q35) 53 0 q41) σ40 (2, 88) 51 [(4, .int x39), (3, .int x36), (2, .ref ((g_ua (g_ua ad 27 s1 q35) 53 0 q41) 27 s1)), (1, .ref ((g_ua (g_ua ad 27 s1 q35) 53 0 q41) 26 ((σ.2.2 0 0 19) - 1))), (0, .ref ((g_ua (g_ua ad 27 s1 q35) 53 0 q41) 0 0))] [.ref ((g_ua (g_ua ad 27 s1 q35) 53 0 q41) 53 0), .ref ((g_ua (g_ua ad 27 s1 q35) 53 0 q41) 0 0)] by rw [hq41] at key; exact key
      refine y_dup C dX1_law_51 rfl ?_
      refine y_aload_n C dX1_law_52 4 rfl rfl ?_
      refine y_aload_n C dX1_law_53 2 rfl rfl ?_
      refine y_iload_n C dX1_law_54 1 rfl rfl ?_
      obtain ⟨σ42, hc, h⟩ := g_bd h
      refine y_callIv C (As := [.ref ((g_ua (g_ua ad 27 s1 q35) 53 0 q41) 0 0), .ref ((g_ua (g_ua ad 27 s1 q35) 53 0 q41) 27 s1), .int x36]) (rest := [.ref ((g_ua (g_ua ad 27 s1 q35) 53 0 q41) 53 0), .ref ((g_ua (g_ua ad 27 s1 q35) 53 0 q41) 0 0)]) (lk_X1_239_X9_l2 C hR (by decide)) (ct_C9_init_k53_0_27 hu_s1 hc) rfl rfl (Nat.le_of_ble_eq_true rfl) (by rw [hR]; exact ⟨Nat.le_of_ble_eq_true rfl, Nat.le_of_ble_eq_true rfl⟩) dX1_law_55 ?_
      obtain ⟨hp, h⟩ := g_gd h
      rcases g_txE h with ⟨z44, hc, h⟩ | ⟨σ43, hc, h⟩
      · refine y_callVX C (As := []) (rest := [.ref ((g_ua (g_ua ad 27 s1 q35) 53 0 q41) 0 0)]) (k := 53) (hu := nC_53_0) (hc := (rfl : gCl[7]? = some (RX9, TX9, 8))) (hcell := (obC_53 hp)) (lk_X1_242_X9x_l301 C hR (by decide)) (cx_C9_read_k53 hlt hc) rfl rfl (Nat.le_of_ble_eq_true rfl) (by rw [hR]; exact ⟨Nat.le_of_ble_eq_true rfl, Nat.le_of_ble_eq_true rfl⟩) dX1_law_58 (fun q => ?_)
        refine y_catchX C hT rfl (by decide) (by decide) q346 q405 ?_
        show g_Y gCl X (gC true) (g_ua (g_ua (g_ua ad 27 s1 q35) 53 0 q41) 52 0 q) z44 (3, 95) 85 [(4, .int x39), (3, .int x36), (2, .ref ((g_ua (g_ua (g_ua ad 27 s1 q35) 53 0 q41) 52 0 q) 27 s1)), (1, .ref ((g_ua (g_ua (g_ua ad 27 s1 q35) 53 0 q41) 52 0 q) 26 ((σ.2.2 0 0 19) - 1))), (0, .ref ((g_ua (g_ua (g_ua ad 27 s1 q35) 53 0 q41) 52 0 q) 0 0))] [.ref ((g_ua (g_ua (g_ua ad 27 s1 q35) 53 0 q41) 52 0 q) 52 0)]
        refine y_astore (vs1 := [(6, .ref ((g_ua (g_ua (g_ua ad 27 s1 q35) 53 0 q41) 52 0 q) 52 0)), (4, .int x39), (3, .int x36), (2, .ref ((g_ua (g_ua (g_ua ad 27 s1 q35) 53 0 q41) 52 0 q) 27 s1)), (1, .ref ((g_ua (g_ua (g_ua ad 27 s1 q35) 53 0 q41) 52 0 q) 26 ((σ.2.2 0 0 19) - 1))), (0, .ref ((g_ua (g_ua (g_ua ad 27 s1 q35) 53 0 q41) 52 0 q) 0 0))]) C rfl dX1_law_85 (g_lL hL rfl) rfl ?_
        refine y_sipush (v := (-10000 : Int32)) C dX1_law_87 (by decide) ?_
        refine y_aload C dX1_law_90 0 rfl ?_
        obtain ⟨hp, h⟩ := g_gd h
        refine gf_C_X1_187_52 C nC_52_0 hp dX1_law_92 ?_
        refine y_isub C dX1_law_95 ?_
        obtain ⟨x45, hx45, h⟩ := g_lt h
        refine y_istore (vs1 := [(7, .int x45), (6, .ref ((g_ua (g_ua (g_ua ad 27 s1 q35) 53 0 q41) 52 0 q) 52 0)), (4, .int x39), (3, .int x36), (2, .ref ((g_ua (g_ua (g_ua ad 27 s1 q35) 53 0 q41) 52 0 q) 27 s1)), (1, .ref ((g_ua (g_ua (g_ua ad 27 s1 q35) 53 0 q41) 52 0 q) 26 ((σ.2.2 0 0 19) - 1))), (0, .ref ((g_ua (g_ua (g_ua ad 27 s1 q35) 53 0 q41) 52 0 q) 0 0))]) C hx45 dX1_law_96 (g_lL hL rfl) rfl ?_
        refine y_aload_n C dX1_law_98 6 rfl rfl ?_
        refine y_aload_n C dX1_law_99 5 rfl rfl ?_
        obtain ⟨σ46, hσ46, h⟩ := g_lt h
        refine pf_C_X1_30_0_r C nC_0_0 hσ46 dX1_law_100 ?_
        refine y_iload C dX1_law_103 0 rfl ?_
        replace h := Option.some.inj h; subst h
        exact y_iretG C hQ ⟨rfl, rfl, ha0⟩ (by rw [hmc.1, hmc.2]; exact ⟨Nat.le_of_ble_eq_true rfl, Nat.le_of_ble_eq_true rfl⟩) dX1_law_105
      refine y_callV C (As := []) (rest := [.ref ((g_ua (g_ua ad 27 s1 q35) 53 0 q41) 0 0)]) (k := 53) (hu := nC_53_0) (hc := (rfl : gCl[7]? = some (RX9, TX9, 8))) (hcell := (obC_53 hp)) (lk_X1_242_X9_l301 C hR (by decide)) (ct_C9_read_k53 hlt hc) rfl rfl (Nat.le_of_ble_eq_true rfl) (by rw [hR]; exact ⟨Nat.le_of_ble_eq_true rfl, Nat.le_of_ble_eq_true rfl⟩) dX1_law_58 ?_
      obtain ⟨hg_mv, h⟩ := g_gd h
      obtain ⟨hn0, h⟩ := g_gd h
      obtain ⟨σ47, hσ47, h⟩ := g_lt h
      refine y_mv53 (σ1 := σ47) C hσ47 hg_mv ?_
      have hmv : (g_ua (g_ua (g_ua ad 27 s1 q35) 53 0 q41) 26 s1 ((g_ua (g_ua ad 27 s1 q35) 53 0 q41) 53 0)) 26 s1 = (g_ua (g_ua ad 27 s1 q35) 53 0 q41) 53 0 := g_ua_s
      have hx0 : (g_ua (g_ua (g_ua ad 27 s1 q35) 53 0 q41) 26 s1 ((g_ua (g_ua ad 27 s1 q35) 53 0 q41) 53 0)) 26 ((σ.2.2 0 0 19) - 1) = (g_ua (g_ua ad 27 s1 q35) 53 0 q41) 26 ((σ.2.2 0 0 19) - 1) := g_ua_n (fun z => hn0 z.2)
      suffices key : g_Y gCl X (gC true) (g_ua (g_ua (g_ua ad 27 s1 q35) 53 0 q41) 26 s1 ((g_ua (g_ua ad 27 s1 q35) 53 0 q41) 53 0)) σ47 (2, 88) 61 [(4, .int x39), (3, .int x36), (2, .ref ((g_ua (g_ua (g_ua ad 27 s1 q35) 53 0 q41) 26 s1 ((g_ua (g_ua ad 27 s1 q35) 53 0 q41) 53 0)) 27 s1)), (1, .ref ((g_ua (g_ua (g_ua ad 27 s1 q35) 53 0 q41) 26 s1 ((g_ua (g_ua ad 27 s1 q35) 53 0 q41) 53 0)) 26 ((σ.2.2 0 0 19) - 1))), (0, .ref ((g_ua (g_ua (g_ua ad 27 s1 q35) 53 0 q41) 26 s1 ((g_ua (g_ua ad 27 s1 q35) 53 0 q41) 53 0)) 0 0))] [.ref ((g_ua (g_ua (g_ua ad 27 s1 q35) 53 0 q41) 26 s1 ((g_ua (g_ua ad 27 s1 q35) 53 0 q41) 53 0)) 26 s1), .ref ((g_ua (g_ua (g_ua ad 27 s1 q35) 53 0 q41) 26 s1 ((g_ua (g_ua ad 27 s1 q35) 53 0 q41) 53 0)) 0 0)] by rw [hmv, hx0] at key; exact key
      obtain ⟨σ48, hσ48, h⟩ := g_lt h
      refine pf_C_X1_30_0_r C nC_0_0 hσ48 dX1_law_61 ?_
      refine y_aload_n C dX1_law_64 4 rfl rfl ?_
      refine y_aload_n C dX1_law_65 4 rfl rfl ?_
      refine gf_C_X1_84_0 C nC_0_0 dX1_law_66 ?_
      obtain ⟨x49, hc, h⟩ := g_bd h
      refine y_callV C (As := [.ref ((g_ua (g_ua (g_ua ad 27 s1 q35) 53 0 q41) 26 s1 ((g_ua (g_ua ad 27 s1 q35) 53 0 q41) 53 0)) 4 0)]) (rest := []) (k := 0) (hu := nC_0_0) (hc := (rfl : gCl[0]? = some (RX1, TX1, 31))) (hcell := obC_0) (lk_X1_405_X1_l306 C hR (by decide)) (ct_C1_seen nC_4_0 hc) rfl rfl (Nat.le_of_ble_eq_true rfl) (by rw [hR]; exact ⟨Nat.le_of_ble_eq_true rfl, Nat.le_of_ble_eq_true rfl⟩) dX1_law_69 ?_
      obtain ⟨x50, hc, h⟩ := g_bd h
      refine y_callS C (As := [.long x49]) (rest := []) (lk_X1_389_l1 C hR (by decide)) (ct_J12_bitCount hc) rfl rfl (Nat.le_of_ble_eq_true rfl) (by rw [hR]; exact ⟨Nat.le_of_ble_eq_true rfl, Nat.le_of_ble_eq_true rfl⟩) dX1_law_72 ?_
      refine y_istore (vs1 := [(5, .int x50), (4, .int x39), (3, .int x36), (2, .ref ((g_ua (g_ua (g_ua ad 27 s1 q35) 53 0 q41) 26 s1 ((g_ua (g_ua ad 27 s1 q35) 53 0 q41) 53 0)) 27 s1)), (1, .ref ((g_ua (g_ua (g_ua ad 27 s1 q35) 53 0 q41) 26 s1 ((g_ua (g_ua ad 27 s1 q35) 53 0 q41) 53 0)) 26 ((σ.2.2 0 0 19) - 1))), (0, .ref ((g_ua (g_ua (g_ua ad 27 s1 q35) 53 0 q41) 26 s1 ((g_ua (g_ua ad 27 s1 q35) 53 0 q41) 53 0)) 0 0))]) C rfl dX1_law_75 (g_lL hL rfl) rfl ?_
      refine y_aload_n C dX1_law_77 5 rfl rfl ?_
      refine y_aload_n C dX1_law_78 4 rfl rfl ?_
      obtain ⟨σ51, hσ51, h⟩ := g_lt h
      refine pf_C_X1_30_0_r C nC_0_0 hσ51 dX1_law_79 ?_
      refine y_goto (tgt := 116) C dX1_law_82 rfl ?_
      refine y_aload_n C dX1_law_116 5 rfl rfl ?_
      refine y_iconst (v := (0 : Int32)) C dX1_law_117 (by decide) ?_
      obtain ⟨σ52, hσ52, h⟩ := g_lt h
      refine pf_C_X1_139_0 C nC_0_0 hσ52 dX1_law_118 ?_
      refine y_aload_n C dX1_law_121 5 rfl rfl ?_
      refine y_iload C dX1_law_122 0 rfl ?_
      refine y_i2l C dX1_law_124 ?_
      obtain ⟨σ53, hc, h⟩ := g_bd h
      refine y_callVv C (As := [.long (x50.toInt64)]) (rest := []) (k := 0) (hu := nC_0_0) (hc := (rfl : gCl[0]? = some (RX1, TX1, 31))) (hcell := obC_0) (lk_X1_330_X1_l1 C hR (by decide)) (ct_C1_tell_2 hc) rfl rfl (Nat.le_of_ble_eq_true rfl) (by rw [hR]; exact ⟨Nat.le_of_ble_eq_true rfl, Nat.le_of_ble_eq_true rfl⟩) dX1_law_125 ?_
      refine y_aload_n C dX1_law_128 5 rfl rfl ?_
      refine y_iload C dX1_law_129 1 rfl ?_
      refine y_i2l C dX1_law_131 ?_
      obtain ⟨σ54, hc, h⟩ := g_bd h
      refine y_callVv C (As := [.long (x39.toInt64)]) (rest := []) (k := 0) (hu := nC_0_0) (hc := (rfl : gCl[0]? = some (RX1, TX1, 31))) (hcell := obC_0) (lk_X1_330_X1_l1 C hR (by decide)) (ct_C1_tell_2 hc) rfl rfl (Nat.le_of_ble_eq_true rfl) (by rw [hR]; exact ⟨Nat.le_of_ble_eq_true rfl, Nat.le_of_ble_eq_true rfl⟩) dX1_law_132 ?_
      refine y_iload C dX1_law_135 0 rfl ?_
      refine y_iload C dX1_law_137 1 rfl ?_
      refine y_isub C dX1_law_139 ?_
      replace h := Option.some.inj h; subst h
      exact y_iretG C hQ ⟨rfl, rfl, ha0⟩ (by rw [hmc.1, hmc.2]; exact ⟨Nat.le_of_ble_eq_true rfl, Nat.le_of_ble_eq_true rfl⟩) dX1_law_140
    · replace h := g_it h hc
      refine y_null C dX1_law_44 ?_
      refine y_goto (tgt := 61) C dX1_law_45 rfl ?_
      obtain ⟨σ55, hσ55, h⟩ := g_lt h
      refine pf_C_X1_30_0_n C nC_0_0 hσ55 dX1_law_61 ?_
      refine y_aload_n C dX1_law_64 4 rfl rfl ?_
      refine y_aload_n C dX1_law_65 4 rfl rfl ?_
      refine gf_C_X1_84_0 C nC_0_0 dX1_law_66 ?_
      obtain ⟨x56, hc, h⟩ := g_bd h
      refine y_callV C (As := [.ref ((g_ua ad 27 s1 q35) 4 0)]) (rest := []) (k := 0) (hu := nC_0_0) (hc := (rfl : gCl[0]? = some (RX1, TX1, 31))) (hcell := obC_0) (lk_X1_405_X1_l306 C hR (by decide)) (ct_C1_seen nC_4_0 hc) rfl rfl (Nat.le_of_ble_eq_true rfl) (by rw [hR]; exact ⟨Nat.le_of_ble_eq_true rfl, Nat.le_of_ble_eq_true rfl⟩) dX1_law_69 ?_
      obtain ⟨x57, hc, h⟩ := g_bd h
      refine y_callS C (As := [.long x56]) (rest := []) (lk_X1_389_l1 C hR (by decide)) (ct_J12_bitCount hc) rfl rfl (Nat.le_of_ble_eq_true rfl) (by rw [hR]; exact ⟨Nat.le_of_ble_eq_true rfl, Nat.le_of_ble_eq_true rfl⟩) dX1_law_72 ?_
      refine y_istore (vs1 := [(5, .int x57), (4, .int x39), (3, .int x36), (2, .ref ((g_ua ad 27 s1 q35) 27 s1)), (1, .ref ((g_ua ad 27 s1 q35) 26 ((σ.2.2 0 0 19) - 1))), (0, .ref ((g_ua ad 27 s1 q35) 0 0))]) C rfl dX1_law_75 (g_lL hL rfl) rfl ?_
      refine y_aload_n C dX1_law_77 5 rfl rfl ?_
      refine y_aload_n C dX1_law_78 4 rfl rfl ?_
      obtain ⟨σ58, hσ58, h⟩ := g_lt h
      refine pf_C_X1_30_0_r C nC_0_0 hσ58 dX1_law_79 ?_
      refine y_goto (tgt := 116) C dX1_law_82 rfl ?_
      refine y_aload_n C dX1_law_116 5 rfl rfl ?_
      refine y_iconst (v := (0 : Int32)) C dX1_law_117 (by decide) ?_
      obtain ⟨σ59, hσ59, h⟩ := g_lt h
      refine pf_C_X1_139_0 C nC_0_0 hσ59 dX1_law_118 ?_
      refine y_aload_n C dX1_law_121 5 rfl rfl ?_
      refine y_iload C dX1_law_122 0 rfl ?_
      refine y_i2l C dX1_law_124 ?_
      obtain ⟨σ60, hc, h⟩ := g_bd h
      refine y_callVv C (As := [.long (x57.toInt64)]) (rest := []) (k := 0) (hu := nC_0_0) (hc := (rfl : gCl[0]? = some (RX1, TX1, 31))) (hcell := obC_0) (lk_X1_330_X1_l1 C hR (by decide)) (ct_C1_tell_2 hc) rfl rfl (Nat.le_of_ble_eq_true rfl) (by rw [hR]; exact ⟨Nat.le_of_ble_eq_true rfl, Nat.le_of_ble_eq_true rfl⟩) dX1_law_125 ?_
      refine y_aload_n C dX1_law_128 5 rfl rfl ?_
      refine y_iload C dX1_law_129 1 rfl ?_
      refine y_i2l C dX1_law_131 ?_
      obtain ⟨σ61, hc, h⟩ := g_bd h
      refine y_callVv C (As := [.long (x39.toInt64)]) (rest := []) (k := 0) (hu := nC_0_0) (hc := (rfl : gCl[0]? = some (RX1, TX1, 31))) (hcell := obC_0) (lk_X1_330_X1_l1 C hR (by decide)) (ct_C1_tell_2 hc) rfl rfl (Nat.le_of_ble_eq_true rfl) (by rw [hR]; exact ⟨Nat.le_of_ble_eq_true rfl, Nat.le_of_ble_eq_true rfl⟩) dX1_law_132 ?_
      refine y_iload C dX1_law_135 0 rfl ?_
      refine y_iload C dX1_law_137 1 rfl ?_
      refine y_isub C dX1_law_139 ?_
      replace h := Option.some.inj h; subst h
      exact y_iretG C hQ ⟨rfl, rfl, ha0⟩ (by rw [hmc.1, hmc.2]; exact ⟨Nat.le_of_ble_eq_true rfl, Nat.le_of_ble_eq_true rfl⟩) dX1_law_140
theorem ct_C1_law {D : va_G} {dA : Nat → ClassId} {A : Nat → Prop} {s0 : State} {b0 : Nat} {l : Launch} (hlt : l.stackTraces = false) {s1 : Nat} (hu_s1 : s1 < g_n (gC true) 26) {ad : Nat → Nat → Nat} {σ : g_S}{r : Int32} {σ1 : g_S} (h : mF_C1_law σ s1 = some (r, σ1)) : g_MetG gCl D dA A s0 b0 l yX1_law (wsW_ yX1_law cX1_law 9 (some .int)  [((39 : Nat), (77 : Nat), (85 : Nat), (185 : Nat)), ((39 : Nat), (77 : Nat), (106 : Nat), (0 : Nat)), ((85 : Nat), (98 : Nat), (106 : Nat), (0 : Nat)), ((106 : Nat), (108 : Nat), (106 : Nat), (0 : Nat))]) 307 (3, 95) (gC true) ad σ [.ref (ad 0 0)] (gC true) (fun v ad2 s2 => v = some (.int r) ∧ s2 = σ1 ∧ ad2 0 0 = (ad 0 0)) (fun _ _ _ _ => False) :=
  g_MetG.ofH pl_X1 (Nat.le_of_ble_eq_true rfl) (fun X C hQ hR hmc hms hL hnm es eb el hT => mw_C1_law C hR hL hu_s1 (by rw [el]; exact hlt) hT ⟨hmc, hms⟩ rfl h hQ)
theorem mw_C1_gets {X : g_F} {LM : g_L} (C : g_M gCl X cX1_gets RX1 (some .int)) (hR : g_R X = g_rm 1 0 0) (hL : g_nL X = 3) {ad : Nat → Nat → Nat} {σ : g_S} {v0 : Int32} {v1 : Int32} {v2 : Int32} {o : Int32} (h : mF_C1_gets v0 v1 v2 = some o) (hQ : g_MQ gCl X LM ad σ (some (.int o)) = g_Q X) : g_Y gCl X LM ad σ (0, 0) 0 [(0, .int v0), (1, .int v1), (2, .int v2)] [] := by
  unfold mF_C1_gets at h
  refine y_iload_n C dX1_gets_0 2 rfl rfl ?_
  refine y_iload_n C dX1_gets_1 0 rfl rfl ?_
  refine y_iload_n C dX1_gets_2 1 rfl rfl ?_
  refine y_mmin C q509 (g_rmM hR (by decide)) (Nat.le_of_ble_eq_true rfl) ⟨Nat.zero_le _, Nat.zero_le _⟩ dX1_gets_3 ?_
  refine y_imul C dX1_gets_6 ?_
  refine y_iconst (v := (4 : Int32)) C dX1_gets_7 (by decide) ?_
  refine y_idiv C dX1_gets_8 (by decide) ?_
  refine y_iload_n C dX1_gets_9 0 rfl rfl ?_
  refine y_isub C dX1_gets_10 ?_
  refine y_iconst (v := (0 : Int32)) C dX1_gets_11 (by decide) ?_
  refine y_iload_n C dX1_gets_12 0 rfl rfl ?_
  refine y_iconst (v := (4 : Int32)) C dX1_gets_13 (by decide) ?_
  refine y_isub C dX1_gets_14 ?_
  refine y_mmax C q510 (g_rmM hR (by decide)) (Nat.le_of_ble_eq_true rfl) ⟨Nat.zero_le _, Nat.zero_le _⟩ dX1_gets_15 ?_
  refine y_isub C dX1_gets_18 ?_
  replace h := Option.some.inj h; subst h
  exact y_iret C hQ ⟨Nat.zero_le _, Nat.zero_le _⟩ dX1_gets_19
theorem ct_C1_gets {D : va_G} {dA : Nat → ClassId} {A : Nat → Prop} {s0 : State} {b0 : Nat} {l : Launch} {LM : g_L} {ad : Nat → Nat → Nat} {σ : g_S} {v0 : Int32} {v1 : Int32} {v2 : Int32} {r : Int32} (h : mF_C1_gets v0 v1 v2 = some r) : g_Met gCl D dA A s0 b0 l yX1_gets cX1_gets 3 (some .int) 1 (0, 0) LM ad σ [.int v0, .int v1, .int v2] LM ad σ (some (.int r)) :=
  g_Met.of pl_X1 (Nat.le_of_ble_eq_true rfl) (fun X C hQ hR _ _ hL _ es eb => mw_C1_gets C hR hL h hQ)
theorem ml_C1_isBest_2 {X : g_F} {LM : g_L} (C : g_M gCl X cX1_isBest RX1 (some .boolean)) (hR : g_R X = g_rm 2 0 0) (hL : g_nL X = 4) {ad : Nat → Nat → Nat} {σ : g_S} {v0 : Int32} {v1 : Int32} {v2 : Int32} (n : Nat) (v : Int32) (e : (Unit ⊕ Unit)) (h : g_lp (fun v => mB_C1_isBest_2 v0 v1 v2 v) n v = some e) (kx : (∀ y, e = .inl y → g_Y gCl X LM ad σ (0, 0) 23 [] []) ∧ (∀ y, e = .inr y → g_Y gCl X LM ad σ (0, 0) 31 [] [])) : g_Y gCl X LM ad σ (0, 0) 2 [(0, .int v0), (1, .int v1), (2, .int v2), (3, .int v)] [] := by
  refine g_loop (P := fun v => g_Y gCl X LM ad σ (0, 0) 2 [(0, .int v0), (1, .int v1), (2, .int v2), (3, .int v)] []) (T := fun e => (∀ y, e = .inl y → g_Y gCl X LM ad σ (0, 0) 23 [] []) ∧ (∀ y, e = .inr y → g_Y gCl X LM ad σ (0, 0) 31 [] [])) ?_ n v e h kx
  clear h kx
  clear n v e
  intro v o h kl kx
  obtain ⟨v3, rfl⟩ : ∃ z, z = v := ⟨_, rfl⟩
  have h : mB_C1_isBest_2 v0 v1 v2 v3 = some o := h
  unfold mB_C1_isBest_2 at h
  show g_Y gCl X LM ad σ (0, 0) 2 [(0, .int v0), (1, .int v1), (2, .int v2), (3, .int v3)] []
  refine y_iload_n C dX1_isBest_2 3 rfl rfl ?_
  refine y_bipush (v := (9 : Int32)) C dX1_isBest_3 (by decide) ?_
  refine y_icmp_gt (tgt := 31) C dX1_isBest_5 rfl (fun hc => ?_) (fun hc => ?_)
  · replace h := g_it h hc
    refine y_sub (vs2 := []) [] rfl ?_
    exact (kx _ (Option.some.inj h).symm).2 _ rfl
  · replace h := g_if h hc
    refine y_iload_n C dX1_isBest_8 3 rfl rfl ?_
    refine y_iload_n C dX1_isBest_9 1 rfl rfl ?_
    refine y_iload_n C dX1_isBest_10 2 rfl rfl ?_
    obtain ⟨x1, hc, h⟩ := g_bd h
    refine y_callS C (As := [.int v3, .int v1, .int v2]) (rest := []) (lk_X1_470_l1 C hR (by decide)) (ct_C1_gets hc) rfl rfl (Nat.le_of_ble_eq_true rfl) ⟨Nat.zero_le _, Nat.zero_le _⟩ dX1_isBest_11 ?_
    refine y_iload_n C dX1_isBest_14 0 rfl rfl ?_
    refine y_iload_n C dX1_isBest_15 1 rfl rfl ?_
    refine y_iload_n C dX1_isBest_16 2 rfl rfl ?_
    obtain ⟨x2, hc, h⟩ := g_bd h
    refine y_callS C (As := [.int v0, .int v1, .int v2]) (rest := [.int x1]) (lk_X1_470_l1 C hR (by decide)) (ct_C1_gets hc) rfl rfl (Nat.le_of_ble_eq_true rfl) ⟨Nat.zero_le _, Nat.zero_le _⟩ dX1_isBest_17 ?_
    refine y_icmp_le (tgt := 25) C dX1_isBest_20 rfl (fun hc => ?_) (fun hc => ?_)
    · replace h := g_it h hc
      obtain ⟨x3, hx3, h⟩ := g_lt h
      refine y_iinc (c := (1 : Int32)) (vs1 := [(3, .int x3), (0, .int v0), (1, .int v1), (2, .int v2)]) C hx3 (by decide) dX1_isBest_25 3 rfl (g_lL hL rfl) rfl ?_
      refine y_goto (tgt := 2) C dX1_isBest_28 rfl ?_
      refine y_sub (vs2 := [(0, .int v0), (1, .int v1), (2, .int v2), (3, .int x3)]) [1, 2, 3, 0] rfl ?_
      exact kl _ (Option.some.inj h).symm
    · replace h := g_if h hc
      refine y_sub (vs2 := []) [] rfl ?_
      exact (kx _ (Option.some.inj h).symm).1 _ rfl
theorem mw_C1_isBest {X : g_F} {LM : g_L} (C : g_M gCl X cX1_isBest RX1 (some .boolean)) (hR : g_R X = g_rm 2 0 0) (hL : g_nL X = 4) {ad : Nat → Nat → Nat} {σ : g_S} {v0 : Int32} {v1 : Int32} {v2 : Int32} {o : Int32} (h : mF_C1_isBest v0 v1 v2 = some o) (hQ : g_MQ gCl X LM ad σ (some (.int o)) = g_Q X) : g_Y gCl X LM ad σ (0, 0) 0 [(0, .int v0), (1, .int v1), (2, .int v2)] [] := by
  unfold mF_C1_isBest at h
  refine y_iconst (v := (0 : Int32)) C dX1_isBest_0 (by decide) ?_
  refine y_istore_n (vs1 := [(3, .int (0 : Int32)), (0, .int v0), (1, .int v1), (2, .int v2)]) C rfl dX1_isBest_1 rfl (g_lL hL rfl) rfl ?_
  refine y_sub (vs2 := [(0, .int v0), (1, .int v1), (2, .int v2), (3, .int (0 : Int32))]) [1, 2, 3, 0] rfl ?_
  obtain ⟨e4, he4, h⟩ := g_bd h
  refine ml_C1_isBest_2 C hR hL (σ := σ) _ _ _ he4 ⟨fun y he => ?_, fun y he => ?_⟩
  · obtain ⟨y5, rfl⟩ : ∃ z, z = y := ⟨_, rfl⟩
    subst he
    dsimp only at h
    refine y_iconst (v := (0 : Int32)) C dX1_isBest_23 (by decide) ?_
    replace h := Option.some.inj h; subst h
    exact y_zret C (by decide) hQ ⟨Nat.zero_le _, Nat.zero_le _⟩ dX1_isBest_24
  · obtain ⟨y6, rfl⟩ : ∃ z, z = y := ⟨_, rfl⟩
    subst he
    dsimp only at h
    refine y_iconst (v := (1 : Int32)) C dX1_isBest_31 (by decide) ?_
    replace h := Option.some.inj h; subst h
    exact y_zret C (by decide) hQ ⟨Nat.zero_le _, Nat.zero_le _⟩ dX1_isBest_32
theorem ct_C1_isBest {D : va_G} {dA : Nat → ClassId} {A : Nat → Prop} {s0 : State} {b0 : Nat} {l : Launch} {LM : g_L} {ad : Nat → Nat → Nat} {σ : g_S} {v0 : Int32} {v1 : Int32} {v2 : Int32} {r : Int32} (h : mF_C1_isBest v0 v1 v2 = some r) : g_Met gCl D dA A s0 b0 l yX1_isBest cX1_isBest 4 (some .boolean) 2 (0, 0) LM ad σ [.int v0, .int v1, .int v2] LM ad σ (some (.int r)) :=
  g_Met.of pl_X1 (Nat.le_of_ble_eq_true rfl) (fun X C hQ hR _ _ hL _ es eb => mw_C1_isBest C hR hL h hQ)
theorem ml_C1_rests_32 {X : g_F} {hid : Bool} (C : g_M gCl X cX1_rests RX1 (some .int)) (hR : g_R X = g_rm 3 0 0) (hL : g_nL X = 5) {ad : Nat → Nat → Nat} {σ : g_S} {v1 : Int32} {v3 : Int32} (n : Nat) (v : (Int32 × Int32 × g_S)) (e : (Int32 × g_S)) (h : g_lp (fun v => mB_C1_rests_32 v.2.2 v1 v3 v.1 v.2.1) n v = some e) (kx : g_Y gCl X (gC hid) ad e.2 (0, 0) 88 [(0, .ref (ad 0 0)), (1, .int v1), (2, .int e.1), (3, .int v3)] []) : g_Y gCl X (gC hid) ad v.2.2 (0, 0) 32 [(0, .ref (ad 0 0)), (1, .int v1), (2, .int v.1), (3, .int v3), (4, .int v.2.1)] [] := by
  refine g_loop (P := fun v => g_Y gCl X (gC hid) ad v.2.2 (0, 0) 32 [(0, .ref (ad 0 0)), (1, .int v1), (2, .int v.1), (3, .int v3), (4, .int v.2.1)] []) (T := fun e => g_Y gCl X (gC hid) ad e.2 (0, 0) 88 [(0, .ref (ad 0 0)), (1, .int v1), (2, .int e.1), (3, .int v3)] []) ?_ n v e h kx
  clear h kx
  clear n v e
  intro v o h kl kx
  obtain ⟨v2, v4, σ⟩ := v
  have h : mB_C1_rests_32 σ v1 v3 v2 v4 = some o := h
  unfold mB_C1_rests_32 at h
  show g_Y gCl X (gC hid) ad σ (0, 0) 32 [(0, .ref (ad 0 0)), (1, .int v1), (2, .int v2), (3, .int v3), (4, .int v4)] []
  refine y_iload C dX1_rests_32 4 rfl ?_
  refine y_bipush (v := (9 : Int32)) C dX1_rests_34 (by decide) ?_
  refine y_icmp_gt (tgt := 88) C dX1_rests_36 rfl (fun hc => ?_) (fun hc => ?_)
  · replace h := g_it h hc
    refine y_sub (vs2 := [(0, .ref (ad 0 0)), (1, .int v1), (2, .int v2), (3, .int v3)]) [0, 1, 2, 3] rfl ?_
    exact kx _ (Option.some.inj h).symm
  · replace h := g_if h hc
    refine y_iload_n C dX1_rests_39 3 rfl rfl ?_
    refine y_iload C dX1_rests_40 4 rfl ?_
    refine y_iload_n C dX1_rests_42 1 rfl rfl ?_
    obtain ⟨x3, hc, h⟩ := g_bd h
    refine y_callS C (As := [.int v3, .int v4, .int v1]) (rest := []) (lk_X1_476_l2 C hR (by decide)) (ct_C1_isBest hc) rfl rfl (Nat.le_of_ble_eq_true rfl) ⟨Nat.zero_le _, Nat.zero_le _⟩ dX1_rests_43 ?_
    refine y_if_eq (tgt := 82) C dX1_rests_46 rfl (fun hc => ?_) (fun hc => ?_)
    · replace h := g_it h hc
      obtain ⟨x4, hx4, h⟩ := g_lt h
      refine y_iinc (c := (1 : Int32)) (vs1 := [(4, .int x4), (0, .ref (ad 0 0)), (1, .int v1), (2, .int v2), (3, .int v3)]) C hx4 (by decide) dX1_rests_82 4 rfl (g_lL hL rfl) rfl ?_
      refine y_goto (tgt := 32) C dX1_rests_85 rfl ?_
      refine y_sub (vs2 := [(0, .ref (ad 0 0)), (1, .int v1), (2, .int v2), (3, .int v3), (4, .int x4)]) [1, 2, 3, 4, 0] rfl ?_
      exact kl _ (Option.some.inj h).symm
    · replace h := g_if h hc
      refine y_iload C dX1_rests_49 4 rfl ?_
      refine y_iload_n C dX1_rests_51 3 rfl rfl ?_
      refine y_iload_n C dX1_rests_52 1 rfl rfl ?_
      obtain ⟨x5, hc, h⟩ := g_bd h
      refine y_callS C (As := [.int v4, .int v3, .int v1]) (rest := []) (lk_X1_476_l2 C hR (by decide)) (ct_C1_isBest hc) rfl rfl (Nat.le_of_ble_eq_true rfl) ⟨Nat.zero_le _, Nat.zero_le _⟩ dX1_rests_53 ?_
      refine y_if_ne (tgt := 62) C dX1_rests_56 rfl (fun hc => ?_) (fun hc => ?_)
      · replace h := g_if h hc
        refine y_iload_n C dX1_rests_62 2 rfl rfl ?_
        refine y_if_ne (tgt := 79) C dX1_rests_63 rfl (fun hc => ?_) (fun hc => ?_)
        · replace h := g_if h hc
          obtain ⟨x6, hx6, h⟩ := g_lt h
          refine y_iinc (c := (1 : Int32)) (vs1 := [(2, .int x6), (0, .ref (ad 0 0)), (1, .int v1), (3, .int v3), (4, .int v4)]) C hx6 (by decide) dX1_rests_79 2 rfl (g_lL hL rfl) rfl ?_
          obtain ⟨x7, hx7, h⟩ := g_lt h
          refine y_iinc (c := (1 : Int32)) (vs1 := [(4, .int x7), (2, .int x6), (0, .ref (ad 0 0)), (1, .int v1), (3, .int v3)]) C hx7 (by decide) dX1_rests_82 4 rfl (g_lL hL rfl) rfl ?_
          refine y_goto (tgt := 32) C dX1_rests_85 rfl ?_
          refine y_sub (vs2 := [(0, .ref (ad 0 0)), (1, .int v1), (2, .int x6), (3, .int v3), (4, .int x7)]) [2, 3, 1, 4, 0] rfl ?_
          exact kl _ (Option.some.inj h).symm
        · replace h := g_it h hc
          refine y_aload_n C dX1_rests_66 0 rfl rfl ?_
          refine y_iload_n C dX1_rests_67 3 rfl rfl ?_
          refine y_i2l C dX1_rests_68 ?_
          obtain ⟨σ8, hc, h⟩ := g_bd h
          refine y_callVv C (As := [.long (v3.toInt64)]) (rest := []) (k := 0) (hu := nC_0_0) (hc := (rfl : gCl[0]? = some (RX1, TX1, 31))) (hcell := obC_0) (lk_X1_330_X1_l1 C hR (by decide)) (ct_C1_tell_2 hc) rfl rfl (Nat.le_of_ble_eq_true rfl) ⟨Nat.zero_le _, Nat.zero_le _⟩ dX1_rests_69 ?_
          refine y_aload_n C dX1_rests_72 0 rfl rfl ?_
          refine y_iload C dX1_rests_73 4 rfl ?_
          refine y_i2l C dX1_rests_75 ?_
          obtain ⟨σ9, hc, h⟩ := g_bd h
          refine y_callVv C (As := [.long (v4.toInt64)]) (rest := []) (k := 0) (hu := nC_0_0) (hc := (rfl : gCl[0]? = some (RX1, TX1, 31))) (hcell := obC_0) (lk_X1_330_X1_l1 C hR (by decide)) (ct_C1_tell_2 hc) rfl rfl (Nat.le_of_ble_eq_true rfl) ⟨Nat.zero_le _, Nat.zero_le _⟩ dX1_rests_76 ?_
          obtain ⟨x10, hx10, h⟩ := g_lt h
          refine y_iinc (c := (1 : Int32)) (vs1 := [(2, .int x10), (0, .ref (ad 0 0)), (1, .int v1), (3, .int v3), (4, .int v4)]) C hx10 (by decide) dX1_rests_79 2 rfl (g_lL hL rfl) rfl ?_
          obtain ⟨x11, hx11, h⟩ := g_lt h
          refine y_iinc (c := (1 : Int32)) (vs1 := [(4, .int x11), (2, .int x10), (0, .ref (ad 0 0)), (1, .int v1), (3, .int v3)]) C hx11 (by decide) dX1_rests_82 4 rfl (g_lL hL rfl) rfl ?_
          refine y_goto (tgt := 32) C dX1_rests_85 rfl ?_
          refine y_sub (vs2 := [(0, .ref (ad 0 0)), (1, .int v1), (2, .int x10), (3, .int v3), (4, .int x11)]) [2, 3, 1, 4, 0] rfl ?_
          exact kl _ (Option.some.inj h).symm
      · replace h := g_it h hc
        refine y_goto (tgt := 82) C dX1_rests_59 rfl ?_
        obtain ⟨x12, hx12, h⟩ := g_lt h
        refine y_iinc (c := (1 : Int32)) (vs1 := [(4, .int x12), (0, .ref (ad 0 0)), (1, .int v1), (2, .int v2), (3, .int v3)]) C hx12 (by decide) dX1_rests_82 4 rfl (g_lL hL rfl) rfl ?_
        refine y_goto (tgt := 32) C dX1_rests_85 rfl ?_
        refine y_sub (vs2 := [(0, .ref (ad 0 0)), (1, .int v1), (2, .int v2), (3, .int v3), (4, .int x12)]) [1, 2, 3, 4, 0] rfl ?_
        exact kl _ (Option.some.inj h).symm
theorem ml_C1_rests_23 {X : g_F} {hid : Bool} (C : g_M gCl X cX1_rests RX1 (some .int)) (hR : g_R X = g_rm 3 0 0) (hL : g_nL X = 5) {ad : Nat → Nat → Nat} {σ : g_S} {v1 : Int32} (n : Nat) (v : (Int32 × Int32 × g_S)) (e : (Int32 × g_S)) (h : g_lp (fun v => mB_C1_rests_23 v.2.2 v1 v.1 v.2.1) n v = some e) (kx : g_Y gCl X (gC hid) ad e.2 (0, 0) 94 [(2, .int e.1)] []) : g_Y gCl X (gC hid) ad v.2.2 (0, 0) 23 [(0, .ref (ad 0 0)), (1, .int v1), (2, .int v.1), (3, .int v.2.1)] [] := by
  refine g_loop (P := fun v => g_Y gCl X (gC hid) ad v.2.2 (0, 0) 23 [(0, .ref (ad 0 0)), (1, .int v1), (2, .int v.1), (3, .int v.2.1)] []) (T := fun e => g_Y gCl X (gC hid) ad e.2 (0, 0) 94 [(2, .int e.1)] []) ?_ n v e h kx
  clear h kx
  clear n v e
  intro v o h kl kx
  obtain ⟨v2, v3, σ⟩ := v
  have h : mB_C1_rests_23 σ v1 v2 v3 = some o := h
  unfold mB_C1_rests_23 at h
  show g_Y gCl X (gC hid) ad σ (0, 0) 23 [(0, .ref (ad 0 0)), (1, .int v1), (2, .int v2), (3, .int v3)] []
  refine y_iload_n C dX1_rests_23 3 rfl rfl ?_
  refine y_bipush (v := (9 : Int32)) C dX1_rests_24 (by decide) ?_
  refine y_icmp_gt (tgt := 94) C dX1_rests_26 rfl (fun hc => ?_) (fun hc => ?_)
  · replace h := g_it h hc
    refine y_sub (vs2 := [(2, .int v2)]) [2] rfl ?_
    exact kx _ (Option.some.inj h).symm
  · replace h := g_if h hc
    refine y_iconst (v := (0 : Int32)) C dX1_rests_29 (by decide) ?_
    refine y_istore (vs1 := [(4, .int (0 : Int32)), (0, .ref (ad 0 0)), (1, .int v1), (2, .int v2), (3, .int v3)]) C rfl dX1_rests_30 (g_lL hL rfl) rfl ?_
    refine y_sub (vs2 := [(0, .ref (ad 0 0)), (1, .int v1), (2, .int v2), (3, .int v3), (4, .int (0 : Int32))]) [1, 2, 3, 4, 0] rfl ?_
    obtain ⟨e13, he13, h⟩ := g_bd h
    refine ml_C1_rests_32 C hR hL (σ := σ) _ _ _ he13 ?_
    obtain ⟨x14, hx14, h⟩ := g_lt h
    refine y_iinc (c := (1 : Int32)) (vs1 := [(3, .int x14), (0, .ref (ad 0 0)), (1, .int v1), (2, .int e13.1)]) C hx14 (by decide) dX1_rests_88 3 rfl (g_lL hL rfl) rfl ?_
    refine y_goto (tgt := 23) C dX1_rests_91 rfl ?_
    refine y_sub (vs2 := [(0, .ref (ad 0 0)), (1, .int v1), (2, .int e13.1), (3, .int x14)]) [1, 2, 3, 0] rfl ?_
    exact kl _ (Option.some.inj h).symm
theorem mw_C1_rests {X : g_F} {hid : Bool} (C : g_M gCl X cX1_rests RX1 (some .int)) (hR : g_R X = g_rm 3 0 0) (hL : g_nL X = 5) {ad : Nat → Nat → Nat} {σ : g_S} {v1 : Int32} {o : (Int32 × g_S)} (h : mF_C1_rests σ v1 = some o) (hQ : g_MQ gCl X (gC hid) ad o.2 (some (.int o.1)) = g_Q X) : g_Y gCl X (gC hid) ad σ (0, 0) 0 [(0, .ref (ad 0 0)), (1, .int v1)] [] := by
  unfold mF_C1_rests at h
  refine y_iload_n C dX1_rests_0 1 rfl rfl ?_
  refine y_i2l C dX1_rests_1 ?_
  refine y_lconst (v := (0 : Int64)) C dX1_rests_2 (by decide) ?_
  refine y_ldc2 (v := (20 : Int64)) C q1189 dX1_rests_3 ?_
  obtain ⟨x1, hc, h⟩ := g_bd h
  refine y_callS C (As := [.long (v1.toInt64), .long (0 : Int64), .long (20 : Int64)]) (rest := []) (lk_X1_146_l1 C hR (by decide)) (ct_C1_in hc) rfl rfl (Nat.le_of_ble_eq_true rfl) ⟨Nat.zero_le _, Nat.zero_le _⟩ dX1_rests_6 ?_
  refine y_if_ne (tgt := 14) C dX1_rests_9 rfl (fun hc => ?_) (fun hc => ?_)
  · replace h := g_if h hc
    refine y_iconst (v := (0 : Int32)) C dX1_rests_14 (by decide) ?_
    refine y_istore_n (vs1 := [(2, .int (0 : Int32)), (0, .ref (ad 0 0)), (1, .int v1)]) C rfl dX1_rests_15 rfl (g_lL hL rfl) rfl ?_
    refine y_aload_n C dX1_rests_16 1 rfl rfl ?_
    refine y_iconst (v := (0 : Int32)) C dX1_rests_17 (by decide) ?_
    obtain ⟨σ2, hσ2, h⟩ := g_lt h
    refine pf_C_X1_139_0 C nC_0_0 hσ2 dX1_rests_18 ?_
    refine y_iconst (v := (0 : Int32)) C dX1_rests_21 (by decide) ?_
    refine y_istore_n (vs1 := [(3, .int (0 : Int32)), (2, .int (0 : Int32)), (0, .ref (ad 0 0)), (1, .int v1)]) C rfl dX1_rests_22 rfl (g_lL hL rfl) rfl ?_
    refine y_sub (vs2 := [(0, .ref (ad 0 0)), (1, .int v1), (2, .int (0 : Int32)), (3, .int (0 : Int32))]) [2, 3, 1, 0] rfl ?_
    obtain ⟨e15, he15, h⟩ := g_bd h
    refine ml_C1_rests_23 C hR hL (σ := σ2) _ _ _ he15 ?_
    refine y_iload_n C dX1_rests_94 0 rfl rfl ?_
    replace h := Option.some.inj h; subst h
    exact y_iret C hQ ⟨Nat.zero_le _, Nat.zero_le _⟩ dX1_rests_95
  · replace h := g_it h hc
    refine y_iconst (v := (-1 : Int32)) C dX1_rests_12 (by decide) ?_
    replace h := Option.some.inj h; subst h
    exact y_iret C hQ ⟨Nat.zero_le _, Nat.zero_le _⟩ dX1_rests_13
theorem ct_C1_rests {D : va_G} {dA : Nat → ClassId} {A : Nat → Prop} {s0 : State} {b0 : Nat} {l : Launch} {hid : Bool} {ad : Nat → Nat → Nat} {σ : g_S} {v1 : Int32} {r : Int32} {σ1 : g_S} (h : mF_C1_rests σ v1 = some (r, σ1)) : g_Met gCl D dA A s0 b0 l yX1_rests cX1_rests 5 (some .int) 3 (0, 0) (gC hid) ad σ [.ref (ad 0 0), .int v1] (gC hid) ad σ1 (some (.int r)) :=
  g_Met.of pl_X1 (Nat.le_of_ble_eq_true rfl) (fun X C hQ hR _ _ hL _ es eb => mw_C1_rests C hR hL h hQ)
theorem mw_C1_draw {X : g_F} {hid : Bool} (C : g_M gCl X cX1_draw RX1 (some .int)) (hR : g_R X = g_rm 1 0 0) (hL : g_nL X = 2) {ad : Nat → Nat → Nat} {σ : g_S} {v1 : Int32} {o : (Int32 × g_S)} (h : mF_C1_draw σ v1 = some o) (hQ : g_MQ gCl X (gC hid) ad o.2 (some (.int o.1)) = g_Q X) : g_Y gCl X (gC hid) ad σ (0, 0) 0 [(0, .ref (ad 0 0)), (1, .int v1)] [] := by
  unfold mF_C1_draw at h
  refine y_aload_n C dX1_draw_0 0 rfl rfl ?_
  refine y_aload_n C dX1_draw_1 0 rfl rfl ?_
  refine gf_C_X1_480_0 C nC_0_0 dX1_draw_2 ?_
  refine y_ldcw (v := (1103515245 : Int32)) C q1204 dX1_draw_5 ?_
  refine y_imul C dX1_draw_8 ?_
  refine y_sipush (v := (12345 : Int32)) C dX1_draw_9 (by decide) ?_
  refine y_iadd C dX1_draw_12 ?_
  obtain ⟨σ1, hσ1, h⟩ := g_lt h
  refine pf_C_X1_480_0 C nC_0_0 hσ1 dX1_draw_13 ?_
  refine y_aload_n C dX1_draw_16 0 rfl rfl ?_
  refine gf_C_X1_480_0 C nC_0_0 dX1_draw_17 ?_
  refine y_bipush (v := (16 : Int32)) C dX1_draw_20 (by decide) ?_
  refine y_iushr C dX1_draw_22 rfl ?_
  refine y_iload_n C dX1_draw_23 1 rfl rfl ?_
  obtain ⟨hg, h⟩ := g_gd h
  refine y_irem C dX1_draw_24 hg ?_
  replace h := Option.some.inj h; subst h
  exact y_iret C hQ ⟨Nat.zero_le _, Nat.zero_le _⟩ dX1_draw_25
theorem ct_C1_draw {D : va_G} {dA : Nat → ClassId} {A : Nat → Prop} {s0 : State} {b0 : Nat} {l : Launch} {hid : Bool} {ad : Nat → Nat → Nat} {σ : g_S} {v1 : Int32} {r : Int32} {σ1 : g_S} (h : mF_C1_draw σ v1 = some (r, σ1)) : g_Met gCl D dA A s0 b0 l yX1_draw cX1_draw 2 (some .int) 1 (0, 0) (gC hid) ad σ [.ref (ad 0 0), .int v1] (gC hid) ad σ1 (some (.int r)) :=
  g_Met.of pl_X1 (Nat.le_of_ble_eq_true rfl) (fun X C hQ hR _ _ hL _ es eb => mw_C1_draw C hR hL h hQ)
theorem ml_C1_brims_4 {X : g_F} {hid : Bool} (C : g_M gCl X cX1_brims RX1 (some .int)) (hR : g_R X = g_rm 1 0 0) (hL : g_nL X = 4) {u0 : Nat} (hu_u0 : u0 < g_n (gC hid) 4) {ad : Nat → Nat → Nat} {σ : g_S} (n : Nat) (v : (Int32 × Int32)) (e : Int32) (h : g_lp (fun v => mB_C1_brims_4 σ u0 v.1 v.2) n v = some e) (kx : g_Y gCl X (gC hid) ad σ (0, 0) 27 [(2, .int e)] []) : g_Y gCl X (gC hid) ad σ (0, 0) 4 [(0, .ref (ad 0 0)), (1, .ref (ad 4 u0)), (2, .int v.1), (3, .int v.2)] [] := by
  refine g_loop (P := fun v => g_Y gCl X (gC hid) ad σ (0, 0) 4 [(0, .ref (ad 0 0)), (1, .ref (ad 4 u0)), (2, .int v.1), (3, .int v.2)] []) (T := fun e => g_Y gCl X (gC hid) ad σ (0, 0) 27 [(2, .int e)] []) ?_ n v e h kx
  clear h kx
  clear n v e
  intro v o h kl kx
  obtain ⟨v2, v3⟩ := v
  have h : mB_C1_brims_4 σ u0 v2 v3 = some o := h
  unfold mB_C1_brims_4 at h
  show g_Y gCl X (gC hid) ad σ (0, 0) 4 [(0, .ref (ad 0 0)), (1, .ref (ad 4 u0)), (2, .int v2), (3, .int v3)] []
  refine y_iload_n C dX1_brims_4 3 rfl rfl ?_
  refine y_aload_n C dX1_brims_5 0 rfl rfl ?_
  refine gf_C_X1_150_0 C nC_0_0 dX1_brims_6 ?_
  refine y_icmp_ge (tgt := 27) C dX1_brims_9 rfl (fun hc => ?_) (fun hc => ?_)
  · replace h := g_it h hc
    refine y_sub (vs2 := [(2, .int v2)]) [2] rfl ?_
    exact kx _ (Option.some.inj h).symm
  · replace h := g_if h hc
    refine y_iload_n C dX1_brims_12 2 rfl rfl ?_
    refine y_aload_n C dX1_brims_13 1 rfl rfl ?_
    refine gf_C_X1_222_4 C hu_u0 dX1_brims_14 ?_
    refine y_iload_n C dX1_brims_17 3 rfl rfl ?_
    obtain ⟨hg, h⟩ := g_gd h
    refine al_C_7 C hu_u0 hg dX1_brims_18 ?_
    refine y_iadd C dX1_brims_19 ?_
    obtain ⟨x1, hx1, h⟩ := g_lt h
    refine y_istore_n (vs1 := [(2, .int x1), (0, .ref (ad 0 0)), (1, .ref (ad 4 u0)), (3, .int v3)]) C hx1 dX1_brims_20 rfl (g_lL hL rfl) rfl ?_
    obtain ⟨x2, hx2, h⟩ := g_lt h
    refine y_iinc (c := (1 : Int32)) (vs1 := [(3, .int x2), (2, .int x1), (0, .ref (ad 0 0)), (1, .ref (ad 4 u0))]) C hx2 (by decide) dX1_brims_21 3 rfl (g_lL hL rfl) rfl ?_
    refine y_goto (tgt := 4) C dX1_brims_24 rfl ?_
    refine y_sub (vs2 := [(0, .ref (ad 0 0)), (1, .ref (ad 4 u0)), (2, .int x1), (3, .int x2)]) [2, 3, 1, 0] rfl ?_
    exact kl _ (Option.some.inj h).symm
theorem mw_C1_brims {X : g_F} {hid : Bool} (C : g_M gCl X cX1_brims RX1 (some .int)) (hR : g_R X = g_rm 1 0 0) (hL : g_nL X = 4) {u0 : Nat} (hu_u0 : u0 < g_n (gC hid) 4) {ad : Nat → Nat → Nat} {σ : g_S} {o : Int32} (h : mF_C1_brims σ u0 = some o) (hQ : g_MQ gCl X (gC hid) ad σ (some (.int o)) = g_Q X) : g_Y gCl X (gC hid) ad σ (0, 0) 0 [(0, .ref (ad 0 0)), (1, .ref (ad 4 u0))] [] := by
  unfold mF_C1_brims at h
  refine y_iconst (v := (0 : Int32)) C dX1_brims_0 (by decide) ?_
  refine y_istore_n (vs1 := [(2, .int (0 : Int32)), (0, .ref (ad 0 0)), (1, .ref (ad 4 u0))]) C rfl dX1_brims_1 rfl (g_lL hL rfl) rfl ?_
  refine y_iconst (v := (0 : Int32)) C dX1_brims_2 (by decide) ?_
  refine y_istore_n (vs1 := [(3, .int (0 : Int32)), (2, .int (0 : Int32)), (0, .ref (ad 0 0)), (1, .ref (ad 4 u0))]) C rfl dX1_brims_3 rfl (g_lL hL rfl) rfl ?_
  refine y_sub (vs2 := [(0, .ref (ad 0 0)), (1, .ref (ad 4 u0)), (2, .int (0 : Int32)), (3, .int (0 : Int32))]) [2, 3, 1, 0] rfl ?_
  obtain ⟨e3, he3, h⟩ := g_bd h
  refine ml_C1_brims_4 C hR hL hu_u0 (σ := σ) _ _ _ he3 ?_
  refine y_iload_n C dX1_brims_27 0 rfl rfl ?_
  replace h := Option.some.inj h; subst h
  exact y_iret C hQ ⟨Nat.zero_le _, Nat.zero_le _⟩ dX1_brims_28
theorem ct_C1_brims {D : va_G} {dA : Nat → ClassId} {A : Nat → Prop} {s0 : State} {b0 : Nat} {l : Launch} {hid : Bool} {u0 : Nat} (hu_u0 : u0 < g_n (gC hid) 4) {ad : Nat → Nat → Nat} {σ : g_S} {r : Int32} (h : mF_C1_brims σ u0 = some r) : g_Met gCl D dA A s0 b0 l yX1_brims cX1_brims 4 (some .int) 1 (0, 0) (gC hid) ad σ [.ref (ad 0 0), .ref (ad 4 u0)] (gC hid) ad σ (some (.int r)) :=
  g_Met.of pl_X1 (Nat.le_of_ble_eq_true rfl) (fun X C hQ hR _ _ hL _ es eb => mw_C1_brims C hR hL hu_u0 h hQ)
theorem mj_C1_years_58 {X : g_F} (C : g_M gCl X cX1_years RX1 (some .int)) (hR : g_R X = g_rm 308 0 0) (hL : g_nL X = 7) {ad : Nat → Nat → Nat} {σ : g_S} {v2 : Int32} {v3 : Int32} {v4 : Int32} {o : ((Int32 × g_S) ⊕ g_S)} (h : mJ_C1_years_58 σ v2 v3 v4 = some o) (kl : ∀ z, o = .inl z → g_Y gCl X (gC true) ad z.2 (0, 0) 32 [(0, .ref (ad 0 0)), (2, .int v2), (3, .int z.1)] []) (kx : ∀ z, o = .inr z → g_Y gCl X (gC true) ad z (0, 0) 160 [(0, .ref (ad 0 0))] []) : g_Y gCl X (gC true) ad σ (0, 0) 58 [(0, .ref (ad 0 0)), (2, .int v2), (3, .int v3), (4, .int v4)] [] := by
  unfold mJ_C1_years_58 at h
  refine y_iload C dX1_years_58 3 rfl ?_
  refine y_iconst (v := (2 : Int32)) C dX1_years_60 (by decide) ?_
  refine y_icmp_lt (tgt := 154) C dX1_years_61 rfl (fun hc => ?_) (fun hc => ?_)
  · replace h := g_it h hc
    obtain ⟨x6, hx6, h⟩ := g_lt h
    refine y_iinc (c := (1 : Int32)) (vs1 := [(3, .int x6), (0, .ref (ad 0 0)), (2, .int v2), (4, .int v4)]) C hx6 (by decide) dX1_years_154 2 rfl (g_lL hL rfl) rfl ?_
    refine y_goto (tgt := 32) C dX1_years_157 rfl ?_
    refine y_sub (vs2 := [(0, .ref (ad 0 0)), (2, .int v2), (3, .int x6)]) [1, 2, 0] rfl ?_
    exact kl _ (Option.some.inj h).symm
  · replace h := g_if h hc
    refine y_aload_n C dX1_years_64 0 rfl rfl ?_
    refine gf_C_X1_150_0 C nC_0_0 dX1_years_65 ?_
    refine y_if_ne (tgt := 74) C dX1_years_68 rfl (fun hc => ?_) (fun hc => ?_)
    · replace h := g_if h hc
      refine y_aload_n C dX1_years_74 0 rfl rfl ?_
      refine y_aload_n C dX1_years_75 0 rfl rfl ?_
      refine gf_C_X1_150_0 C nC_0_0 dX1_years_76 ?_
      obtain ⟨x8, σ7, hc, h⟩ := g_bp h
      refine y_callV C (As := [.int (σ.1 0 0 5)]) (rest := []) (k := 0) (hu := nC_0_0) (hc := (rfl : gCl[0]? = some (RX1, TX1, 31))) (hcell := obC_0) (lk_X1_484_X1_l1 C hR (by decide)) (ct_C1_draw hc) rfl rfl (Nat.le_of_ble_eq_true rfl) ⟨Nat.zero_le _, Nat.zero_le _⟩ dX1_years_79 ?_
      refine y_istore (vs1 := [(5, .int x8), (0, .ref (ad 0 0)), (2, .int v2), (3, .int v3), (4, .int v4)]) C rfl dX1_years_82 (g_lL hL rfl) rfl ?_
      refine y_aload_n C dX1_years_84 1 rfl rfl ?_
      refine y_bipush (v := (8 : Int32)) C dX1_years_85 (by decide) ?_
      obtain ⟨x10, σ9, hc, h⟩ := g_bp h
      refine y_callV C (As := [.int (8 : Int32)]) (rest := []) (k := 0) (hu := nC_0_0) (hc := (rfl : gCl[0]? = some (RX1, TX1, 31))) (hcell := obC_0) (lk_X1_484_X1_l1 C hR (by decide)) (ct_C1_draw hc) rfl rfl (Nat.le_of_ble_eq_true rfl) ⟨Nat.zero_le _, Nat.zero_le _⟩ dX1_years_87 ?_
      refine y_istore (vs1 := [(6, .int x10), (5, .int x8), (0, .ref (ad 0 0)), (2, .int v2), (3, .int v3), (4, .int v4)]) C rfl dX1_years_90 (g_lL hL rfl) rfl ?_
      refine y_iload C dX1_years_92 5 rfl ?_
      refine y_iconst (v := (2 : Int32)) C dX1_years_94 (by decide) ?_
      refine y_icmp_ne (tgt := 113) C dX1_years_95 rfl (fun hc => ?_) (fun hc => ?_)
      · replace h := g_if h hc
        refine y_aload_n C dX1_years_113 2 rfl rfl ?_
        refine y_aload_n C dX1_years_114 2 rfl rfl ?_
        refine gf_C_X1_91_0 C nC_0_0 dX1_years_115 ?_
        refine y_iload C dX1_years_118 1 rfl ?_
        refine y_iload C dX1_years_120 0 rfl ?_
        obtain ⟨x11, hc, h⟩ := g_bd h
        refine y_callV C (As := [.ref (ad 4 2), .int x8, .int x10]) (rest := []) (k := 0) (hu := nC_0_0) (hc := (rfl : gCl[0]? = some (RX1, TX1, 31))) (hcell := obC_0) (lk_X1_350_X1_l4 C hR (by decide)) (ct_C1_refusesStep nC_4_2 hc) rfl rfl (Nat.le_of_ble_eq_true rfl) ⟨Nat.zero_le _, Nat.zero_le _⟩ dX1_years_122 ?_
        refine y_if_ne (tgt := 154) C dX1_years_125 rfl (fun hc => ?_) (fun hc => ?_)
        · replace h := g_if h hc
          obtain ⟨x12, hx12, h⟩ := g_lt h
          refine y_iinc (c := (1 : Int32)) (vs1 := [(3, .int x12), (6, .int x10), (5, .int x8), (0, .ref (ad 0 0)), (2, .int v2), (4, .int v4)]) C hx12 (by decide) dX1_years_154 4 rfl (g_lL hL rfl) rfl ?_
          refine y_goto (tgt := 32) C dX1_years_157 rfl ?_
          refine y_sub (vs2 := [(0, .ref (ad 0 0)), (2, .int v2), (3, .int x12)]) [3, 4, 0] rfl ?_
          exact kl _ (Option.some.inj h).symm
        · replace h := g_it h hc
          refine y_aload_n C dX1_years_128 2 rfl rfl ?_
          refine gf_C_X1_91_0 C nC_0_0 dX1_years_129 ?_
          refine gf_C_X1_217_4 C nC_4_2 dX1_years_132 ?_
          refine y_iload C dX1_years_135 1 rfl ?_
          refine y_aload_n C dX1_years_137 2 rfl rfl ?_
          refine y_aload_n C dX1_years_138 2 rfl rfl ?_
          refine gf_C_X1_91_0 C nC_0_0 dX1_years_139 ?_
          refine gf_C_X1_217_4 C nC_4_2 dX1_years_142 ?_
          refine y_iload C dX1_years_145 1 rfl ?_
          obtain ⟨hg, h⟩ := g_gd h
          refine al_C_5 C nC_5_2 hg dX1_years_147 ?_
          refine y_iload C dX1_years_148 0 rfl ?_
          obtain ⟨x13, hc, h⟩ := g_bd h
          refine y_callV C (As := [.int (σ9.1 5 2 x8.toNatClampNeg), .int x10]) (rest := [.int x8, .ref (ad 5 2)]) (k := 0) (hu := nC_0_0) (hc := (rfl : gCl[0]? = some (RX1, TX1, 31))) (hcell := obC_0) (lk_X1_347_X1_l3 C hR (by decide)) (ct_C1_stepOf hc) rfl rfl (Nat.le_of_ble_eq_true rfl) ⟨Nat.zero_le _, Nat.zero_le _⟩ dX1_years_150 ?_
          obtain ⟨hg, h⟩ := g_gd h
          obtain ⟨σ14, hσ14, h⟩ := g_lt h
          refine as_C_5 C nC_5_2 hσ14 hg dX1_years_153 ?_
          obtain ⟨x15, hx15, h⟩ := g_lt h
          refine y_iinc (c := (1 : Int32)) (vs1 := [(3, .int x15), (6, .int x10), (5, .int x8), (0, .ref (ad 0 0)), (2, .int v2), (4, .int v4)]) C hx15 (by decide) dX1_years_154 4 rfl (g_lL hL rfl) rfl ?_
          refine y_goto (tgt := 32) C dX1_years_157 rfl ?_
          refine y_sub (vs2 := [(0, .ref (ad 0 0)), (2, .int v2), (3, .int x15)]) [3, 4, 0] rfl ?_
          exact kl _ (Option.some.inj h).symm
      · replace h := g_it h hc
        refine y_aload_n C dX1_years_98 2 rfl rfl ?_
        refine gf_C_X1_91_0 C nC_0_0 dX1_years_99 ?_
        refine gf_C_X1_219_4 C nC_4_2 dX1_years_102 ?_
        refine y_iload C dX1_years_105 1 rfl ?_
        refine y_iload C dX1_years_107 0 rfl ?_
        obtain ⟨hg, h⟩ := g_gd h
        obtain ⟨σ16, hσ16, h⟩ := g_lt h
        refine as_C_6 C nC_6_2 hσ16 hg dX1_years_109 ?_
        refine y_goto (tgt := 154) C dX1_years_110 rfl ?_
        obtain ⟨x17, hx17, h⟩ := g_lt h
        refine y_iinc (c := (1 : Int32)) (vs1 := [(3, .int x17), (6, .int x10), (5, .int x8), (0, .ref (ad 0 0)), (2, .int v2), (4, .int v4)]) C hx17 (by decide) dX1_years_154 4 rfl (g_lL hL rfl) rfl ?_
        refine y_goto (tgt := 32) C dX1_years_157 rfl ?_
        refine y_sub (vs2 := [(0, .ref (ad 0 0)), (2, .int v2), (3, .int x17)]) [3, 4, 0] rfl ?_
        exact kl _ (Option.some.inj h).symm
    · replace h := g_it h hc
      refine y_goto (tgt := 154) C dX1_years_71 rfl ?_
      obtain ⟨x18, hx18, h⟩ := g_lt h
      refine y_iinc (c := (1 : Int32)) (vs1 := [(3, .int x18), (0, .ref (ad 0 0)), (2, .int v2), (4, .int v4)]) C hx18 (by decide) dX1_years_154 2 rfl (g_lL hL rfl) rfl ?_
      refine y_goto (tgt := 32) C dX1_years_157 rfl ?_
      refine y_sub (vs2 := [(0, .ref (ad 0 0)), (2, .int v2), (3, .int x18)]) [1, 2, 0] rfl ?_
      exact kl _ (Option.some.inj h).symm
theorem ml_C1_years_32 {X : g_F} (C : g_M gCl X cX1_years RX1 (some .int)) (hR : g_R X = g_rm 308 0 0) (hL : g_nL X = 7) {ad : Nat → Nat → Nat} {σ : g_S} {v2 : Int32} (n : Nat) (v : (Int32 × g_S)) (e : g_S) (h : g_lp (fun v => mB_C1_years_32 v.2 v2 v.1) n v = some e) (kx : g_Y gCl X (gC true) ad e (0, 0) 160 [(0, .ref (ad 0 0))] []) : g_Y gCl X (gC true) ad v.2 (0, 0) 32 [(0, .ref (ad 0 0)), (2, .int v2), (3, .int v.1)] [] := by
  refine g_loop (P := fun v => g_Y gCl X (gC true) ad v.2 (0, 0) 32 [(0, .ref (ad 0 0)), (2, .int v2), (3, .int v.1)] []) (T := fun e => g_Y gCl X (gC true) ad e (0, 0) 160 [(0, .ref (ad 0 0))] []) ?_ n v e h kx
  clear h kx
  clear n v e
  intro v o h kl kx
  obtain ⟨v3, σ⟩ := v
  have h : mB_C1_years_32 σ v2 v3 = some o := h
  unfold mB_C1_years_32 at h
  show g_Y gCl X (gC true) ad σ (0, 0) 32 [(0, .ref (ad 0 0)), (2, .int v2), (3, .int v3)] []
  refine y_iload_n C dX1_years_32 2 rfl rfl ?_
  refine y_iload_n C dX1_years_33 1 rfl rfl ?_
  refine y_icmp_ge (tgt := 160) C dX1_years_34 rfl (fun hc => ?_) (fun hc => ?_)
  · replace h := g_it h hc
    refine y_sub (vs2 := [(0, .ref (ad 0 0))]) [0] rfl ?_
    exact kx _ (Option.some.inj h).symm
  · replace h := g_if h hc
    refine y_aload_n C dX1_years_37 0 rfl rfl ?_
    refine y_iconst (v := (4 : Int32)) C dX1_years_38 (by decide) ?_
    obtain ⟨x5, σ4, hc, h⟩ := g_bp h
    refine y_callV C (As := [.int (4 : Int32)]) (rest := []) (k := 0) (hu := nC_0_0) (hc := (rfl : gCl[0]? = some (RX1, TX1, 31))) (hcell := obC_0) (lk_X1_484_X1_l1 C hR (by decide)) (ct_C1_draw hc) rfl rfl (Nat.le_of_ble_eq_true rfl) ⟨Nat.zero_le _, Nat.zero_le _⟩ dX1_years_39 ?_
    refine y_istore (vs1 := [(4, .int x5), (0, .ref (ad 0 0)), (2, .int v2), (3, .int v3)]) C rfl dX1_years_42 (g_lL hL rfl) rfl ?_
    refine y_iload C dX1_years_44 0 rfl ?_
    refine y_iconst (v := (2 : Int32)) C dX1_years_46 (by decide) ?_
    refine y_icmp_ge (tgt := 58) C dX1_years_47 rfl (fun hc => ?_) (fun hc => ?_)
    · replace h := g_it h hc
      refine y_sub (vs2 := [(0, .ref (ad 0 0)), (2, .int v2), (3, .int v3), (4, .int x5)]) [1, 2, 3, 0] rfl ?_
      exact mj_C1_years_58 C hR hL h kl kx
    · replace h := g_if h hc
      refine y_aload_n C dX1_years_50 1 rfl rfl ?_
      refine y_aload_n C dX1_years_51 1 rfl rfl ?_
      refine gf_C_X1_91_0 C nC_0_0 dX1_years_52 ?_
      obtain ⟨σ19, hc, h⟩ := g_bd h
      refine y_callVv C (As := [.ref (ad 4 2)]) (rest := []) (k := 0) (hu := nC_0_0) (hc := (rfl : gCl[0]? = some (RX1, TX1, 31))) (hcell := obC_0) (lk_X1_312_X1_l307 C hR (by decide)) (ct_C1_goHour nC_4_2 hc) rfl rfl (Nat.le_of_ble_eq_true rfl) ⟨Nat.zero_le _, Nat.zero_le _⟩ dX1_years_55 ?_
      refine y_sub (vs2 := [(0, .ref (ad 0 0)), (2, .int v2), (3, .int v3), (4, .int x5)]) [1, 2, 3, 0] rfl ?_
      exact mj_C1_years_58 C hR hL h kl kx
theorem mw_C1_years {X : g_F} (C : g_M gCl X cX1_years RX1 (some .int)) (hR : g_R X = g_rm 308 0 0) (hL : g_nL X = 7) {ad : Nat → Nat → Nat} {σ : g_S} {v1 : Int32} {v2 : Int32} {o : (Int32 × g_S)} (h : mF_C1_years σ v1 v2 = some o) (hQ : g_MQ gCl X (gC true) ad o.2 (some (.int o.1)) = g_Q X) : g_Y gCl X (gC true) ad σ (0, 0) 0 [(0, .ref (ad 0 0)), (1, .int v1), (2, .int v2)] [] := by
  unfold mF_C1_years at h
  refine y_iload_n C dX1_years_0 2 rfl rfl ?_
  refine y_i2l C dX1_years_1 ?_
  refine y_lconst (v := (1 : Int64)) C dX1_years_2 (by decide) ?_
  refine y_ldc2 (v := (60 : Int64)) C q748 dX1_years_3 ?_
  obtain ⟨x1, hc, h⟩ := g_bd h
  refine y_callS C (As := [.long (v2.toInt64), .long (1 : Int64), .long (60 : Int64)]) (rest := []) (lk_X1_146_l1 C hR (by decide)) (ct_C1_in hc) rfl rfl (Nat.le_of_ble_eq_true rfl) ⟨Nat.zero_le _, Nat.zero_le _⟩ dX1_years_6 ?_
  refine y_if_ne (tgt := 14) C dX1_years_9 rfl (fun hc => ?_) (fun hc => ?_)
  · replace h := g_if h hc
    refine y_aload_n C dX1_years_14 0 rfl rfl ?_
    refine y_iload_n C dX1_years_15 1 rfl rfl ?_
    obtain ⟨σ2, hσ2, h⟩ := g_lt h
    refine pf_C_X1_480_0 C nC_0_0 hσ2 dX1_years_16 ?_
    refine y_aload_n C dX1_years_19 0 rfl rfl ?_
    refine gf_C_X1_91_0 C nC_0_0 dX1_years_20 ?_
    refine y_aload_n C dX1_years_23 0 rfl rfl ?_
    refine gf_C_X1_84_0 C nC_0_0 dX1_years_24 ?_
    obtain ⟨σ3, hc, h⟩ := g_bd h
    refine y_callVv C (As := [.ref (ad 4 0)]) (rest := []) (k := 4) (hu := nC_4_2) (hc := (rfl : gCl[4]? = some (RX5, TX5, 6))) (hcell := obC_4) (lk_X1_298_X5_l1 C hR (by decide)) (ct_C5_be_k4_4 nC_4_2 nC_4_0 hc) rfl rfl (Nat.le_of_ble_eq_true rfl) ⟨Nat.zero_le _, Nat.zero_le _⟩ dX1_years_27 ?_
    refine y_iconst (v := (0 : Int32)) C dX1_years_30 (by decide) ?_
    refine y_istore_n (vs1 := [(3, .int (0 : Int32)), (0, .ref (ad 0 0)), (1, .int v1), (2, .int v2)]) C rfl dX1_years_31 rfl (g_lL hL rfl) rfl ?_
    refine y_sub (vs2 := [(0, .ref (ad 0 0)), (2, .int v2), (3, .int (0 : Int32))]) [1, 3, 0] rfl ?_
    obtain ⟨e20, he20, h⟩ := g_bd h
    refine ml_C1_years_32 C hR hL (σ := σ3) _ _ _ he20 ?_
    refine y_aload_n C dX1_years_160 0 rfl rfl ?_
    refine y_iconst (v := (0 : Int32)) C dX1_years_161 (by decide) ?_
    obtain ⟨σ21, hσ21, h⟩ := g_lt h
    refine pf_C_X1_139_0 C nC_0_0 hσ21 dX1_years_162 ?_
    refine y_aload_n C dX1_years_165 0 rfl rfl ?_
    refine y_aload_n C dX1_years_166 0 rfl rfl ?_
    refine y_aload_n C dX1_years_167 0 rfl rfl ?_
    refine gf_C_X1_91_0 C nC_0_0 dX1_years_168 ?_
    obtain ⟨x22, hc, h⟩ := g_bd h
    refine y_callV C (As := [.ref (ad 4 2)]) (rest := [.ref (ad 0 0)]) (k := 0) (hu := nC_0_0) (hc := (rfl : gCl[0]? = some (RX1, TX1, 31))) (hcell := obC_0) (lk_X1_405_X1_l306 C hR (by decide)) (ct_C1_seen nC_4_2 hc) rfl rfl (Nat.le_of_ble_eq_true rfl) ⟨Nat.zero_le _, Nat.zero_le _⟩ dX1_years_171 ?_
    obtain ⟨x23, hc, h⟩ := g_bd h
    refine y_callS C (As := [.long x22]) (rest := [.ref (ad 0 0)]) (lk_X1_389_l1 C hR (by decide)) (ct_J12_bitCount hc) rfl rfl (Nat.le_of_ble_eq_true rfl) ⟨Nat.zero_le _, Nat.zero_le _⟩ dX1_years_174 ?_
    refine y_i2l C dX1_years_177 ?_
    obtain ⟨σ24, hc, h⟩ := g_bd h
    refine y_callVv C (As := [.long (x23.toInt64)]) (rest := []) (k := 0) (hu := nC_0_0) (hc := (rfl : gCl[0]? = some (RX1, TX1, 31))) (hcell := obC_0) (lk_X1_330_X1_l1 C hR (by decide)) (ct_C1_tell_2 hc) rfl rfl (Nat.le_of_ble_eq_true rfl) ⟨Nat.zero_le _, Nat.zero_le _⟩ dX1_years_178 ?_
    refine y_aload_n C dX1_years_181 0 rfl rfl ?_
    refine y_aload_n C dX1_years_182 0 rfl rfl ?_
    refine y_aload_n C dX1_years_183 0 rfl rfl ?_
    refine gf_C_X1_91_0 C nC_0_0 dX1_years_184 ?_
    obtain ⟨x25, hc, h⟩ := g_bd h
    refine y_callV C (As := [.ref (ad 4 2)]) (rest := [.ref (ad 0 0)]) (k := 0) (hu := nC_0_0) (hc := (rfl : gCl[0]? = some (RX1, TX1, 31))) (hcell := obC_0) (lk_X1_288_X1_l1 C hR (by decide)) (ct_C1_brims nC_4_2 hc) rfl rfl (Nat.le_of_ble_eq_true rfl) ⟨Nat.zero_le _, Nat.zero_le _⟩ dX1_years_187 ?_
    refine y_i2l C dX1_years_190 ?_
    obtain ⟨σ26, hc, h⟩ := g_bd h
    refine y_callVv C (As := [.long (x25.toInt64)]) (rest := []) (k := 0) (hu := nC_0_0) (hc := (rfl : gCl[0]? = some (RX1, TX1, 31))) (hcell := obC_0) (lk_X1_330_X1_l1 C hR (by decide)) (ct_C1_tell_2 hc) rfl rfl (Nat.le_of_ble_eq_true rfl) ⟨Nat.zero_le _, Nat.zero_le _⟩ dX1_years_191 ?_
    refine y_aload_n C dX1_years_194 0 rfl rfl ?_
    refine y_aload_n C dX1_years_195 0 rfl rfl ?_
    refine gf_C_X1_91_0 C nC_0_0 dX1_years_196 ?_
    obtain ⟨x27, hc, h⟩ := g_bd h
    refine y_callV C (As := [.ref (ad 4 2)]) (rest := []) (k := 0) (hu := nC_0_0) (hc := (rfl : gCl[0]? = some (RX1, TX1, 31))) (hcell := obC_0) (lk_X1_323_X1_l2 C hR (by decide)) (ct_C1_known nC_4_2 hc) rfl rfl (Nat.le_of_ble_eq_true rfl) ⟨Nat.zero_le _, Nat.zero_le _⟩ dX1_years_199 ?_
    replace h := Option.some.inj h; subst h
    exact y_iret C hQ ⟨Nat.zero_le _, Nat.zero_le _⟩ dX1_years_202
  · replace h := g_it h hc
    refine y_iconst (v := (-1 : Int32)) C dX1_years_12 (by decide) ?_
    replace h := Option.some.inj h; subst h
    exact y_iret C hQ ⟨Nat.zero_le _, Nat.zero_le _⟩ dX1_years_13
theorem ct_C1_years {D : va_G} {dA : Nat → ClassId} {A : Nat → Prop} {s0 : State} {b0 : Nat} {l : Launch} {ad : Nat → Nat → Nat} {σ : g_S} {v1 : Int32} {v2 : Int32} {r : Int32} {σ1 : g_S} (h : mF_C1_years σ v1 v2 = some (r, σ1)) : g_Met gCl D dA A s0 b0 l yX1_years cX1_years 7 (some .int) 308 (0, 0) (gC true) ad σ [.ref (ad 0 0), .int v1, .int v2] (gC true) ad σ1 (some (.int r)) :=
  g_Met.of pl_X1 (Nat.le_of_ble_eq_true rfl) (fun X C hQ hR _ _ hL _ es eb => mw_C1_years C hR hL h hQ)
theorem mw_C5_init_k34 {X : g_F} {hid : Bool} (C : g_M gCl X cX5_init RX5 none) (hR : g_R X = g_rm 1 5 40) (hL : g_nL X = 1) {u9 : Nat} (hu_u9 : u9 < g_n (gC hid) 34) (hnm : (g_me X).name = "<init>") (hmc : g_mc X = 5 ∧ g_ms X = 40) {ad : Nat → Nat → Nat} {σ : g_S} {o : g_S} (h : mF_C5_init_k34 σ u9 = some o) (hQ : g_MQG gCl X (gC hid) (fun v ad2 s2 => v = none ∧ s2 = o ∧ ∃ q0 q1 q2 q3 q4, ad2 = (g_ua (g_ua (g_ua (g_ua (g_ua ad 35 u9 q0) 36 u9 q1) 37 u9 q2) 38 u9 q3) 39 u9 q4)) (fun _ _ _ _ => False) = g_Q X) : g_Y gCl X (gC hid) ad σ (0, 0) 0 [(0, .ref (ad 34 u9))] [] := by
  unfold mF_C5_init_k34 at h
  refine y_aload_n C dX5_init_0 0 rfl rfl ?_
  refine y_objInit C q187 q142 q143 dX5_init_1 (g_rmM hR (Nat.le_of_ble_eq_true rfl)).1 (Nat.le_trans (by decide) (g_rmM hR (Nat.le_of_ble_eq_true rfl)).2) (by decide) ?_
  refine y_aload_n C dX5_init_4 0 rfl rfl ?_
  refine y_bipush (v := (8 : Int32)) C dX5_init_5 (by decide) ?_
  obtain ⟨hp, h⟩ := g_gd h
  obtain ⟨σ1, hσ1, h⟩ := g_lt h
  refine y_newa (atype := .int) (ty := .int) (σ1 := σ1) (a0 := (8, .inl fun _ => 0)) (t0 := 0) C 35 u9 rfl rfl q221 (fun _ => rfl) (by decide) rfl (by decide) (by rw [hR]; exact ⟨Nat.le_of_ble_eq_true rfl, Nat.le_of_ble_eq_true rfl⟩) dX5_init_7 (by rw [hσ1]; exact fr_35 hp) (fun q => by rw [hσ1]; exact me_35) (fun q2 => ?_)
  have hq2 : (g_ua ad 35 u9 q2) 35 u9 = q2 := g_ua_s
  suffices key : g_Y gCl X (gC hid) (g_ua ad 35 u9 q2) σ1 (1, 8) 9 [(0, .ref ((g_ua ad 35 u9 q2) 34 u9))] [.ref ((g_ua ad 35 u9 q2) 35 u9), .ref ((g_ua ad 35 u9 q2) 34 u9)] by rw [hq2] at key; exact key
  obtain ⟨hp, h⟩ := g_gd h
  obtain ⟨σ3, hσ3, h⟩ := g_lt h
  refine pf_C_X5_9_34 C hu_u9 hp hnm hσ3 dX5_init_9 ?_
  refine y_aload_n C dX5_init_12 0 rfl rfl ?_
  refine y_bipush (v := (8 : Int32)) C dX5_init_13 (by decide) ?_
  obtain ⟨hp, h⟩ := g_gd h
  obtain ⟨σ4, hσ4, h⟩ := g_lt h
  refine y_newa (atype := .int) (ty := .int) (σ1 := σ4) (a0 := (8, .inl fun _ => 0)) (t0 := 0) C 36 u9 rfl rfl q221 (fun _ => rfl) (by decide) rfl (by decide) (by rw [hR]; exact ⟨Nat.le_of_ble_eq_true rfl, Nat.le_of_ble_eq_true rfl⟩) dX5_init_15 (by rw [hσ4]; exact fr_36 hp) (fun q => by rw [hσ4]; exact me_36) (fun q5 => ?_)
  have hq5 : (g_ua (g_ua ad 35 u9 q2) 36 u9 q5) 36 u9 = q5 := g_ua_s
  suffices key : g_Y gCl X (gC hid) (g_ua (g_ua ad 35 u9 q2) 36 u9 q5) σ4 (2, 16) 17 [(0, .ref ((g_ua (g_ua ad 35 u9 q2) 36 u9 q5) 34 u9))] [.ref ((g_ua (g_ua ad 35 u9 q2) 36 u9 q5) 36 u9), .ref ((g_ua (g_ua ad 35 u9 q2) 36 u9 q5) 34 u9)] by rw [hq5] at key; exact key
  obtain ⟨hp, h⟩ := g_gd h
  obtain ⟨σ6, hσ6, h⟩ := g_lt h
  refine pf_C_X5_15_34 C hu_u9 hp hnm hσ6 dX5_init_17 ?_
  refine y_aload_n C dX5_init_20 0 rfl rfl ?_
  refine y_bipush (v := (8 : Int32)) C dX5_init_21 (by decide) ?_
  obtain ⟨hp, h⟩ := g_gd h
  obtain ⟨σ7, hσ7, h⟩ := g_lt h
  refine y_newa (atype := .int) (ty := .int) (σ1 := σ7) (a0 := (8, .inl fun _ => 0)) (t0 := 0) C 37 u9 rfl rfl q221 (fun _ => rfl) (by decide) rfl (by decide) (by rw [hR]; exact ⟨Nat.le_of_ble_eq_true rfl, Nat.le_of_ble_eq_true rfl⟩) dX5_init_23 (by rw [hσ7]; exact fr_37 hp) (fun q => by rw [hσ7]; exact me_37) (fun q8 => ?_)
  have hq8 : (g_ua (g_ua (g_ua ad 35 u9 q2) 36 u9 q5) 37 u9 q8) 37 u9 = q8 := g_ua_s
  suffices key : g_Y gCl X (gC hid) (g_ua (g_ua (g_ua ad 35 u9 q2) 36 u9 q5) 37 u9 q8) σ7 (3, 24) 25 [(0, .ref ((g_ua (g_ua (g_ua ad 35 u9 q2) 36 u9 q5) 37 u9 q8) 34 u9))] [.ref ((g_ua (g_ua (g_ua ad 35 u9 q2) 36 u9 q5) 37 u9 q8) 37 u9), .ref ((g_ua (g_ua (g_ua ad 35 u9 q2) 36 u9 q5) 37 u9 q8) 34 u9)] by rw [hq8] at key; exact key
  obtain ⟨hp, h⟩ := g_gd h
  obtain ⟨σ9, hσ9, h⟩ := g_lt h
  refine pf_C_X5_18_34 C hu_u9 hp hnm hσ9 dX5_init_25 ?_
  refine y_aload_n C dX5_init_28 0 rfl rfl ?_
  refine y_bipush (v := (8 : Int32)) C dX5_init_29 (by decide) ?_
  obtain ⟨hp, h⟩ := g_gd h
  obtain ⟨σ10, hσ10, h⟩ := g_lt h
  refine y_newa (atype := .int) (ty := .int) (σ1 := σ10) (a0 := (8, .inl fun _ => 0)) (t0 := 0) C 38 u9 rfl rfl q221 (fun _ => rfl) (by decide) rfl (by decide) (by rw [hR]; exact ⟨Nat.le_of_ble_eq_true rfl, Nat.le_of_ble_eq_true rfl⟩) dX5_init_31 (by rw [hσ10]; exact fr_38 hp) (fun q => by rw [hσ10]; exact me_38) (fun q11 => ?_)
  have hq11 : (g_ua (g_ua (g_ua (g_ua ad 35 u9 q2) 36 u9 q5) 37 u9 q8) 38 u9 q11) 38 u9 = q11 := g_ua_s
  suffices key : g_Y gCl X (gC hid) (g_ua (g_ua (g_ua (g_ua ad 35 u9 q2) 36 u9 q5) 37 u9 q8) 38 u9 q11) σ10 (4, 32) 33 [(0, .ref ((g_ua (g_ua (g_ua (g_ua ad 35 u9 q2) 36 u9 q5) 37 u9 q8) 38 u9 q11) 34 u9))] [.ref ((g_ua (g_ua (g_ua (g_ua ad 35 u9 q2) 36 u9 q5) 37 u9 q8) 38 u9 q11) 38 u9), .ref ((g_ua (g_ua (g_ua (g_ua ad 35 u9 q2) 36 u9 q5) 37 u9 q8) 38 u9 q11) 34 u9)] by rw [hq11] at key; exact key
  obtain ⟨hp, h⟩ := g_gd h
  obtain ⟨σ12, hσ12, h⟩ := g_lt h
  refine pf_C_X5_21_34 C hu_u9 hp hnm hσ12 dX5_init_33 ?_
  refine y_aload_n C dX5_init_36 0 rfl rfl ?_
  refine y_bipush (v := (8 : Int32)) C dX5_init_37 (by decide) ?_
  obtain ⟨hp, h⟩ := g_gd h
  obtain ⟨σ13, hσ13, h⟩ := g_lt h
  refine y_newa (atype := .int) (ty := .int) (σ1 := σ13) (a0 := (8, .inl fun _ => 0)) (t0 := 0) C 39 u9 rfl rfl q221 (fun _ => rfl) (by decide) rfl (by decide) (by rw [hR]; exact ⟨Nat.le_of_ble_eq_true rfl, Nat.le_of_ble_eq_true rfl⟩) dX5_init_39 (by rw [hσ13]; exact fr_39 hp) (fun q => by rw [hσ13]; exact me_39) (fun q14 => ?_)
  have hq14 : (g_ua (g_ua (g_ua (g_ua (g_ua ad 35 u9 q2) 36 u9 q5) 37 u9 q8) 38 u9 q11) 39 u9 q14) 39 u9 = q14 := g_ua_s
  suffices key : g_Y gCl X (gC hid) (g_ua (g_ua (g_ua (g_ua (g_ua ad 35 u9 q2) 36 u9 q5) 37 u9 q8) 38 u9 q11) 39 u9 q14) σ13 (5, 40) 41 [(0, .ref ((g_ua (g_ua (g_ua (g_ua (g_ua ad 35 u9 q2) 36 u9 q5) 37 u9 q8) 38 u9 q11) 39 u9 q14) 34 u9))] [.ref ((g_ua (g_ua (g_ua (g_ua (g_ua ad 35 u9 q2) 36 u9 q5) 37 u9 q8) 38 u9 q11) 39 u9 q14) 39 u9), .ref ((g_ua (g_ua (g_ua (g_ua (g_ua ad 35 u9 q2) 36 u9 q5) 37 u9 q8) 38 u9 q11) 39 u9 q14) 34 u9)] by rw [hq14] at key; exact key
  obtain ⟨hp, h⟩ := g_gd h
  obtain ⟨σ15, hσ15, h⟩ := g_lt h
  refine pf_C_X5_24_34 C hu_u9 hp hnm hσ15 dX5_init_41 ?_
  replace h := Option.some.inj h; subst h
  exact y_vretG C hQ ⟨rfl, rfl, _, _, _, _, _, rfl⟩ (by rw [hmc.1, hmc.2]; exact ⟨Nat.le_of_ble_eq_true rfl, Nat.le_of_ble_eq_true rfl⟩) dX5_init_44
theorem ct_C5_init_k34 {D : va_G} {dA : Nat → ClassId} {A : Nat → Prop} {s0 : State} {b0 : Nat} {l : Launch} {hid : Bool} {u9 : Nat} (hu_u9 : u9 < g_n (gC hid) 34) {ad : Nat → Nat → Nat} {σ : g_S}{σ1 : g_S} (h : mF_C5_init_k34 σ u9 = some σ1) : g_MetG gCl D dA A s0 b0 l yX5_init (ws_ yX5_init cX5_init 1 none) 1 (5, 40) (gC hid) ad σ [.ref (ad 34 u9)] (gC hid) (fun v ad2 s2 => v = none ∧ s2 = σ1 ∧ ∃ q0 q1 q2 q3 q4, ad2 = (g_ua (g_ua (g_ua (g_ua (g_ua ad 35 u9 q0) 36 u9 q1) 37 u9 q2) 38 u9 q3) 39 u9 q4)) (fun _ _ _ _ => False) :=
  g_MetG.of pl_X5 (Nat.le_of_ble_eq_true rfl) (fun X C hQ hR hmc hms hL hnm es eb el hT => mw_C5_init_k34 C hR hL hu_u9 hnm ⟨hmc, hms⟩ h hQ)
theorem mw_C5_be_k34_4 {X : g_F} {hid : Bool} (C : g_M gCl X cX5_be RX5 none) (hR : g_R X = g_rm 1 0 0) (hL : g_nL X = 2) {u9 : Nat} (hu_u9 : u9 < g_n (gC hid) 34) {u0 : Nat} (hu_u0 : u0 < g_n (gC hid) 4) {ad : Nat → Nat → Nat} {σ : g_S} {o : g_S} (h : mF_C5_be_k34_4 σ u9 u0 = some o) (hQ : g_MQ gCl X (gC hid) ad o none = g_Q X) : g_Y gCl X (gC hid) ad σ (0, 0) 0 [(0, .ref (ad 34 u9)), (1, .ref (ad 4 u0))] [] := by
  unfold mF_C5_be_k34_4 at h
  refine y_aload_n C dX5_be_0 1 rfl rfl ?_
  refine gf_C_X5_9_4 C hu_u0 dX5_be_1 ?_
  refine y_iconst (v := (0 : Int32)) C dX5_be_4 (by decide) ?_
  refine y_aload_n C dX5_be_5 0 rfl rfl ?_
  obtain ⟨hp, h⟩ := g_gd h
  refine gf_C_X5_9_34 C hu_u9 hp dX5_be_6 ?_
  refine y_iconst (v := (0 : Int32)) C dX5_be_9 (by decide) ?_
  refine y_bipush (v := (8 : Int32)) C dX5_be_10 (by decide) ?_
  obtain ⟨hg, h⟩ := g_gd h
  obtain ⟨σ1, hσ1, h⟩ := g_lt h
  refine y_copyi (k0 := 5) (u0 := u0) (k := 35) (u := u9) C hu_u0 hu_u9 rfl (if_neg hg.2) (fun g_ => by show g_opt (σ.2.2 35 u9 200) (Sum.inl (Sum.inl (_, _, Sum.inl ((g_sA σ 35 u9 g_).1 35 u9)))) = _; rw [g_sA_s]; exact if_neg hg.2) hσ1 hg.1 q760 (g_rmM hR (by decide)) (Nat.le_of_ble_eq_true rfl) dX5_be_12 ?_
  refine y_aload_n C dX5_be_15 1 rfl rfl ?_
  refine gf_C_X5_15_4 C hu_u0 dX5_be_16 ?_
  refine y_iconst (v := (0 : Int32)) C dX5_be_19 (by decide) ?_
  refine y_aload_n C dX5_be_20 0 rfl rfl ?_
  obtain ⟨hp, h⟩ := g_gd h
  refine gf_C_X5_15_34 C hu_u9 hp dX5_be_21 ?_
  refine y_iconst (v := (0 : Int32)) C dX5_be_24 (by decide) ?_
  refine y_bipush (v := (8 : Int32)) C dX5_be_25 (by decide) ?_
  obtain ⟨hg, h⟩ := g_gd h
  obtain ⟨σ2, hσ2, h⟩ := g_lt h
  refine y_copyi (k0 := 6) (u0 := u0) (k := 36) (u := u9) C hu_u0 hu_u9 rfl (if_neg hg.2) (fun g_ => by show g_opt (σ1.2.2 36 u9 200) (Sum.inl (Sum.inl (_, _, Sum.inl ((g_sA σ1 36 u9 g_).1 36 u9)))) = _; rw [g_sA_s]; exact if_neg hg.2) hσ2 hg.1 q760 (g_rmM hR (by decide)) (Nat.le_of_ble_eq_true rfl) dX5_be_27 ?_
  refine y_aload_n C dX5_be_30 1 rfl rfl ?_
  refine gf_C_X5_18_4 C hu_u0 dX5_be_31 ?_
  refine y_iconst (v := (0 : Int32)) C dX5_be_34 (by decide) ?_
  refine y_aload_n C dX5_be_35 0 rfl rfl ?_
  obtain ⟨hp, h⟩ := g_gd h
  refine gf_C_X5_18_34 C hu_u9 hp dX5_be_36 ?_
  refine y_iconst (v := (0 : Int32)) C dX5_be_39 (by decide) ?_
  refine y_bipush (v := (8 : Int32)) C dX5_be_40 (by decide) ?_
  obtain ⟨hg, h⟩ := g_gd h
  obtain ⟨σ3, hσ3, h⟩ := g_lt h
  refine y_copyi (k0 := 7) (u0 := u0) (k := 37) (u := u9) C hu_u0 hu_u9 rfl (if_neg hg.2) (fun g_ => by show g_opt (σ2.2.2 37 u9 200) (Sum.inl (Sum.inl (_, _, Sum.inl ((g_sA σ2 37 u9 g_).1 37 u9)))) = _; rw [g_sA_s]; exact if_neg hg.2) hσ3 hg.1 q760 (g_rmM hR (by decide)) (Nat.le_of_ble_eq_true rfl) dX5_be_42 ?_
  refine y_aload_n C dX5_be_45 1 rfl rfl ?_
  refine gf_C_X5_21_4 C hu_u0 dX5_be_46 ?_
  refine y_iconst (v := (0 : Int32)) C dX5_be_49 (by decide) ?_
  refine y_aload_n C dX5_be_50 0 rfl rfl ?_
  obtain ⟨hp, h⟩ := g_gd h
  refine gf_C_X5_21_34 C hu_u9 hp dX5_be_51 ?_
  refine y_iconst (v := (0 : Int32)) C dX5_be_54 (by decide) ?_
  refine y_bipush (v := (8 : Int32)) C dX5_be_55 (by decide) ?_
  obtain ⟨hg, h⟩ := g_gd h
  obtain ⟨σ4, hσ4, h⟩ := g_lt h
  refine y_copyi (k0 := 8) (u0 := u0) (k := 38) (u := u9) C hu_u0 hu_u9 rfl (if_neg hg.2) (fun g_ => by show g_opt (σ3.2.2 38 u9 200) (Sum.inl (Sum.inl (_, _, Sum.inl ((g_sA σ3 38 u9 g_).1 38 u9)))) = _; rw [g_sA_s]; exact if_neg hg.2) hσ4 hg.1 q760 (g_rmM hR (by decide)) (Nat.le_of_ble_eq_true rfl) dX5_be_57 ?_
  refine y_aload_n C dX5_be_60 1 rfl rfl ?_
  refine gf_C_X5_24_4 C hu_u0 dX5_be_61 ?_
  refine y_iconst (v := (0 : Int32)) C dX5_be_64 (by decide) ?_
  refine y_aload_n C dX5_be_65 0 rfl rfl ?_
  obtain ⟨hp, h⟩ := g_gd h
  refine gf_C_X5_24_34 C hu_u9 hp dX5_be_66 ?_
  refine y_iconst (v := (0 : Int32)) C dX5_be_69 (by decide) ?_
  refine y_bipush (v := (8 : Int32)) C dX5_be_70 (by decide) ?_
  obtain ⟨hg, h⟩ := g_gd h
  obtain ⟨σ5, hσ5, h⟩ := g_lt h
  refine y_copyi (k0 := 9) (u0 := u0) (k := 39) (u := u9) C hu_u0 hu_u9 rfl (if_neg hg.2) (fun g_ => by show g_opt (σ4.2.2 39 u9 200) (Sum.inl (Sum.inl (_, _, Sum.inl ((g_sA σ4 39 u9 g_).1 39 u9)))) = _; rw [g_sA_s]; exact if_neg hg.2) hσ5 hg.1 q760 (g_rmM hR (by decide)) (Nat.le_of_ble_eq_true rfl) dX5_be_72 ?_
  refine y_aload_n C dX5_be_75 0 rfl rfl ?_
  refine y_aload_n C dX5_be_76 1 rfl rfl ?_
  refine gf_C_X5_33_4 C hu_u0 dX5_be_77 ?_
  obtain ⟨hp, h⟩ := g_gd h
  obtain ⟨σ6, hσ6, h⟩ := g_lt h
  refine pf_C_X5_33_34 C hu_u9 hp hσ6 dX5_be_80 ?_
  replace h := Option.some.inj h; subst h
  exact y_vret C hQ ⟨Nat.zero_le _, Nat.zero_le _⟩ dX5_be_83
theorem ct_C5_be_k34_4 {D : va_G} {dA : Nat → ClassId} {A : Nat → Prop} {s0 : State} {b0 : Nat} {l : Launch} {hid : Bool} {u9 : Nat} (hu_u9 : u9 < g_n (gC hid) 34) {u0 : Nat} (hu_u0 : u0 < g_n (gC hid) 4) {ad : Nat → Nat → Nat} {σ : g_S} {σ1 : g_S} (h : mF_C5_be_k34_4 σ u9 u0 = some σ1) : g_Met gCl D dA A s0 b0 l yX5_be cX5_be 2 none 1 (0, 0) (gC hid) ad σ [.ref (ad 34 u9), .ref (ad 4 u0)] (gC hid) ad σ1 none :=
  g_Met.of pl_X5 (Nat.le_of_ble_eq_true rfl) (fun X C hQ hR _ _ hL _ es eb => mw_C5_be_k34_4 C hR hL hu_u9 hu_u0 h hQ)
theorem mw_C11_init {X : g_F} {hid : Bool} (C : g_M gCl X cX11_init RX11 none) (hR : g_R X = g_rm 2 6 46) (hL : g_nL X = 2) {u9 : Nat} (hu_u9 : u9 < g_n (gC hid) 25) (hnm : (g_me X).name = "<init>") (hmc : g_mc X = 6 ∧ g_ms X = 46) {ad : Nat → Nat → Nat} {σ : g_S} {o : g_S} (h : mF_C11_init σ u9 = some o) (hQ : g_MQG gCl X (gC hid) (fun v ad2 s2 => v = none ∧ s2 = o ∧ ∃ q0 q1 q2 q3 q4 q5, ad2 = (g_ua (g_ua (g_ua (g_ua (g_ua (g_ua ad 34 u9 q0) 35 u9 q1) 36 u9 q2) 37 u9 q3) 38 u9 q4) 39 u9 q5)) (fun _ _ _ _ => False) = g_Q X) : g_Y gCl X (gC hid) ad σ (0, 0) 0 [(0, .ref (ad 25 u9)), (1, .ref (ad 0 0))] [] := by
  unfold mF_C11_init at h
  refine y_aload_n C dX11_init_0 0 rfl rfl ?_
  refine y_aload_n C dX11_init_1 1 rfl rfl ?_
  obtain ⟨hp, h⟩ := g_gd h
  obtain ⟨σ1, hσ1, h⟩ := g_lt h
  refine pf_C_X11_1_25 C hu_u9 hp hnm hσ1 dX11_init_2 ?_
  refine y_aload_n C dX11_init_5 0 rfl rfl ?_
  refine y_objInit C q1213 q142 q143 dX11_init_6 (g_rmM hR (Nat.le_of_ble_eq_true rfl)).1 (Nat.le_trans (by decide) (g_rmM hR (Nat.le_of_ble_eq_true rfl)).2) (by decide) ?_
  refine y_aload_n C dX11_init_9 0 rfl rfl ?_
  obtain ⟨hp, h⟩ := g_gd h
  obtain ⟨σ2, hσ2, h⟩ := g_lt h
  refine y_new (σ1 := σ2) (fs := [.null, .null, .null, .null, .null, .int 0]) C 34 u9 in_X5 tyX5 tyX5_ok q1214 q183 q114 (rfl : gCl[4]? = _) (fun j hj => by rcases (show j = 0 ∨ j = 1 ∨ j = 2 ∨ j = 3 ∨ j = 4 ∨ j = 5 by omega) with rfl | rfl | rfl | rfl | rfl | rfl <;> rfl) (by rw [hR]; exact ⟨Nat.le_of_ble_eq_true rfl, Nat.le_of_ble_eq_true rfl⟩) dX11_init_10 (by rw [hσ2]; exact fr_34 hp) (fun q => by rw [hσ2]; exact me_34) (fun q3 => ?_)
  have hq3 : (g_ua ad 34 u9 q3) 34 u9 = q3 := g_ua_s
  suffices key : g_Y gCl X (gC hid) (g_ua ad 34 u9 q3) σ2 (1, 6) 13 [(0, .ref ((g_ua ad 34 u9 q3) 25 u9)), (1, .ref ((g_ua ad 34 u9 q3) 0 0))] [.ref ((g_ua ad 34 u9 q3) 34 u9), .ref ((g_ua ad 34 u9 q3) 25 u9)] by rw [hq3] at key; exact key
  refine y_dup C dX11_init_13 rfl ?_
  obtain ⟨σ4, hc, h⟩ := g_bd h
  refine y_callING C (As := []) (rest := [.ref ((g_ua ad 34 u9 q3) 34 u9), .ref ((g_ua ad 34 u9 q3) 25 u9)]) (lk_X11_15_X5_l1 C hR (by decide)) (ct_C5_init_k34 hu_u9 hc) rfl rfl (Nat.le_of_ble_eq_true rfl) (by rw [hR]; exact ⟨Nat.le_of_ble_eq_true rfl, Nat.le_of_ble_eq_true rfl⟩) dX11_init_14 (fun v ad9 σ9 hz => ?_) (fun E q ad9 σ9 hz => hz.elim)
  obtain ⟨e1, e2, q5, q6, q7, q8, q9, e3⟩ := hz
  subst e1
  rw [e2, e3]
  clear e2 e3
  show g_Y gCl X (gC hid) (g_ua (g_ua (g_ua (g_ua (g_ua (g_ua ad 34 u9 q3) 35 u9 q5) 36 u9 q6) 37 u9 q7) 38 u9 q8) 39 u9 q9) σ4 (6, 46) 17 [(0, .ref ((g_ua (g_ua (g_ua (g_ua (g_ua (g_ua ad 34 u9 q3) 35 u9 q5) 36 u9 q6) 37 u9 q7) 38 u9 q8) 39 u9 q9) 25 u9)), (1, .ref ((g_ua (g_ua (g_ua (g_ua (g_ua (g_ua ad 34 u9 q3) 35 u9 q5) 36 u9 q6) 37 u9 q7) 38 u9 q8) 39 u9 q9) 0 0))] [.ref ((g_ua (g_ua (g_ua (g_ua (g_ua (g_ua ad 34 u9 q3) 35 u9 q5) 36 u9 q6) 37 u9 q7) 38 u9 q8) 39 u9 q9) 34 u9), .ref ((g_ua (g_ua (g_ua (g_ua (g_ua (g_ua ad 34 u9 q3) 35 u9 q5) 36 u9 q6) 37 u9 q7) 38 u9 q8) 39 u9 q9) 25 u9)]
  obtain ⟨hp, h⟩ := g_gd h
  obtain ⟨σ10, hσ10, h⟩ := g_lt h
  refine pf_C_X11_16_25 C hu_u9 hp hnm hσ10 dX11_init_17 ?_
  refine y_aload_n C dX11_init_20 0 rfl rfl ?_
  refine y_aload_n C dX11_init_21 0 rfl rfl ?_
  obtain ⟨hp, h⟩ := g_gd h
  refine gf_C_X11_1_25 C hu_u9 hp dX11_init_22 ?_
  refine gf_C_X11_20_0 C nC_0_0 dX11_init_25 ?_
  obtain ⟨hp, h⟩ := g_gd h
  obtain ⟨σ11, hσ11, h⟩ := g_lt h
  refine pf_C_X11_26_25 C hu_u9 hp hnm hσ11 dX11_init_28 ?_
  refine y_aload_n C dX11_init_31 0 rfl rfl ?_
  obtain ⟨hp, h⟩ := g_gd h
  refine gf_C_X11_16_25 C hu_u9 hp dX11_init_32 ?_
  refine y_aload_n C dX11_init_35 1 rfl rfl ?_
  refine gf_C_X11_29_0 C nC_0_0 dX11_init_36 ?_
  obtain ⟨hp, h⟩ := g_gd h
  obtain ⟨σ12, hc, h⟩ := g_bd h
  refine y_callVv C (As := [.ref ((g_ua (g_ua (g_ua (g_ua (g_ua (g_ua ad 34 u9 q3) 35 u9 q5) 36 u9 q6) 37 u9 q7) 38 u9 q8) 39 u9 q9) 4 0)]) (rest := []) (k := 34) (hu := hu_u9) (hc := (rfl : gCl[4]? = some (RX5, TX5, 6))) (hcell := (obC_34 hp)) (lk_X11_32_X5_l1 C hR (by decide)) (ct_C5_be_k34_4 hu_u9 nC_4_0 hc) rfl rfl (Nat.le_of_ble_eq_true rfl) (by rw [hR]; exact ⟨Nat.le_of_ble_eq_true rfl, Nat.le_of_ble_eq_true rfl⟩) dX11_init_39 ?_
  replace h := Option.some.inj h; subst h
  exact y_vretG C hQ ⟨rfl, rfl, _, _, _, _, _, _, rfl⟩ (by rw [hmc.1, hmc.2]; exact ⟨Nat.le_of_ble_eq_true rfl, Nat.le_of_ble_eq_true rfl⟩) dX11_init_42
theorem ct_C11_init {D : va_G} {dA : Nat → ClassId} {A : Nat → Prop} {s0 : State} {b0 : Nat} {l : Launch} {hid : Bool} {u9 : Nat} (hu_u9 : u9 < g_n (gC hid) 25) {ad : Nat → Nat → Nat} {σ : g_S}{σ1 : g_S} (h : mF_C11_init σ u9 = some σ1) : g_MetG gCl D dA A s0 b0 l yX11_init (ws_ yX11_init cX11_init 2 none) 2 (6, 46) (gC hid) ad σ [.ref (ad 25 u9), .ref (ad 0 0)] (gC hid) (fun v ad2 s2 => v = none ∧ s2 = σ1 ∧ ∃ q0 q1 q2 q3 q4 q5, ad2 = (g_ua (g_ua (g_ua (g_ua (g_ua (g_ua ad 34 u9 q0) 35 u9 q1) 36 u9 q2) 37 u9 q3) 38 u9 q4) 39 u9 q5)) (fun _ _ _ _ => False) :=
  g_MetG.of pl_X11 (Nat.le_of_ble_eq_true rfl) (fun X C hQ hR hmc hms hL hnm es eb el hT => mw_C11_init C hR hL hu_u9 hnm ⟨hmc, hms⟩ h hQ)
theorem mw_C1_keep {X : g_F} {hid : Bool} (C : g_M gCl X cX1_keep RX1 (some .boolean)) (hR : g_R X = g_rm 3 7 49) (hL : g_nL X = 2) {s1 : Nat} (hu_s1 : s1 < g_n (gC hid) 25) (hmc : g_mc X = 7 ∧ g_ms X = 49) {ad : Nat → Nat → Nat} {σ : g_S} {a0 : Nat} (ha0 : ad 0 0 = a0) {v1 : Int32} {o : (Int32 × g_S)} (h : mF_C1_keep σ s1 v1 = some o) (hQ : g_MQG gCl X (gC hid) (fun v ad2 s2 => v = some (.int o.1) ∧ s2 = o.2 ∧ ad2 0 0 = a0) (fun _ _ _ _ => False) = g_Q X) : g_Y gCl X (gC hid) ad σ (0, 0) 0 [(0, .ref (ad 0 0)), (1, .int v1)] [] := by
  unfold mF_C1_keep at h
  refine y_iload_n C dX1_keep_0 1 rfl rfl ?_
  refine y_i2l C dX1_keep_1 ?_
  refine y_lconst (v := (0 : Int64)) C dX1_keep_2 (by decide) ?_
  refine y_ldc2 (v := (2 : Int64)) C q1179 dX1_keep_3 ?_
  obtain ⟨x1, hc, h⟩ := g_bd h
  refine y_callS C (As := [.long (v1.toInt64), .long (0 : Int64), .long (2 : Int64)]) (rest := []) (lk_X1_146_l1 C hR (by decide)) (ct_C1_in hc) rfl rfl (Nat.le_of_ble_eq_true rfl) ⟨Nat.zero_le _, Nat.zero_le _⟩ dX1_keep_6 ?_
  refine y_if_ne (tgt := 14) C dX1_keep_9 rfl (fun hc => ?_) (fun hc => ?_)
  · replace h := g_if h hc
    refine y_aload_n C dX1_keep_14 0 rfl rfl ?_
    refine gf_C_X1_135_0 C nC_0_0 dX1_keep_15 ?_
    refine y_iload_n C dX1_keep_18 1 rfl rfl ?_
    obtain ⟨hp, h⟩ := g_gd h
    obtain ⟨σ2, hσ2, h⟩ := g_lt h
    refine y_new (σ1 := σ2) (fs := [.null, .int 0, .null]) C 25 s1 in_X11 tyX11 tyX11_ok q225 q1209 q135 (rfl : gCl[9]? = _) (fun j hj => by rcases (show j = 0 ∨ j = 1 ∨ j = 2 by omega) with rfl | rfl | rfl <;> rfl) (by rw [hR]; exact ⟨Nat.le_of_ble_eq_true rfl, Nat.le_of_ble_eq_true rfl⟩) dX1_keep_19 (by rw [hσ2]; exact fr_25 hp) (fun q => by rw [hσ2]; exact me_25) (fun q3 => ?_)
    have hq3 : (g_ua ad 25 s1 q3) 25 s1 = q3 := g_ua_s
    suffices key : g_Y gCl X (gC hid) (g_ua ad 25 s1 q3) σ2 (1, 3) 22 [(0, .ref ((g_ua ad 25 s1 q3) 0 0)), (1, .int v1)] [.ref ((g_ua ad 25 s1 q3) 25 s1), .int v1, .ref ((g_ua ad 25 s1 q3) 24 0)] by rw [hq3] at key; exact key
    refine y_dup C dX1_keep_22 rfl ?_
    refine y_aload_n C dX1_keep_23 0 rfl rfl ?_
    obtain ⟨σ4, hc, h⟩ := g_bd h
    refine y_callIG C (As := [.ref ((g_ua ad 25 s1 q3) 0 0)]) (rest := [.ref ((g_ua ad 25 s1 q3) 25 s1), .int v1, .ref ((g_ua ad 25 s1 q3) 24 0)]) (lk_X1_487_X11_l2 C hR (by decide)) (ct_C11_init hu_s1 hc) rfl rfl (Nat.le_of_ble_eq_true rfl) (by rw [hR]; exact ⟨Nat.le_of_ble_eq_true rfl, Nat.le_of_ble_eq_true rfl⟩) dX1_keep_24 (fun v ad9 σ9 hz => ?_) (fun E q ad9 σ9 hz => hz.elim)
    obtain ⟨e1, e2, q5, q6, q7, q8, q9, q10, e3⟩ := hz
    subst e1
    rw [e2, e3]
    clear e2 e3
    show g_Y gCl X (gC hid) (g_ua (g_ua (g_ua (g_ua (g_ua (g_ua (g_ua ad 25 s1 q3) 34 s1 q5) 35 s1 q6) 36 s1 q7) 37 s1 q8) 38 s1 q9) 39 s1 q10) σ4 (7, 49) 27 [(0, .ref ((g_ua (g_ua (g_ua (g_ua (g_ua (g_ua (g_ua ad 25 s1 q3) 34 s1 q5) 35 s1 q6) 36 s1 q7) 37 s1 q8) 38 s1 q9) 39 s1 q10) 0 0)), (1, .int v1)] [.ref ((g_ua (g_ua (g_ua (g_ua (g_ua (g_ua (g_ua ad 25 s1 q3) 34 s1 q5) 35 s1 q6) 36 s1 q7) 37 s1 q8) 38 s1 q9) 39 s1 q10) 25 s1), .int v1, .ref ((g_ua (g_ua (g_ua (g_ua (g_ua (g_ua (g_ua ad 25 s1 q3) 34 s1 q5) 35 s1 q6) 36 s1 q7) 37 s1 q8) 38 s1 q9) 39 s1 q10) 24 0)]
    obtain ⟨hg, h⟩ := g_gd h
    obtain ⟨σ11, hσ11, h⟩ := g_lt h
    refine y_ast24 C hu_s1 hσ11 hg dX1_keep_27 ?_
    refine y_iconst (v := (1 : Int32)) C dX1_keep_28 (by decide) ?_
    replace h := Option.some.inj h; subst h
    exact y_zretG C (by decide) hQ ⟨rfl, rfl, ha0⟩ (by rw [hmc.1, hmc.2]; exact ⟨Nat.le_of_ble_eq_true rfl, Nat.le_of_ble_eq_true rfl⟩) dX1_keep_29
  · replace h := g_it h hc
    refine y_iconst (v := (0 : Int32)) C dX1_keep_12 (by decide) ?_
    replace h := Option.some.inj h; subst h
    exact y_zretG C (by decide) hQ ⟨rfl, rfl, ha0⟩ ⟨Nat.zero_le _, Nat.zero_le _⟩ dX1_keep_13
theorem ct_C1_keep {D : va_G} {dA : Nat → ClassId} {A : Nat → Prop} {s0 : State} {b0 : Nat} {l : Launch} {hid : Bool} {s1 : Nat} (hu_s1 : s1 < g_n (gC hid) 25) {ad : Nat → Nat → Nat} {σ : g_S} {v1 : Int32}{r : Int32} {σ1 : g_S} (h : mF_C1_keep σ s1 v1 = some (r, σ1)) : g_MetG gCl D dA A s0 b0 l yX1_keep (ws_ yX1_keep cX1_keep 2 (some .boolean)) 3 (7, 49) (gC hid) ad σ [.ref (ad 0 0), .int v1] (gC hid) (fun v ad2 s2 => v = some (.int r) ∧ s2 = σ1 ∧ ad2 0 0 = (ad 0 0)) (fun _ _ _ _ => False) :=
  g_MetG.of pl_X1 (Nat.le_of_ble_eq_true rfl) (fun X C hQ hR hmc hms hL hnm es eb el hT => mw_C1_keep C hR hL hu_s1 ⟨hmc, hms⟩ rfl h hQ)
theorem mw_C5_be_k4_34 {X : g_F} {hid : Bool} (C : g_M gCl X cX5_be RX5 none) (hR : g_R X = g_rm 1 0 0) (hL : g_nL X = 2) {u9 : Nat} (hu_u9 : u9 < g_n (gC hid) 4) {u0 : Nat} (hu_u0 : u0 < g_n (gC hid) 34) {ad : Nat → Nat → Nat} {σ : g_S} {o : g_S} (h : mF_C5_be_k4_34 σ u9 u0 = some o) (hQ : g_MQ gCl X (gC hid) ad o none = g_Q X) : g_Y gCl X (gC hid) ad σ (0, 0) 0 [(0, .ref (ad 4 u9)), (1, .ref (ad 34 u0))] [] := by
  unfold mF_C5_be_k4_34 at h
  refine y_aload_n C dX5_be_0 1 rfl rfl ?_
  obtain ⟨hp, h⟩ := g_gd h
  refine gf_C_X5_9_34 C hu_u0 hp dX5_be_1 ?_
  refine y_iconst (v := (0 : Int32)) C dX5_be_4 (by decide) ?_
  refine y_aload_n C dX5_be_5 0 rfl rfl ?_
  refine gf_C_X5_9_4 C hu_u9 dX5_be_6 ?_
  refine y_iconst (v := (0 : Int32)) C dX5_be_9 (by decide) ?_
  refine y_bipush (v := (8 : Int32)) C dX5_be_10 (by decide) ?_
  obtain ⟨hg, h⟩ := g_gd h
  obtain ⟨σ1, hσ1, h⟩ := g_lt h
  refine y_copyi (k0 := 35) (u0 := u0) (k := 5) (u := u9) C hu_u0 hu_u9 (if_neg hg.2) rfl (fun g_ => by show Sum.inl (Sum.inl (_, _, Sum.inl _)) = _; rw [g_sA_s]) hσ1 hg.1 q760 (g_rmM hR (by decide)) (Nat.le_of_ble_eq_true rfl) dX5_be_12 ?_
  refine y_aload_n C dX5_be_15 1 rfl rfl ?_
  obtain ⟨hp, h⟩ := g_gd h
  refine gf_C_X5_15_34 C hu_u0 hp dX5_be_16 ?_
  refine y_iconst (v := (0 : Int32)) C dX5_be_19 (by decide) ?_
  refine y_aload_n C dX5_be_20 0 rfl rfl ?_
  refine gf_C_X5_15_4 C hu_u9 dX5_be_21 ?_
  refine y_iconst (v := (0 : Int32)) C dX5_be_24 (by decide) ?_
  refine y_bipush (v := (8 : Int32)) C dX5_be_25 (by decide) ?_
  obtain ⟨hg, h⟩ := g_gd h
  obtain ⟨σ2, hσ2, h⟩ := g_lt h
  refine y_copyi (k0 := 36) (u0 := u0) (k := 6) (u := u9) C hu_u0 hu_u9 (if_neg hg.2) rfl (fun g_ => by show Sum.inl (Sum.inl (_, _, Sum.inl _)) = _; rw [g_sA_s]) hσ2 hg.1 q760 (g_rmM hR (by decide)) (Nat.le_of_ble_eq_true rfl) dX5_be_27 ?_
  refine y_aload_n C dX5_be_30 1 rfl rfl ?_
  obtain ⟨hp, h⟩ := g_gd h
  refine gf_C_X5_18_34 C hu_u0 hp dX5_be_31 ?_
  refine y_iconst (v := (0 : Int32)) C dX5_be_34 (by decide) ?_
  refine y_aload_n C dX5_be_35 0 rfl rfl ?_
  refine gf_C_X5_18_4 C hu_u9 dX5_be_36 ?_
  refine y_iconst (v := (0 : Int32)) C dX5_be_39 (by decide) ?_
  refine y_bipush (v := (8 : Int32)) C dX5_be_40 (by decide) ?_
  obtain ⟨hg, h⟩ := g_gd h
  obtain ⟨σ3, hσ3, h⟩ := g_lt h
  refine y_copyi (k0 := 37) (u0 := u0) (k := 7) (u := u9) C hu_u0 hu_u9 (if_neg hg.2) rfl (fun g_ => by show Sum.inl (Sum.inl (_, _, Sum.inl _)) = _; rw [g_sA_s]) hσ3 hg.1 q760 (g_rmM hR (by decide)) (Nat.le_of_ble_eq_true rfl) dX5_be_42 ?_
  refine y_aload_n C dX5_be_45 1 rfl rfl ?_
  obtain ⟨hp, h⟩ := g_gd h
  refine gf_C_X5_21_34 C hu_u0 hp dX5_be_46 ?_
  refine y_iconst (v := (0 : Int32)) C dX5_be_49 (by decide) ?_
  refine y_aload_n C dX5_be_50 0 rfl rfl ?_
  refine gf_C_X5_21_4 C hu_u9 dX5_be_51 ?_
  refine y_iconst (v := (0 : Int32)) C dX5_be_54 (by decide) ?_
  refine y_bipush (v := (8 : Int32)) C dX5_be_55 (by decide) ?_
  obtain ⟨hg, h⟩ := g_gd h
  obtain ⟨σ4, hσ4, h⟩ := g_lt h
  refine y_copyi (k0 := 38) (u0 := u0) (k := 8) (u := u9) C hu_u0 hu_u9 (if_neg hg.2) rfl (fun g_ => by show Sum.inl (Sum.inl (_, _, Sum.inl _)) = _; rw [g_sA_s]) hσ4 hg.1 q760 (g_rmM hR (by decide)) (Nat.le_of_ble_eq_true rfl) dX5_be_57 ?_
  refine y_aload_n C dX5_be_60 1 rfl rfl ?_
  obtain ⟨hp, h⟩ := g_gd h
  refine gf_C_X5_24_34 C hu_u0 hp dX5_be_61 ?_
  refine y_iconst (v := (0 : Int32)) C dX5_be_64 (by decide) ?_
  refine y_aload_n C dX5_be_65 0 rfl rfl ?_
  refine gf_C_X5_24_4 C hu_u9 dX5_be_66 ?_
  refine y_iconst (v := (0 : Int32)) C dX5_be_69 (by decide) ?_
  refine y_bipush (v := (8 : Int32)) C dX5_be_70 (by decide) ?_
  obtain ⟨hg, h⟩ := g_gd h
  obtain ⟨σ5, hσ5, h⟩ := g_lt h
  refine y_copyi (k0 := 39) (u0 := u0) (k := 9) (u := u9) C hu_u0 hu_u9 (if_neg hg.2) rfl (fun g_ => by show Sum.inl (Sum.inl (_, _, Sum.inl _)) = _; rw [g_sA_s]) hσ5 hg.1 q760 (g_rmM hR (by decide)) (Nat.le_of_ble_eq_true rfl) dX5_be_72 ?_
  refine y_aload_n C dX5_be_75 0 rfl rfl ?_
  refine y_aload_n C dX5_be_76 1 rfl rfl ?_
  obtain ⟨hp, h⟩ := g_gd h
  refine gf_C_X5_33_34 C hu_u0 hp dX5_be_77 ?_
  obtain ⟨σ6, hσ6, h⟩ := g_lt h
  refine pf_C_X5_33_4 C hu_u9 hσ6 dX5_be_80 ?_
  replace h := Option.some.inj h; subst h
  exact y_vret C hQ ⟨Nat.zero_le _, Nat.zero_le _⟩ dX5_be_83
theorem ct_C5_be_k4_34 {D : va_G} {dA : Nat → ClassId} {A : Nat → Prop} {s0 : State} {b0 : Nat} {l : Launch} {hid : Bool} {u9 : Nat} (hu_u9 : u9 < g_n (gC hid) 4) {u0 : Nat} (hu_u0 : u0 < g_n (gC hid) 34) {ad : Nat → Nat → Nat} {σ : g_S} {σ1 : g_S} (h : mF_C5_be_k4_34 σ u9 u0 = some σ1) : g_Met gCl D dA A s0 b0 l yX5_be cX5_be 2 none 1 (0, 0) (gC hid) ad σ [.ref (ad 4 u9), .ref (ad 34 u0)] (gC hid) ad σ1 none :=
  g_Met.of pl_X5 (Nat.le_of_ble_eq_true rfl) (fun X C hQ hR _ _ hL _ es eb => mw_C5_be_k4_34 C hR hL hu_u9 hu_u0 h hQ)
theorem mw_C1_again {X : g_F} {hid : Bool} (C : g_M gCl X cX1_again RX1 (some .boolean)) (hR : g_R X = g_rm 2 0 0) (hL : g_nL X = 2) {ad : Nat → Nat → Nat} {σ : g_S} {v1 : Int32} {o : (Int32 × g_S)} (h : mF_C1_again σ v1 = some o) (hQ : g_MQ gCl X (gC hid) ad o.2 (some (.int o.1)) = g_Q X) : g_Y gCl X (gC hid) ad σ (0, 0) 0 [(0, .ref (ad 0 0)), (1, .int v1)] [] := by
  unfold mF_C1_again at h
  refine y_iload_n C dX1_again_0 1 rfl rfl ?_
  refine y_i2l C dX1_again_1 ?_
  refine y_lconst (v := (0 : Int64)) C dX1_again_2 (by decide) ?_
  refine y_ldc2 (v := (2 : Int64)) C q1179 dX1_again_3 ?_
  obtain ⟨x1, hc, h⟩ := g_bd h
  refine y_callS C (As := [.long (v1.toInt64), .long (0 : Int64), .long (2 : Int64)]) (rest := []) (lk_X1_146_l1 C hR (by decide)) (ct_C1_in hc) rfl rfl (Nat.le_of_ble_eq_true rfl) ⟨Nat.zero_le _, Nat.zero_le _⟩ dX1_again_6 ?_
  refine y_if_eq (tgt := 37) C dX1_again_9 rfl (fun hc => ?_) (fun hc => ?_)
  · replace h := g_it h hc
    refine y_iconst (v := (0 : Int32)) C dX1_again_37 (by decide) ?_
    replace h := Option.some.inj h; subst h
    exact y_zret C (by decide) hQ ⟨Nat.zero_le _, Nat.zero_le _⟩ dX1_again_38
  · replace h := g_if h hc
    refine y_aload_n C dX1_again_12 0 rfl rfl ?_
    refine gf_C_X1_135_0 C nC_0_0 dX1_again_13 ?_
    refine y_iload_n C dX1_again_16 1 rfl rfl ?_
    obtain ⟨hg2, h⟩ := g_gd h
    by_cases hc : (σ.2.2 24 0 v1.toNatClampNeg) = 0
    · replace h := g_it h hc
      refine aa_C_24_n C hg2 hc dX1_again_17 ?_
      refine y_ifnullN (tgt := 37) C dX1_again_18 rfl ?_
      refine y_iconst (v := (0 : Int32)) C dX1_again_37 (by decide) ?_
      replace h := Option.some.inj h; subst h
      exact y_zret C (by decide) hQ ⟨Nat.zero_le _, Nat.zero_le _⟩ dX1_again_38
    · replace h := g_if h hc
      obtain ⟨hu3, h⟩ := g_gd h
      refine aa_C_24_r C hg2 hc dX1_again_17 ?_
      refine y_ifnull C dX1_again_18 ?_
      refine y_aload_n C dX1_again_21 0 rfl rfl ?_
      refine gf_C_X1_135_0 C nC_0_0 dX1_again_22 ?_
      refine y_iload_n C dX1_again_25 1 rfl rfl ?_
      obtain ⟨hg4, h⟩ := g_gd h
      by_cases hc : (σ.2.2 24 0 v1.toNatClampNeg) = 0
      · replace h := g_it h hc
        refine aa_C_24_n C hg4 hc dX1_again_26 ?_
        cases h
      · replace h := g_if h hc
        obtain ⟨hu5, h⟩ := g_gd h
        refine aa_C_24_r C hg4 hc dX1_again_26 ?_
        obtain ⟨hp, h⟩ := g_gd h
        refine gf_C_X1_488_25 C hu5 hp dX1_again_27 ?_
        refine y_aload_n C dX1_again_30 0 rfl rfl ?_
        refine gf_C_X1_199_0 C nC_0_0 dX1_again_31 ?_
        refine y_icmp_eq (tgt := 39) C dX1_again_34 rfl (fun hc => ?_) (fun hc => ?_)
        · replace h := g_it h hc
          refine y_aload_n C dX1_again_39 0 rfl rfl ?_
          refine gf_C_X1_84_0 C nC_0_0 dX1_again_40 ?_
          refine y_aload_n C dX1_again_43 0 rfl rfl ?_
          refine gf_C_X1_135_0 C nC_0_0 dX1_again_44 ?_
          refine y_iload_n C dX1_again_47 1 rfl rfl ?_
          obtain ⟨hg6, h⟩ := g_gd h
          by_cases hc : (σ.2.2 24 0 v1.toNatClampNeg) = 0
          · replace h := g_it h hc
            refine aa_C_24_n C hg6 hc dX1_again_48 ?_
            cases h
          · replace h := g_if h hc
            obtain ⟨hu7, h⟩ := g_gd h
            refine aa_C_24_r C hg6 hc dX1_again_48 ?_
            obtain ⟨hp, h⟩ := g_gd h
            refine gf_C_X1_491_25 C hu7 hp dX1_again_49 ?_
            obtain ⟨σ8, hc, h⟩ := g_bd h
            refine y_callVv C (As := [.ref (ad 34 ((σ.2.2 24 0 v1.toNatClampNeg) - 1))]) (rest := []) (k := 4) (hu := nC_4_0) (hc := (rfl : gCl[4]? = some (RX5, TX5, 6))) (hcell := obC_4) (lk_X1_298_X5_l1 C hR (by decide)) (ct_C5_be_k4_34 nC_4_0 hu7 hc) rfl rfl (Nat.le_of_ble_eq_true rfl) ⟨Nat.zero_le _, Nat.zero_le _⟩ dX1_again_52 ?_
            refine y_aload_n C dX1_again_55 0 rfl rfl ?_
            refine y_iconst (v := (0 : Int32)) C dX1_again_56 (by decide) ?_
            obtain ⟨σ9, hσ9, h⟩ := g_lt h
            refine pf_C_X1_196_0 C nC_0_0 hσ9 dX1_again_57 ?_
            refine y_iconst (v := (1 : Int32)) C dX1_again_60 (by decide) ?_
            replace h := Option.some.inj h; subst h
            exact y_zret C (by decide) hQ ⟨Nat.zero_le _, Nat.zero_le _⟩ dX1_again_61
        · replace h := g_if h hc
          refine y_iconst (v := (0 : Int32)) C dX1_again_37 (by decide) ?_
          replace h := Option.some.inj h; subst h
          exact y_zret C (by decide) hQ ⟨Nat.zero_le _, Nat.zero_le _⟩ dX1_again_38
