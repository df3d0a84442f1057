set_option maxRecDepth 100000
theorem mw_C1_common {X : g_F} {d : Nat} {LM : g_L} (C : g_M gCl X cX1_common RX1 (some .long)) (hR : g_R X = g_rm (d + 1) 0 0) (hL : g_nL X = 4) {rc : Int64 → Int64 → Option Int64} (ih : ∀ {LM : g_L} {ad : Nat → Nat → Nat} {σ : g_S} {a b r : Int64}, rc a b = some r → g_Met gCl (g_D X) (g_dA X) (g_A X) (g_s0 X) (g_b0 X) (g_l X) yX1_common cX1_common 4 (some .long) d (0, 0) LM ad σ [.long a, .long b] LM ad σ (some (.long r))) {ad : Nat → Nat → Nat} {σ : g_S} {v0 : Int64} {v2 : Int64} {o : Int64} (h : mF_C1_common rc v0 v2 = some o) (hQ : g_MQ gCl X LM ad σ (some (.long o)) = g_Q X) : g_Y gCl X LM ad σ (0, 0) 0 [(0, .long v0), (2, .long v2)] [] := by
  unfold mF_C1_common at h
  refine y_lload_n C dX1_common_0 1 rfl rfl ?_
  refine y_lconst (v := (0 : Int64)) C dX1_common_1 (by decide) ?_
  refine y_lcmp C dX1_common_2 ?_
  refine y_if_ne (tgt := 10) C dX1_common_3 rfl (fun hc => ?_) (fun hc => ?_)
  · replace h := g_if h hc
    refine y_lload_n C dX1_common_10 1 rfl rfl ?_
    refine y_lload_n C dX1_common_11 0 rfl rfl ?_
    refine y_lload_n C dX1_common_12 1 rfl rfl ?_
    obtain ⟨hg, h⟩ := g_gd h
    refine y_lrem C dX1_common_13 hg ?_
    obtain ⟨x1, hc, h⟩ := g_bd h
    refine y_callS C (As := [.long v2, .long (g_remL v0 v2)]) (rest := []) (lk_X1_460_ld C hR ⟨by omega, by omega⟩) (ih hc) rfl rfl (Nat.le_of_ble_eq_true rfl) ⟨Nat.zero_le _, Nat.zero_le _⟩ dX1_common_14 ?_
    replace h := Option.some.inj h; subst h
    exact y_lret C hQ ⟨Nat.zero_le _, Nat.zero_le _⟩ dX1_common_17
  · replace h := g_it h hc
    refine y_lload_n C dX1_common_6 0 rfl rfl ?_
    refine y_goto (tgt := 17) C dX1_common_7 rfl ?_
    replace h := Option.some.inj h; subst h
    exact y_lret C hQ ⟨Nat.zero_le _, Nat.zero_le _⟩ dX1_common_17
theorem ctr_C1_common : ∀ (n : Nat) {D : va_G} {dA : Nat → ClassId} {A : Nat → Prop} {s0 : State} {b0 : Nat} {l : Launch} {LM : g_L} {ad : Nat → Nat → Nat} {σ : g_S} {a b r : Int64}, mR_C1_common n a b = some r → g_Met gCl D dA A s0 b0 l yX1_common cX1_common 4 (some .long) n (0, 0) LM ad σ [.long a, .long b] LM ad σ (some (.long r)) := by
  intro n
  induction n with
  | zero => intro D dA A s0 b0 l LM ad σ a b r h; cases h
  | succ n ih =>
    intro D dA A s0 b0 l LM ad σ a b r h
    exact g_Met.of pl_X1 (Nat.le_of_ble_eq_true rfl) (fun X C hQ hR _ _ hL _ es eb => mw_C1_common C hR hL (fun h => ih h) h hQ)
theorem ct_C1_common {D : va_G} {dA : Nat → ClassId} {A : Nat → Prop} {s0 : State} {b0 : Nat} {l : Launch} {LM : g_L} {ad : Nat → Nat → Nat} {σ : g_S} {a b r : Int64} (h : mC_C1_common a b = some r) : g_Met gCl D dA A s0 b0 l yX1_common cX1_common 4 (some .long) 100 (0, 0) LM ad σ [.long a, .long b] LM ad σ (some (.long r)) := ctr_C1_common 100 h
theorem mw_C7_here_k26 {X : g_F} (C : g_M gCl X cX7_here RX7 (some .int)) (hR : g_R X = g_rm 1 0 0) (hL : g_nL X = 1) {u9 : Nat} (hu_u9 : u9 < g_n (gC false) 26) {ad : Nat → Nat → Nat} {σ : g_S} {o : Int32} (h : mF_C7_here_k26 σ u9 = some o) (hQ : g_MQ gCl X (gC false) ad σ (some (.int o)) = g_Q X) : g_Y gCl X (gC false) ad σ (0, 0) 0 [(0, .ref (ad 26 u9))] [] := by
  unfold mF_C7_here_k26 at h
  refine y_aload_n C dX7_here_0 0 rfl rfl ?_
  obtain ⟨hp, h⟩ := g_gd h
  refine gf_C_X7_28_26 C hu_u9 hp dX7_here_1 ?_
  refine y_aload_n C dX7_here_4 0 rfl rfl ?_
  obtain ⟨hp, h⟩ := g_gd h
  refine gf_C_X7_25_26 C hu_u9 hp dX7_here_5 ?_
  refine y_icmp_ge (tgt := 27) C dX7_here_8 rfl (fun hc => ?_) (fun hc => ?_)
  · replace h := g_it h hc
    refine y_iconst (v := (-1 : Int32)) C dX7_here_27 (by decide) ?_
    replace h := Option.some.inj h; subst h
    exact y_iret C hQ ⟨Nat.zero_le _, Nat.zero_le _⟩ dX7_here_28
  · replace h := g_if h hc
    refine y_aload_n C dX7_here_11 0 rfl rfl ?_
    obtain ⟨hp, h⟩ := g_gd h
    refine gf_C_X7_9_26 C hu_u9 hp dX7_here_12 ?_
    refine y_aload_n C dX7_here_15 0 rfl rfl ?_
    obtain ⟨hp, h⟩ := g_gd h
    refine gf_C_X7_28_26 C hu_u9 hp dX7_here_16 ?_
    obtain ⟨hg, h⟩ := g_gd h
    refine al_C_27 C hu_u9 hg dX7_here_19 ?_
    refine y_sipush (v := (255 : Int32)) C dX7_here_20 (by decide) ?_
    refine y_iand C dX7_here_23 ?_
    refine y_goto (tgt := 28) C dX7_here_24 rfl ?_
    replace h := Option.some.inj h; subst h
    exact y_iret C hQ ⟨Nat.zero_le _, Nat.zero_le _⟩ dX7_here_28
theorem ct_C7_here_k26 {D : va_G} {dA : Nat → ClassId} {A : Nat → Prop} {s0 : State} {b0 : Nat} {l : Launch} {u9 : Nat} (hu_u9 : u9 < g_n (gC false) 26) {ad : Nat → Nat → Nat} {σ : g_S} {r : Int32} (h : mF_C7_here_k26 σ u9 = some r) : g_Met gCl D dA A s0 b0 l yX7_here cX7_here 1 (some .int) 1 (0, 0) (gC false) ad σ [.ref (ad 26 u9)] (gC false) ad σ (some (.int r)) :=
  g_Met.of pl_X7 (Nat.le_of_ble_eq_true rfl) (fun X C hQ hR _ _ hL _ es eb => mw_C7_here_k26 C hR hL hu_u9 h hQ)
theorem mw_C7_passes_k26 {X : g_F} (C : g_M gCl X cX7_passes RX7 (some .boolean)) (hR : g_R X = g_rm 2 0 0) (hL : g_nL X = 2) {u9 : Nat} (hu_u9 : u9 < g_n (gC false) 26) {ad : Nat → Nat → Nat} {σ : g_S} {v1 : Int32} {o : (Int32 × g_S)} (h : mF_C7_passes_k26 σ u9 v1 = some o) (hQ : g_MQ gCl X (gC false) ad o.2 (some (.int o.1)) = g_Q X) : g_Y gCl X (gC false) ad σ (0, 0) 0 [(0, .ref (ad 26 u9)), (1, .int v1)] [] := by
  unfold mF_C7_passes_k26 at h
  refine y_aload_n C dX7_passes_0 0 rfl rfl ?_
  obtain ⟨hp, h⟩ := g_gd h
  obtain ⟨x1, hc, h⟩ := g_bd h
  refine y_callU C (As := []) (rest := []) (k := 26) (hu := hu_u9) (hc := (rfl : gCl[7]? = some (RX9, TX9, 8))) (hcell := (obC_26 hp)) (lk_X7_40_X9_X7_l1 C hR (by decide)) (ct_C7_here_k26 hu_u9 hc) rfl rfl (Nat.le_of_ble_eq_true rfl) ⟨Nat.zero_le _, Nat.zero_le _⟩ dX7_passes_1 ?_
  refine y_iload_n C dX7_passes_4 1 rfl rfl ?_
  refine y_icmp_eq (tgt := 10) C dX7_passes_5 rfl (fun hc => ?_) (fun hc => ?_)
  · replace h := g_it h hc
    refine y_aload_n C dX7_passes_10 0 rfl rfl ?_
    refine y_dup C dX7_passes_11 rfl ?_
    obtain ⟨hp, h⟩ := g_gd h
    refine gf_C_X7_28_26 C hu_u9 hp dX7_passes_12 ?_
    refine y_iconst (v := (1 : Int32)) C dX7_passes_15 (by decide) ?_
    refine y_iadd C dX7_passes_16 ?_
    obtain ⟨hp, h⟩ := g_gd h
    obtain ⟨σ2, hσ2, h⟩ := g_lt h
    refine pf_C_X7_28_26 C hu_u9 hp hσ2 dX7_passes_17 ?_
    refine y_iconst (v := (1 : Int32)) C dX7_passes_20 (by decide) ?_
    replace h := Option.some.inj h; subst h
    exact y_zret C (by decide) hQ ⟨Nat.zero_le _, Nat.zero_le _⟩ dX7_passes_21
  · replace h := g_if h hc
    refine y_iconst (v := (0 : Int32)) C dX7_passes_8 (by decide) ?_
    replace h := Option.some.inj h; subst h
    exact y_zret C (by decide) hQ ⟨Nat.zero_le _, Nat.zero_le _⟩ dX7_passes_9
theorem ct_C7_passes_k26 {D : va_G} {dA : Nat → ClassId} {A : Nat → Prop} {s0 : State} {b0 : Nat} {l : Launch} {u9 : Nat} (hu_u9 : u9 < g_n (gC false) 26) {ad : Nat → Nat → Nat} {σ : g_S} {v1 : Int32} {r : Int32} {σ1 : g_S} (h : mF_C7_passes_k26 σ u9 v1 = some (r, σ1)) : g_Met gCl D dA A s0 b0 l yX7_passes cX7_passes 2 (some .boolean) 2 (0, 0) (gC false) ad σ [.ref (ad 26 u9), .int v1] (gC false) ad σ1 (some (.int r)) :=
  g_Met.of pl_X7 (Nat.le_of_ble_eq_true rfl) (fun X C hQ hR _ _ hL _ es eb => mw_C7_passes_k26 C hR hL hu_u9 h hQ)
theorem mw_C1_in {X : g_F} {LM : g_L} (C : g_M gCl X cX1_in RX1 (some .boolean)) (hR : g_R X = g_rm 1 0 0) (hL : g_nL X = 6) {ad : Nat → Nat → Nat} {σ : g_S} {v0 : Int64} {v2 : Int64} {v4 : Int64} {o : Int32} (h : mF_C1_in v0 v2 v4 = some o) (hQ : g_MQ gCl X LM ad σ (some (.int o)) = g_Q X) : g_Y gCl X LM ad σ (0, 0) 0 [(0, .long v0), (2, .long v2), (4, .long v4)] [] := by
  unfold mF_C1_in at h
  refine y_lload_n C dX1_in_0 0 rfl rfl ?_
  refine y_lload_n C dX1_in_1 1 rfl rfl ?_
  refine y_lcmp C dX1_in_2 ?_
  refine y_if_lt (tgt := 17) C dX1_in_3 rfl (fun hc => ?_) (fun hc => ?_)
  · replace h := g_it h hc
    refine y_iconst (v := (0 : Int32)) C dX1_in_17 (by decide) ?_
    replace h := Option.some.inj h; subst h
    exact y_zret C (by decide) hQ ⟨Nat.zero_le _, Nat.zero_le _⟩ dX1_in_18
  · replace h := g_if h hc
    refine y_lload_n C dX1_in_6 0 rfl rfl ?_
    refine y_lload C dX1_in_7 2 rfl ?_
    refine y_lcmp C dX1_in_9 ?_
    refine y_if_gt (tgt := 17) C dX1_in_10 rfl (fun hc => ?_) (fun hc => ?_)
    · replace h := g_it h hc
      refine y_iconst (v := (0 : Int32)) C dX1_in_17 (by decide) ?_
      replace h := Option.some.inj h; subst h
      exact y_zret C (by decide) hQ ⟨Nat.zero_le _, Nat.zero_le _⟩ dX1_in_18
    · replace h := g_if h hc
      refine y_iconst (v := (1 : Int32)) C dX1_in_13 (by decide) ?_
      refine y_goto (tgt := 18) C dX1_in_14 rfl ?_
      replace h := Option.some.inj h; subst h
      exact y_zret C (by decide) hQ ⟨Nat.zero_le _, Nat.zero_le _⟩ dX1_in_18
theorem ct_C1_in {D : va_G} {dA : Nat → ClassId} {A : Nat → Prop} {s0 : State} {b0 : Nat} {l : Launch} {LM : g_L} {ad : Nat → Nat → Nat} {σ : g_S} {v0 : Int64} {v2 : Int64} {v4 : Int64} {r : Int32} (h : mF_C1_in v0 v2 v4 = some r) : g_Met gCl D dA A s0 b0 l yX1_in cX1_in 6 (some .boolean) 1 (0, 0) LM ad σ [.long v0, .long v2, .long v4] LM ad σ (some (.int r)) :=
  g_Met.of pl_X1 (Nat.le_of_ble_eq_true rfl) (fun X C hQ hR _ _ hL _ es eb => mw_C1_in C hR hL h hQ)
theorem mw_C7_need_k26 {X : g_F} (C : g_M gCl X cX7_need RX7 none) (hR : g_R X = g_rm 1 0 0) (hL : g_nL X = 2) {u9 : Nat} (hu_u9 : u9 < g_n (gC false) 26) {ad : Nat → Nat → Nat} {σ : g_S} {v1 : Int32} {o : g_S} (h : mF_C7_need_k26 σ u9 v1 = some o) (hQ : g_MQ gCl X (gC false) ad o none = g_Q X) : g_Y gCl X (gC false) ad σ (0, 0) 0 [(0, .ref (ad 26 u9)), (1, .int v1)] [] := by
  unfold mF_C7_need_k26 at h
  refine y_iload_n C dX7_need_0 1 rfl rfl ?_
  refine y_if_ne (tgt := 16) C dX7_need_1 rfl (fun hc => ?_) (fun hc => ?_)
  · replace h := g_if h hc
    replace h := Option.some.inj h; subst h
    exact y_vret C hQ ⟨Nat.zero_le _, Nat.zero_le _⟩ dX7_need_16
  · replace h := g_it h hc
    cases h
theorem ct_C7_need_k26 {D : va_G} {dA : Nat → ClassId} {A : Nat → Prop} {s0 : State} {b0 : Nat} {l : Launch} {u9 : Nat} (hu_u9 : u9 < g_n (gC false) 26) {ad : Nat → Nat → Nat} {σ : g_S} {v1 : Int32} {σ1 : g_S} (h : mF_C7_need_k26 σ u9 v1 = some σ1) : g_Met gCl D dA A s0 b0 l yX7_need cX7_need 2 none 1 (0, 0) (gC false) ad σ [.ref (ad 26 u9), .int v1] (gC false) ad σ1 none :=
  g_Met.of pl_X7 (Nat.le_of_ble_eq_true rfl) (fun X C hQ hR _ _ hL _ es eb => mw_C7_need_k26 C hR hL hu_u9 h hQ)
theorem mw_C1_has {X : g_F} {LM : g_L} (C : g_M gCl X cX1_has RX1 (some .boolean)) (hR : g_R X = g_rm 1 0 0) (hL : g_nL X = 3) {ad : Nat → Nat → Nat} {σ : g_S} {v0 : Int64} {v2 : Int32} {o : Int32} (h : mF_C1_has v0 v2 = some o) (hQ : g_MQ gCl X LM ad σ (some (.int o)) = g_Q X) : g_Y gCl X LM ad σ (0, 0) 0 [(0, .long v0), (2, .int v2)] [] := by
  unfold mF_C1_has at h
  refine y_lload_n C dX1_has_0 0 rfl rfl ?_
  refine y_iload_n C dX1_has_1 1 rfl rfl ?_
  refine y_lshr C dX1_has_2 rfl ?_
  refine y_lconst (v := (1 : Int64)) C dX1_has_3 (by decide) ?_
  refine y_land C dX1_has_4 ?_
  refine y_lconst (v := (1 : Int64)) C dX1_has_5 (by decide) ?_
  refine y_lcmp C dX1_has_6 ?_
  refine y_if_ne (tgt := 14) C dX1_has_7 rfl (fun hc => ?_) (fun hc => ?_)
  · replace h := g_if h hc
    refine y_iconst (v := (0 : Int32)) C dX1_has_14 (by decide) ?_
    replace h := Option.some.inj h; subst h
    exact y_zret C (by decide) hQ ⟨Nat.zero_le _, Nat.zero_le _⟩ dX1_has_15
  · replace h := g_it h hc
    refine y_iconst (v := (1 : Int32)) C dX1_has_10 (by decide) ?_
    refine y_goto (tgt := 15) C dX1_has_11 rfl ?_
    replace h := Option.some.inj h; subst h
    exact y_zret C (by decide) hQ ⟨Nat.zero_le _, Nat.zero_le _⟩ dX1_has_15
theorem ct_C1_has {D : va_G} {dA : Nat → ClassId} {A : Nat → Prop} {s0 : State} {b0 : Nat} {l : Launch} {LM : g_L} {ad : Nat → Nat → Nat} {σ : g_S} {v0 : Int64} {v2 : Int32} {r : Int32} (h : mF_C1_has v0 v2 = some r) : g_Met gCl D dA A s0 b0 l yX1_has cX1_has 3 (some .boolean) 1 (0, 0) LM ad σ [.long v0, .int v2] LM ad σ (some (.int r)) :=
  g_Met.of pl_X1 (Nat.le_of_ble_eq_true rfl) (fun X C hQ hR _ _ hL _ es eb => mw_C1_has C hR hL h hQ)
theorem ml_C1_peopleOn_6 {X : g_F} {hid : Bool} (C : g_M gCl X cX1_peopleOn RX1 (some .int)) (hR : g_R X = g_rm 2 0 0) (hL : g_nL X = 6) {u0 : Nat} (hu_u0 : u0 < g_n (gC hid) 4) {ad : Nat → Nat → Nat} {σ : g_S} {v2 : Int64} (n : Nat) (v : (Int32 × Int32)) (e : Int32) (h : g_lp (fun v => mB_C1_peopleOn_6 σ u0 v2 v.1 v.2) n v = some e) (kx : g_Y gCl X (gC hid) ad σ (0, 0) 48 [(4, .int e)] []) : g_Y gCl X (gC hid) ad σ (0, 0) 6 [(0, .ref (ad 0 0)), (1, .ref (ad 4 u0)), (2, .long v2), (4, .int v.1), (5, .int v.2)] [] := by
  refine g_loop (P := fun v => g_Y gCl X (gC hid) ad σ (0, 0) 6 [(0, .ref (ad 0 0)), (1, .ref (ad 4 u0)), (2, .long v2), (4, .int v.1), (5, .int v.2)] []) (T := fun e => g_Y gCl X (gC hid) ad σ (0, 0) 48 [(4, .int e)] []) ?_ n v e h kx
  clear h kx
  clear n v e
  intro v o h kl kx
  obtain ⟨v4, v5⟩ := v
  have h : mB_C1_peopleOn_6 σ u0 v2 v4 v5 = some o := h
  unfold mB_C1_peopleOn_6 at h
  show g_Y gCl X (gC hid) ad σ (0, 0) 6 [(0, .ref (ad 0 0)), (1, .ref (ad 4 u0)), (2, .long v2), (4, .int v4), (5, .int v5)] []
  refine y_iload C dX1_peopleOn_6 4 rfl ?_
  refine y_aload_n C dX1_peopleOn_8 0 rfl rfl ?_
  refine gf_C_X1_150_0 C nC_0_0 dX1_peopleOn_9 ?_
  refine y_icmp_ge (tgt := 48) C dX1_peopleOn_12 rfl (fun hc => ?_) (fun hc => ?_)
  · replace h := g_it h hc
    refine y_sub (vs2 := [(4, .int v4)]) [3] rfl ?_
    exact kx _ (Option.some.inj h).symm
  · replace h := g_if h hc
    refine y_iload C dX1_peopleOn_15 3 rfl ?_
    refine y_lload_n C dX1_peopleOn_17 2 rfl rfl ?_
    refine y_aload_n C dX1_peopleOn_18 1 rfl rfl ?_
    refine gf_C_X1_217_4 C hu_u0 dX1_peopleOn_19 ?_
    refine y_iload C dX1_peopleOn_22 4 rfl ?_
    obtain ⟨hg, h⟩ := g_gd h
    refine al_C_5 C hu_u0 hg dX1_peopleOn_24 ?_
    obtain ⟨x1, hc, h⟩ := g_bd h
    refine y_callS C (As := [.long v2, .int (σ.1 5 u0 v5.toNatClampNeg)]) (rest := [.int v4]) (lk_X1_26_l1 C hR (by decide)) (ct_C1_has hc) rfl rfl (Nat.le_of_ble_eq_true rfl) ⟨Nat.zero_le _, Nat.zero_le _⟩ dX1_peopleOn_25 ?_
    refine y_if_eq (tgt := 38) C dX1_peopleOn_28 rfl (fun hc => ?_) (fun hc => ?_)
    · replace h := g_it h hc
      refine y_iconst (v := (0 : Int32)) C dX1_peopleOn_38 (by decide) ?_
      refine y_ior C dX1_peopleOn_39 ?_
      obtain ⟨x2, hx2, h⟩ := g_lt h
      refine y_istore (vs1 := [(4, .int x2), (0, .ref (ad 0 0)), (1, .ref (ad 4 u0)), (2, .long v2), (5, .int v5)]) C hx2 dX1_peopleOn_40 (g_lL hL rfl) rfl ?_
      obtain ⟨x3, hx3, h⟩ := g_lt h
      refine y_iinc (c := (1 : Int32)) (vs1 := [(5, .int x3), (4, .int x2), (0, .ref (ad 0 0)), (1, .ref (ad 4 u0)), (2, .long v2)]) C hx3 (by decide) dX1_peopleOn_42 4 rfl (g_lL hL rfl) rfl ?_
      refine y_goto (tgt := 6) C dX1_peopleOn_45 rfl ?_
      refine y_sub (vs2 := [(0, .ref (ad 0 0)), (1, .ref (ad 4 u0)), (2, .long v2), (4, .int x2), (5, .int x3)]) [2, 3, 4, 1, 0] rfl ?_
      exact kl _ (Option.some.inj h).symm
    · replace h := g_if h hc
      refine y_iconst (v := (1 : Int32)) C dX1_peopleOn_31 (by decide) ?_
      refine y_iload C dX1_peopleOn_32 4 rfl ?_
      refine y_ishl C dX1_peopleOn_34 ?_
      refine y_goto (tgt := 39) C dX1_peopleOn_35 rfl ?_
      refine y_ior C dX1_peopleOn_39 ?_
      obtain ⟨x4, hx4, h⟩ := g_lt h
      refine y_istore (vs1 := [(4, .int x4), (0, .ref (ad 0 0)), (1, .ref (ad 4 u0)), (2, .long v2), (5, .int v5)]) C hx4 dX1_peopleOn_40 (g_lL hL rfl) rfl ?_
      obtain ⟨x5, hx5, h⟩ := g_lt h
      refine y_iinc (c := (1 : Int32)) (vs1 := [(5, .int x5), (4, .int x4), (0, .ref (ad 0 0)), (1, .ref (ad 4 u0)), (2, .long v2)]) C hx5 (by decide) dX1_peopleOn_42 4 rfl (g_lL hL rfl) rfl ?_
      refine y_goto (tgt := 6) C dX1_peopleOn_45 rfl ?_
      refine y_sub (vs2 := [(0, .ref (ad 0 0)), (1, .ref (ad 4 u0)), (2, .long v2), (4, .int x4), (5, .int x5)]) [2, 3, 4, 1, 0] rfl ?_
      exact kl _ (Option.some.inj h).symm
theorem mw_C1_peopleOn {X : g_F} {hid : Bool} (C : g_M gCl X cX1_peopleOn RX1 (some .int)) (hR : g_R X = g_rm 2 0 0) (hL : g_nL X = 6) {u0 : Nat} (hu_u0 : u0 < g_n (gC hid) 4) {ad : Nat → Nat → Nat} {σ : g_S} {v2 : Int64} {o : Int32} (h : mF_C1_peopleOn σ u0 v2 = some o) (hQ : g_MQ gCl X (gC hid) ad σ (some (.int o)) = g_Q X) : g_Y gCl X (gC hid) ad σ (0, 0) 0 [(0, .ref (ad 0 0)), (1, .ref (ad 4 u0)), (2, .long v2)] [] := by
  unfold mF_C1_peopleOn at h
  refine y_iconst (v := (0 : Int32)) C dX1_peopleOn_0 (by decide) ?_
  refine y_istore (vs1 := [(4, .int (0 : Int32)), (0, .ref (ad 0 0)), (1, .ref (ad 4 u0)), (2, .long v2)]) C rfl dX1_peopleOn_1 (g_lL hL rfl) rfl ?_
  refine y_iconst (v := (0 : Int32)) C dX1_peopleOn_3 (by decide) ?_
  refine y_istore (vs1 := [(5, .int (0 : Int32)), (4, .int (0 : Int32)), (0, .ref (ad 0 0)), (1, .ref (ad 4 u0)), (2, .long v2)]) C rfl dX1_peopleOn_4 (g_lL hL rfl) rfl ?_
  refine y_sub (vs2 := [(0, .ref (ad 0 0)), (1, .ref (ad 4 u0)), (2, .long v2), (4, .int (0 : Int32)), (5, .int (0 : Int32))]) [2, 3, 4, 1, 0] rfl ?_
  obtain ⟨e6, he6, h⟩ := g_bd h
  refine ml_C1_peopleOn_6 C hR hL hu_u0 (σ := σ) _ _ _ he6 ?_
  refine y_iload C dX1_peopleOn_48 0 rfl ?_
  replace h := Option.some.inj h; subst h
  exact y_iret C hQ ⟨Nat.zero_le _, Nat.zero_le _⟩ dX1_peopleOn_50
theorem ct_C1_peopleOn {D : va_G} {dA : Nat → ClassId} {A : Nat → Prop} {s0 : State} {b0 : Nat} {l : Launch} {hid : Bool} {u0 : Nat} (hu_u0 : u0 < g_n (gC hid) 4) {ad : Nat → Nat → Nat} {σ : g_S} {v2 : Int64} {r : Int32} (h : mF_C1_peopleOn σ u0 v2 = some r) : g_Met gCl D dA A s0 b0 l yX1_peopleOn cX1_peopleOn 6 (some .int) 2 (0, 0) (gC hid) ad σ [.ref (ad 0 0), .ref (ad 4 u0), .long v2] (gC hid) ad σ (some (.int r)) :=
  g_Met.of pl_X1 (Nat.le_of_ble_eq_true rfl) (fun X C hQ hR _ _ hL _ es eb => mw_C1_peopleOn C hR hL hu_u0 h hQ)
theorem mw_C1_lightOf {X : g_F} {hid : Bool} (C : g_M gCl X cX1_lightOf RX1 (some .int)) (hR : g_R X = g_rm 1 0 0) (hL : g_nL X = 2) {ad : Nat → Nat → Nat} {σ : g_S} {v1 : Int32} {o : Int32} (h : mF_C1_lightOf σ v1 = some o) (hQ : g_MQ gCl X (gC hid) ad σ (some (.int o)) = g_Q X) : g_Y gCl X (gC hid) ad σ (0, 0) 0 [(0, .ref (ad 0 0)), (1, .int v1)] [] := by
  unfold mF_C1_lightOf at h
  refine y_aload_n C dX1_lightOf_0 0 rfl rfl ?_
  refine gf_C_X1_98_0 C nC_0_0 dX1_lightOf_1 ?_
  obtain ⟨hu1, h⟩ := g_gd h
  refine y_iload_n C dX1_lightOf_4 1 rfl rfl ?_
  refine y_aload_n C dX1_lightOf_5 0 rfl rfl ?_
  refine gf_C_X1_98_0 C nC_0_0 dX1_lightOf_6 ?_
  obtain ⟨hu2, h⟩ := g_gd h
  obtain ⟨hg, h⟩ := g_gd h
  refine ln_C_11 C hu2 hg dX1_lightOf_9 ?_
  obtain ⟨hg, h⟩ := g_gd h
  refine y_irem C dX1_lightOf_10 hg ?_
  obtain ⟨hg, h⟩ := g_gd h
  refine al_C_11 C hu2 hg dX1_lightOf_11 ?_
  replace h := Option.some.inj h; subst h
  exact y_iret C hQ ⟨Nat.zero_le _, Nat.zero_le _⟩ dX1_lightOf_12
theorem ct_C1_lightOf {D : va_G} {dA : Nat → ClassId} {A : Nat → Prop} {s0 : State} {b0 : Nat} {l : Launch} {hid : Bool} {ad : Nat → Nat → Nat} {σ : g_S} {v1 : Int32} {r : Int32} (h : mF_C1_lightOf σ v1 = some r) : g_Met gCl D dA A s0 b0 l yX1_lightOf cX1_lightOf 2 (some .int) 1 (0, 0) (gC hid) ad σ [.ref (ad 0 0), .int v1] (gC hid) ad σ (some (.int r)) :=
  g_Met.of pl_X1 (Nat.le_of_ble_eq_true rfl) (fun X C hQ hR _ _ hL _ es eb => mw_C1_lightOf C hR hL h hQ)
theorem mj_C9_value_k26_186 {X : g_F} (C : g_M gCl X cX9_value RX9 (some .int)) (hR : g_R X = g_rm 3 0 0) (hL : g_nL X = 2) {u9 : Nat} (hu_u9 : u9 < g_n (gC false) 26) {ad : Nat → Nat → Nat} {σ : g_S} {o : Int32} (h : mJ_C9_value_k26_186 σ u9 = some o) (hQ : g_MQ gCl X (gC false) ad σ (some (.int o)) = g_Q X) : g_Y gCl X (gC false) ad σ (0, 0) 186 [(0, .ref (ad 26 u9))] [] := by
  unfold mJ_C9_value_k26_186 at h
  refine y_aload_n C dX9_value_186 0 rfl rfl ?_
  obtain ⟨hp, h⟩ := g_gd h
  refine gf_C_X9_3_26 C hu_u9 hp dX9_value_187 ?_
  refine y_aload_n C dX9_value_190 0 rfl rfl ?_
  obtain ⟨hp, h⟩ := g_gd h
  by_cases hc : (σ.2.2 26 u9 4) = 0
  · replace h := g_it h hc
    refine gf_C_X9_23_26_n C hu_u9 hp hc dX9_value_191 ?_
    refine y_lconst (v := (1 : Int64)) C dX9_value_194 (by decide) ?_
    refine y_aload_n C dX9_value_195 0 rfl rfl ?_
    obtain ⟨hp, h⟩ := g_gd h
    by_cases hc : (σ.2.2 26 u9 4) = 0
    · replace h := g_it h hc
      refine gf_C_X9_23_26_n C hu_u9 hp hc dX9_value_196 ?_
      cases h
    · replace h := g_if h hc
      refine gf_C_X9_23_26_r C hu_u9 hp hc dX9_value_196 ?_
      obtain ⟨hu2, h⟩ := g_gd h
      refine gf_C_X9_101_4 C hu2 dX9_value_199 ?_
      refine y_aload_n C dX9_value_202 0 rfl rfl ?_
      obtain ⟨hp, h⟩ := g_gd h
      refine gf_C_X9_27_26 C hu_u9 hp dX9_value_203 ?_
      obtain ⟨hg, h⟩ := g_gd h
      refine al_C_5 C hu2 hg dX9_value_206 ?_
      refine y_lshl C dX9_value_207 rfl ?_
      cases h
  · replace h := g_if h hc
    refine gf_C_X9_23_26_r C hu_u9 hp hc dX9_value_191 ?_
    obtain ⟨hu3, h⟩ := g_gd h
    refine y_lconst (v := (1 : Int64)) C dX9_value_194 (by decide) ?_
    refine y_aload_n C dX9_value_195 0 rfl rfl ?_
    obtain ⟨hp, h⟩ := g_gd h
    by_cases hc : (σ.2.2 26 u9 4) = 0
    · replace h := g_it h hc
      refine gf_C_X9_23_26_n C hu_u9 hp hc dX9_value_196 ?_
      cases h
    · replace h := g_if h hc
      refine gf_C_X9_23_26_r C hu_u9 hp hc dX9_value_196 ?_
      obtain ⟨hu4, h⟩ := g_gd h
      refine gf_C_X9_101_4 C hu4 dX9_value_199 ?_
      refine y_aload_n C dX9_value_202 0 rfl rfl ?_
      obtain ⟨hp, h⟩ := g_gd h
      refine gf_C_X9_27_26 C hu_u9 hp dX9_value_203 ?_
      obtain ⟨hg, h⟩ := g_gd h
      refine al_C_5 C hu4 hg dX9_value_206 ?_
      refine y_lshl C dX9_value_207 rfl ?_
      obtain ⟨x5, hc, h⟩ := g_bd h
      refine y_callVN C (As := [.ref (ad 4 ((σ.2.2 26 u9 4) - 1)), .long ((1 : Int64) <<< ((σ.1 5 ((σ.2.2 26 u9 4) - 1) (σ.1 26 u9 5).toNatClampNeg).toInt64 &&& 63))]) (rest := []) (k := 0) (hu := nC_0_0) (hc := (rfl : gCl[0]? = some (RX1, TX1, 31))) (hcell := obC_0) (lk_X9_106_X1_l2 C hR (by decide)) (ct_C1_peopleOn hu4 hc) rfl rfl (Nat.le_of_ble_eq_true rfl) ⟨Nat.zero_le _, Nat.zero_le _⟩ dX9_value_208 ?_
      obtain ⟨x6, hc, h⟩ := g_bd h
      refine y_callS C (As := [.int x5]) (rest := []) (lk_X9_93_l1 C hR (by decide)) (ct_J8_bitCount hc) rfl rfl (Nat.le_of_ble_eq_true rfl) ⟨Nat.zero_le _, Nat.zero_le _⟩ dX9_value_211 ?_
      replace h := Option.some.inj h; subst h
      exact y_iret C hQ ⟨Nat.zero_le _, Nat.zero_le _⟩ dX9_value_214
theorem mw_C9_value_k26 {X : g_F} (C : g_M gCl X cX9_value RX9 (some .int)) (hR : g_R X = g_rm 3 0 0) (hL : g_nL X = 2) {u9 : Nat} (hu_u9 : u9 < g_n (gC false) 26) {ad : Nat → Nat → Nat} {σ : g_S} {v1 : Int32} {o : Int32} (h : mF_C9_value_k26 σ u9 v1 = some o) (hQ : g_MQ gCl X (gC false) ad σ (some (.int o)) = g_Q X) : g_Y gCl X (gC false) ad σ (0, 0) 0 [(0, .ref (ad 26 u9)), (1, .int v1)] [] := by
  unfold mF_C9_value_k26 at h
  refine y_iload_n C dX9_value_0 1 rfl rfl ?_
  by_cases hc98 : v1 = (98 : Int32)
  · replace h := g_it h hc98
    refine y_tswI (tgt := 84) (off := 83) C dX9_value_1 hc98 (by decide) rfl ?_
    refine y_aload_n C dX9_value_84 0 rfl rfl ?_
    obtain ⟨hp, h⟩ := g_gd h
    refine gf_C_X9_31_26 C hu_u9 hp dX9_value_85 ?_
    replace h := Option.some.inj h; subst h
    exact y_iret C hQ ⟨Nat.zero_le _, Nat.zero_le _⟩ dX9_value_88
  replace h := g_if h hc98
  by_cases hc99 : v1 = (99 : Int32)
  · replace h := g_it h hc99
    refine y_tswI (tgt := 154) (off := 153) C dX9_value_1 hc99 (by decide) rfl ?_
    refine y_aload_n C dX9_value_154 0 rfl rfl ?_
    obtain ⟨hp, h⟩ := g_gd h
    by_cases hc : (σ.2.2 26 u9 4) = 0
    · replace h := g_it h hc
      refine gf_C_X9_23_26_n C hu_u9 hp hc dX9_value_155 ?_
      cases h
    · replace h := g_if h hc
      refine gf_C_X9_23_26_r C hu_u9 hp hc dX9_value_155 ?_
      obtain ⟨hu1, h⟩ := g_gd h
      refine gf_C_X9_101_4 C hu1 dX9_value_158 ?_
      refine y_aload_n C dX9_value_161 0 rfl rfl ?_
      obtain ⟨hp, h⟩ := g_gd h
      refine gf_C_X9_27_26 C hu_u9 hp dX9_value_162 ?_
      obtain ⟨hg, h⟩ := g_gd h
      refine al_C_5 C hu1 hg dX9_value_165 ?_
      refine y_aload_n C dX9_value_166 0 rfl rfl ?_
      obtain ⟨hp, h⟩ := g_gd h
      refine gf_C_X9_3_26 C hu_u9 hp dX9_value_167 ?_
      refine gf_C_X9_103_0 C nC_0_0 dX9_value_170 ?_
      obtain ⟨hg, h⟩ := g_gd h
      refine y_irem C dX9_value_173 hg ?_
      replace h := Option.some.inj h; subst h
      exact y_iret C hQ ⟨Nat.zero_le _, Nat.zero_le _⟩ dX9_value_174
  replace h := g_if h hc99
  by_cases hc100 : v1 = (100 : Int32)
  · replace h := g_it h hc100
    refine y_tswI (tgt := 186) (off := 185) C dX9_value_1 hc100 (by decide) rfl ?_
    refine y_sub (vs2 := [(0, .ref (ad 26 u9))]) [0] rfl ?_
    exact mj_C9_value_k26_186 C hR hL hu_u9 h hQ
  replace h := g_if h hc100
  by_cases hc101 : v1 = (101 : Int32)
  · replace h := g_it h hc101
    refine y_tswI (tgt := 186) (off := 185) C dX9_value_1 hc101 (by decide) rfl ?_
    refine y_sub (vs2 := [(0, .ref (ad 26 u9))]) [0] rfl ?_
    exact mj_C9_value_k26_186 C hR hL hu_u9 h hQ
  replace h := g_if h hc101
  by_cases hc102 : v1 = (102 : Int32)
  · replace h := g_it h hc102
    refine y_tswI (tgt := 120) (off := 119) C dX9_value_1 hc102 (by decide) rfl ?_
    refine y_aload_n C dX9_value_120 0 rfl rfl ?_
    obtain ⟨hp, h⟩ := g_gd h
    by_cases hc : (σ.2.2 26 u9 4) = 0
    · replace h := g_it h hc
      refine gf_C_X9_23_26_n C hu_u9 hp hc dX9_value_121 ?_
      cases h
    · replace h := g_if h hc
      refine gf_C_X9_23_26_r C hu_u9 hp hc dX9_value_121 ?_
      obtain ⟨hu7, h⟩ := g_gd h
      refine gf_C_X9_98_4 C hu7 dX9_value_124 ?_
      refine y_aload_n C dX9_value_127 0 rfl rfl ?_
      obtain ⟨hp, h⟩ := g_gd h
      refine gf_C_X9_27_26 C hu_u9 hp dX9_value_128 ?_
      obtain ⟨hg, h⟩ := g_gd h
      refine al_C_6 C hu7 hg dX9_value_131 ?_
      replace h := Option.some.inj h; subst h
      exact y_iret C hQ ⟨Nat.zero_le _, Nat.zero_le _⟩ dX9_value_132
  replace h := g_if h hc102
  by_cases hc103 : v1 = (103 : Int32)
  · replace h := g_it h hc103
    refine y_tswI (tgt := 186) (off := 185) C dX9_value_1 hc103 (by decide) rfl ?_
    refine y_sub (vs2 := [(0, .ref (ad 26 u9))]) [0] rfl ?_
    exact mj_C9_value_k26_186 C hR hL hu_u9 h hQ
  replace h := g_if h hc103
  by_cases hc104 : v1 = (104 : Int32)
  · replace h := g_it h hc104
    refine y_tswI (tgt := 186) (off := 185) C dX9_value_1 hc104 (by decide) rfl ?_
    refine y_sub (vs2 := [(0, .ref (ad 26 u9))]) [0] rfl ?_
    exact mj_C9_value_k26_186 C hR hL hu_u9 h hQ
  replace h := g_if h hc104
  by_cases hc105 : v1 = (105 : Int32)
  · replace h := g_it h hc105
    refine y_tswI (tgt := 186) (off := 185) C dX9_value_1 hc105 (by decide) rfl ?_
    refine y_sub (vs2 := [(0, .ref (ad 26 u9))]) [0] rfl ?_
    exact mj_C9_value_k26_186 C hR hL hu_u9 h hQ
  replace h := g_if h hc105
  by_cases hc106 : v1 = (106 : Int32)
  · replace h := g_it h hc106
    refine y_tswI (tgt := 186) (off := 185) C dX9_value_1 hc106 (by decide) rfl ?_
    refine y_sub (vs2 := [(0, .ref (ad 26 u9))]) [0] rfl ?_
    exact mj_C9_value_k26_186 C hR hL hu_u9 h hQ
  replace h := g_if h hc106
  by_cases hc107 : v1 = (107 : Int32)
  · replace h := g_it h hc107
    refine y_tswI (tgt := 104) (off := 103) C dX9_value_1 hc107 (by decide) rfl ?_
    refine y_aload_n C dX9_value_104 0 rfl rfl ?_
    obtain ⟨hp, h⟩ := g_gd h
    by_cases hc : (σ.2.2 26 u9 4) = 0
    · replace h := g_it h hc
      refine gf_C_X9_23_26_n C hu_u9 hp hc dX9_value_105 ?_
      cases h
    · replace h := g_if h hc
      refine gf_C_X9_23_26_r C hu_u9 hp hc dX9_value_105 ?_
      obtain ⟨hu8, h⟩ := g_gd h
      refine gf_C_X9_89_4 C hu8 dX9_value_108 ?_
      refine y_aload_n C dX9_value_111 0 rfl rfl ?_
      obtain ⟨hp, h⟩ := g_gd h
      refine gf_C_X9_27_26 C hu_u9 hp dX9_value_112 ?_
      obtain ⟨hg, h⟩ := g_gd h
      refine al_C_8 C hu8 hg dX9_value_115 ?_
      obtain ⟨x9, hc, h⟩ := g_bd h
      refine y_callS C (As := [.int (σ.1 8 ((σ.2.2 26 u9 4) - 1) (σ.1 26 u9 5).toNatClampNeg)]) (rest := []) (lk_X9_93_l1 C hR (by decide)) (ct_J8_bitCount hc) rfl rfl (Nat.le_of_ble_eq_true rfl) ⟨Nat.zero_le _, Nat.zero_le _⟩ dX9_value_116 ?_
      replace h := Option.some.inj h; subst h
      exact y_iret C hQ ⟨Nat.zero_le _, Nat.zero_le _⟩ dX9_value_119
  replace h := g_if h hc107
  by_cases hc108 : v1 = (108 : Int32)
  · replace h := g_it h hc108
    refine y_tswI (tgt := 89) (off := 88) C dX9_value_1 hc108 (by decide) rfl ?_
    refine y_aload_n C dX9_value_89 0 rfl rfl ?_
    obtain ⟨hp, h⟩ := g_gd h
    refine gf_C_X9_3_26 C hu_u9 hp dX9_value_90 ?_
    refine y_aload_n C dX9_value_93 0 rfl rfl ?_
    obtain ⟨hp, h⟩ := g_gd h
    by_cases hc : (σ.2.2 26 u9 4) = 0
    · replace h := g_it h hc
      refine gf_C_X9_23_26_n C hu_u9 hp hc dX9_value_94 ?_
      cases h
    · replace h := g_if h hc
      refine gf_C_X9_23_26_r C hu_u9 hp hc dX9_value_94 ?_
      obtain ⟨hu10, h⟩ := g_gd h
      refine gf_C_X9_81_4 C hu10 dX9_value_97 ?_
      obtain ⟨x11, hc, h⟩ := g_bd h
      refine y_callVN C (As := [.int (σ.1 4 ((σ.2.2 26 u9 4) - 1) 5)]) (rest := []) (k := 0) (hu := nC_0_0) (hc := (rfl : gCl[0]? = some (RX1, TX1, 31))) (hcell := obC_0) (lk_X9_86_X1_l1 C hR (by decide)) (ct_C1_lightOf hc) rfl rfl (Nat.le_of_ble_eq_true rfl) ⟨Nat.zero_le _, Nat.zero_le _⟩ dX9_value_100 ?_
      replace h := Option.some.inj h; subst h
      exact y_iret C hQ ⟨Nat.zero_le _, Nat.zero_le _⟩ dX9_value_103
  replace h := g_if h hc108
  by_cases hc109 : v1 = (109 : Int32)
  · replace h := g_it h hc109
    refine y_tswI (tgt := 186) (off := 185) C dX9_value_1 hc109 (by decide) rfl ?_
    refine y_sub (vs2 := [(0, .ref (ad 26 u9))]) [0] rfl ?_
    exact mj_C9_value_k26_186 C hR hL hu_u9 h hQ
  replace h := g_if h hc109
  by_cases hc110 : v1 = (110 : Int32)
  · replace h := g_it h hc110
    refine y_tswI (tgt := 175) (off := 174) C dX9_value_1 hc110 (by decide) rfl ?_
    refine y_aload_n C dX9_value_175 0 rfl rfl ?_
    obtain ⟨hp, h⟩ := g_gd h
    by_cases hc : (σ.2.2 26 u9 4) = 0
    · replace h := g_it h hc
      refine gf_C_X9_23_26_n C hu_u9 hp hc dX9_value_176 ?_
      cases h
    · replace h := g_if h hc
      refine gf_C_X9_23_26_r C hu_u9 hp hc dX9_value_176 ?_
      obtain ⟨hu12, h⟩ := g_gd h
      refine gf_C_X9_81_4 C hu12 dX9_value_179 ?_
      refine y_bipush (v := (7 : Int32)) C dX9_value_182 (by decide) ?_
      refine y_irem C dX9_value_184 (by decide) ?_
      replace h := Option.some.inj h; subst h
      exact y_iret C hQ ⟨Nat.zero_le _, Nat.zero_le _⟩ dX9_value_185
  replace h := g_if h hc110
  by_cases hc111 : v1 = (111 : Int32)
  · replace h := g_it h hc111
    refine y_tswI (tgt := 186) (off := 185) C dX9_value_1 hc111 (by decide) rfl ?_
    refine y_sub (vs2 := [(0, .ref (ad 26 u9))]) [0] rfl ?_
    exact mj_C9_value_k26_186 C hR hL hu_u9 h hQ
  replace h := g_if h hc111
  by_cases hc112 : v1 = (112 : Int32)
  · replace h := g_it h hc112
    refine y_tswI (tgt := 186) (off := 185) C dX9_value_1 hc112 (by decide) rfl ?_
    refine y_sub (vs2 := [(0, .ref (ad 26 u9))]) [0] rfl ?_
    exact mj_C9_value_k26_186 C hR hL hu_u9 h hQ
  replace h := g_if h hc112
  by_cases hc113 : v1 = (113 : Int32)
  · replace h := g_it h hc113
    refine y_tswI (tgt := 186) (off := 185) C dX9_value_1 hc113 (by decide) rfl ?_
    refine y_sub (vs2 := [(0, .ref (ad 26 u9))]) [0] rfl ?_
    exact mj_C9_value_k26_186 C hR hL hu_u9 h hQ
  replace h := g_if h hc113
  by_cases hc114 : v1 = (114 : Int32)
  · replace h := g_it h hc114
    refine y_tswI (tgt := 133) (off := 132) C dX9_value_1 hc114 (by decide) rfl ?_
    refine y_aload_n C dX9_value_133 0 rfl rfl ?_
    obtain ⟨hp, h⟩ := g_gd h
    by_cases hc : (σ.2.2 26 u9 4) = 0
    · replace h := g_it h hc
      refine gf_C_X9_23_26_n C hu_u9 hp hc dX9_value_134 ?_
      cases h
    · replace h := g_if h hc
      refine gf_C_X9_23_26_r C hu_u9 hp hc dX9_value_134 ?_
      obtain ⟨hu13, h⟩ := g_gd h
      refine gf_C_X9_101_4 C hu13 dX9_value_137 ?_
      refine y_aload_n C dX9_value_140 0 rfl rfl ?_
      obtain ⟨hp, h⟩ := g_gd h
      refine gf_C_X9_27_26 C hu_u9 hp dX9_value_141 ?_
      obtain ⟨hg, h⟩ := g_gd h
      refine al_C_5 C hu13 hg dX9_value_144 ?_
      refine y_aload_n C dX9_value_145 0 rfl rfl ?_
      obtain ⟨hp, h⟩ := g_gd h
      refine gf_C_X9_3_26 C hu_u9 hp dX9_value_146 ?_
      refine gf_C_X9_103_0 C nC_0_0 dX9_value_149 ?_
      obtain ⟨hg, h⟩ := g_gd h
      refine y_idiv C dX9_value_152 hg ?_
      replace h := Option.some.inj h; subst h
      exact y_iret C hQ ⟨Nat.zero_le _, Nat.zero_le _⟩ dX9_value_153
  replace h := g_if h hc114
  refine y_tswO (tgt := 186) C dX9_value_1 (by have e98 := lv_neT hc98 (show (98 : Int32).toInt = 98 by decide); have e99 := lv_neT hc99 (show (99 : Int32).toInt = 99 by decide); have e100 := lv_neT hc100 (show (100 : Int32).toInt = 100 by decide); have e101 := lv_neT hc101 (show (101 : Int32).toInt = 101 by decide); have e102 := lv_neT hc102 (show (102 : Int32).toInt = 102 by decide); have e103 := lv_neT hc103 (show (103 : Int32).toInt = 103 by decide); have e104 := lv_neT hc104 (show (104 : Int32).toInt = 104 by decide); have e105 := lv_neT hc105 (show (105 : Int32).toInt = 105 by decide); have e106 := lv_neT hc106 (show (106 : Int32).toInt = 106 by decide); have e107 := lv_neT hc107 (show (107 : Int32).toInt = 107 by decide); have e108 := lv_neT hc108 (show (108 : Int32).toInt = 108 by decide); have e109 := lv_neT hc109 (show (109 : Int32).toInt = 109 by decide); have e110 := lv_neT hc110 (show (110 : Int32).toInt = 110 by decide); have e111 := lv_neT hc111 (show (111 : Int32).toInt = 111 by decide); have e112 := lv_neT hc112 (show (112 : Int32).toInt = 112 by decide); have e113 := lv_neT hc113 (show (113 : Int32).toInt = 113 by decide); have e114 := lv_neT hc114 (show (114 : Int32).toInt = 114 by decide); omega) rfl ?_
  refine y_sub (vs2 := [(0, .ref (ad 26 u9))]) [0] rfl ?_
  exact mj_C9_value_k26_186 C hR hL hu_u9 h hQ
theorem ct_C9_value_k26 {D : va_G} {dA : Nat → ClassId} {A : Nat → Prop} {s0 : State} {b0 : Nat} {l : Launch} {u9 : Nat} (hu_u9 : u9 < g_n (gC false) 26) {ad : Nat → Nat → Nat} {σ : g_S} {v1 : Int32} {r : Int32} (h : mF_C9_value_k26 σ u9 v1 = some r) : g_Met gCl D dA A s0 b0 l yX9_value cX9_value 2 (some .int) 3 (0, 0) (gC false) ad σ [.ref (ad 26 u9), .int v1] (gC false) ad σ (some (.int r)) :=
  g_Met.of pl_X9 (Nat.le_of_ble_eq_true rfl) (fun X C hQ hR _ _ hL _ es eb => mw_C9_value_k26 C hR hL hu_u9 h hQ)
theorem mw_C7_one_k26 {X : g_F} (C : g_M gCl X cX7_one RX7 (some .int)) (hR : g_R X = g_rm 2 0 0) (hL : g_nL X = 3) {u9 : Nat} (hu_u9 : u9 < g_n (gC false) 26) {ad : Nat → Nat → Nat} {σ : g_S} {v1 : Int32} {v2 : Int32} {o : (Int32 × g_S)} (h : mF_C7_one_k26 σ u9 v1 v2 = some o) (hQ : g_MQ gCl X (gC false) ad o.2 (some (.int o.1)) = g_Q X) : g_Y gCl X (gC false) ad σ (0, 0) 0 [(0, .ref (ad 26 u9)), (1, .int v1), (2, .int v2)] [] := by
  unfold mF_C7_one_k26 at h
  refine y_aload_n C dX7_one_0 0 rfl rfl ?_
  refine y_aload_n C dX7_one_1 0 rfl rfl ?_
  obtain ⟨hp, h⟩ := g_gd h
  obtain ⟨x1, hc, h⟩ := g_bd h
  refine y_callU C (As := []) (rest := [.ref (ad 26 u9)]) (k := 26) (hu := hu_u9) (hc := (rfl : gCl[7]? = some (RX9, TX9, 8))) (hcell := (obC_26 hp)) (lk_X7_40_X9_X7_l1 C hR (by decide)) (ct_C7_here_k26 hu_u9 hc) rfl rfl (Nat.le_of_ble_eq_true rfl) ⟨Nat.zero_le _, Nat.zero_le _⟩ dX7_one_2 ?_
  refine y_i2l C dX7_one_5 ?_
  refine y_iload_n C dX7_one_6 1 rfl rfl ?_
  refine y_i2l C dX7_one_7 ?_
  refine y_iload_n C dX7_one_8 1 rfl rfl ?_
  refine y_iload_n C dX7_one_9 2 rfl rfl ?_
  refine y_iadd C dX7_one_10 ?_
  refine y_iconst (v := (1 : Int32)) C dX7_one_11 (by decide) ?_
  refine y_isub C dX7_one_12 ?_
  refine y_i2l C dX7_one_13 ?_
  obtain ⟨x2, hc, h⟩ := g_bd h
  refine y_callSN C (As := [.long (x1.toInt64), .long (v1.toInt64), .long (((v1 + v2) - (1 : Int32)).toInt64)]) (rest := [.ref (ad 26 u9)]) (lk_X7_44_l1 C hR (by decide)) (ct_C1_in hc) rfl rfl (Nat.le_of_ble_eq_true rfl) ⟨Nat.zero_le _, Nat.zero_le _⟩ dX7_one_14 ?_
  obtain ⟨hp, h⟩ := g_gd h
  obtain ⟨σ3, hc, h⟩ := g_bd h
  refine y_callUv C (As := [.int x2]) (rest := []) (k := 26) (hu := hu_u9) (hc := (rfl : gCl[7]? = some (RX9, TX9, 8))) (hcell := (obC_26 hp)) (lk_X7_36_X9_X7_l1 C hR (by decide)) (ct_C7_need_k26 hu_u9 hc) rfl rfl (Nat.le_of_ble_eq_true rfl) ⟨Nat.zero_le _, Nat.zero_le _⟩ dX7_one_17 ?_
  refine y_aload_n C dX7_one_20 0 rfl rfl ?_
  refine y_dup C dX7_one_21 rfl ?_
  obtain ⟨hp, h⟩ := g_gd h
  refine gf_C_X7_28_26 C hu_u9 hp dX7_one_22 ?_
  refine y_iconst (v := (1 : Int32)) C dX7_one_25 (by decide) ?_
  refine y_iadd C dX7_one_26 ?_
  obtain ⟨hp, h⟩ := g_gd h
  obtain ⟨σ4, hσ4, h⟩ := g_lt h
  refine pf_C_X7_28_26 C hu_u9 hp hσ4 dX7_one_27 ?_
  refine y_aload_n C dX7_one_30 0 rfl rfl ?_
  obtain ⟨hp, h⟩ := g_gd h
  refine gf_C_X7_9_26 C hu_u9 hp dX7_one_31 ?_
  refine y_aload_n C dX7_one_34 0 rfl rfl ?_
  obtain ⟨hp, h⟩ := g_gd h
  refine gf_C_X7_28_26 C hu_u9 hp dX7_one_35 ?_
  refine y_iconst (v := (1 : Int32)) C dX7_one_38 (by decide) ?_
  refine y_isub C dX7_one_39 ?_
  obtain ⟨hg, h⟩ := g_gd h
  refine al_C_27 C hu_u9 hg dX7_one_40 ?_
  refine y_iload_n C dX7_one_41 1 rfl rfl ?_
  refine y_isub C dX7_one_42 ?_
  replace h := Option.some.inj h; subst h
  exact y_iret C hQ ⟨Nat.zero_le _, Nat.zero_le _⟩ dX7_one_43
theorem ct_C7_one_k26 {D : va_G} {dA : Nat → ClassId} {A : Nat → Prop} {s0 : State} {b0 : Nat} {l : Launch} {u9 : Nat} (hu_u9 : u9 < g_n (gC false) 26) {ad : Nat → Nat → Nat} {σ : g_S} {v1 : Int32} {v2 : Int32} {r : Int32} {σ1 : g_S} (h : mF_C7_one_k26 σ u9 v1 v2 = some (r, σ1)) : g_Met gCl D dA A s0 b0 l yX7_one cX7_one 3 (some .int) 2 (0, 0) (gC false) ad σ [.ref (ad 26 u9), .int v1, .int v2] (gC false) ad σ1 (some (.int r)) :=
  g_Met.of pl_X7 (Nat.le_of_ble_eq_true rfl) (fun X C hQ hR _ _ hL _ es eb => mw_C7_one_k26 C hR hL hu_u9 h hQ)
theorem ml_C7_number_k26_11 {X : g_F} (C : g_M gCl X cX7_number RX7 (some .int)) (hR : g_R X = g_rm 3 0 0) (hL : g_nL X = 4) {u9 : Nat} (hu_u9 : u9 < g_n (gC false) 26) {ad : Nat → Nat → Nat} {σ : g_S} {v1 : Int32} (n : Nat) (v : (Int32 × Int32 × g_S)) (e : (Int32 × g_S)) (h : g_lp (fun v => mB_C7_number_k26_11 v.2.2 u9 v1 v.1 v.2.1) n v = some e) (kx : g_Y gCl X (gC false) ad e.2 (0, 0) 53 [(2, .int e.1)] []) : g_Y gCl X (gC false) ad v.2.2 (0, 0) 11 [(0, .ref (ad 26 u9)), (1, .int v1), (2, .int v.1), (3, .int v.2.1)] [] := by
  refine g_loop (P := fun v => g_Y gCl X (gC false) ad v.2.2 (0, 0) 11 [(0, .ref (ad 26 u9)), (1, .int v1), (2, .int v.1), (3, .int v.2.1)] []) (T := fun e => g_Y gCl X (gC false) ad e.2 (0, 0) 53 [(2, .int e.1)] []) ?_ n v e h kx
  clear h kx
  clear n v e
  intro v o h kl kx
  obtain ⟨v2, v3, σ⟩ := v
  have h : mB_C7_number_k26_11 σ u9 v1 v2 v3 = some o := h
  unfold mB_C7_number_k26_11 at h
  show g_Y gCl X (gC false) ad σ (0, 0) 11 [(0, .ref (ad 26 u9)), (1, .int v1), (2, .int v2), (3, .int v3)] []
  refine y_iload_n C dX7_number_11 3 rfl rfl ?_
  refine y_iload_n C dX7_number_12 1 rfl rfl ?_
  refine y_icmp_ge (tgt := 53) C dX7_number_13 rfl (fun hc => ?_) (fun hc => ?_)
  · replace h := g_it h hc
    refine y_sub (vs2 := [(2, .int v2)]) [2] rfl ?_
    exact kx _ (Option.some.inj h).symm
  · replace h := g_if h hc
    refine y_aload_n C dX7_number_16 0 rfl rfl ?_
    obtain ⟨hp, h⟩ := g_gd h
    obtain ⟨x3, hc, h⟩ := g_bd h
    refine y_callU C (As := []) (rest := []) (k := 26) (hu := hu_u9) (hc := (rfl : gCl[7]? = some (RX9, TX9, 8))) (hcell := (obC_26 hp)) (lk_X7_40_X9_X7_l1 C hR (by decide)) (ct_C7_here_k26 hu_u9 hc) rfl rfl (Nat.le_of_ble_eq_true rfl) ⟨Nat.zero_le _, Nat.zero_le _⟩ dX7_number_17 ?_
    refine y_i2l C dX7_number_20 ?_
    refine y_ldc2 (v := (48 : Int64)) C q590 dX7_number_21 ?_
    refine y_ldc2 (v := (57 : Int64)) C q591 dX7_number_24 ?_
    obtain ⟨x4, hc, h⟩ := g_bd h
    refine y_callSN C (As := [.long (x3.toInt64), .long (48 : Int64), .long (57 : Int64)]) (rest := []) (lk_X7_44_l1 C hR (by decide)) (ct_C1_in hc) rfl rfl (Nat.le_of_ble_eq_true rfl) ⟨Nat.zero_le _, Nat.zero_le _⟩ dX7_number_27 ?_
    refine y_if_eq (tgt := 53) C dX7_number_30 rfl (fun hc => ?_) (fun hc => ?_)
    · replace h := g_it h hc
      refine y_sub (vs2 := [(2, .int v2)]) [2] rfl ?_
      exact kx _ (Option.some.inj h).symm
    · replace h := g_if h hc
      refine y_bipush (v := (10 : Int32)) C dX7_number_33 (by decide) ?_
      refine y_iload_n C dX7_number_35 2 rfl rfl ?_
      refine y_imul C dX7_number_36 ?_
      refine y_aload_n C dX7_number_37 0 rfl rfl ?_
      refine y_bipush (v := (48 : Int32)) C dX7_number_38 (by decide) ?_
      refine y_bipush (v := (10 : Int32)) C dX7_number_40 (by decide) ?_
      obtain ⟨hp, h⟩ := g_gd h
      obtain ⟨x6, σ5, hc, h⟩ := g_bp h
      refine y_callU C (As := [.int (48 : Int32), .int (10 : Int32)]) (rest := [.int ((10 : Int32) * v2)]) (k := 26) (hu := hu_u9) (hc := (rfl : gCl[7]? = some (RX9, TX9, 8))) (hcell := (obC_26 hp)) (lk_X7_48_X9_X7_l2 C hR (by decide)) (ct_C7_one_k26 hu_u9 hc) rfl rfl (Nat.le_of_ble_eq_true rfl) ⟨Nat.zero_le _, Nat.zero_le _⟩ dX7_number_42 ?_
      refine y_iadd C dX7_number_45 ?_
      obtain ⟨x7, hx7, h⟩ := g_lt h
      refine y_istore_n (vs1 := [(2, .int x7), (0, .ref (ad 26 u9)), (1, .int v1), (3, .int v3)]) C hx7 dX7_number_46 rfl (g_lL hL rfl) rfl ?_
      obtain ⟨x8, hx8, h⟩ := g_lt h
      refine y_iinc (c := (1 : Int32)) (vs1 := [(3, .int x8), (2, .int x7), (0, .ref (ad 26 u9)), (1, .int v1)]) C hx8 (by decide) dX7_number_47 3 rfl (g_lL hL rfl) rfl ?_
      refine y_goto (tgt := 11) C dX7_number_50 rfl ?_
      refine y_sub (vs2 := [(0, .ref (ad 26 u9)), (1, .int v1), (2, .int x7), (3, .int x8)]) [2, 3, 1, 0] rfl ?_
      exact kl _ (Option.some.inj h).symm
theorem mw_C7_number_k26 {X : g_F} (C : g_M gCl X cX7_number RX7 (some .int)) (hR : g_R X = g_rm 3 0 0) (hL : g_nL X = 4) {u9 : Nat} (hu_u9 : u9 < g_n (gC false) 26) {ad : Nat → Nat → Nat} {σ : g_S} {v1 : Int32} {o : (Int32 × g_S)} (h : mF_C7_number_k26 σ u9 v1 = some o) (hQ : g_MQ gCl X (gC false) ad o.2 (some (.int o.1)) = g_Q X) : g_Y gCl X (gC false) ad σ (0, 0) 0 [(0, .ref (ad 26 u9)), (1, .int v1)] [] := by
  unfold mF_C7_number_k26 at h
  refine y_aload_n C dX7_number_0 0 rfl rfl ?_
  refine y_bipush (v := (48 : Int32)) C dX7_number_1 (by decide) ?_
  refine y_bipush (v := (10 : Int32)) C dX7_number_3 (by decide) ?_
  obtain ⟨hp, h⟩ := g_gd h
  obtain ⟨x2, σ1, hc, h⟩ := g_bp h
  refine y_callU C (As := [.int (48 : Int32), .int (10 : Int32)]) (rest := []) (k := 26) (hu := hu_u9) (hc := (rfl : gCl[7]? = some (RX9, TX9, 8))) (hcell := (obC_26 hp)) (lk_X7_48_X9_X7_l2 C hR (by decide)) (ct_C7_one_k26 hu_u9 hc) rfl rfl (Nat.le_of_ble_eq_true rfl) ⟨Nat.zero_le _, Nat.zero_le _⟩ dX7_number_5 ?_
  refine y_istore_n (vs1 := [(2, .int x2), (0, .ref (ad 26 u9)), (1, .int v1)]) C rfl dX7_number_8 rfl (g_lL hL rfl) rfl ?_
  refine y_iconst (v := (1 : Int32)) C dX7_number_9 (by decide) ?_
  refine y_istore_n (vs1 := [(3, .int (1 : Int32)), (2, .int x2), (0, .ref (ad 26 u9)), (1, .int v1)]) C rfl dX7_number_10 rfl (g_lL hL rfl) rfl ?_
  refine y_sub (vs2 := [(0, .ref (ad 26 u9)), (1, .int v1), (2, .int x2), (3, .int (1 : Int32))]) [2, 3, 1, 0] rfl ?_
  obtain ⟨e9, he9, h⟩ := g_bd h
  refine ml_C7_number_k26_11 C hR hL hu_u9 (σ := σ1) _ _ _ he9 ?_
  refine y_iload_n C dX7_number_53 0 rfl rfl ?_
  replace h := Option.some.inj h; subst h
  exact y_iret C hQ ⟨Nat.zero_le _, Nat.zero_le _⟩ dX7_number_54
theorem ct_C7_number_k26 {D : va_G} {dA : Nat → ClassId} {A : Nat → Prop} {s0 : State} {b0 : Nat} {l : Launch} {u9 : Nat} (hu_u9 : u9 < g_n (gC false) 26) {ad : Nat → Nat → Nat} {σ : g_S} {v1 : Int32} {r : Int32} {σ1 : g_S} (h : mF_C7_number_k26 σ u9 v1 = some (r, σ1)) : g_Met gCl D dA A s0 b0 l yX7_number cX7_number 4 (some .int) 3 (0, 0) (gC false) ad σ [.ref (ad 26 u9), .int v1] (gC false) ad σ1 (some (.int r)) :=
  g_Met.of pl_X7 (Nat.le_of_ble_eq_true rfl) (fun X C hQ hR _ _ hL _ es eb => mw_C7_number_k26 C hR hL hu_u9 h hQ)
theorem mw_C9_held_k26 {X : g_F} {d : Nat} (C : g_M gCl X cX9_held RX9 (some .int)) (hR : g_R X = g_rm (d + 1 + 200) 0 0) (hL : g_nL X = 3) {u9 : Nat} (hu_u9 : u9 < g_n (gC false) 26) {rc : ((g_S → Nat → Int32 → Option (Int32 × g_S)) × (g_S → Nat → Int32 → Option (Int32 × g_S)) × (g_S → Nat → Int32 → Option (Int32 × g_S)) × (g_S → Nat → Int32 → Option (Int32 × g_S)))} (iheld : ∀ {u : Nat} (hu : u < g_n (gC false) 26) {ad : Nat → Nat → Nat} {σ σ1 : g_S} {v r : Int32}, rc.1 σ u v = some (r, σ1) → g_Met gCl (g_D X) (g_dA X) (g_A X) (g_s0 X) (g_b0 X) (g_l X) yX9_held cX9_held 3 (some .int) (d + 200) (0, 0) (gC false) ad σ [.ref (ad 26 u), .int v] (gC false) ad σ1 (some (.int r))) (isum : ∀ {u : Nat} (hu : u < g_n (gC false) 26) {ad : Nat → Nat → Nat} {σ σ1 : g_S} {v r : Int32}, rc.2.1 σ u v = some (r, σ1) → g_Met gCl (g_D X) (g_dA X) (g_A X) (g_s0 X) (g_b0 X) (g_l X) yX9_sum cX9_sum 5 (some .int) (d + 200) (0, 0) (gC false) ad σ [.ref (ad 26 u), .int v] (gC false) ad σ1 (some (.int r))) (iproduct : ∀ {u : Nat} (hu : u < g_n (gC false) 26) {ad : Nat → Nat → Nat} {σ σ1 : g_S} {v r : Int32}, rc.2.2.1 σ u v = some (r, σ1) → g_Met gCl (g_D X) (g_dA X) (g_A X) (g_s0 X) (g_b0 X) (g_l X) yX9_product cX9_product 5 (some .int) (d + 200) (0, 0) (gC false) ad σ [.ref (ad 26 u), .int v] (gC false) ad σ1 (some (.int r))) (ithing : ∀ {u : Nat} (hu : u < g_n (gC false) 26) {ad : Nat → Nat → Nat} {σ σ1 : g_S} {v r : Int32}, rc.2.2.2 σ u v = some (r, σ1) → g_Met gCl (g_D X) (g_dA X) (g_A X) (g_s0 X) (g_b0 X) (g_l X) yX9_thing cX9_thing 3 (some .int) (d + 200) (0, 0) (gC false) ad σ [.ref (ad 26 u), .int v] (gC false) ad σ1 (some (.int r))) {ad : Nat → Nat → Nat} {σ : g_S} {v1 : Int32} {o : (Int32 × g_S)} (h : mF_C9_held_k26 σ rc u9 v1 = some o) (hQ : g_MQ gCl X (gC false) ad o.2 (some (.int o.1)) = g_Q X) : g_Y gCl X (gC false) ad σ (0, 0) 0 [(0, .ref (ad 26 u9)), (1, .int v1)] [] := by
  unfold mF_C9_held_k26 at h
  refine y_aload_n C dX9_held_0 0 rfl rfl ?_
  refine y_iload_n C dX9_held_1 1 rfl rfl ?_
  obtain ⟨hp, h⟩ := g_gd h
  obtain ⟨x2, σ1, hc, h⟩ := g_bp h
  refine y_callV C (As := [.int v1]) (rest := []) (k := 26) (hu := hu_u9) (hc := (rfl : gCl[7]? = some (RX9, TX9, 8))) (hcell := (obC_26 hp)) (lk_X9_39_X9_ld200 C hR ⟨by omega, by omega⟩) (isum hu_u9 hc) rfl rfl (Nat.le_of_ble_eq_true rfl) ⟨Nat.zero_le _, Nat.zero_le _⟩ dX9_held_2 ?_
  refine y_istore_n (vs1 := [(2, .int x2), (0, .ref (ad 26 u9)), (1, .int v1)]) C rfl dX9_held_5 rfl (g_lL hL rfl) rfl ?_
  refine y_aload_n C dX9_held_6 1 rfl rfl ?_
  refine y_bipush (v := (60 : Int32)) C dX9_held_7 (by decide) ?_
  obtain ⟨hp, h⟩ := g_gd h
  obtain ⟨x4, σ3, hc, h⟩ := g_bp h
  refine y_callU C (As := [.int (60 : Int32)]) (rest := []) (k := 26) (hu := hu_u9) (hc := (rfl : gCl[7]? = some (RX9, TX9, 8))) (hcell := (obC_26 hp)) (lk_X9_42_X9_X7_l2 C hR ⟨by omega, by omega⟩) (ct_C7_passes_k26 hu_u9 hc) rfl rfl (Nat.le_of_ble_eq_true rfl) ⟨Nat.zero_le _, Nat.zero_le _⟩ dX9_held_9 ?_
  refine y_if_eq (tgt := 30) C dX9_held_12 rfl (fun hc => ?_) (fun hc => ?_)
  · replace h := g_it h hc
    refine y_aload_n C dX9_held_30 1 rfl rfl ?_
    refine y_bipush (v := (62 : Int32)) C dX9_held_31 (by decide) ?_
    obtain ⟨hp, h⟩ := g_gd h
    obtain ⟨x6, σ5, hc, h⟩ := g_bp h
    refine y_callU C (As := [.int (62 : Int32)]) (rest := []) (k := 26) (hu := hu_u9) (hc := (rfl : gCl[7]? = some (RX9, TX9, 8))) (hcell := (obC_26 hp)) (lk_X9_42_X9_X7_l2 C hR ⟨by omega, by omega⟩) (ct_C7_passes_k26 hu_u9 hc) rfl rfl (Nat.le_of_ble_eq_true rfl) ⟨Nat.zero_le _, Nat.zero_le _⟩ dX9_held_33 ?_
    refine y_if_eq (tgt := 54) C dX9_held_36 rfl (fun hc => ?_) (fun hc => ?_)
    · replace h := g_it h hc
      refine y_aload_n C dX9_held_54 1 rfl rfl ?_
      refine y_bipush (v := (61 : Int32)) C dX9_held_55 (by decide) ?_
      obtain ⟨hp, h⟩ := g_gd h
      obtain ⟨x8, σ7, hc, h⟩ := g_bp h
      refine y_callU C (As := [.int (61 : Int32)]) (rest := []) (k := 26) (hu := hu_u9) (hc := (rfl : gCl[7]? = some (RX9, TX9, 8))) (hcell := (obC_26 hp)) (lk_X9_42_X9_X7_l2 C hR ⟨by omega, by omega⟩) (ct_C7_passes_k26 hu_u9 hc) rfl rfl (Nat.le_of_ble_eq_true rfl) ⟨Nat.zero_le _, Nat.zero_le _⟩ dX9_held_57 ?_
      refine y_if_eq (tgt := 78) C dX9_held_60 rfl (fun hc => ?_) (fun hc => ?_)
      · replace h := g_it h hc
        refine y_iload_n C dX9_held_78 0 rfl rfl ?_
        replace h := Option.some.inj h; subst h
        exact y_iret C hQ ⟨Nat.zero_le _, Nat.zero_le _⟩ dX9_held_79
      · replace h := g_if h hc
        refine y_iload_n C dX9_held_63 0 rfl rfl ?_
        refine y_aload_n C dX9_held_64 1 rfl rfl ?_
        refine y_iload_n C dX9_held_65 2 rfl rfl ?_
        obtain ⟨hp, h⟩ := g_gd h
        obtain ⟨x10, σ9, hc, h⟩ := g_bp h
        refine y_callV C (As := [.int v1]) (rest := [.int x2]) (k := 26) (hu := hu_u9) (hc := (rfl : gCl[7]? = some (RX9, TX9, 8))) (hcell := (obC_26 hp)) (lk_X9_39_X9_ld200 C hR ⟨by omega, by omega⟩) (isum hu_u9 hc) rfl rfl (Nat.le_of_ble_eq_true rfl) ⟨Nat.zero_le _, Nat.zero_le _⟩ dX9_held_66 ?_
        refine y_icmp_ne (tgt := 76) C dX9_held_69 rfl (fun hc => ?_) (fun hc => ?_)
        · replace h := g_if h hc
          refine y_iconst (v := (0 : Int32)) C dX9_held_76 (by decide) ?_
          replace h := Option.some.inj h; subst h
          exact y_iret C hQ ⟨Nat.zero_le _, Nat.zero_le _⟩ dX9_held_77
        · replace h := g_it h hc
          refine y_iconst (v := (1 : Int32)) C dX9_held_72 (by decide) ?_
          refine y_goto (tgt := 77) C dX9_held_73 rfl ?_
          replace h := Option.some.inj h; subst h
          exact y_iret C hQ ⟨Nat.zero_le _, Nat.zero_le _⟩ dX9_held_77
    · replace h := g_if h hc
      refine y_iload_n C dX9_held_39 0 rfl rfl ?_
      refine y_aload_n C dX9_held_40 1 rfl rfl ?_
      refine y_iload_n C dX9_held_41 2 rfl rfl ?_
      obtain ⟨hp, h⟩ := g_gd h
      obtain ⟨x12, σ11, hc, h⟩ := g_bp h
      refine y_callV C (As := [.int v1]) (rest := [.int x2]) (k := 26) (hu := hu_u9) (hc := (rfl : gCl[7]? = some (RX9, TX9, 8))) (hcell := (obC_26 hp)) (lk_X9_39_X9_ld200 C hR ⟨by omega, by omega⟩) (isum hu_u9 hc) rfl rfl (Nat.le_of_ble_eq_true rfl) ⟨Nat.zero_le _, Nat.zero_le _⟩ dX9_held_42 ?_
      refine y_icmp_le (tgt := 52) C dX9_held_45 rfl (fun hc => ?_) (fun hc => ?_)
      · replace h := g_it h hc
        refine y_iconst (v := (0 : Int32)) C dX9_held_52 (by decide) ?_
        replace h := Option.some.inj h; subst h
        exact y_iret C hQ ⟨Nat.zero_le _, Nat.zero_le _⟩ dX9_held_53
      · replace h := g_if h hc
        refine y_iconst (v := (1 : Int32)) C dX9_held_48 (by decide) ?_
        refine y_goto (tgt := 53) C dX9_held_49 rfl ?_
        replace h := Option.some.inj h; subst h
        exact y_iret C hQ ⟨Nat.zero_le _, Nat.zero_le _⟩ dX9_held_53
  · replace h := g_if h hc
    refine y_iload_n C dX9_held_15 0 rfl rfl ?_
    refine y_aload_n C dX9_held_16 1 rfl rfl ?_
    refine y_iload_n C dX9_held_17 2 rfl rfl ?_
    obtain ⟨hp, h⟩ := g_gd h
    obtain ⟨x14, σ13, hc, h⟩ := g_bp h
    refine y_callV C (As := [.int v1]) (rest := [.int x2]) (k := 26) (hu := hu_u9) (hc := (rfl : gCl[7]? = some (RX9, TX9, 8))) (hcell := (obC_26 hp)) (lk_X9_39_X9_ld200 C hR ⟨by omega, by omega⟩) (isum hu_u9 hc) rfl rfl (Nat.le_of_ble_eq_true rfl) ⟨Nat.zero_le _, Nat.zero_le _⟩ dX9_held_18 ?_
    refine y_icmp_ge (tgt := 28) C dX9_held_21 rfl (fun hc => ?_) (fun hc => ?_)
    · replace h := g_it h hc
      refine y_iconst (v := (0 : Int32)) C dX9_held_28 (by decide) ?_
      replace h := Option.some.inj h; subst h
      exact y_iret C hQ ⟨Nat.zero_le _, Nat.zero_le _⟩ dX9_held_29
    · replace h := g_if h hc
      refine y_iconst (v := (1 : Int32)) C dX9_held_24 (by decide) ?_
      refine y_goto (tgt := 29) C dX9_held_25 rfl ?_
      replace h := Option.some.inj h; subst h
      exact y_iret C hQ ⟨Nat.zero_le _, Nat.zero_le _⟩ dX9_held_29
theorem mj_C9_sum_k26_38 {X : g_F} {d : Nat} (C : g_M gCl X cX9_sum RX9 (some .int)) (hR : g_R X = g_rm (d + 1 + 200) 0 0) (hL : g_nL X = 5) {u9 : Nat} (hu_u9 : u9 < g_n (gC false) 26) {rc : ((g_S → Nat → Int32 → Option (Int32 × g_S)) × (g_S → Nat → Int32 → Option (Int32 × g_S)) × (g_S → Nat → Int32 → Option (Int32 × g_S)) × (g_S → Nat → Int32 → Option (Int32 × g_S)))} (iheld : ∀ {u : Nat} (hu : u < g_n (gC false) 26) {ad : Nat → Nat → Nat} {σ σ1 : g_S} {v r : Int32}, rc.1 σ u v = some (r, σ1) → g_Met gCl (g_D X) (g_dA X) (g_A X) (g_s0 X) (g_b0 X) (g_l X) yX9_held cX9_held 3 (some .int) (d + 200) (0, 0) (gC false) ad σ [.ref (ad 26 u), .int v] (gC false) ad σ1 (some (.int r))) (isum : ∀ {u : Nat} (hu : u < g_n (gC false) 26) {ad : Nat → Nat → Nat} {σ σ1 : g_S} {v r : Int32}, rc.2.1 σ u v = some (r, σ1) → g_Met gCl (g_D X) (g_dA X) (g_A X) (g_s0 X) (g_b0 X) (g_l X) yX9_sum cX9_sum 5 (some .int) (d + 200) (0, 0) (gC false) ad σ [.ref (ad 26 u), .int v] (gC false) ad σ1 (some (.int r))) (iproduct : ∀ {u : Nat} (hu : u < g_n (gC false) 26) {ad : Nat → Nat → Nat} {σ σ1 : g_S} {v r : Int32}, rc.2.2.1 σ u v = some (r, σ1) → g_Met gCl (g_D X) (g_dA X) (g_A X) (g_s0 X) (g_b0 X) (g_l X) yX9_product cX9_product 5 (some .int) (d + 200) (0, 0) (gC false) ad σ [.ref (ad 26 u), .int v] (gC false) ad σ1 (some (.int r))) (ithing : ∀ {u : Nat} (hu : u < g_n (gC false) 26) {ad : Nat → Nat → Nat} {σ σ1 : g_S} {v r : Int32}, rc.2.2.2 σ u v = some (r, σ1) → g_Met gCl (g_D X) (g_dA X) (g_A X) (g_s0 X) (g_b0 X) (g_l X) yX9_thing cX9_thing 3 (some .int) (d + 200) (0, 0) (gC false) ad σ [.ref (ad 26 u), .int v] (gC false) ad σ1 (some (.int r))) {ad : Nat → Nat → Nat} {σ : g_S} {v1 : Int32} {v2 : Int32} {s0 : Int32} {o : ((Int32 × g_S) ⊕ (Int32 × g_S))} (h : mJ_C9_sum_k26_38 σ rc u9 v1 v2 s0 = some o) (kl : ∀ z, o = .inl z → g_Y gCl X (gC false) ad z.2 (0, 0) 6 [(0, .ref (ad 26 u9)), (1, .int v1), (2, .int z.1)] []) (kx : ∀ z, o = .inr z → g_Y gCl X (gC false) ad z.2 (0, 0) 75 [(2, .int z.1)] []) : g_Y gCl X (gC false) ad σ (0, 0) 38 [(0, .ref (ad 26 u9)), (1, .int v1), (2, .int v2)] [.int s0] := by
  unfold mJ_C9_sum_k26_38 at h
  refine y_istore_n (vs1 := [(3, .int s0), (0, .ref (ad 26 u9)), (1, .int v1), (2, .int v2)]) C rfl dX9_sum_38 rfl (g_lL hL rfl) rfl ?_
  refine y_aload_n C dX9_sum_39 1 rfl rfl ?_
  refine y_dup C dX9_sum_40 rfl ?_
  obtain ⟨hp, h⟩ := g_gd h
  refine gf_C_X9_34_26 C hu_u9 hp dX9_sum_41 ?_
  refine y_iconst (v := (1 : Int32)) C dX9_sum_44 (by decide) ?_
  refine y_iadd C dX9_sum_45 ?_
  obtain ⟨hp, h⟩ := g_gd h
  obtain ⟨σ5, hσ5, h⟩ := g_lt h
  refine pf_C_X9_34_26 C hu_u9 hp hσ5 dX9_sum_46 ?_
  refine y_aload_n C dX9_sum_49 1 rfl rfl ?_
  refine y_iload_n C dX9_sum_50 2 rfl rfl ?_
  obtain ⟨hp, h⟩ := g_gd h
  obtain ⟨x7, σ6, hc, h⟩ := g_bp h
  refine y_callV C (As := [.int v1]) (rest := []) (k := 26) (hu := hu_u9) (hc := (rfl : gCl[7]? = some (RX9, TX9, 8))) (hcell := (obC_26 hp)) (lk_X9_46_X9_ld200 C hR ⟨by omega, by omega⟩) (iproduct hu_u9 hc) rfl rfl (Nat.le_of_ble_eq_true rfl) ⟨Nat.zero_le _, Nat.zero_le _⟩ dX9_sum_51 ?_
  refine y_istore (vs1 := [(4, .int x7), (3, .int s0), (0, .ref (ad 26 u9)), (1, .int v1), (2, .int v2)]) C rfl dX9_sum_54 (g_lL hL rfl) rfl ?_
  refine y_iload_n C dX9_sum_56 1 rfl rfl ?_
  refine y_if_eq (tgt := 67) C dX9_sum_57 rfl (fun hc => ?_) (fun hc => ?_)
  · replace h := g_it h hc
    refine y_iload_n C dX9_sum_67 4 rfl rfl ?_
    refine y_iload C dX9_sum_68 0 rfl ?_
    refine y_isub C dX9_sum_70 ?_
    obtain ⟨x8, hx8, h⟩ := g_lt h
    refine y_istore_n (vs1 := [(2, .int x8), (4, .int x7), (3, .int s0), (0, .ref (ad 26 u9)), (1, .int v1)]) C hx8 dX9_sum_71 rfl (g_lL hL rfl) rfl ?_
    refine y_goto (tgt := 6) C dX9_sum_72 rfl ?_
    refine y_sub (vs2 := [(0, .ref (ad 26 u9)), (1, .int v1), (2, .int x8)]) [3, 4, 0] rfl ?_
    exact kl _ (Option.some.inj h).symm
  · replace h := g_if h hc
    refine y_iload_n C dX9_sum_60 4 rfl rfl ?_
    refine y_iload C dX9_sum_61 0 rfl ?_
    refine y_iadd C dX9_sum_63 ?_
    refine y_goto (tgt := 71) C dX9_sum_64 rfl ?_
    obtain ⟨x9, hx9, h⟩ := g_lt h
    refine y_istore_n (vs1 := [(2, .int x9), (4, .int x7), (3, .int s0), (0, .ref (ad 26 u9)), (1, .int v1)]) C hx9 dX9_sum_71 rfl (g_lL hL rfl) rfl ?_
    refine y_goto (tgt := 6) C dX9_sum_72 rfl ?_
    refine y_sub (vs2 := [(0, .ref (ad 26 u9)), (1, .int v1), (2, .int x9)]) [3, 4, 0] rfl ?_
    exact kl _ (Option.some.inj h).symm
theorem mj_C9_sum_k26_24 {X : g_F} {d : Nat} (C : g_M gCl X cX9_sum RX9 (some .int)) (hR : g_R X = g_rm (d + 1 + 200) 0 0) (hL : g_nL X = 5) {u9 : Nat} (hu_u9 : u9 < g_n (gC false) 26) {rc : ((g_S → Nat → Int32 → Option (Int32 × g_S)) × (g_S → Nat → Int32 → Option (Int32 × g_S)) × (g_S → Nat → Int32 → Option (Int32 × g_S)) × (g_S → Nat → Int32 → Option (Int32 × g_S)))} (iheld : ∀ {u : Nat} (hu : u < g_n (gC false) 26) {ad : Nat → Nat → Nat} {σ σ1 : g_S} {v r : Int32}, rc.1 σ u v = some (r, σ1) → g_Met gCl (g_D X) (g_dA X) (g_A X) (g_s0 X) (g_b0 X) (g_l X) yX9_held cX9_held 3 (some .int) (d + 200) (0, 0) (gC false) ad σ [.ref (ad 26 u), .int v] (gC false) ad σ1 (some (.int r))) (isum : ∀ {u : Nat} (hu : u < g_n (gC false) 26) {ad : Nat → Nat → Nat} {σ σ1 : g_S} {v r : Int32}, rc.2.1 σ u v = some (r, σ1) → g_Met gCl (g_D X) (g_dA X) (g_A X) (g_s0 X) (g_b0 X) (g_l X) yX9_sum cX9_sum 5 (some .int) (d + 200) (0, 0) (gC false) ad σ [.ref (ad 26 u), .int v] (gC false) ad σ1 (some (.int r))) (iproduct : ∀ {u : Nat} (hu : u < g_n (gC false) 26) {ad : Nat → Nat → Nat} {σ σ1 : g_S} {v r : Int32}, rc.2.2.1 σ u v = some (r, σ1) → g_Met gCl (g_D X) (g_dA X) (g_A X) (g_s0 X) (g_b0 X) (g_l X) yX9_product cX9_product 5 (some .int) (d + 200) (0, 0) (gC false) ad σ [.ref (ad 26 u), .int v] (gC false) ad σ1 (some (.int r))) (ithing : ∀ {u : Nat} (hu : u < g_n (gC false) 26) {ad : Nat → Nat → Nat} {σ σ1 : g_S} {v r : Int32}, rc.2.2.2 σ u v = some (r, σ1) → g_Met gCl (g_D X) (g_dA X) (g_A X) (g_s0 X) (g_b0 X) (g_l X) yX9_thing cX9_thing 3 (some .int) (d + 200) (0, 0) (gC false) ad σ [.ref (ad 26 u), .int v] (gC false) ad σ1 (some (.int r))) {ad : Nat → Nat → Nat} {σ : g_S} {v1 : Int32} {v2 : Int32} {o : ((Int32 × g_S) ⊕ (Int32 × g_S))} (h : mJ_C9_sum_k26_24 σ rc u9 v1 v2 = some o) (kl : ∀ z, o = .inl z → g_Y gCl X (gC false) ad z.2 (0, 0) 6 [(0, .ref (ad 26 u9)), (1, .int v1), (2, .int z.1)] []) (kx : ∀ z, o = .inr z → g_Y gCl X (gC false) ad z.2 (0, 0) 75 [(2, .int z.1)] []) : g_Y gCl X (gC false) ad σ (0, 0) 24 [(0, .ref (ad 26 u9)), (1, .int v1), (2, .int v2)] [] := by
  unfold mJ_C9_sum_k26_24 at h
  refine y_aload_n C dX9_sum_24 0 rfl rfl ?_
  obtain ⟨hp, h⟩ := g_gd h
  obtain ⟨x4, hc, h⟩ := g_bd h
  refine y_callU C (As := []) (rest := []) (k := 26) (hu := hu_u9) (hc := (rfl : gCl[7]? = some (RX9, TX9, 8))) (hcell := (obC_26 hp)) (lk_X9_49_X9_X7_l1 C hR ⟨by omega, by omega⟩) (ct_C7_here_k26 hu_u9 hc) rfl rfl (Nat.le_of_ble_eq_true rfl) ⟨Nat.zero_le _, Nat.zero_le _⟩ dX9_sum_25 ?_
  refine y_bipush (v := (43 : Int32)) C dX9_sum_28 (by decide) ?_
  refine y_icmp_ne (tgt := 37) C dX9_sum_30 rfl (fun hc => ?_) (fun hc => ?_)
  · replace h := g_if h hc
    refine y_iconst (v := (0 : Int32)) C dX9_sum_37 (by decide) ?_
    exact mj_C9_sum_k26_38 C hR hL hu_u9 iheld isum iproduct ithing h kl kx
  · replace h := g_it h hc
    refine y_iconst (v := (1 : Int32)) C dX9_sum_33 (by decide) ?_
    refine y_goto (tgt := 38) C dX9_sum_34 rfl ?_
    exact mj_C9_sum_k26_38 C hR hL hu_u9 iheld isum iproduct ithing h kl kx
theorem ml_C9_sum_k26_6 {X : g_F} {d : Nat} (C : g_M gCl X cX9_sum RX9 (some .int)) (hR : g_R X = g_rm (d + 1 + 200) 0 0) (hL : g_nL X = 5) {u9 : Nat} (hu_u9 : u9 < g_n (gC false) 26) {rc : ((g_S → Nat → Int32 → Option (Int32 × g_S)) × (g_S → Nat → Int32 → Option (Int32 × g_S)) × (g_S → Nat → Int32 → Option (Int32 × g_S)) × (g_S → Nat → Int32 → Option (Int32 × g_S)))} (iheld : ∀ {u : Nat} (hu : u < g_n (gC false) 26) {ad : Nat → Nat → Nat} {σ σ1 : g_S} {v r : Int32}, rc.1 σ u v = some (r, σ1) → g_Met gCl (g_D X) (g_dA X) (g_A X) (g_s0 X) (g_b0 X) (g_l X) yX9_held cX9_held 3 (some .int) (d + 200) (0, 0) (gC false) ad σ [.ref (ad 26 u), .int v] (gC false) ad σ1 (some (.int r))) (isum : ∀ {u : Nat} (hu : u < g_n (gC false) 26) {ad : Nat → Nat → Nat} {σ σ1 : g_S} {v r : Int32}, rc.2.1 σ u v = some (r, σ1) → g_Met gCl (g_D X) (g_dA X) (g_A X) (g_s0 X) (g_b0 X) (g_l X) yX9_sum cX9_sum 5 (some .int) (d + 200) (0, 0) (gC false) ad σ [.ref (ad 26 u), .int v] (gC false) ad σ1 (some (.int r))) (iproduct : ∀ {u : Nat} (hu : u < g_n (gC false) 26) {ad : Nat → Nat → Nat} {σ σ1 : g_S} {v r : Int32}, rc.2.2.1 σ u v = some (r, σ1) → g_Met gCl (g_D X) (g_dA X) (g_A X) (g_s0 X) (g_b0 X) (g_l X) yX9_product cX9_product 5 (some .int) (d + 200) (0, 0) (gC false) ad σ [.ref (ad 26 u), .int v] (gC false) ad σ1 (some (.int r))) (ithing : ∀ {u : Nat} (hu : u < g_n (gC false) 26) {ad : Nat → Nat → Nat} {σ σ1 : g_S} {v r : Int32}, rc.2.2.2 σ u v = some (r, σ1) → g_Met gCl (g_D X) (g_dA X) (g_A X) (g_s0 X) (g_b0 X) (g_l X) yX9_thing cX9_thing 3 (some .int) (d + 200) (0, 0) (gC false) ad σ [.ref (ad 26 u), .int v] (gC false) ad σ1 (some (.int r))) {ad : Nat → Nat → Nat} {σ : g_S} {v1 : Int32} (n : Nat) (v : (Int32 × g_S)) (e : (Int32 × g_S)) (h : g_lp (fun v => mB_C9_sum_k26_6 v.2 rc u9 v1 v.1) n v = some e) (kx : g_Y gCl X (gC false) ad e.2 (0, 0) 75 [(2, .int e.1)] []) : g_Y gCl X (gC false) ad v.2 (0, 0) 6 [(0, .ref (ad 26 u9)), (1, .int v1), (2, .int v.1)] [] := by
  refine g_loop (P := fun v => g_Y gCl X (gC false) ad v.2 (0, 0) 6 [(0, .ref (ad 26 u9)), (1, .int v1), (2, .int v.1)] []) (T := fun e => g_Y gCl X (gC false) ad e.2 (0, 0) 75 [(2, .int e.1)] []) ?_ n v e h kx
  clear h kx
  clear n v e
  intro v o h kl kx
  obtain ⟨v2, σ⟩ := v
  have h : mB_C9_sum_k26_6 σ rc u9 v1 v2 = some o := h
  unfold mB_C9_sum_k26_6 at h
  show g_Y gCl X (gC false) ad σ (0, 0) 6 [(0, .ref (ad 26 u9)), (1, .int v1), (2, .int v2)] []
  refine y_aload_n C dX9_sum_6 0 rfl rfl ?_
  obtain ⟨hp, h⟩ := g_gd h
  obtain ⟨x3, hc, h⟩ := g_bd h
  refine y_callU C (As := []) (rest := []) (k := 26) (hu := hu_u9) (hc := (rfl : gCl[7]? = some (RX9, TX9, 8))) (hcell := (obC_26 hp)) (lk_X9_49_X9_X7_l1 C hR ⟨by omega, by omega⟩) (ct_C7_here_k26 hu_u9 hc) rfl rfl (Nat.le_of_ble_eq_true rfl) ⟨Nat.zero_le _, Nat.zero_le _⟩ dX9_sum_7 ?_
  refine y_bipush (v := (43 : Int32)) C dX9_sum_10 (by decide) ?_
  refine y_icmp_eq (tgt := 24) C dX9_sum_12 rfl (fun hc => ?_) (fun hc => ?_)
  · replace h := g_it h hc
    exact mj_C9_sum_k26_24 C hR hL hu_u9 iheld isum iproduct ithing h kl kx
  · replace h := g_if h hc
    refine y_aload_n C dX9_sum_15 0 rfl rfl ?_
    obtain ⟨hp, h⟩ := g_gd h
    obtain ⟨x10, hc, h⟩ := g_bd h
    refine y_callU C (As := []) (rest := []) (k := 26) (hu := hu_u9) (hc := (rfl : gCl[7]? = some (RX9, TX9, 8))) (hcell := (obC_26 hp)) (lk_X9_49_X9_X7_l1 C hR ⟨by omega, by omega⟩) (ct_C7_here_k26 hu_u9 hc) rfl rfl (Nat.le_of_ble_eq_true rfl) ⟨Nat.zero_le _, Nat.zero_le _⟩ dX9_sum_16 ?_
    refine y_bipush (v := (45 : Int32)) C dX9_sum_19 (by decide) ?_
    refine y_icmp_ne (tgt := 75) C dX9_sum_21 rfl (fun hc => ?_) (fun hc => ?_)
    · replace h := g_if h hc
      refine y_sub (vs2 := [(2, .int v2)]) [2] rfl ?_
      exact kx _ (Option.some.inj h).symm
    · replace h := g_it h hc
      exact mj_C9_sum_k26_24 C hR hL hu_u9 iheld isum iproduct ithing h kl kx
theorem mw_C9_sum_k26 {X : g_F} {d : Nat} (C : g_M gCl X cX9_sum RX9 (some .int)) (hR : g_R X = g_rm (d + 1 + 200) 0 0) (hL : g_nL X = 5) {u9 : Nat} (hu_u9 : u9 < g_n (gC false) 26) {rc : ((g_S → Nat → Int32 → Option (Int32 × g_S)) × (g_S → Nat → Int32 → Option (Int32 × g_S)) × (g_S → Nat → Int32 → Option (Int32 × g_S)) × (g_S → Nat → Int32 → Option (Int32 × g_S)))} (iheld : ∀ {u : Nat} (hu : u < g_n (gC false) 26) {ad : Nat → Nat → Nat} {σ σ1 : g_S} {v r : Int32}, rc.1 σ u v = some (r, σ1) → g_Met gCl (g_D X) (g_dA X) (g_A X) (g_s0 X) (g_b0 X) (g_l X) yX9_held cX9_held 3 (some .int) (d + 200) (0, 0) (gC false) ad σ [.ref (ad 26 u), .int v] (gC false) ad σ1 (some (.int r))) (isum : ∀ {u : Nat} (hu : u < g_n (gC false) 26) {ad : Nat → Nat → Nat} {σ σ1 : g_S} {v r : Int32}, rc.2.1 σ u v = some (r, σ1) → g_Met gCl (g_D X) (g_dA X) (g_A X) (g_s0 X) (g_b0 X) (g_l X) yX9_sum cX9_sum 5 (some .int) (d + 200) (0, 0) (gC false) ad σ [.ref (ad 26 u), .int v] (gC false) ad σ1 (some (.int r))) (iproduct : ∀ {u : Nat} (hu : u < g_n (gC false) 26) {ad : Nat → Nat → Nat} {σ σ1 : g_S} {v r : Int32}, rc.2.2.1 σ u v = some (r, σ1) → g_Met gCl (g_D X) (g_dA X) (g_A X) (g_s0 X) (g_b0 X) (g_l X) yX9_product cX9_product 5 (some .int) (d + 200) (0, 0) (gC false) ad σ [.ref (ad 26 u), .int v] (gC false) ad σ1 (some (.int r))) (ithing : ∀ {u : Nat} (hu : u < g_n (gC false) 26) {ad : Nat → Nat → Nat} {σ σ1 : g_S} {v r : Int32}, rc.2.2.2 σ u v = some (r, σ1) → g_Met gCl (g_D X) (g_dA X) (g_A X) (g_s0 X) (g_b0 X) (g_l X) yX9_thing cX9_thing 3 (some .int) (d + 200) (0, 0) (gC false) ad σ [.ref (ad 26 u), .int v] (gC false) ad σ1 (some (.int r))) {ad : Nat → Nat → Nat} {σ : g_S} {v1 : Int32} {o : (Int32 × g_S)} (h : mF_C9_sum_k26 σ rc u9 v1 = some o) (hQ : g_MQ gCl X (gC false) ad o.2 (some (.int o.1)) = g_Q X) : g_Y gCl X (gC false) ad σ (0, 0) 0 [(0, .ref (ad 26 u9)), (1, .int v1)] [] := by
  unfold mF_C9_sum_k26 at h
  refine y_aload_n C dX9_sum_0 0 rfl rfl ?_
  refine y_iload_n C dX9_sum_1 1 rfl rfl ?_
  obtain ⟨hp, h⟩ := g_gd h
  obtain ⟨x2, σ1, hc, h⟩ := g_bp h
  refine y_callV C (As := [.int v1]) (rest := []) (k := 26) (hu := hu_u9) (hc := (rfl : gCl[7]? = some (RX9, TX9, 8))) (hcell := (obC_26 hp)) (lk_X9_46_X9_ld200 C hR ⟨by omega, by omega⟩) (iproduct hu_u9 hc) rfl rfl (Nat.le_of_ble_eq_true rfl) ⟨Nat.zero_le _, Nat.zero_le _⟩ dX9_sum_2 ?_
  refine y_istore_n (vs1 := [(2, .int x2), (0, .ref (ad 26 u9)), (1, .int v1)]) C rfl dX9_sum_5 rfl (g_lL hL rfl) rfl ?_
  refine y_sub (vs2 := [(0, .ref (ad 26 u9)), (1, .int v1), (2, .int x2)]) [1, 2, 0] rfl ?_
  obtain ⟨e11, he11, h⟩ := g_bd h
  refine ml_C9_sum_k26_6 C hR hL hu_u9 iheld isum iproduct ithing (σ := σ1) _ _ _ he11 ?_
  refine y_iload_n C dX9_sum_75 0 rfl rfl ?_
  replace h := Option.some.inj h; subst h
  exact y_iret C hQ ⟨Nat.zero_le _, Nat.zero_le _⟩ dX9_sum_76
theorem mj_C9_product_k26_38 {X : g_F} {d : Nat} (C : g_M gCl X cX9_product RX9 (some .int)) (hR : g_R X = g_rm (d + 1 + 200) 0 0) (hL : g_nL X = 5) {u9 : Nat} (hu_u9 : u9 < g_n (gC false) 26) {rc : ((g_S → Nat → Int32 → Option (Int32 × g_S)) × (g_S → Nat → Int32 → Option (Int32 × g_S)) × (g_S → Nat → Int32 → Option (Int32 × g_S)) × (g_S → Nat → Int32 → Option (Int32 × g_S)))} (iheld : ∀ {u : Nat} (hu : u < g_n (gC false) 26) {ad : Nat → Nat → Nat} {σ σ1 : g_S} {v r : Int32}, rc.1 σ u v = some (r, σ1) → g_Met gCl (g_D X) (g_dA X) (g_A X) (g_s0 X) (g_b0 X) (g_l X) yX9_held cX9_held 3 (some .int) (d + 200) (0, 0) (gC false) ad σ [.ref (ad 26 u), .int v] (gC false) ad σ1 (some (.int r))) (isum : ∀ {u : Nat} (hu : u < g_n (gC false) 26) {ad : Nat → Nat → Nat} {σ σ1 : g_S} {v r : Int32}, rc.2.1 σ u v = some (r, σ1) → g_Met gCl (g_D X) (g_dA X) (g_A X) (g_s0 X) (g_b0 X) (g_l X) yX9_sum cX9_sum 5 (some .int) (d + 200) (0, 0) (gC false) ad σ [.ref (ad 26 u), .int v] (gC false) ad σ1 (some (.int r))) (iproduct : ∀ {u : Nat} (hu : u < g_n (gC false) 26) {ad : Nat → Nat → Nat} {σ σ1 : g_S} {v r : Int32}, rc.2.2.1 σ u v = some (r, σ1) → g_Met gCl (g_D X) (g_dA X) (g_A X) (g_s0 X) (g_b0 X) (g_l X) yX9_product cX9_product 5 (some .int) (d + 200) (0, 0) (gC false) ad σ [.ref (ad 26 u), .int v] (gC false) ad σ1 (some (.int r))) (ithing : ∀ {u : Nat} (hu : u < g_n (gC false) 26) {ad : Nat → Nat → Nat} {σ σ1 : g_S} {v r : Int32}, rc.2.2.2 σ u v = some (r, σ1) → g_Met gCl (g_D X) (g_dA X) (g_A X) (g_s0 X) (g_b0 X) (g_l X) yX9_thing cX9_thing 3 (some .int) (d + 200) (0, 0) (gC false) ad σ [.ref (ad 26 u), .int v] (gC false) ad σ1 (some (.int r))) {ad : Nat → Nat → Nat} {σ : g_S} {v1 : Int32} {v2 : Int32} {s0 : Int32} {o : ((Int32 × g_S) ⊕ (Int32 × g_S))} (h : mJ_C9_product_k26_38 σ rc u9 v1 v2 s0 = some o) (kl : ∀ z, o = .inl z → g_Y gCl X (gC false) ad z.2 (0, 0) 6 [(0, .ref (ad 26 u9)), (1, .int v1), (2, .int z.1)] []) (kx : ∀ z, o = .inr z → g_Y gCl X (gC false) ad z.2 (0, 0) 84 [(2, .int z.1)] []) : g_Y gCl X (gC false) ad σ (0, 0) 38 [(0, .ref (ad 26 u9)), (1, .int v1), (2, .int v2)] [.int s0] := by
  unfold mJ_C9_product_k26_38 at h
  refine y_istore_n (vs1 := [(3, .int s0), (0, .ref (ad 26 u9)), (1, .int v1), (2, .int v2)]) C rfl dX9_product_38 rfl (g_lL hL rfl) rfl ?_
  refine y_aload_n C dX9_product_39 1 rfl rfl ?_
  refine y_dup C dX9_product_40 rfl ?_
  obtain ⟨hp, h⟩ := g_gd h
  refine gf_C_X9_34_26 C hu_u9 hp dX9_product_41 ?_
  refine y_iconst (v := (1 : Int32)) C dX9_product_44 (by decide) ?_
  refine y_iadd C dX9_product_45 ?_
  obtain ⟨hp, h⟩ := g_gd h
  obtain ⟨σ5, hσ5, h⟩ := g_lt h
  refine pf_C_X9_34_26 C hu_u9 hp hσ5 dX9_product_46 ?_
  refine y_aload_n C dX9_product_49 1 rfl rfl ?_
  refine y_iload_n C dX9_product_50 2 rfl rfl ?_
  obtain ⟨hp, h⟩ := g_gd h
  obtain ⟨x7, σ6, hc, h⟩ := g_bp h
  refine y_callV C (As := [.int v1]) (rest := []) (k := 26) (hu := hu_u9) (hc := (rfl : gCl[7]? = some (RX9, TX9, 8))) (hcell := (obC_26 hp)) (lk_X9_53_X9_ld200 C hR ⟨by omega, by omega⟩) (ithing hu_u9 hc) rfl rfl (Nat.le_of_ble_eq_true rfl) ⟨Nat.zero_le _, Nat.zero_le _⟩ dX9_product_51 ?_
  refine y_istore (vs1 := [(4, .int x7), (3, .int s0), (0, .ref (ad 26 u9)), (1, .int v1), (2, .int v2)]) C rfl dX9_product_54 (g_lL hL rfl) rfl ?_
  refine y_iload_n C dX9_product_56 1 rfl rfl ?_
  refine y_if_eq (tgt := 67) C dX9_product_57 rfl (fun hc => ?_) (fun hc => ?_)
  · replace h := g_it h hc
    refine y_iload C dX9_product_67 0 rfl ?_
    refine y_if_ne (tgt := 76) C dX9_product_69 rfl (fun hc => ?_) (fun hc => ?_)
    · replace h := g_if h hc
      refine y_iload_n C dX9_product_76 4 rfl rfl ?_
      refine y_iload C dX9_product_77 0 rfl ?_
      obtain ⟨hg, h⟩ := g_gd h
      refine y_idiv C dX9_product_79 hg ?_
      obtain ⟨x8, hx8, h⟩ := g_lt h
      refine y_istore_n (vs1 := [(2, .int x8), (4, .int x7), (3, .int s0), (0, .ref (ad 26 u9)), (1, .int v1)]) C hx8 dX9_product_80 rfl (g_lL hL rfl) rfl ?_
      refine y_goto (tgt := 6) C dX9_product_81 rfl ?_
      refine y_sub (vs2 := [(0, .ref (ad 26 u9)), (1, .int v1), (2, .int x8)]) [3, 4, 0] rfl ?_
      exact kl _ (Option.some.inj h).symm
    · replace h := g_it h hc
      refine y_iconst (v := (0 : Int32)) C dX9_product_72 (by decide) ?_
      refine y_goto (tgt := 80) C dX9_product_73 rfl ?_
      refine y_istore_n (vs1 := [(2, .int (0 : Int32)), (4, .int x7), (3, .int s0), (0, .ref (ad 26 u9)), (1, .int v1)]) C rfl dX9_product_80 rfl (g_lL hL rfl) rfl ?_
      refine y_goto (tgt := 6) C dX9_product_81 rfl ?_
      refine y_sub (vs2 := [(0, .ref (ad 26 u9)), (1, .int v1), (2, .int (0 : Int32))]) [3, 4, 0] rfl ?_
      exact kl _ (Option.some.inj h).symm
  · replace h := g_if h hc
    refine y_iload_n C dX9_product_60 4 rfl rfl ?_
    refine y_iload C dX9_product_61 0 rfl ?_
    refine y_imul C dX9_product_63 ?_
    refine y_goto (tgt := 80) C dX9_product_64 rfl ?_
    obtain ⟨x9, hx9, h⟩ := g_lt h
    refine y_istore_n (vs1 := [(2, .int x9), (4, .int x7), (3, .int s0), (0, .ref (ad 26 u9)), (1, .int v1)]) C hx9 dX9_product_80 rfl (g_lL hL rfl) rfl ?_
    refine y_goto (tgt := 6) C dX9_product_81 rfl ?_
    refine y_sub (vs2 := [(0, .ref (ad 26 u9)), (1, .int v1), (2, .int x9)]) [3, 4, 0] rfl ?_
    exact kl _ (Option.some.inj h).symm
theorem mj_C9_product_k26_24 {X : g_F} {d : Nat} (C : g_M gCl X cX9_product RX9 (some .int)) (hR : g_R X = g_rm (d + 1 + 200) 0 0) (hL : g_nL X = 5) {u9 : Nat} (hu_u9 : u9 < g_n (gC false) 26) {rc : ((g_S → Nat → Int32 → Option (Int32 × g_S)) × (g_S → Nat → Int32 → Option (Int32 × g_S)) × (g_S → Nat → Int32 → Option (Int32 × g_S)) × (g_S → Nat → Int32 → Option (Int32 × g_S)))} (iheld : ∀ {u : Nat} (hu : u < g_n (gC false) 26) {ad : Nat → Nat → Nat} {σ σ1 : g_S} {v r : Int32}, rc.1 σ u v = some (r, σ1) → g_Met gCl (g_D X) (g_dA X) (g_A X) (g_s0 X) (g_b0 X) (g_l X) yX9_held cX9_held 3 (some .int) (d + 200) (0, 0) (gC false) ad σ [.ref (ad 26 u), .int v] (gC false) ad σ1 (some (.int r))) (isum : ∀ {u : Nat} (hu : u < g_n (gC false) 26) {ad : Nat → Nat → Nat} {σ σ1 : g_S} {v r : Int32}, rc.2.1 σ u v = some (r, σ1) → g_Met gCl (g_D X) (g_dA X) (g_A X) (g_s0 X) (g_b0 X) (g_l X) yX9_sum cX9_sum 5 (some .int) (d + 200) (0, 0) (gC false) ad σ [.ref (ad 26 u), .int v] (gC false) ad σ1 (some (.int r))) (iproduct : ∀ {u : Nat} (hu : u < g_n (gC false) 26) {ad : Nat → Nat → Nat} {σ σ1 : g_S} {v r : Int32}, rc.2.2.1 σ u v = some (r, σ1) → g_Met gCl (g_D X) (g_dA X) (g_A X) (g_s0 X) (g_b0 X) (g_l X) yX9_product cX9_product 5 (some .int) (d + 200) (0, 0) (gC false) ad σ [.ref (ad 26 u), .int v] (gC false) ad σ1 (some (.int r))) (ithing : ∀ {u : Nat} (hu : u < g_n (gC false) 26) {ad : Nat → Nat → Nat} {σ σ1 : g_S} {v r : Int32}, rc.2.2.2 σ u v = some (r, σ1) → g_Met gCl (g_D X) (g_dA X) (g_A X) (g_s0 X) (g_b0 X) (g_l X) yX9_thing cX9_thing 3 (some .int) (d + 200) (0, 0) (gC false) ad σ [.ref (ad 26 u), .int v] (gC false) ad σ1 (some (.int r))) {ad : Nat → Nat → Nat} {σ : g_S} {v1 : Int32} {v2 : Int32} {o : ((Int32 × g_S) ⊕ (Int32 × g_S))} (h : mJ_C9_product_k26_24 σ rc u9 v1 v2 = some o) (kl : ∀ z, o = .inl z → g_Y gCl X (gC false) ad z.2 (0, 0) 6 [(0, .ref (ad 26 u9)), (1, .int v1), (2, .int z.1)] []) (kx : ∀ z, o = .inr z → g_Y gCl X (gC false) ad z.2 (0, 0) 84 [(2, .int z.1)] []) : g_Y gCl X (gC false) ad σ (0, 0) 24 [(0, .ref (ad 26 u9)), (1, .int v1), (2, .int v2)] [] := by
  unfold mJ_C9_product_k26_24 at h
  refine y_aload_n C dX9_product_24 0 rfl rfl ?_
  obtain ⟨hp, h⟩ := g_gd h
  obtain ⟨x4, hc, h⟩ := g_bd h
  refine y_callU C (As := []) (rest := []) (k := 26) (hu := hu_u9) (hc := (rfl : gCl[7]? = some (RX9, TX9, 8))) (hcell := (obC_26 hp)) (lk_X9_49_X9_X7_l1 C hR ⟨by omega, by omega⟩) (ct_C7_here_k26 hu_u9 hc) rfl rfl (Nat.le_of_ble_eq_true rfl) ⟨Nat.zero_le _, Nat.zero_le _⟩ dX9_product_25 ?_
  refine y_bipush (v := (42 : Int32)) C dX9_product_28 (by decide) ?_
  refine y_icmp_ne (tgt := 37) C dX9_product_30 rfl (fun hc => ?_) (fun hc => ?_)
  · replace h := g_if h hc
    refine y_iconst (v := (0 : Int32)) C dX9_product_37 (by decide) ?_
    exact mj_C9_product_k26_38 C hR hL hu_u9 iheld isum iproduct ithing h kl kx
  · replace h := g_it h hc
    refine y_iconst (v := (1 : Int32)) C dX9_product_33 (by decide) ?_
    refine y_goto (tgt := 38) C dX9_product_34 rfl ?_
    exact mj_C9_product_k26_38 C hR hL hu_u9 iheld isum iproduct ithing h kl kx
theorem ml_C9_product_k26_6 {X : g_F} {d : Nat} (C : g_M gCl X cX9_product RX9 (some .int)) (hR : g_R X = g_rm (d + 1 + 200) 0 0) (hL : g_nL X = 5) {u9 : Nat} (hu_u9 : u9 < g_n (gC false) 26) {rc : ((g_S → Nat → Int32 → Option (Int32 × g_S)) × (g_S → Nat → Int32 → Option (Int32 × g_S)) × (g_S → Nat → Int32 → Option (Int32 × g_S)) × (g_S → Nat → Int32 → Option (Int32 × g_S)))} (iheld : ∀ {u : Nat} (hu : u < g_n (gC false) 26) {ad : Nat → Nat → Nat} {σ σ1 : g_S} {v r : Int32}, rc.1 σ u v = some (r, σ1) → g_Met gCl (g_D X) (g_dA X) (g_A X) (g_s0 X) (g_b0 X) (g_l X) yX9_held cX9_held 3 (some .int) (d + 200) (0, 0) (gC false) ad σ [.ref (ad 26 u), .int v] (gC false) ad σ1 (some (.int r))) (isum : ∀ {u : Nat} (hu : u < g_n (gC false) 26) {ad : Nat → Nat → Nat} {σ σ1 : g_S} {v r : Int32}, rc.2.1 σ u v = some (r, σ1) → g_Met gCl (g_D X) (g_dA X) (g_A X) (g_s0 X) (g_b0 X) (g_l X) yX9_sum cX9_sum 5 (some .int) (d + 200) (0, 0) (gC false) ad σ [.ref (ad 26 u), .int v] (gC false) ad σ1 (some (.int r))) (iproduct : ∀ {u : Nat} (hu : u < g_n (gC false) 26) {ad : Nat → Nat → Nat} {σ σ1 : g_S} {v r : Int32}, rc.2.2.1 σ u v = some (r, σ1) → g_Met gCl (g_D X) (g_dA X) (g_A X) (g_s0 X) (g_b0 X) (g_l X) yX9_product cX9_product 5 (some .int) (d + 200) (0, 0) (gC false) ad σ [.ref (ad 26 u), .int v] (gC false) ad σ1 (some (.int r))) (ithing : ∀ {u : Nat} (hu : u < g_n (gC false) 26) {ad : Nat → Nat → Nat} {σ σ1 : g_S} {v r : Int32}, rc.2.2.2 σ u v = some (r, σ1) → g_Met gCl (g_D X) (g_dA X) (g_A X) (g_s0 X) (g_b0 X) (g_l X) yX9_thing cX9_thing 3 (some .int) (d + 200) (0, 0) (gC false) ad σ [.ref (ad 26 u), .int v] (gC false) ad σ1 (some (.int r))) {ad : Nat → Nat → Nat} {σ : g_S} {v1 : Int32} (n : Nat) (v : (Int32 × g_S)) (e : (Int32 × g_S)) (h : g_lp (fun v => mB_C9_product_k26_6 v.2 rc u9 v1 v.1) n v = some e) (kx : g_Y gCl X (gC false) ad e.2 (0, 0) 84 [(2, .int e.1)] []) : g_Y gCl X (gC false) ad v.2 (0, 0) 6 [(0, .ref (ad 26 u9)), (1, .int v1), (2, .int v.1)] [] := by
  refine g_loop (P := fun v => g_Y gCl X (gC false) ad v.2 (0, 0) 6 [(0, .ref (ad 26 u9)), (1, .int v1), (2, .int v.1)] []) (T := fun e => g_Y gCl X (gC false) ad e.2 (0, 0) 84 [(2, .int e.1)] []) ?_ n v e h kx
  clear h kx
  clear n v e
  intro v o h kl kx
  obtain ⟨v2, σ⟩ := v
  have h : mB_C9_product_k26_6 σ rc u9 v1 v2 = some o := h
  unfold mB_C9_product_k26_6 at h
  show g_Y gCl X (gC false) ad σ (0, 0) 6 [(0, .ref (ad 26 u9)), (1, .int v1), (2, .int v2)] []
  refine y_aload_n C dX9_product_6 0 rfl rfl ?_
  obtain ⟨hp, h⟩ := g_gd h
  obtain ⟨x3, hc, h⟩ := g_bd h
  refine y_callU C (As := []) (rest := []) (k := 26) (hu := hu_u9) (hc := (rfl : gCl[7]? = some (RX9, TX9, 8))) (hcell := (obC_26 hp)) (lk_X9_49_X9_X7_l1 C hR ⟨by omega, by omega⟩) (ct_C7_here_k26 hu_u9 hc) rfl rfl (Nat.le_of_ble_eq_true rfl) ⟨Nat.zero_le _, Nat.zero_le _⟩ dX9_product_7 ?_
  refine y_bipush (v := (42 : Int32)) C dX9_product_10 (by decide) ?_
  refine y_icmp_eq (tgt := 24) C dX9_product_12 rfl (fun hc => ?_) (fun hc => ?_)
  · replace h := g_it h hc
    exact mj_C9_product_k26_24 C hR hL hu_u9 iheld isum iproduct ithing h kl kx
  · replace h := g_if h hc
    refine y_aload_n C dX9_product_15 0 rfl rfl ?_
    obtain ⟨hp, h⟩ := g_gd h
    obtain ⟨x10, hc, h⟩ := g_bd h
    refine y_callU C (As := []) (rest := []) (k := 26) (hu := hu_u9) (hc := (rfl : gCl[7]? = some (RX9, TX9, 8))) (hcell := (obC_26 hp)) (lk_X9_49_X9_X7_l1 C hR ⟨by omega, by omega⟩) (ct_C7_here_k26 hu_u9 hc) rfl rfl (Nat.le_of_ble_eq_true rfl) ⟨Nat.zero_le _, Nat.zero_le _⟩ dX9_product_16 ?_
    refine y_bipush (v := (47 : Int32)) C dX9_product_19 (by decide) ?_
    refine y_icmp_ne (tgt := 84) C dX9_product_21 rfl (fun hc => ?_) (fun hc => ?_)
    · replace h := g_if h hc
      refine y_sub (vs2 := [(2, .int v2)]) [2] rfl ?_
      exact kx _ (Option.some.inj h).symm
    · replace h := g_it h hc
      exact mj_C9_product_k26_24 C hR hL hu_u9 iheld isum iproduct ithing h kl kx
theorem mw_C9_product_k26 {X : g_F} {d : Nat} (C : g_M gCl X cX9_product RX9 (some .int)) (hR : g_R X = g_rm (d + 1 + 200) 0 0) (hL : g_nL X = 5) {u9 : Nat} (hu_u9 : u9 < g_n (gC false) 26) {rc : ((g_S → Nat → Int32 → Option (Int32 × g_S)) × (g_S → Nat → Int32 → Option (Int32 × g_S)) × (g_S → Nat → Int32 → Option (Int32 × g_S)) × (g_S → Nat → Int32 → Option (Int32 × g_S)))} (iheld : ∀ {u : Nat} (hu : u < g_n (gC false) 26) {ad : Nat → Nat → Nat} {σ σ1 : g_S} {v r : Int32}, rc.1 σ u v = some (r, σ1) → g_Met gCl (g_D X) (g_dA X) (g_A X) (g_s0 X) (g_b0 X) (g_l X) yX9_held cX9_held 3 (some .int) (d + 200) (0, 0) (gC false) ad σ [.ref (ad 26 u), .int v] (gC false) ad σ1 (some (.int r))) (isum : ∀ {u : Nat} (hu : u < g_n (gC false) 26) {ad : Nat → Nat → Nat} {σ σ1 : g_S} {v r : Int32}, rc.2.1 σ u v = some (r, σ1) → g_Met gCl (g_D X) (g_dA X) (g_A X) (g_s0 X) (g_b0 X) (g_l X) yX9_sum cX9_sum 5 (some .int) (d + 200) (0, 0) (gC false) ad σ [.ref (ad 26 u), .int v] (gC false) ad σ1 (some (.int r))) (iproduct : ∀ {u : Nat} (hu : u < g_n (gC false) 26) {ad : Nat → Nat → Nat} {σ σ1 : g_S} {v r : Int32}, rc.2.2.1 σ u v = some (r, σ1) → g_Met gCl (g_D X) (g_dA X) (g_A X) (g_s0 X) (g_b0 X) (g_l X) yX9_product cX9_product 5 (some .int) (d + 200) (0, 0) (gC false) ad σ [.ref (ad 26 u), .int v] (gC false) ad σ1 (some (.int r))) (ithing : ∀ {u : Nat} (hu : u < g_n (gC false) 26) {ad : Nat → Nat → Nat} {σ σ1 : g_S} {v r : Int32}, rc.2.2.2 σ u v = some (r, σ1) → g_Met gCl (g_D X) (g_dA X) (g_A X) (g_s0 X) (g_b0 X) (g_l X) yX9_thing cX9_thing 3 (some .int) (d + 200) (0, 0) (gC false) ad σ [.ref (ad 26 u), .int v] (gC false) ad σ1 (some (.int r))) {ad : Nat → Nat → Nat} {σ : g_S} {v1 : Int32} {o : (Int32 × g_S)} (h : mF_C9_product_k26 σ rc u9 v1 = some o) (hQ : g_MQ gCl X (gC false) ad o.2 (some (.int o.1)) = g_Q X) : g_Y gCl X (gC false) ad σ (0, 0) 0 [(0, .ref (ad 26 u9)), (1, .int v1)] [] := by
  unfold mF_C9_product_k26 at h
  refine y_aload_n C dX9_product_0 0 rfl rfl ?_
  refine y_iload_n C dX9_product_1 1 rfl rfl ?_
  obtain ⟨hp, h⟩ := g_gd h
  obtain ⟨x2, σ1, hc, h⟩ := g_bp h
  refine y_callV C (As := [.int v1]) (rest := []) (k := 26) (hu := hu_u9) (hc := (rfl : gCl[7]? = some (RX9, TX9, 8))) (hcell := (obC_26 hp)) (lk_X9_53_X9_ld200 C hR ⟨by omega, by omega⟩) (ithing hu_u9 hc) rfl rfl (Nat.le_of_ble_eq_true rfl) ⟨Nat.zero_le _, Nat.zero_le _⟩ dX9_product_2 ?_
  refine y_istore_n (vs1 := [(2, .int x2), (0, .ref (ad 26 u9)), (1, .int v1)]) C rfl dX9_product_5 rfl (g_lL hL rfl) rfl ?_
  refine y_sub (vs2 := [(0, .ref (ad 26 u9)), (1, .int v1), (2, .int x2)]) [1, 2, 0] rfl ?_
  obtain ⟨e11, he11, h⟩ := g_bd h
  refine ml_C9_product_k26_6 C hR hL hu_u9 iheld isum iproduct ithing (σ := σ1) _ _ _ he11 ?_
  refine y_iload_n C dX9_product_84 0 rfl rfl ?_
  replace h := Option.some.inj h; subst h
  exact y_iret C hQ ⟨Nat.zero_le _, Nat.zero_le _⟩ dX9_product_85
theorem mj_C9_thing_k26_117 {X : g_F} {d : Nat} (C : g_M gCl X cX9_thing RX9 (some .int)) (hR : g_R X = g_rm (d + 1 + 200) 0 0) (hL : g_nL X = 3) {u9 : Nat} (hu_u9 : u9 < g_n (gC false) 26) {rc : ((g_S → Nat → Int32 → Option (Int32 × g_S)) × (g_S → Nat → Int32 → Option (Int32 × g_S)) × (g_S → Nat → Int32 → Option (Int32 × g_S)) × (g_S → Nat → Int32 → Option (Int32 × g_S)))} (iheld : ∀ {u : Nat} (hu : u < g_n (gC false) 26) {ad : Nat → Nat → Nat} {σ σ1 : g_S} {v r : Int32}, rc.1 σ u v = some (r, σ1) → g_Met gCl (g_D X) (g_dA X) (g_A X) (g_s0 X) (g_b0 X) (g_l X) yX9_held cX9_held 3 (some .int) (d + 200) (0, 0) (gC false) ad σ [.ref (ad 26 u), .int v] (gC false) ad σ1 (some (.int r))) (isum : ∀ {u : Nat} (hu : u < g_n (gC false) 26) {ad : Nat → Nat → Nat} {σ σ1 : g_S} {v r : Int32}, rc.2.1 σ u v = some (r, σ1) → g_Met gCl (g_D X) (g_dA X) (g_A X) (g_s0 X) (g_b0 X) (g_l X) yX9_sum cX9_sum 5 (some .int) (d + 200) (0, 0) (gC false) ad σ [.ref (ad 26 u), .int v] (gC false) ad σ1 (some (.int r))) (iproduct : ∀ {u : Nat} (hu : u < g_n (gC false) 26) {ad : Nat → Nat → Nat} {σ σ1 : g_S} {v r : Int32}, rc.2.2.1 σ u v = some (r, σ1) → g_Met gCl (g_D X) (g_dA X) (g_A X) (g_s0 X) (g_b0 X) (g_l X) yX9_product cX9_product 5 (some .int) (d + 200) (0, 0) (gC false) ad σ [.ref (ad 26 u), .int v] (gC false) ad σ1 (some (.int r))) (ithing : ∀ {u : Nat} (hu : u < g_n (gC false) 26) {ad : Nat → Nat → Nat} {σ σ1 : g_S} {v r : Int32}, rc.2.2.2 σ u v = some (r, σ1) → g_Met gCl (g_D X) (g_dA X) (g_A X) (g_s0 X) (g_b0 X) (g_l X) yX9_thing cX9_thing 3 (some .int) (d + 200) (0, 0) (gC false) ad σ [.ref (ad 26 u), .int v] (gC false) ad σ1 (some (.int r))) {ad : Nat → Nat → Nat} {σ : g_S} {v2 : Int32} {s1 : Int32} {o : (Int32 × g_S)} (h : mJ_C9_thing_k26_117 σ rc u9 v2 s1 = some o) (hQ : g_MQ gCl X (gC false) ad o.2 (some (.int o.1)) = g_Q X) : g_Y gCl X (gC false) ad σ (0, 0) 117 [(0, .ref (ad 26 u9)), (2, .int v2)] [.int s1, .ref (ad 26 u9)] := by
  unfold mJ_C9_thing_k26_117 at h
  obtain ⟨hp, h⟩ := g_gd h
  obtain ⟨σ7, hc, h⟩ := g_bd h
  refine y_callUv C (As := [.int s1]) (rest := []) (k := 26) (hu := hu_u9) (hc := (rfl : gCl[7]? = some (RX9, TX9, 8))) (hcell := (obC_26 hp)) (lk_X9_56_X9_X7_l1 C hR ⟨by omega, by omega⟩) (ct_C7_need_k26 hu_u9 hc) rfl rfl (Nat.le_of_ble_eq_true rfl) ⟨Nat.zero_le _, Nat.zero_le _⟩ dX9_thing_117 ?_
  refine y_aload_n C dX9_thing_120 0 rfl rfl ?_
  refine y_dup C dX9_thing_121 rfl ?_
  obtain ⟨hp, h⟩ := g_gd h
  refine gf_C_X9_34_26 C hu_u9 hp dX9_thing_122 ?_
  refine y_iconst (v := (1 : Int32)) C dX9_thing_125 (by decide) ?_
  refine y_iadd C dX9_thing_126 ?_
  obtain ⟨hp, h⟩ := g_gd h
  obtain ⟨σ8, hσ8, h⟩ := g_lt h
  refine pf_C_X9_34_26 C hu_u9 hp hσ8 dX9_thing_127 ?_
  refine y_aload_n C dX9_thing_130 0 rfl rfl ?_
  obtain ⟨hp, h⟩ := g_gd h
  by_cases hc : (σ8.2.2 26 u9 4) = 0
  · replace h := g_it h hc
    refine gf_C_X9_23_26_n C hu_u9 hp hc dX9_thing_131 ?_
    refine y_ifnonnullN C dX9_thing_134 ?_
    refine y_iconst (v := (0 : Int32)) C dX9_thing_137 (by decide) ?_
    refine y_goto (tgt := 146) C dX9_thing_138 rfl ?_
    replace h := Option.some.inj h; subst h
    exact y_iret C hQ ⟨Nat.zero_le _, Nat.zero_le _⟩ dX9_thing_146
  · replace h := g_if h hc
    refine gf_C_X9_23_26_r C hu_u9 hp hc dX9_thing_131 ?_
    obtain ⟨hu9, h⟩ := g_gd h
    refine y_ifnonnull (tgt := 141) C dX9_thing_134 rfl ?_
    refine y_aload_n C dX9_thing_141 0 rfl rfl ?_
    refine y_iload_n C dX9_thing_142 1 rfl rfl ?_
    obtain ⟨hp, h⟩ := g_gd h
    obtain ⟨x10, hc, h⟩ := g_bd h
    refine y_callV C (As := [.int v2]) (rest := []) (k := 26) (hu := hu_u9) (hc := (rfl : gCl[7]? = some (RX9, TX9, 8))) (hcell := (obC_26 hp)) (lk_X9_78_X9_l3 C hR ⟨by omega, by omega⟩) (ct_C9_value_k26 hu_u9 hc) rfl rfl (Nat.le_of_ble_eq_true rfl) ⟨Nat.zero_le _, Nat.zero_le _⟩ dX9_thing_143 ?_
    replace h := Option.some.inj h; subst h
    exact y_iret C hQ ⟨Nat.zero_le _, Nat.zero_le _⟩ dX9_thing_146
theorem mj_C9_thing_k26_116 {X : g_F} {d : Nat} (C : g_M gCl X cX9_thing RX9 (some .int)) (hR : g_R X = g_rm (d + 1 + 200) 0 0) (hL : g_nL X = 3) {u9 : Nat} (hu_u9 : u9 < g_n (gC false) 26) {rc : ((g_S → Nat → Int32 → Option (Int32 × g_S)) × (g_S → Nat → Int32 → Option (Int32 × g_S)) × (g_S → Nat → Int32 → Option (Int32 × g_S)) × (g_S → Nat → Int32 → Option (Int32 × g_S)))} (iheld : ∀ {u : Nat} (hu : u < g_n (gC false) 26) {ad : Nat → Nat → Nat} {σ σ1 : g_S} {v r : Int32}, rc.1 σ u v = some (r, σ1) → g_Met gCl (g_D X) (g_dA X) (g_A X) (g_s0 X) (g_b0 X) (g_l X) yX9_held cX9_held 3 (some .int) (d + 200) (0, 0) (gC false) ad σ [.ref (ad 26 u), .int v] (gC false) ad σ1 (some (.int r))) (isum : ∀ {u : Nat} (hu : u < g_n (gC false) 26) {ad : Nat → Nat → Nat} {σ σ1 : g_S} {v r : Int32}, rc.2.1 σ u v = some (r, σ1) → g_Met gCl (g_D X) (g_dA X) (g_A X) (g_s0 X) (g_b0 X) (g_l X) yX9_sum cX9_sum 5 (some .int) (d + 200) (0, 0) (gC false) ad σ [.ref (ad 26 u), .int v] (gC false) ad σ1 (some (.int r))) (iproduct : ∀ {u : Nat} (hu : u < g_n (gC false) 26) {ad : Nat → Nat → Nat} {σ σ1 : g_S} {v r : Int32}, rc.2.2.1 σ u v = some (r, σ1) → g_Met gCl (g_D X) (g_dA X) (g_A X) (g_s0 X) (g_b0 X) (g_l X) yX9_product cX9_product 5 (some .int) (d + 200) (0, 0) (gC false) ad σ [.ref (ad 26 u), .int v] (gC false) ad σ1 (some (.int r))) (ithing : ∀ {u : Nat} (hu : u < g_n (gC false) 26) {ad : Nat → Nat → Nat} {σ σ1 : g_S} {v r : Int32}, rc.2.2.2 σ u v = some (r, σ1) → g_Met gCl (g_D X) (g_dA X) (g_A X) (g_s0 X) (g_b0 X) (g_l X) yX9_thing cX9_thing 3 (some .int) (d + 200) (0, 0) (gC false) ad σ [.ref (ad 26 u), .int v] (gC false) ad σ1 (some (.int r))) {ad : Nat → Nat → Nat} {σ : g_S} {v2 : Int32} {o : (Int32 × g_S)} (h : mJ_C9_thing_k26_116 σ rc u9 v2 = some o) (hQ : g_MQ gCl X (gC false) ad o.2 (some (.int o.1)) = g_Q X) : g_Y gCl X (gC false) ad σ (0, 0) 116 [(0, .ref (ad 26 u9)), (2, .int v2)] [.ref (ad 26 u9)] := by
  unfold mJ_C9_thing_k26_116 at h
  refine y_iconst (v := (0 : Int32)) C dX9_thing_116 (by decide) ?_
  exact mj_C9_thing_k26_117 C hR hL hu_u9 iheld isum iproduct ithing h hQ
theorem mj_C9_thing_k26_36 {X : g_F} {d : Nat} (C : g_M gCl X cX9_thing RX9 (some .int)) (hR : g_R X = g_rm (d + 1 + 200) 0 0) (hL : g_nL X = 3) {u9 : Nat} (hu_u9 : u9 < g_n (gC false) 26) {rc : ((g_S → Nat → Int32 → Option (Int32 × g_S)) × (g_S → Nat → Int32 → Option (Int32 × g_S)) × (g_S → Nat → Int32 → Option (Int32 × g_S)) × (g_S → Nat → Int32 → Option (Int32 × g_S)))} (iheld : ∀ {u : Nat} (hu : u < g_n (gC false) 26) {ad : Nat → Nat → Nat} {σ σ1 : g_S} {v r : Int32}, rc.1 σ u v = some (r, σ1) → g_Met gCl (g_D X) (g_dA X) (g_A X) (g_s0 X) (g_b0 X) (g_l X) yX9_held cX9_held 3 (some .int) (d + 200) (0, 0) (gC false) ad σ [.ref (ad 26 u), .int v] (gC false) ad σ1 (some (.int r))) (isum : ∀ {u : Nat} (hu : u < g_n (gC false) 26) {ad : Nat → Nat → Nat} {σ σ1 : g_S} {v r : Int32}, rc.2.1 σ u v = some (r, σ1) → g_Met gCl (g_D X) (g_dA X) (g_A X) (g_s0 X) (g_b0 X) (g_l X) yX9_sum cX9_sum 5 (some .int) (d + 200) (0, 0) (gC false) ad σ [.ref (ad 26 u), .int v] (gC false) ad σ1 (some (.int r))) (iproduct : ∀ {u : Nat} (hu : u < g_n (gC false) 26) {ad : Nat → Nat → Nat} {σ σ1 : g_S} {v r : Int32}, rc.2.2.1 σ u v = some (r, σ1) → g_Met gCl (g_D X) (g_dA X) (g_A X) (g_s0 X) (g_b0 X) (g_l X) yX9_product cX9_product 5 (some .int) (d + 200) (0, 0) (gC false) ad σ [.ref (ad 26 u), .int v] (gC false) ad σ1 (some (.int r))) (ithing : ∀ {u : Nat} (hu : u < g_n (gC false) 26) {ad : Nat → Nat → Nat} {σ σ1 : g_S} {v r : Int32}, rc.2.2.2 σ u v = some (r, σ1) → g_Met gCl (g_D X) (g_dA X) (g_A X) (g_s0 X) (g_b0 X) (g_l X) yX9_thing cX9_thing 3 (some .int) (d + 200) (0, 0) (gC false) ad σ [.ref (ad 26 u), .int v] (gC false) ad σ1 (some (.int r))) {ad : Nat → Nat → Nat} {σ : g_S} {v1 : Int32} {s1 : Int32} {o : (Int32 × g_S)} (h : mJ_C9_thing_k26_36 σ rc u9 v1 s1 = some o) (hQ : g_MQ gCl X (gC false) ad o.2 (some (.int o.1)) = g_Q X) : g_Y gCl X (gC false) ad σ (0, 0) 36 [(0, .ref (ad 26 u9)), (1, .int v1)] [.int s1, .ref (ad 26 u9)] := by
  unfold mJ_C9_thing_k26_36 at h
  obtain ⟨hp, h⟩ := g_gd h
  obtain ⟨σ14, hc, h⟩ := g_bd h
  refine y_callUv C (As := [.int s1]) (rest := []) (k := 26) (hu := hu_u9) (hc := (rfl : gCl[7]? = some (RX9, TX9, 8))) (hcell := (obC_26 hp)) (lk_X9_56_X9_X7_l1 C hR ⟨by omega, by omega⟩) (ct_C7_need_k26 hu_u9 hc) rfl rfl (Nat.le_of_ble_eq_true rfl) ⟨Nat.zero_le _, Nat.zero_le _⟩ dX9_thing_36 ?_
  refine y_aload_n C dX9_thing_39 0 rfl rfl ?_
  refine y_dup C dX9_thing_40 rfl ?_
  obtain ⟨hp, h⟩ := g_gd h
  refine gf_C_X9_34_26 C hu_u9 hp dX9_thing_41 ?_
  refine y_iconst (v := (1 : Int32)) C dX9_thing_44 (by decide) ?_
  refine y_iadd C dX9_thing_45 ?_
  obtain ⟨hp, h⟩ := g_gd h
  obtain ⟨σ15, hσ15, h⟩ := g_lt h
  refine pf_C_X9_34_26 C hu_u9 hp hσ15 dX9_thing_46 ?_
  refine y_aload_n C dX9_thing_49 0 rfl rfl ?_
  refine y_iload_n C dX9_thing_50 1 rfl rfl ?_
  refine y_iconst (v := (1 : Int32)) C dX9_thing_51 (by decide) ?_
  refine y_iadd C dX9_thing_52 ?_
  obtain ⟨hp, h⟩ := g_gd h
  obtain ⟨x17, σ16, hc, h⟩ := g_bp h
  refine y_callV C (As := [.int (v1 + (1 : Int32))]) (rest := []) (k := 26) (hu := hu_u9) (hc := (rfl : gCl[7]? = some (RX9, TX9, 8))) (hcell := (obC_26 hp)) (lk_X9_15_X9_ld200 C hR ⟨by omega, by omega⟩) (iheld hu_u9 hc) rfl rfl (Nat.le_of_ble_eq_true rfl) ⟨Nat.zero_le _, Nat.zero_le _⟩ dX9_thing_53 ?_
  refine y_istore_n (vs1 := [(2, .int x17), (0, .ref (ad 26 u9)), (1, .int v1)]) C rfl dX9_thing_56 rfl (g_lL hL rfl) rfl ?_
  refine y_aload_n C dX9_thing_57 1 rfl rfl ?_
  refine y_aload_n C dX9_thing_58 1 rfl rfl ?_
  refine y_bipush (v := (41 : Int32)) C dX9_thing_59 (by decide) ?_
  obtain ⟨hp, h⟩ := g_gd h
  obtain ⟨x19, σ18, hc, h⟩ := g_bp h
  refine y_callU C (As := [.int (41 : Int32)]) (rest := [.ref (ad 26 u9)]) (k := 26) (hu := hu_u9) (hc := (rfl : gCl[7]? = some (RX9, TX9, 8))) (hcell := (obC_26 hp)) (lk_X9_42_X9_X7_l2 C hR ⟨by omega, by omega⟩) (ct_C7_passes_k26 hu_u9 hc) rfl rfl (Nat.le_of_ble_eq_true rfl) ⟨Nat.zero_le _, Nat.zero_le _⟩ dX9_thing_61 ?_
  obtain ⟨hp, h⟩ := g_gd h
  obtain ⟨σ20, hc, h⟩ := g_bd h
  refine y_callUv C (As := [.int x19]) (rest := []) (k := 26) (hu := hu_u9) (hc := (rfl : gCl[7]? = some (RX9, TX9, 8))) (hcell := (obC_26 hp)) (lk_X9_56_X9_X7_l1 C hR ⟨by omega, by omega⟩) (ct_C7_need_k26 hu_u9 hc) rfl rfl (Nat.le_of_ble_eq_true rfl) ⟨Nat.zero_le _, Nat.zero_le _⟩ dX9_thing_64 ?_
  refine y_iload_n C dX9_thing_67 0 rfl rfl ?_
  replace h := Option.some.inj h; subst h
  exact y_iret C hQ ⟨Nat.zero_le _, Nat.zero_le _⟩ dX9_thing_68
theorem mw_C9_thing_k26 {X : g_F} {d : Nat} (C : g_M gCl X cX9_thing RX9 (some .int)) (hR : g_R X = g_rm (d + 1 + 200) 0 0) (hL : g_nL X = 3) {u9 : Nat} (hu_u9 : u9 < g_n (gC false) 26) {rc : ((g_S → Nat → Int32 → Option (Int32 × g_S)) × (g_S → Nat → Int32 → Option (Int32 × g_S)) × (g_S → Nat → Int32 → Option (Int32 × g_S)) × (g_S → Nat → Int32 → Option (Int32 × g_S)))} (iheld : ∀ {u : Nat} (hu : u < g_n (gC false) 26) {ad : Nat → Nat → Nat} {σ σ1 : g_S} {v r : Int32}, rc.1 σ u v = some (r, σ1) → g_Met gCl (g_D X) (g_dA X) (g_A X) (g_s0 X) (g_b0 X) (g_l X) yX9_held cX9_held 3 (some .int) (d + 200) (0, 0) (gC false) ad σ [.ref (ad 26 u), .int v] (gC false) ad σ1 (some (.int r))) (isum : ∀ {u : Nat} (hu : u < g_n (gC false) 26) {ad : Nat → Nat → Nat} {σ σ1 : g_S} {v r : Int32}, rc.2.1 σ u v = some (r, σ1) → g_Met gCl (g_D X) (g_dA X) (g_A X) (g_s0 X) (g_b0 X) (g_l X) yX9_sum cX9_sum 5 (some .int) (d + 200) (0, 0) (gC false) ad σ [.ref (ad 26 u), .int v] (gC false) ad σ1 (some (.int r))) (iproduct : ∀ {u : Nat} (hu : u < g_n (gC false) 26) {ad : Nat → Nat → Nat} {σ σ1 : g_S} {v r : Int32}, rc.2.2.1 σ u v = some (r, σ1) → g_Met gCl (g_D X) (g_dA X) (g_A X) (g_s0 X) (g_b0 X) (g_l X) yX9_product cX9_product 5 (some .int) (d + 200) (0, 0) (gC false) ad σ [.ref (ad 26 u), .int v] (gC false) ad σ1 (some (.int r))) (ithing : ∀ {u : Nat} (hu : u < g_n (gC false) 26) {ad : Nat → Nat → Nat} {σ σ1 : g_S} {v r : Int32}, rc.2.2.2 σ u v = some (r, σ1) → g_Met gCl (g_D X) (g_dA X) (g_A X) (g_s0 X) (g_b0 X) (g_l X) yX9_thing cX9_thing 3 (some .int) (d + 200) (0, 0) (gC false) ad σ [.ref (ad 26 u), .int v] (gC false) ad σ1 (some (.int r))) {ad : Nat → Nat → Nat} {σ : g_S} {v1 : Int32} {o : (Int32 × g_S)} (h : mF_C9_thing_k26 σ rc u9 v1 = some o) (hQ : g_MQ gCl X (gC false) ad o.2 (some (.int o.1)) = g_Q X) : g_Y gCl X (gC false) ad σ (0, 0) 0 [(0, .ref (ad 26 u9)), (1, .int v1)] [] := by
  unfold mF_C9_thing_k26 at h
  refine y_aload_n C dX9_thing_0 0 rfl rfl ?_
  refine y_bipush (v := (45 : Int32)) C dX9_thing_1 (by decide) ?_
  obtain ⟨hp, h⟩ := g_gd h
  obtain ⟨x2, σ1, hc, h⟩ := g_bp h
  refine y_callU C (As := [.int (45 : Int32)]) (rest := []) (k := 26) (hu := hu_u9) (hc := (rfl : gCl[7]? = some (RX9, TX9, 8))) (hcell := (obC_26 hp)) (lk_X9_42_X9_X7_l2 C hR ⟨by omega, by omega⟩) (ct_C7_passes_k26 hu_u9 hc) rfl rfl (Nat.le_of_ble_eq_true rfl) ⟨Nat.zero_le _, Nat.zero_le _⟩ dX9_thing_3 ?_
  refine y_if_eq (tgt := 16) C dX9_thing_6 rfl (fun hc => ?_) (fun hc => ?_)
  · replace h := g_it h hc
    refine y_aload_n C dX9_thing_16 0 rfl rfl ?_
    obtain ⟨hp, h⟩ := g_gd h
    obtain ⟨x3, hc, h⟩ := g_bd h
    refine y_callU C (As := []) (rest := []) (k := 26) (hu := hu_u9) (hc := (rfl : gCl[7]? = some (RX9, TX9, 8))) (hcell := (obC_26 hp)) (lk_X9_49_X9_X7_l1 C hR ⟨by omega, by omega⟩) (ct_C7_here_k26 hu_u9 hc) rfl rfl (Nat.le_of_ble_eq_true rfl) ⟨Nat.zero_le _, Nat.zero_le _⟩ dX9_thing_17 ?_
    refine y_bipush (v := (40 : Int32)) C dX9_thing_20 (by decide) ?_
    refine y_icmp_ne (tgt := 69) C dX9_thing_22 rfl (fun hc => ?_) (fun hc => ?_)
    · replace h := g_if h hc
      refine y_aload_n C dX9_thing_69 0 rfl rfl ?_
      obtain ⟨hp, h⟩ := g_gd h
      obtain ⟨x4, hc, h⟩ := g_bd h
      refine y_callU C (As := []) (rest := []) (k := 26) (hu := hu_u9) (hc := (rfl : gCl[7]? = some (RX9, TX9, 8))) (hcell := (obC_26 hp)) (lk_X9_49_X9_X7_l1 C hR ⟨by omega, by omega⟩) (ct_C7_here_k26 hu_u9 hc) rfl rfl (Nat.le_of_ble_eq_true rfl) ⟨Nat.zero_le _, Nat.zero_le _⟩ dX9_thing_70 ?_
      refine y_i2l C dX9_thing_73 ?_
      refine y_ldc2 (v := (48 : Int64)) C q580 dX9_thing_74 ?_
      refine y_ldc2 (v := (57 : Int64)) C q581 dX9_thing_77 ?_
      obtain ⟨x5, hc, h⟩ := g_bd h
      refine y_callSN C (As := [.long (x4.toInt64), .long (48 : Int64), .long (57 : Int64)]) (rest := []) (lk_X9_64_l1 C hR ⟨by omega, by omega⟩) (ct_C1_in hc) rfl rfl (Nat.le_of_ble_eq_true rfl) ⟨Nat.zero_le _, Nat.zero_le _⟩ dX9_thing_80 ?_
      refine y_if_eq (tgt := 92) C dX9_thing_83 rfl (fun hc => ?_) (fun hc => ?_)
      · replace h := g_it h hc
        refine y_aload_n C dX9_thing_92 0 rfl rfl ?_
        obtain ⟨hp, h⟩ := g_gd h
        obtain ⟨x6, hc, h⟩ := g_bd h
        refine y_callU C (As := []) (rest := []) (k := 26) (hu := hu_u9) (hc := (rfl : gCl[7]? = some (RX9, TX9, 8))) (hcell := (obC_26 hp)) (lk_X9_49_X9_X7_l1 C hR ⟨by omega, by omega⟩) (ct_C7_here_k26 hu_u9 hc) rfl rfl (Nat.le_of_ble_eq_true rfl) ⟨Nat.zero_le _, Nat.zero_le _⟩ dX9_thing_93 ?_
        refine y_istore_n (vs1 := [(2, .int x6), (0, .ref (ad 26 u9)), (1, .int v1)]) C rfl dX9_thing_96 rfl (g_lL hL rfl) rfl ?_
        refine y_aload_n C dX9_thing_97 1 rfl rfl ?_
        refine y_iload_n C dX9_thing_98 0 rfl rfl ?_
        refine y_iconst (v := (-1 : Int32)) C dX9_thing_99 (by decide) ?_
        refine y_icmp_eq (tgt := 116) C dX9_thing_100 rfl (fun hc => ?_) (fun hc => ?_)
        · replace h := g_it h hc
          refine y_sub (vs2 := [(0, .ref (ad 26 u9)), (2, .int x6)]) [1, 0] rfl ?_
          exact mj_C9_thing_k26_116 C hR hL hu_u9 iheld isum iproduct ithing h hQ
        · replace h := g_if h hc
          refine y_ldcS (i := 1) C q592 (g_strR C.2.2.2.2.2.2.2.2.2.1) dX9_thing_103 ?_
          refine y_iload_n C dX9_thing_105 0 rfl rfl ?_
          obtain ⟨x11, hc, h⟩ := g_bd h
          refine y_callH C (As := [.int x6]) (rest := [.ref (ad 26 u9)]) (C1 := "java/lang/String") (fun H locs hS => vk_recv (g_strX C) (by decide) hS) (lk_X9_73_J3_l4 C hR ⟨by omega, by omega⟩) (ct_J3_indexOf (by decide) hc) rfl rfl (Nat.le_of_ble_eq_true rfl) ⟨Nat.zero_le _, Nat.zero_le _⟩ dX9_thing_106 ?_
          refine y_if_lt (tgt := 116) C dX9_thing_109 rfl (fun hc => ?_) (fun hc => ?_)
          · replace h := g_it h hc
            refine y_sub (vs2 := [(0, .ref (ad 26 u9)), (2, .int x6)]) [1, 0] rfl ?_
            exact mj_C9_thing_k26_116 C hR hL hu_u9 iheld isum iproduct ithing h hQ
          · replace h := g_if h hc
            refine y_iconst (v := (1 : Int32)) C dX9_thing_112 (by decide) ?_
            refine y_goto (tgt := 117) C dX9_thing_113 rfl ?_
            refine y_sub (vs2 := [(0, .ref (ad 26 u9)), (2, .int x6)]) [1, 0] rfl ?_
            exact mj_C9_thing_k26_117 C hR hL hu_u9 iheld isum iproduct ithing h hQ
      · replace h := g_if h hc
        refine y_aload_n C dX9_thing_86 0 rfl rfl ?_
        refine y_iconst (v := (3 : Int32)) C dX9_thing_87 (by decide) ?_
        obtain ⟨hp, h⟩ := g_gd h
        obtain ⟨x13, σ12, hc, h⟩ := g_bp h
        refine y_callU C (As := [.int (3 : Int32)]) (rest := []) (k := 26) (hu := hu_u9) (hc := (rfl : gCl[7]? = some (RX9, TX9, 8))) (hcell := (obC_26 hp)) (lk_X9_68_X9_X7_l3 C hR ⟨by omega, by omega⟩) (ct_C7_number_k26 hu_u9 hc) rfl rfl (Nat.le_of_ble_eq_true rfl) ⟨Nat.zero_le _, Nat.zero_le _⟩ dX9_thing_88 ?_
        replace h := Option.some.inj h; subst h
        exact y_iret C hQ ⟨Nat.zero_le _, Nat.zero_le _⟩ dX9_thing_91
    · replace h := g_it h hc
      refine y_aload_n C dX9_thing_25 0 rfl rfl ?_
      refine y_iload_n C dX9_thing_26 1 rfl rfl ?_
      refine y_iconst (v := (4 : Int32)) C dX9_thing_27 (by decide) ?_
      refine y_icmp_ge (tgt := 35) C dX9_thing_28 rfl (fun hc => ?_) (fun hc => ?_)
      · replace h := g_it h hc
        refine y_iconst (v := (0 : Int32)) C dX9_thing_35 (by decide) ?_
        exact mj_C9_thing_k26_36 C hR hL hu_u9 iheld isum iproduct ithing h hQ
      · replace h := g_if h hc
        refine y_iconst (v := (1 : Int32)) C dX9_thing_31 (by decide) ?_
        refine y_goto (tgt := 36) C dX9_thing_32 rfl ?_
        exact mj_C9_thing_k26_36 C hR hL hu_u9 iheld isum iproduct ithing h hQ
  · replace h := g_if h hc
    refine y_aload_n C dX9_thing_9 0 rfl rfl ?_
    refine y_iload_n C dX9_thing_10 1 rfl rfl ?_
    obtain ⟨hp, h⟩ := g_gd h
    obtain ⟨x22, σ21, hc, h⟩ := g_bp h
    refine y_callV C (As := [.int v1]) (rest := []) (k := 26) (hu := hu_u9) (hc := (rfl : gCl[7]? = some (RX9, TX9, 8))) (hcell := (obC_26 hp)) (lk_X9_53_X9_ld200 C hR ⟨by omega, by omega⟩) (ithing hu_u9 hc) rfl rfl (Nat.le_of_ble_eq_true rfl) ⟨Nat.zero_le _, Nat.zero_le _⟩ dX9_thing_11 ?_
    refine y_ineg C dX9_thing_14 ?_
    replace h := Option.some.inj h; subst h
    exact y_iret C hQ ⟨Nat.zero_le _, Nat.zero_le _⟩ dX9_thing_15
theorem ctr_rule_k26 : ∀ (n : Nat) {D : va_G} {dA : Nat → ClassId} {A : Nat → Prop} {s0 : State} {b0 : Nat} {l : Launch}, (∀ {u : Nat} (hu : u < g_n (gC false) 26) {ad : Nat → Nat → Nat} {σ σ1 : g_S} {v r : Int32}, (mR_rule_k26 n).1 σ u v = some (r, σ1) → g_Met gCl D dA A s0 b0 l yX9_held cX9_held 3 (some .int) (n + 200) (0, 0) (gC false) ad σ [.ref (ad 26 u), .int v] (gC false) ad σ1 (some (.int r))) ∧ (∀ {u : Nat} (hu : u < g_n (gC false) 26) {ad : Nat → Nat → Nat} {σ σ1 : g_S} {v r : Int32}, (mR_rule_k26 n).2.1 σ u v = some (r, σ1) → g_Met gCl D dA A s0 b0 l yX9_sum cX9_sum 5 (some .int) (n + 200) (0, 0) (gC false) ad σ [.ref (ad 26 u), .int v] (gC false) ad σ1 (some (.int r))) ∧ (∀ {u : Nat} (hu : u < g_n (gC false) 26) {ad : Nat → Nat → Nat} {σ σ1 : g_S} {v r : Int32}, (mR_rule_k26 n).2.2.1 σ u v = some (r, σ1) → g_Met gCl D dA A s0 b0 l yX9_product cX9_product 5 (some .int) (n + 200) (0, 0) (gC false) ad σ [.ref (ad 26 u), .int v] (gC false) ad σ1 (some (.int r))) ∧ (∀ {u : Nat} (hu : u < g_n (gC false) 26) {ad : Nat → Nat → Nat} {σ σ1 : g_S} {v r : Int32}, (mR_rule_k26 n).2.2.2 σ u v = some (r, σ1) → g_Met gCl D dA A s0 b0 l yX9_thing cX9_thing 3 (some .int) (n + 200) (0, 0) (gC false) ad σ [.ref (ad 26 u), .int v] (gC false) ad σ1 (some (.int r))) := by
  intro n
  induction n with
  | zero =>
    intro D dA A s0 b0 l
    exact ⟨fun _ _ _ _ _ _ h => (by cases h), fun _ _ _ _ _ _ h => (by cases h), fun _ _ _ _ _ _ h => (by cases h), fun _ _ _ _ _ _ h => (by cases h)⟩
  | succ n ih =>
    intro D dA A s0 b0 l
    refine ⟨?_, ?_, ?_, ?_⟩
    · intro u9 hu_u9 ad σ σ1 v r h
      exact g_Met.of2 pl_X9 (Nat.le_of_ble_eq_true rfl) (fun X C hQ hR _ _ hL hnm es eb el hT => by subst el; subst es; subst eb; exact mw_C9_held_k26 C hR hL hu_u9 (fun hu _ _ _ _ _ h => ih.1 hu h) (fun hu _ _ _ _ _ h => ih.2.1 hu h) (fun hu _ _ _ _ _ h => ih.2.2.1 hu h) (fun hu _ _ _ _ _ h => ih.2.2.2 hu h) h hQ)
    · intro u9 hu_u9 ad σ σ1 v r h
      exact g_Met.of2 pl_X9 (Nat.le_of_ble_eq_true rfl) (fun X C hQ hR _ _ hL hnm es eb el hT => by subst el; subst es; subst eb; exact mw_C9_sum_k26 C hR hL hu_u9 (fun hu _ _ _ _ _ h => ih.1 hu h) (fun hu _ _ _ _ _ h => ih.2.1 hu h) (fun hu _ _ _ _ _ h => ih.2.2.1 hu h) (fun hu _ _ _ _ _ h => ih.2.2.2 hu h) h hQ)
    · intro u9 hu_u9 ad σ σ1 v r h
      exact g_Met.of2 pl_X9 (Nat.le_of_ble_eq_true rfl) (fun X C hQ hR _ _ hL hnm es eb el hT => by subst el; subst es; subst eb; exact mw_C9_product_k26 C hR hL hu_u9 (fun hu _ _ _ _ _ h => ih.1 hu h) (fun hu _ _ _ _ _ h => ih.2.1 hu h) (fun hu _ _ _ _ _ h => ih.2.2.1 hu h) (fun hu _ _ _ _ _ h => ih.2.2.2 hu h) h hQ)
    · intro u9 hu_u9 ad σ σ1 v r h
      exact g_Met.of2 pl_X9 (Nat.le_of_ble_eq_true rfl) (fun X C hQ hR _ _ hL hnm es eb el hT => by subst el; subst es; subst eb; exact mw_C9_thing_k26 C hR hL hu_u9 (fun hu _ _ _ _ _ h => ih.1 hu h) (fun hu _ _ _ _ _ h => ih.2.1 hu h) (fun hu _ _ _ _ _ h => ih.2.2.1 hu h) (fun hu _ _ _ _ _ h => ih.2.2.2 hu h) h hQ)
theorem ct_held_k26 {D : va_G} {dA : Nat → ClassId} {A : Nat → Prop} {s0 : State} {b0 : Nat} {l : Launch} {u : Nat} (hu : u < g_n (gC false) 26) {ad : Nat → Nat → Nat} {σ σ1 : g_S} {v r : Int32} (h : mC_held_k26 σ u v = some (r, σ1)) : g_Met gCl D dA A s0 b0 l yX9_held cX9_held 3 (some .int) 300 (0, 0) (gC false) ad σ [.ref (ad 26 u), .int v] (gC false) ad σ1 (some (.int r)) := (ctr_rule_k26 100).1 hu h
theorem mw_C9_of_k26_4 {X : g_F} (C : g_M gCl X cX9_of RX9 (some .int)) (hR : g_R X = g_rm 301 0 0) (hL : g_nL X = 7) {u9 : Nat} (hu_u9 : u9 < g_n (gC false) 26) {u0 : Nat} (hu_u0 : u0 < g_n (gC false) 4) {ad : Nat → Nat → Nat} {σ : g_S} {v2 : Int32} {v3 : Int32} {o : (Int32 × g_S)} (h : mF_C9_of_k26_4 σ u9 u0 v2 v3 = some o) (hQ : g_MQG gCl X (gC false) (fun v ad2 s2 => v = some (.int o.1) ∧ s2 = o.2 ∧ ad2 = ad) (fun _ _ _ _ => False) = g_Q X) : g_Y gCl X (gC false) ad σ (0, 0) 0 [(0, .ref (ad 26 u9)), (1, .ref (ad 4 u0)), (2, .int v2), (3, .int v3)] [] := by
  unfold mF_C9_of_k26_4 at h
  refine y_aload_n C dX9_of_0 0 rfl rfl ?_
  refine y_aload_n C dX9_of_1 1 rfl rfl ?_
  obtain ⟨hp, h⟩ := g_gd h
  obtain ⟨σ1, hσ1, h⟩ := g_lt h
  refine pf_C_X9_23_26_r C hu_u9 hp hσ1 dX9_of_2 ?_
  refine y_aload_n C dX9_of_5 0 rfl rfl ?_
  refine y_iload_n C dX9_of_6 2 rfl rfl ?_
  obtain ⟨hp, h⟩ := g_gd h
  obtain ⟨σ2, hσ2, h⟩ := g_lt h
  refine pf_C_X9_27_26 C hu_u9 hp hσ2 dX9_of_7 ?_
  refine y_aload_n C dX9_of_10 0 rfl rfl ?_
  refine y_iload_n C dX9_of_11 3 rfl rfl ?_
  obtain ⟨hp, h⟩ := g_gd h
  obtain ⟨σ3, hσ3, h⟩ := g_lt h
  refine pf_C_X9_31_26 C hu_u9 hp hσ3 dX9_of_12 ?_
  refine y_aload_n C dX9_of_15 0 rfl rfl ?_
  refine y_iconst (v := (0 : Int32)) C dX9_of_16 (by decide) ?_
  obtain ⟨hp, h⟩ := g_gd h
  obtain ⟨σ4, hσ4, h⟩ := g_lt h
  refine pf_C_X9_34_26 C hu_u9 hp hσ4 dX9_of_17 ?_
  refine y_aload_n C dX9_of_20 0 rfl rfl ?_
  refine y_iconst (v := (0 : Int32)) C dX9_of_21 (by decide) ?_
  obtain ⟨hp, h⟩ := g_gd h
  obtain ⟨x6, σ5, hc, h⟩ := g_bp h
  refine y_callV C (As := [.int (0 : Int32)]) (rest := []) (k := 26) (hu := hu_u9) (hc := (rfl : gCl[7]? = some (RX9, TX9, 8))) (hcell := (obC_26 hp)) (lk_X9_15_X9_l300 C hR (by decide)) (ct_held_k26 hu_u9 hc) rfl rfl (Nat.le_of_ble_eq_true rfl) ⟨Nat.zero_le _, Nat.zero_le _⟩ dX9_of_22 ?_
  refine y_istore (vs1 := [(4, .int x6), (0, .ref (ad 26 u9)), (1, .ref (ad 4 u0)), (2, .int v2), (3, .int v3)]) C rfl dX9_of_25 (g_lL hL rfl) rfl ?_
  refine y_aload_n C dX9_of_27 1 rfl rfl ?_
  refine y_null C dX9_of_28 ?_
  obtain ⟨hp, h⟩ := g_gd h
  obtain ⟨σ7, hσ7, h⟩ := g_lt h
  refine pf_C_X9_23_26_n C hu_u9 hp hσ7 dX9_of_29 ?_
  refine y_iload C dX9_of_32 0 rfl ?_
  replace h := Option.some.inj h; subst h
  exact y_iretG C hQ ⟨rfl, rfl, rfl⟩ ⟨Nat.zero_le _, Nat.zero_le _⟩ dX9_of_34
theorem ct_C9_of_k26_4 {D : va_G} {dA : Nat → ClassId} {A : Nat → Prop} {s0 : State} {b0 : Nat} {l : Launch} {u9 : Nat} (hu_u9 : u9 < g_n (gC false) 26) {u0 : Nat} (hu_u0 : u0 < g_n (gC false) 4) {ad : Nat → Nat → Nat} {σ : g_S} {v2 : Int32} {v3 : Int32}{r : Int32} {σ1 : g_S} (h : mF_C9_of_k26_4 σ u9 u0 v2 v3 = some (r, σ1)) : g_MetG gCl D dA A s0 b0 l yX9_of (wsW_ yX9_of cX9_of 7 (some .int)  [((20 : Nat), (27 : Nat), (35 : Nat), (37 : Nat)), ((20 : Nat), (27 : Nat), (48 : Nat), (0 : Nat)), ((35 : Nat), (40 : Nat), (48 : Nat), (0 : Nat)), ((48 : Nat), (50 : Nat), (48 : Nat), (0 : Nat))]) 301 (0, 0) (gC false) ad σ [.ref (ad 26 u9), .ref (ad 4 u0), .int v2, .int v3] (gC false) (fun v ad2 s2 => v = some (.int r) ∧ s2 = σ1 ∧ ad2 = ad) (fun _ _ _ _ => False) :=
  g_MetG.ofH pl_X9 (Nat.le_of_ble_eq_true rfl) (fun X C hQ hR hmc hms hL hnm es eb el hT => mw_C9_of_k26_4 C hR hL hu_u9 hu_u0 h hQ)
theorem mj_C1_reachBy_30 {X : g_F} (C : g_M gCl X cX1_reachBy RX1 (some .int)) (hR : g_R X = g_rm 302 0 0) (hL : g_nL X = 5) {u0 : Nat} (hu_u0 : u0 < g_n (gC false) 4) {ad : Nat → Nat → Nat} {σ : g_S} {s0 : Int32} {o : (Int32 × g_S)} (h : mJ_C1_reachBy_30 σ u0 s0 = some o) (hQ : g_MQ gCl X (gC false) ad o.2 (some (.int o.1)) = g_Q X) : g_Y gCl X (gC false) ad σ (0, 0) 30 [] [.int s0] := by
  unfold mJ_C1_reachBy_30 at h
  refine y_istore (vs1 := [(4, .int s0)]) C rfl dX1_reachBy_30 (g_lL hL rfl) rfl ?_
  refine y_iconst (v := (0 : Int32)) C dX1_reachBy_32 (by decide) ?_
  refine y_bipush (v := (9 : Int32)) C dX1_reachBy_33 (by decide) ?_
  refine y_iload C dX1_reachBy_35 0 rfl ?_
  refine y_mmin C q509 (g_rmM hR (by decide)) (Nat.le_of_ble_eq_true rfl) ⟨Nat.zero_le _, Nat.zero_le _⟩ dX1_reachBy_37 ?_
  refine y_mmax C q510 (g_rmM hR (by decide)) (Nat.le_of_ble_eq_true rfl) ⟨Nat.zero_le _, Nat.zero_le _⟩ dX1_reachBy_40 ?_
  replace h := Option.some.inj h; subst h
  exact y_iret C hQ ⟨Nat.zero_le _, Nat.zero_le _⟩ dX1_reachBy_43
theorem mw_C1_reachBy {X : g_F} (C : g_M gCl X cX1_reachBy RX1 (some .int)) (hR : g_R X = g_rm 302 0 0) (hL : g_nL X = 5) {u0 : Nat} (hu_u0 : u0 < g_n (gC false) 4) {ad : Nat → Nat → Nat} {σ : g_S} {v2 : Int32} {v3 : Int32} {o : (Int32 × g_S)} (h : mF_C1_reachBy σ u0 v2 v3 = some o) (hQ : g_MQ gCl X (gC false) ad o.2 (some (.int o.1)) = g_Q X) : g_Y gCl X (gC false) ad σ (0, 0) 0 [(0, .ref (ad 0 0)), (1, .ref (ad 4 u0)), (2, .int v2), (3, .int v3)] [] := by
  unfold mF_C1_reachBy at h
  refine y_aload_n C dX1_reachBy_0 0 rfl rfl ?_
  by_cases hc : (σ.2.2 0 0 19) = 0
  · replace h := g_it h hc
    refine gf_C_X1_30_0_n C nC_0_0 hc dX1_reachBy_1 ?_
    refine y_ifnonnullN C dX1_reachBy_4 ?_
    refine y_aload_n C dX1_reachBy_7 0 rfl rfl ?_
    refine y_aload_n C dX1_reachBy_8 1 rfl rfl ?_
    refine gf_C_X1_34_4 C hu_u0 dX1_reachBy_9 ?_
    obtain ⟨x1, hc, h⟩ := g_bd h
    refine y_callV C (As := [.int (σ.1 4 u0 5)]) (rest := []) (k := 0) (hu := nC_0_0) (hc := (rfl : gCl[0]? = some (RX1, TX1, 31))) (hcell := obC_0) (lk_X1_39_X1_l1 C hR (by decide)) (ct_C1_lightOf hc) rfl rfl (Nat.le_of_ble_eq_true rfl) ⟨Nat.zero_le _, Nat.zero_le _⟩ dX1_reachBy_12 ?_
    refine y_iload_n C dX1_reachBy_15 3 rfl rfl ?_
    refine y_isub C dX1_reachBy_16 ?_
    refine y_goto (tgt := 30) C dX1_reachBy_17 rfl ?_
    refine y_sub (vs2 := []) [] rfl ?_
    exact mj_C1_reachBy_30 C hR hL hu_u0 h hQ
  · replace h := g_if h hc
    refine gf_C_X1_30_0_r C nC_0_0 hc dX1_reachBy_1 ?_
    obtain ⟨hu2, h⟩ := g_gd h
    refine y_ifnonnull (tgt := 20) C dX1_reachBy_4 rfl ?_
    refine y_aload_n C dX1_reachBy_20 0 rfl rfl ?_
    by_cases hc : (σ.2.2 0 0 19) = 0
    · replace h := g_it h hc
      refine gf_C_X1_30_0_n C nC_0_0 hc dX1_reachBy_21 ?_
      refine y_aload_n C dX1_reachBy_24 1 rfl rfl ?_
      refine y_iload_n C dX1_reachBy_25 2 rfl rfl ?_
      refine y_iload_n C dX1_reachBy_26 3 rfl rfl ?_
      cases h
    · replace h := g_if h hc
      refine gf_C_X1_30_0_r C nC_0_0 hc dX1_reachBy_21 ?_
      obtain ⟨hu3, h⟩ := g_gd h
      refine y_aload_n C dX1_reachBy_24 1 rfl rfl ?_
      refine y_iload_n C dX1_reachBy_25 2 rfl rfl ?_
      refine y_iload_n C dX1_reachBy_26 3 rfl rfl ?_
      obtain ⟨hp, h⟩ := g_gd h
      obtain ⟨x5, σ4, hc, h⟩ := g_bp h
      refine y_callVH C (As := [.ref (ad 4 u0), .int v2, .int v3]) (rest := []) (k := 26) (hu := hu3) (hc := (rfl : gCl[7]? = some (RX9, TX9, 8))) (hcell := (obC_26 hp)) (lk_X1_42_X9_l301 C hR (by decide)) (ct_C9_of_k26_4 hu3 hu_u0 hc) rfl rfl (Nat.le_of_ble_eq_true rfl) ⟨Nat.zero_le _, Nat.zero_le _⟩ dX1_reachBy_27 (fun v ad9 σ9 hz => ?_) (fun E q ad9 σ9 hz => hz.elim)
      obtain ⟨e1, e2, e3⟩ := hz
      subst e1
      rw [e2, e3]
      clear e2 e3
      show g_Y gCl X (gC false) ad σ4 (0, 0) 30 [(0, .ref (ad 0 0)), (1, .ref (ad 4 u0)), (2, .int v2), (3, .int v3)] [.int x5]
      refine y_sub (vs2 := []) [] rfl ?_
      exact mj_C1_reachBy_30 C hR hL hu_u0 h hQ
theorem ct_C1_reachBy {D : va_G} {dA : Nat → ClassId} {A : Nat → Prop} {s0 : State} {b0 : Nat} {l : Launch} {u0 : Nat} (hu_u0 : u0 < g_n (gC false) 4) {ad : Nat → Nat → Nat} {σ : g_S} {v2 : Int32} {v3 : Int32} {r : Int32} {σ1 : g_S} (h : mF_C1_reachBy σ u0 v2 v3 = some (r, σ1)) : g_Met gCl D dA A s0 b0 l yX1_reachBy cX1_reachBy 5 (some .int) 302 (0, 0) (gC false) ad σ [.ref (ad 0 0), .ref (ad 4 u0), .int v2, .int v3] (gC false) ad σ1 (some (.int r)) :=
  g_Met.of pl_X1 (Nat.le_of_ble_eq_true rfl) (fun X C hQ hR _ _ hL _ es eb => mw_C1_reachBy C hR hL hu_u0 h hQ)
theorem g_cellCne {dA : Nat → ClassId} {ad : Nat → Nat → Nat} {k u : Nat} {I : Nat → Int32} {L : Nat → Int64} {R : Nat → Nat} (hk : k ≠ 26) : gCcell false dA ad k u I L R = gCcell true dA ad k u I L R := by
  unfold gCcell
  split <;> first | rfl | exact absurd rfl hk
theorem g_hideC {cl : List vw_C} {D : va_G} {dA : Nat → ClassId} {ad : Nat → Nat → Nat} {σ : g_S} {A : Nat → Prop} {H : Heap} (h : g_W cl D dA (gC true) ad σ A H) : ∃ σ0, g_agC σ0 σ ∧ g_W cl D dA (gC false) ad σ0 A H := by
  have hz : ∀ u, ∃ z : g_Z, u < 2 → ¬ σ.2.2 26 u 200 = 0 → va_at D cl (ad 26 u, .inr (7, gC_h26 ad u (σ.1 26 u) (σ.2.2 26 u) z)) H := by
    intro u
    by_cases hu : u < 2
    · by_cases hp : σ.2.2 26 u 200 = 0
      · exact ⟨(fun _ => 0, fun _ => 0), fun _ q => absurd hp q⟩
      · have h0 := h.1 26 u hu
        rw [show g_cell (gC true) dA ad σ 26 u = .inr (.inl fun z => .inr (7, gC_h26 ad u (σ.1 26 u) (σ.2.2 26 u) z)) from if_neg hp] at h0
        obtain ⟨z, hz⟩ := h0
        exact ⟨z, fun _ _ => hz⟩
    · exact ⟨(fun _ => 0, fun _ => 0), fun q => absurd q hu⟩
  obtain ⟨z, hz⟩ : ∃ z : Nat → g_Z, ∀ u, u < 2 → ¬ σ.2.2 26 u 200 = 0 → va_at D cl (ad 26 u, .inr (7, gC_h26 ad u (σ.1 26 u) (σ.2.2 26 u) (z u))) H := ⟨fun u => Classical.choose (hz u), fun u => Classical.choose_spec (hz u)⟩
  obtain ⟨σ0, hσ⟩ : ∃ σ0 : g_S, σ0 = (fun k u j => if k = 26 ∧ 3 ≤ j ∧ j ≤ 6 then (z u).1 j else σ.1 k u j, σ.2.1, fun k u j => if k = 26 ∧ 3 ≤ j ∧ j ≤ 6 then (z u).2 j else σ.2.2 k u j) := ⟨_, rfl⟩
  have hc : ∀ k u, k ≠ 26 → g_cell (gC false) dA ad σ0 k u = g_cell (gC true) dA ad σ k u := by
    intro k u hk
    have e1 : σ0.1 k u = σ.1 k u := by rw [hσ]; funext j; exact if_neg (fun q => hk q.1)
    have e2 : σ0.2.1 k u = σ.2.1 k u := by rw [hσ]
    have e3 : σ0.2.2 k u = σ.2.2 k u := by rw [hσ]; funext j; exact if_neg (fun q => hk q.1)
    show gCcell false dA ad k u (σ0.1 k u) (σ0.2.1 k u) (σ0.2.2 k u) = gCcell true dA ad k u (σ.1 k u) (σ.2.1 k u) (σ.2.2 k u)
    rw [e1, e2, e3]
    exact g_cellCne hk
  have hr : ∀ u, σ0.2.2 26 u 200 = σ.2.2 26 u 200 := fun u => by rw [hσ]; show (if 26 = 26 ∧ 3 ≤ 200 ∧ 200 ≤ 6 then (z u).2 200 else σ.2.2 26 u 200) = _; exact if_neg (by decide)
  have ha : ∀ u, σ.2.2 26 u 200 = 0 → g_cell (gC false) dA ad σ0 26 u = .inr (.inr ()) := fun u hu => if_pos ((hr u).trans hu)
  have hb : ∀ u, ¬ σ.2.2 26 u 200 = 0 → g_cell (gC false) dA ad σ0 26 u = .inl (.inr (7, gC_h26 ad u (σ.1 26 u) (σ.2.2 26 u) (z u))) := fun u hu => by
    rw [show g_cell (gC false) dA ad σ0 26 u = .inl (.inr (7, gC_f26 ad u (σ0.1 26 u) (σ0.2.1 26 u) (σ0.2.2 26 u))) from if_neg (by rw [hr]; exact hu), hσ]
    rfl
  have hpr : ∀ k u, g_pr (g_cell (gC false) dA ad σ0 k u) → g_pr (g_cell (gC true) dA ad σ k u) := by
    intro k u hp
    by_cases hk : k = 26
    · subst hk
      by_cases hu : σ.2.2 26 u 200 = 0
      · rw [ha u hu] at hp; exact hp.elim
      · rw [show g_cell (gC true) dA ad σ 26 u = .inr (.inl fun z => .inr (7, gC_h26 ad u (σ.1 26 u) (σ.2.2 26 u) z)) from if_neg hu]; trivial
    · rw [← hc k u hk]; exact hp
  refine ⟨σ0, ⟨by rw [hσ], fun k u j hj => ⟨by rw [hσ]; exact if_neg hj, by rw [hσ]; exact if_neg hj⟩⟩, fun k u hu => ?_, fun k u k' u' h1 h2 p1 p2 h3 => h.2.1 k u k' u' h1 h2 (hpr k u p1) (hpr k' u' p2) h3, fun k u hu hp => h.2.2 k u hu (hpr k u hp)⟩
  by_cases hk : k = 26
  · subst hk
    by_cases hu2 : σ.2.2 26 u 200 = 0
    · rw [ha u hu2]; trivial
    · rw [hb u hu2]; exact hz u hu hu2
  · rw [hc k u hk]; exact h.1 k u hu
theorem g_showC {cl : List vw_C} {D : va_G} {dA : Nat → ClassId} {ad : Nat → Nat → Nat} {σ σ1 : g_S} {A : Nat → Prop} {H : Heap} (hag : g_agC σ1 σ) (h : g_W cl D dA (gC false) ad σ1 A H) : g_W cl D dA (gC true) ad σ A H := by
  have hc : ∀ k u, k ≠ 26 → g_cell (gC false) dA ad σ1 k u = g_cell (gC true) dA ad σ k u := by
    intro k u hk
    have e1 : σ1.1 k u = σ.1 k u := by funext j; exact (hag.2 k u j (fun q => hk q.1)).1
    have e3 : σ1.2.2 k u = σ.2.2 k u := by funext j; exact (hag.2 k u j (fun q => hk q.1)).2
    show gCcell false dA ad k u (σ1.1 k u) (σ1.2.1 k u) (σ1.2.2 k u) = gCcell true dA ad k u (σ.1 k u) (σ.2.1 k u) (σ.2.2 k u)
    rw [e1, hag.1, e3]
    exact g_cellCne hk
  have hr : ∀ u, σ1.2.2 26 u 200 = σ.2.2 26 u 200 := fun u => (hag.2 26 u 200 (by omega)).2
  have hb : ∀ u, ¬ σ.2.2 26 u 200 = 0 → g_cell (gC false) dA ad σ1 26 u = .inl (.inr (7, gC_h26 ad u (σ.1 26 u) (σ.2.2 26 u) (σ1.1 26 u, σ1.2.2 26 u))) := fun u hu => by
    rw [show g_cell (gC false) dA ad σ1 26 u = .inl (.inr (7, gC_f26 ad u (σ1.1 26 u) (σ1.2.1 26 u) (σ1.2.2 26 u))) from if_neg (by rw [hr]; exact hu)]
    have a : ∀ j, ¬ (3 ≤ j ∧ j ≤ 6) → σ1.1 26 u j = σ.1 26 u j := fun j hj => (hag.2 26 u j (fun q => hj q.2)).1
    have b : ∀ j, ¬ (3 ≤ j ∧ j ≤ 6) → σ1.2.2 26 u j = σ.2.2 26 u j := fun j hj => (hag.2 26 u j (fun q => hj q.2)).2
    have hf : gC_f26 ad u (σ1.1 26 u) (σ1.2.1 26 u) (σ1.2.2 26 u) = gC_h26 ad u (σ.1 26 u) (σ.2.2 26 u) (σ1.1 26 u, σ1.2.2 26 u) := by
      simp only [gC_f26, gC_h26, a 0 (by omega), a 1 (by omega), a 2 (by omega), a 7 (by omega), b 0 (by omega), b 1 (by omega), b 2 (by omega), b 7 (by omega), b 200 (by omega)]
    rw [hf]
  have hpr : ∀ k u, g_pr (g_cell (gC true) dA ad σ k u) → g_pr (g_cell (gC false) dA ad σ1 k u) := by
    intro k u hp
    by_cases hk : k = 26
    · subst hk
      by_cases hu : σ.2.2 26 u 200 = 0
      · rw [show g_cell (gC true) dA ad σ 26 u = .inr (.inr ()) from if_pos hu] at hp; exact hp.elim
      · rw [hb u hu]; trivial
    · rw [hc k u hk]; exact hp
  refine ⟨fun k u hu => ?_, fun k u k' u' h1 h2 p1 p2 h3 => h.2.1 k u k' u' h1 h2 (hpr k u p1) (hpr k' u' p2) h3, fun k u hu hp => h.2.2 k u hu (hpr k u hp)⟩
  have h0 := h.1 k u hu
  by_cases hk : k = 26
  · subst hk
    by_cases hu2 : σ.2.2 26 u 200 = 0
    · rw [show g_cell (gC true) dA ad σ 26 u = .inr (.inr ()) from if_pos hu2]; trivial
    · rw [hb u hu2] at h0
      rw [show g_cell (gC true) dA ad σ 26 u = .inr (.inl fun z => .inr (7, gC_h26 ad u (σ.1 26 u) (σ.2.2 26 u) z)) from if_neg hu2]
      exact ⟨_, h0⟩
  · rw [← hc k u hk]; exact h0
theorem ct_R_C_reachBy {D : va_G} {dA : Nat → ClassId} {A : Nat → Prop} {s0 : State} {b0 : Nat} {l : Launch} {u0 : Nat} (hu_u0 : u0 < g_n (gC true) 4) {ad : Nat → Nat → Nat} {σ : g_S} {v2 v3 : Int32} {r : Int32} (h : mR_C_reachBy σ u0 v2 v3 = some r) : g_Met gCl D dA A s0 b0 l yX1_reachBy cX1_reachBy 5 (some .int) 302 (0, 0) (gC true) ad σ [.ref (ad 0 0), .ref (ad 4 u0), .int v2, .int v3] (gC true) ad σ (some (.int r)) := by
  obtain ⟨hr⟩ : Nonempty (∀ σ0, g_agC σ0 σ → ∃ σ1, g_agC σ1 σ ∧ mF_C1_reachBy σ0 u0 v2 v3 = some (r, σ1)) := by
    unfold mR_C_reachBy at h
    split at h
    · rename_i hx
      have := Classical.choose_spec hx
      rw [Option.some.inj h] at this
      exact ⟨this⟩
    · cases h
  refine g_Met_ex (ι := g_S × g_S) (Pc := fun i => va_Pc [.ref (ad 0 0), .ref (ad 4 u0), .int v2, .int v3] (g_B gCl D dA (gC false) ad i.1 A s0 b0)) (Qc := fun i => g_E gCl D dA (gC false) ad i.2 A (some (.int r))) ?_
  intro a U hP
  obtain ⟨ha, hW, hB⟩ := hP
  obtain ⟨σ0, hag, hW0⟩ := g_hideC hW
  obtain ⟨σ1, hag1, hf⟩ := hr σ0 hag
  refine ⟨(σ0, σ1), ⟨ha, hW0, hB⟩, ct_C1_reachBy hu_u0 hf, fun st o t hq => ?_⟩
  exact ⟨⟨hq.1.1, g_showC hag1 hq.1.2⟩, hq.2⟩

theorem mw_C7_here_k53 {X : g_F} {hid : Bool} (C : g_M gCl X cX7_here RX7 (some .int)) (hR : g_R X = g_rm 1 0 0) (hL : g_nL X = 1) {ad : Nat → Nat → Nat} {σ : g_S} {o : Int32} (h : mF_C7_here_k53 σ = some o) (hQ : g_MQ gCl X (gC hid) ad σ (some (.int o)) = g_Q X) : g_Y gCl X (gC hid) ad σ (0, 0) 0 [(0, .ref (ad 53 0))] [] := by
  unfold mF_C7_here_k53 at h
  refine y_aload_n C dX7_here_0 0 rfl rfl ?_
  obtain ⟨hp, h⟩ := g_gd h
  refine gf_C_X7_28_53 C nC_53_0 hp dX7_here_1 ?_
  refine y_aload_n C dX7_here_4 0 rfl rfl ?_
  obtain ⟨hp, h⟩ := g_gd h
  refine gf_C_X7_25_53 C nC_53_0 hp dX7_here_5 ?_
  refine y_icmp_ge (tgt := 27) C dX7_here_8 rfl (fun hc => ?_) (fun hc => ?_)
  · replace h := g_it h hc
    refine y_iconst (v := (-1 : Int32)) C dX7_here_27 (by decide) ?_
    replace h := Option.some.inj h; subst h
    exact y_iret C hQ ⟨Nat.zero_le _, Nat.zero_le _⟩ dX7_here_28
  · replace h := g_if h hc
    refine y_aload_n C dX7_here_11 0 rfl rfl ?_
    obtain ⟨hp, h⟩ := g_gd h
    refine gf_C_X7_9_53 C nC_53_0 hp dX7_here_12 ?_
    obtain ⟨hu1, h⟩ := g_gd h
    refine y_aload_n C dX7_here_15 0 rfl rfl ?_
    obtain ⟨hp, h⟩ := g_gd h
    refine gf_C_X7_28_53 C nC_53_0 hp dX7_here_16 ?_
    obtain ⟨hg, h⟩ := g_gd h
    refine al_C_27 C hu1 hg dX7_here_19 ?_
    refine y_sipush (v := (255 : Int32)) C dX7_here_20 (by decide) ?_
    refine y_iand C dX7_here_23 ?_
    refine y_goto (tgt := 28) C dX7_here_24 rfl ?_
    replace h := Option.some.inj h; subst h
    exact y_iret C hQ ⟨Nat.zero_le _, Nat.zero_le _⟩ dX7_here_28
theorem ct_C7_here_k53 {D : va_G} {dA : Nat → ClassId} {A : Nat → Prop} {s0 : State} {b0 : Nat} {l : Launch} {hid : Bool} {ad : Nat → Nat → Nat} {σ : g_S} {r : Int32} (h : mF_C7_here_k53 σ = some r) : g_Met gCl D dA A s0 b0 l yX7_here cX7_here 1 (some .int) 1 (0, 0) (gC hid) ad σ [.ref (ad 53 0)] (gC hid) ad σ (some (.int r)) :=
  g_Met.of pl_X7 (Nat.le_of_ble_eq_true rfl) (fun X C hQ hR _ _ hL _ es eb => mw_C7_here_k53 C hR hL h hQ)
theorem mw_C7_passes_k53 {X : g_F} {hid : Bool} (C : g_M gCl X cX7_passes RX7 (some .boolean)) (hR : g_R X = g_rm 2 0 0) (hL : g_nL X = 2) {ad : Nat → Nat → Nat} {σ : g_S} {v1 : Int32} {o : (Int32 × g_S)} (h : mF_C7_passes_k53 σ v1 = some o) (hQ : g_MQ gCl X (gC hid) ad o.2 (some (.int o.1)) = g_Q X) : g_Y gCl X (gC hid) ad σ (0, 0) 0 [(0, .ref (ad 53 0)), (1, .int v1)] [] := by
  unfold mF_C7_passes_k53 at h
  refine y_aload_n C dX7_passes_0 0 rfl rfl ?_
  obtain ⟨hp, h⟩ := g_gd h
  obtain ⟨x1, hc, h⟩ := g_bd h
  refine y_callU C (As := []) (rest := []) (k := 53) (hu := nC_53_0) (hc := (rfl : gCl[7]? = some (RX9, TX9, 8))) (hcell := (obC_53 hp)) (lk_X7_40_X9_X7_l1 C hR (by decide)) (ct_C7_here_k53 hc) rfl rfl (Nat.le_of_ble_eq_true rfl) ⟨Nat.zero_le _, Nat.zero_le _⟩ dX7_passes_1 ?_
  refine y_iload_n C dX7_passes_4 1 rfl rfl ?_
  refine y_icmp_eq (tgt := 10) C dX7_passes_5 rfl (fun hc => ?_) (fun hc => ?_)
  · replace h := g_it h hc
    refine y_aload_n C dX7_passes_10 0 rfl rfl ?_
    refine y_dup C dX7_passes_11 rfl ?_
    obtain ⟨hp, h⟩ := g_gd h
    refine gf_C_X7_28_53 C nC_53_0 hp dX7_passes_12 ?_
    refine y_iconst (v := (1 : Int32)) C dX7_passes_15 (by decide) ?_
    refine y_iadd C dX7_passes_16 ?_
    obtain ⟨hp, h⟩ := g_gd h
    obtain ⟨σ2, hσ2, h⟩ := g_lt h
    refine pf_C_X7_28_53 C nC_53_0 hp hσ2 dX7_passes_17 ?_
    refine y_iconst (v := (1 : Int32)) C dX7_passes_20 (by decide) ?_
    replace h := Option.some.inj h; subst h
    exact y_zret C (by decide) hQ ⟨Nat.zero_le _, Nat.zero_le _⟩ dX7_passes_21
  · replace h := g_if h hc
    refine y_iconst (v := (0 : Int32)) C dX7_passes_8 (by decide) ?_
    replace h := Option.some.inj h; subst h
    exact y_zret C (by decide) hQ ⟨Nat.zero_le _, Nat.zero_le _⟩ dX7_passes_9
theorem ct_C7_passes_k53 {D : va_G} {dA : Nat → ClassId} {A : Nat → Prop} {s0 : State} {b0 : Nat} {l : Launch} {hid : Bool} {ad : Nat → Nat → Nat} {σ : g_S} {v1 : Int32} {r : Int32} {σ1 : g_S} (h : mF_C7_passes_k53 σ v1 = some (r, σ1)) : g_Met gCl D dA A s0 b0 l yX7_passes cX7_passes 2 (some .boolean) 2 (0, 0) (gC hid) ad σ [.ref (ad 53 0), .int v1] (gC hid) ad σ1 (some (.int r)) :=
  g_Met.of pl_X7 (Nat.le_of_ble_eq_true rfl) (fun X C hQ hR _ _ hL _ es eb => mw_C7_passes_k53 C hR hL h hQ)
theorem mw_C7_need_k53 {X : g_F} {ck sk : Nat} {hid : Bool} (C : g_M gCl X cX7_need RX7 none) (hR : g_R X = g_rm 6 ck sk) (hL : g_nL X = 2) (hlt : (g_l X).stackTraces = false) (hT : (g_c X).exceptionTable.toList = []) {ad : Nat → Nat → Nat} {σ : g_S} {v1 : Int32} {o : (g_S ⊕ g_S)} (h : mF_C7_need_k53 σ v1 = some o) (hQ : Sum.elim (fun z => g_MQX gCl X (gC hid) ad z) (fun z => g_MQ gCl X (gC hid) ad z none) o = g_Q X) (hw : Sum.elim (fun _ => 1 ≤ g_mc X ∧ 7 ≤ g_ms X ∧ 1 ≤ (g_R X).cells ∧ 7 ≤ (g_R X).slots) (fun _ => True) o) : g_Y gCl X (gC hid) ad σ (0, 0) 0 [(0, .ref (ad 53 0)), (1, .int v1)] [] := by
  unfold mF_C7_need_k53 at h
  refine y_iload_n C dX7_need_0 1 rfl rfl ?_
  refine y_if_ne (tgt := 16) C dX7_need_1 rfl (fun hc => ?_) (fun hc => ?_)
  · replace h := g_if h hc
    replace h := Option.some.inj h; subst h
    exact y_vret C hQ ⟨Nat.zero_le _, Nat.zero_le _⟩ dX7_need_16
  · replace h := g_it h hc
    obtain ⟨hp, h⟩ := g_gd h
    obtain ⟨x2, hx2, h⟩ := g_lt h
    obtain ⟨σ1, hσ1, h⟩ := g_lt h
    replace h := Option.some.inj h
    have hQ1 := hQ
    have hw1 := hw
    rw [← h] at hQ1 hw1
    refine y_newFault (v := x2) (σ1 := σ1) C hlt (rfl : gCl[10]? = _) nC_52_0 q403 (lkf_X7_33 C hR (by decide)) (Nat.le_of_ble_eq_true rfl) ⟨hw1.2.2.1, hw1.2.2.2⟩ dX7_need_4 dX7_need_7 dX7_need_12 fr_52 (fun q => me_52) (fun q => by rw [hσ1]; exact me1_52) (by rw [hσ1]; exact ho_52) (fun H locs ls q c s hW hS hl k => by rw [hx2] at k; exact lv_aload_n C.1 C.2.1 dX7_need_8 rfl (lv_at hl 0 rfl) (va_get C.1 C.2.1 C.2.2.2.2.1 in_X9 C.2.2.2.1 C.2.2.2.2.2.2.2.2.1 (hW.at nC_53_0 (if_neg hp)) 0 rfl (rfl : gCl[7]? = _) 3 (by decide) (C.2.2.2.2.1 _ q366) (fun x h => h) rfl dX7_need_9 (k))) (fun q => ?_)
    have hq : g_ua ad 52 0 q 52 0 = q := g_ua_s
    suffices key : g_Y gCl X (gC hid) (g_ua ad 52 0 q) σ1 (1, 7) 15 [(0, .ref (ad 53 0)), (1, .int v1)] [.ref (g_ua ad 52 0 q 52 0)] by rw [hq] at key; exact key
    refine y_athrow C nC_52_0 (rfl : gCl[10]? = _) (by rw [hσ1]; exact me1_52) dX7_need_15 ?_
    rw [hq]
    exact y_outX C hT hQ1 ⟨hw1.1, hw1.2.1⟩
theorem ct_C7_need_k53 {D : va_G} {dA : Nat → ClassId} {A : Nat → Prop} {s0 : State} {b0 : Nat} {l : Launch} {hid : Bool} (hlt : l.stackTraces = false) {ad : Nat → Nat → Nat} {σ : g_S} {v1 : Int32}{σ1 : g_S} (h : mF_C7_need_k53 σ v1 = some (.inr σ1)) : g_Met gCl D dA A s0 b0 l yX7_need cX7_need 2 none 6 (0, 0) (gC hid) ad σ [.ref (ad 53 0), .int v1] (gC hid) ad σ1 none :=
  g_Met.of2 pl_X7 (Nat.le_of_ble_eq_true rfl) (fun X C hQ hR _ _ hL hnm es eb el hT => mw_C7_need_k53 C hR hL (by rw [el]; exact hlt) hT h hQ trivial)
theorem cx_C7_need_k53 {D : va_G} {dA : Nat → ClassId} {A : Nat → Prop} {s0 : State} {b0 : Nat} {l : Launch} {hid : Bool} (hlt : l.stackTraces = false) {ad : Nat → Nat → Nat} {σ : g_S} {v1 : Int32} {σ1 : g_S} (h : mF_C7_need_k53 σ v1 = some (.inl σ1)) : g_MetX gCl D dA A s0 b0 l yX7_need cX7_need 2 none 6 (gC hid) ad σ [.ref (ad 53 0), .int v1] (gC hid) ad σ1 :=
  g_MetX.of pl_X7 (Nat.le_of_ble_eq_true rfl) (fun X C hQ hR hmc hms hL hnm es eb el hT => mw_C7_need_k53 C hR hL (by rw [el]; exact hlt) hT h hQ ⟨Nat.le_of_eq hmc.symm, Nat.le_of_eq hms.symm, by rw [hR]; exact Nat.le_refl _, by rw [hR]; exact Nat.le_refl _⟩)
theorem mj_C9_value_k53_186 {X : g_F} {hid : Bool} (C : g_M gCl X cX9_value RX9 (some .int)) (hR : g_R X = g_rm 3 0 0) (hL : g_nL X = 2) {ad : Nat → Nat → Nat} {σ : g_S} {o : Int32} (h : mJ_C9_value_k53_186 σ = some o) (hQ : g_MQ gCl X (gC hid) ad σ (some (.int o)) = g_Q X) : g_Y gCl X (gC hid) ad σ (0, 0) 186 [(0, .ref (ad 53 0))] [] := by
  unfold mJ_C9_value_k53_186 at h
  refine y_aload_n C dX9_value_186 0 rfl rfl ?_
  obtain ⟨hp, h⟩ := g_gd h
  refine gf_C_X9_3_53 C nC_53_0 hp dX9_value_187 ?_
  refine y_aload_n C dX9_value_190 0 rfl rfl ?_
  obtain ⟨hp, h⟩ := g_gd h
  by_cases hc : (σ.2.2 53 0 4) = 0
  · replace h := g_it h hc
    refine gf_C_X9_23_53_n C nC_53_0 hp hc dX9_value_191 ?_
    refine y_lconst (v := (1 : Int64)) C dX9_value_194 (by decide) ?_
    refine y_aload_n C dX9_value_195 0 rfl rfl ?_
    obtain ⟨hp, h⟩ := g_gd h
    by_cases hc : (σ.2.2 53 0 4) = 0
    · replace h := g_it h hc
      refine gf_C_X9_23_53_n C nC_53_0 hp hc dX9_value_196 ?_
      cases h
    · replace h := g_if h hc
      refine gf_C_X9_23_53_r C nC_53_0 hp hc dX9_value_196 ?_
      obtain ⟨hu2, h⟩ := g_gd h
      refine gf_C_X9_101_4 C hu2 dX9_value_199 ?_
      refine y_aload_n C dX9_value_202 0 rfl rfl ?_
      obtain ⟨hp, h⟩ := g_gd h
      refine gf_C_X9_27_53 C nC_53_0 hp dX9_value_203 ?_
      obtain ⟨hg, h⟩ := g_gd h
      refine al_C_5 C hu2 hg dX9_value_206 ?_
      refine y_lshl C dX9_value_207 rfl ?_
      cases h
  · replace h := g_if h hc
    refine gf_C_X9_23_53_r C nC_53_0 hp hc dX9_value_191 ?_
    obtain ⟨hu3, h⟩ := g_gd h
    refine y_lconst (v := (1 : Int64)) C dX9_value_194 (by decide) ?_
    refine y_aload_n C dX9_value_195 0 rfl rfl ?_
    obtain ⟨hp, h⟩ := g_gd h
    by_cases hc : (σ.2.2 53 0 4) = 0
    · replace h := g_it h hc
      refine gf_C_X9_23_53_n C nC_53_0 hp hc dX9_value_196 ?_
      cases h
    · replace h := g_if h hc
      refine gf_C_X9_23_53_r C nC_53_0 hp hc dX9_value_196 ?_
      obtain ⟨hu4, h⟩ := g_gd h
      refine gf_C_X9_101_4 C hu4 dX9_value_199 ?_
      refine y_aload_n C dX9_value_202 0 rfl rfl ?_
      obtain ⟨hp, h⟩ := g_gd h
      refine gf_C_X9_27_53 C nC_53_0 hp dX9_value_203 ?_
      obtain ⟨hg, h⟩ := g_gd h
      refine al_C_5 C hu4 hg dX9_value_206 ?_
      refine y_lshl C dX9_value_207 rfl ?_
      obtain ⟨x5, hc, h⟩ := g_bd h
      refine y_callVN C (As := [.ref (ad 4 ((σ.2.2 53 0 4) - 1)), .long ((1 : Int64) <<< ((σ.1 5 ((σ.2.2 53 0 4) - 1) (σ.1 53 0 5).toNatClampNeg).toInt64 &&& 63))]) (rest := []) (k := 0) (hu := nC_0_0) (hc := (rfl : gCl[0]? = some (RX1, TX1, 31))) (hcell := obC_0) (lk_X9_106_X1_l2 C hR (by decide)) (ct_C1_peopleOn hu4 hc) rfl rfl (Nat.le_of_ble_eq_true rfl) ⟨Nat.zero_le _, Nat.zero_le _⟩ dX9_value_208 ?_
      obtain ⟨x6, hc, h⟩ := g_bd h
      refine y_callS C (As := [.int x5]) (rest := []) (lk_X9_93_l1 C hR (by decide)) (ct_J8_bitCount hc) rfl rfl (Nat.le_of_ble_eq_true rfl) ⟨Nat.zero_le _, Nat.zero_le _⟩ dX9_value_211 ?_
      replace h := Option.some.inj h; subst h
      exact y_iret C hQ ⟨Nat.zero_le _, Nat.zero_le _⟩ dX9_value_214
theorem mw_C9_value_k53 {X : g_F} {hid : Bool} (C : g_M gCl X cX9_value RX9 (some .int)) (hR : g_R X = g_rm 3 0 0) (hL : g_nL X = 2) {ad : Nat → Nat → Nat} {σ : g_S} {v1 : Int32} {o : Int32} (h : mF_C9_value_k53 σ v1 = some o) (hQ : g_MQ gCl X (gC hid) ad σ (some (.int o)) = g_Q X) : g_Y gCl X (gC hid) ad σ (0, 0) 0 [(0, .ref (ad 53 0)), (1, .int v1)] [] := by
  unfold mF_C9_value_k53 at h
  refine y_iload_n C dX9_value_0 1 rfl rfl ?_
  by_cases hc98 : v1 = (98 : Int32)
  · replace h := g_it h hc98
    refine y_tswI (tgt := 84) (off := 83) C dX9_value_1 hc98 (by decide) rfl ?_
    refine y_aload_n C dX9_value_84 0 rfl rfl ?_
    obtain ⟨hp, h⟩ := g_gd h
    refine gf_C_X9_31_53 C nC_53_0 hp dX9_value_85 ?_
    replace h := Option.some.inj h; subst h
    exact y_iret C hQ ⟨Nat.zero_le _, Nat.zero_le _⟩ dX9_value_88
  replace h := g_if h hc98
  by_cases hc99 : v1 = (99 : Int32)
  · replace h := g_it h hc99
    refine y_tswI (tgt := 154) (off := 153) C dX9_value_1 hc99 (by decide) rfl ?_
    refine y_aload_n C dX9_value_154 0 rfl rfl ?_
    obtain ⟨hp, h⟩ := g_gd h
    by_cases hc : (σ.2.2 53 0 4) = 0
    · replace h := g_it h hc
      refine gf_C_X9_23_53_n C nC_53_0 hp hc dX9_value_155 ?_
      cases h
    · replace h := g_if h hc
      refine gf_C_X9_23_53_r C nC_53_0 hp hc dX9_value_155 ?_
      obtain ⟨hu1, h⟩ := g_gd h
      refine gf_C_X9_101_4 C hu1 dX9_value_158 ?_
      refine y_aload_n C dX9_value_161 0 rfl rfl ?_
      obtain ⟨hp, h⟩ := g_gd h
      refine gf_C_X9_27_53 C nC_53_0 hp dX9_value_162 ?_
      obtain ⟨hg, h⟩ := g_gd h
      refine al_C_5 C hu1 hg dX9_value_165 ?_
      refine y_aload_n C dX9_value_166 0 rfl rfl ?_
      obtain ⟨hp, h⟩ := g_gd h
      refine gf_C_X9_3_53 C nC_53_0 hp dX9_value_167 ?_
      refine gf_C_X9_103_0 C nC_0_0 dX9_value_170 ?_
      obtain ⟨hg, h⟩ := g_gd h
      refine y_irem C dX9_value_173 hg ?_
      replace h := Option.some.inj h; subst h
      exact y_iret C hQ ⟨Nat.zero_le _, Nat.zero_le _⟩ dX9_value_174
  replace h := g_if h hc99
  by_cases hc100 : v1 = (100 : Int32)
  · replace h := g_it h hc100
    refine y_tswI (tgt := 186) (off := 185) C dX9_value_1 hc100 (by decide) rfl ?_
    refine y_sub (vs2 := [(0, .ref (ad 53 0))]) [0] rfl ?_
    exact mj_C9_value_k53_186 C hR hL h hQ
  replace h := g_if h hc100
  by_cases hc101 : v1 = (101 : Int32)
  · replace h := g_it h hc101
    refine y_tswI (tgt := 186) (off := 185) C dX9_value_1 hc101 (by decide) rfl ?_
    refine y_sub (vs2 := [(0, .ref (ad 53 0))]) [0] rfl ?_
    exact mj_C9_value_k53_186 C hR hL h hQ
  replace h := g_if h hc101
  by_cases hc102 : v1 = (102 : Int32)
  · replace h := g_it h hc102
    refine y_tswI (tgt := 120) (off := 119) C dX9_value_1 hc102 (by decide) rfl ?_
    refine y_aload_n C dX9_value_120 0 rfl rfl ?_
    obtain ⟨hp, h⟩ := g_gd h
    by_cases hc : (σ.2.2 53 0 4) = 0
    · replace h := g_it h hc
      refine gf_C_X9_23_53_n C nC_53_0 hp hc dX9_value_121 ?_
      cases h
    · replace h := g_if h hc
      refine gf_C_X9_23_53_r C nC_53_0 hp hc dX9_value_121 ?_
      obtain ⟨hu7, h⟩ := g_gd h
      refine gf_C_X9_98_4 C hu7 dX9_value_124 ?_
      refine y_aload_n C dX9_value_127 0 rfl rfl ?_
      obtain ⟨hp, h⟩ := g_gd h
      refine gf_C_X9_27_53 C nC_53_0 hp dX9_value_128 ?_
      obtain ⟨hg, h⟩ := g_gd h
      refine al_C_6 C hu7 hg dX9_value_131 ?_
      replace h := Option.some.inj h; subst h
      exact y_iret C hQ ⟨Nat.zero_le _, Nat.zero_le _⟩ dX9_value_132
  replace h := g_if h hc102
  by_cases hc103 : v1 = (103 : Int32)
  · replace h := g_it h hc103
    refine y_tswI (tgt := 186) (off := 185) C dX9_value_1 hc103 (by decide) rfl ?_
    refine y_sub (vs2 := [(0, .ref (ad 53 0))]) [0] rfl ?_
    exact mj_C9_value_k53_186 C hR hL h hQ
  replace h := g_if h hc103
  by_cases hc104 : v1 = (104 : Int32)
  · replace h := g_it h hc104
    refine y_tswI (tgt := 186) (off := 185) C dX9_value_1 hc104 (by decide) rfl ?_
    refine y_sub (vs2 := [(0, .ref (ad 53 0))]) [0] rfl ?_
    exact mj_C9_value_k53_186 C hR hL h hQ
  replace h := g_if h hc104
  by_cases hc105 : v1 = (105 : Int32)
  · replace h := g_it h hc105
    refine y_tswI (tgt := 186) (off := 185) C dX9_value_1 hc105 (by decide) rfl ?_
    refine y_sub (vs2 := [(0, .ref (ad 53 0))]) [0] rfl ?_
    exact mj_C9_value_k53_186 C hR hL h hQ
  replace h := g_if h hc105
  by_cases hc106 : v1 = (106 : Int32)
  · replace h := g_it h hc106
    refine y_tswI (tgt := 186) (off := 185) C dX9_value_1 hc106 (by decide) rfl ?_
    refine y_sub (vs2 := [(0, .ref (ad 53 0))]) [0] rfl ?_
    exact mj_C9_value_k53_186 C hR hL h hQ
  replace h := g_if h hc106
  by_cases hc107 : v1 = (107 : Int32)
  · replace h := g_it h hc107
    refine y_tswI (tgt := 104) (off := 103) C dX9_value_1 hc107 (by decide) rfl ?_
    refine y_aload_n C dX9_value_104 0 rfl rfl ?_
    obtain ⟨hp, h⟩ := g_gd h
    by_cases hc : (σ.2.2 53 0 4) = 0
    · replace h := g_it h hc
      refine gf_C_X9_23_53_n C nC_53_0 hp hc dX9_value_105 ?_
      cases h
    · replace h := g_if h hc
      refine gf_C_X9_23_53_r C nC_53_0 hp hc dX9_value_105 ?_
      obtain ⟨hu8, h⟩ := g_gd h
      refine gf_C_X9_89_4 C hu8 dX9_value_108 ?_
      refine y_aload_n C dX9_value_111 0 rfl rfl ?_
      obtain ⟨hp, h⟩ := g_gd h
      refine gf_C_X9_27_53 C nC_53_0 hp dX9_value_112 ?_
      obtain ⟨hg, h⟩ := g_gd h
      refine al_C_8 C hu8 hg dX9_value_115 ?_
      obtain ⟨x9, hc, h⟩ := g_bd h
      refine y_callS C (As := [.int (σ.1 8 ((σ.2.2 53 0 4) - 1) (σ.1 53 0 5).toNatClampNeg)]) (rest := []) (lk_X9_93_l1 C hR (by decide)) (ct_J8_bitCount hc) rfl rfl (Nat.le_of_ble_eq_true rfl) ⟨Nat.zero_le _, Nat.zero_le _⟩ dX9_value_116 ?_
      replace h := Option.some.inj h; subst h
      exact y_iret C hQ ⟨Nat.zero_le _, Nat.zero_le _⟩ dX9_value_119
  replace h := g_if h hc107
  by_cases hc108 : v1 = (108 : Int32)
  · replace h := g_it h hc108
    refine y_tswI (tgt := 89) (off := 88) C dX9_value_1 hc108 (by decide) rfl ?_
    refine y_aload_n C dX9_value_89 0 rfl rfl ?_
    obtain ⟨hp, h⟩ := g_gd h
    refine gf_C_X9_3_53 C nC_53_0 hp dX9_value_90 ?_
    refine y_aload_n C dX9_value_93 0 rfl rfl ?_
    obtain ⟨hp, h⟩ := g_gd h
    by_cases hc : (σ.2.2 53 0 4) = 0
    · replace h := g_it h hc
      refine gf_C_X9_23_53_n C nC_53_0 hp hc dX9_value_94 ?_
      cases h
    · replace h := g_if h hc
      refine gf_C_X9_23_53_r C nC_53_0 hp hc dX9_value_94 ?_
      obtain ⟨hu10, h⟩ := g_gd h
      refine gf_C_X9_81_4 C hu10 dX9_value_97 ?_
      obtain ⟨x11, hc, h⟩ := g_bd h
      refine y_callVN C (As := [.int (σ.1 4 ((σ.2.2 53 0 4) - 1) 5)]) (rest := []) (k := 0) (hu := nC_0_0) (hc := (rfl : gCl[0]? = some (RX1, TX1, 31))) (hcell := obC_0) (lk_X9_86_X1_l1 C hR (by decide)) (ct_C1_lightOf hc) rfl rfl (Nat.le_of_ble_eq_true rfl) ⟨Nat.zero_le _, Nat.zero_le _⟩ dX9_value_100 ?_
      replace h := Option.some.inj h; subst h
      exact y_iret C hQ ⟨Nat.zero_le _, Nat.zero_le _⟩ dX9_value_103
  replace h := g_if h hc108
  by_cases hc109 : v1 = (109 : Int32)
  · replace h := g_it h hc109
    refine y_tswI (tgt := 186) (off := 185) C dX9_value_1 hc109 (by decide) rfl ?_
    refine y_sub (vs2 := [(0, .ref (ad 53 0))]) [0] rfl ?_
    exact mj_C9_value_k53_186 C hR hL h hQ
  replace h := g_if h hc109
  by_cases hc110 : v1 = (110 : Int32)
  · replace h := g_it h hc110
    refine y_tswI (tgt := 175) (off := 174) C dX9_value_1 hc110 (by decide) rfl ?_
    refine y_aload_n C dX9_value_175 0 rfl rfl ?_
    obtain ⟨hp, h⟩ := g_gd h
    by_cases hc : (σ.2.2 53 0 4) = 0
    · replace h := g_it h hc
      refine gf_C_X9_23_53_n C nC_53_0 hp hc dX9_value_176 ?_
      cases h
    · replace h := g_if h hc
      refine gf_C_X9_23_53_r C nC_53_0 hp hc dX9_value_176 ?_
      obtain ⟨hu12, h⟩ := g_gd h
      refine gf_C_X9_81_4 C hu12 dX9_value_179 ?_
      refine y_bipush (v := (7 : Int32)) C dX9_value_182 (by decide) ?_
      refine y_irem C dX9_value_184 (by decide) ?_
      replace h := Option.some.inj h; subst h
      exact y_iret C hQ ⟨Nat.zero_le _, Nat.zero_le _⟩ dX9_value_185
  replace h := g_if h hc110
  by_cases hc111 : v1 = (111 : Int32)
  · replace h := g_it h hc111
    refine y_tswI (tgt := 186) (off := 185) C dX9_value_1 hc111 (by decide) rfl ?_
    refine y_sub (vs2 := [(0, .ref (ad 53 0))]) [0] rfl ?_
    exact mj_C9_value_k53_186 C hR hL h hQ
  replace h := g_if h hc111
  by_cases hc112 : v1 = (112 : Int32)
  · replace h := g_it h hc112
    refine y_tswI (tgt := 186) (off := 185) C dX9_value_1 hc112 (by decide) rfl ?_
    refine y_sub (vs2 := [(0, .ref (ad 53 0))]) [0] rfl ?_
    exact mj_C9_value_k53_186 C hR hL h hQ
  replace h := g_if h hc112
  by_cases hc113 : v1 = (113 : Int32)
  · replace h := g_it h hc113
    refine y_tswI (tgt := 186) (off := 185) C dX9_value_1 hc113 (by decide) rfl ?_
    refine y_sub (vs2 := [(0, .ref (ad 53 0))]) [0] rfl ?_
    exact mj_C9_value_k53_186 C hR hL h hQ
  replace h := g_if h hc113
  by_cases hc114 : v1 = (114 : Int32)
  · replace h := g_it h hc114
    refine y_tswI (tgt := 133) (off := 132) C dX9_value_1 hc114 (by decide) rfl ?_
    refine y_aload_n C dX9_value_133 0 rfl rfl ?_
    obtain ⟨hp, h⟩ := g_gd h
    by_cases hc : (σ.2.2 53 0 4) = 0
    · replace h := g_it h hc
      refine gf_C_X9_23_53_n C nC_53_0 hp hc dX9_value_134 ?_
      cases h
    · replace h := g_if h hc
      refine gf_C_X9_23_53_r C nC_53_0 hp hc dX9_value_134 ?_
      obtain ⟨hu13, h⟩ := g_gd h
      refine gf_C_X9_101_4 C hu13 dX9_value_137 ?_
      refine y_aload_n C dX9_value_140 0 rfl rfl ?_
      obtain ⟨hp, h⟩ := g_gd h
      refine gf_C_X9_27_53 C nC_53_0 hp dX9_value_141 ?_
      obtain ⟨hg, h⟩ := g_gd h
      refine al_C_5 C hu13 hg dX9_value_144 ?_
      refine y_aload_n C dX9_value_145 0 rfl rfl ?_
      obtain ⟨hp, h⟩ := g_gd h
      refine gf_C_X9_3_53 C nC_53_0 hp dX9_value_146 ?_
      refine gf_C_X9_103_0 C nC_0_0 dX9_value_149 ?_
      obtain ⟨hg, h⟩ := g_gd h
      refine y_idiv C dX9_value_152 hg ?_
      replace h := Option.some.inj h; subst h
      exact y_iret C hQ ⟨Nat.zero_le _, Nat.zero_le _⟩ dX9_value_153
  replace h := g_if h hc114
  refine y_tswO (tgt := 186) C dX9_value_1 (by have e98 := lv_neT hc98 (show (98 : Int32).toInt = 98 by decide); have e99 := lv_neT hc99 (show (99 : Int32).toInt = 99 by decide); have e100 := lv_neT hc100 (show (100 : Int32).toInt = 100 by decide); have e101 := lv_neT hc101 (show (101 : Int32).toInt = 101 by decide); have e102 := lv_neT hc102 (show (102 : Int32).toInt = 102 by decide); have e103 := lv_neT hc103 (show (103 : Int32).toInt = 103 by decide); have e104 := lv_neT hc104 (show (104 : Int32).toInt = 104 by decide); have e105 := lv_neT hc105 (show (105 : Int32).toInt = 105 by decide); have e106 := lv_neT hc106 (show (106 : Int32).toInt = 106 by decide); have e107 := lv_neT hc107 (show (107 : Int32).toInt = 107 by decide); have e108 := lv_neT hc108 (show (108 : Int32).toInt = 108 by decide); have e109 := lv_neT hc109 (show (109 : Int32).toInt = 109 by decide); have e110 := lv_neT hc110 (show (110 : Int32).toInt = 110 by decide); have e111 := lv_neT hc111 (show (111 : Int32).toInt = 111 by decide); have e112 := lv_neT hc112 (show (112 : Int32).toInt = 112 by decide); have e113 := lv_neT hc113 (show (113 : Int32).toInt = 113 by decide); have e114 := lv_neT hc114 (show (114 : Int32).toInt = 114 by decide); omega) rfl ?_
  refine y_sub (vs2 := [(0, .ref (ad 53 0))]) [0] rfl ?_
  exact mj_C9_value_k53_186 C hR hL h hQ
theorem ct_C9_value_k53 {D : va_G} {dA : Nat → ClassId} {A : Nat → Prop} {s0 : State} {b0 : Nat} {l : Launch} {hid : Bool} {ad : Nat → Nat → Nat} {σ : g_S} {v1 : Int32} {r : Int32} (h : mF_C9_value_k53 σ v1 = some r) : g_Met gCl D dA A s0 b0 l yX9_value cX9_value 2 (some .int) 3 (0, 0) (gC hid) ad σ [.ref (ad 53 0), .int v1] (gC hid) ad σ (some (.int r)) :=
  g_Met.of pl_X9 (Nat.le_of_ble_eq_true rfl) (fun X C hQ hR _ _ hL _ es eb => mw_C9_value_k53 C hR hL h hQ)
theorem mw_C7_one_k53 {X : g_F} {ck sk : Nat} {hid : Bool} (C : g_M gCl X cX7_one RX7 (some .int)) (hR : g_R X = g_rm 7 ck sk) (hL : g_nL X = 3) (hlt : (g_l X).stackTraces = false) (hT : (g_c X).exceptionTable.toList = []) {ad : Nat → Nat → Nat} {σ : g_S} {v1 : Int32} {v2 : Int32} {o : (g_S ⊕ (Int32 × g_S))} (h : mF_C7_one_k53 σ v1 v2 = some o) (hQ : Sum.elim (fun z => g_MQX gCl X (gC hid) ad z) (fun z => g_MQ gCl X (gC hid) ad z.2 (some (.int z.1))) o = g_Q X) (hw : Sum.elim (fun _ => 1 ≤ g_mc X ∧ 7 ≤ g_ms X ∧ 1 ≤ (g_R X).cells ∧ 7 ≤ (g_R X).slots) (fun _ => True) o) : g_Y gCl X (gC hid) ad σ (0, 0) 0 [(0, .ref (ad 53 0)), (1, .int v1), (2, .int v2)] [] := by
  unfold mF_C7_one_k53 at h
  refine y_aload_n C dX7_one_0 0 rfl rfl ?_
  refine y_aload_n C dX7_one_1 0 rfl rfl ?_
  obtain ⟨hp, h⟩ := g_gd h
  obtain ⟨x1, hc, h⟩ := g_bd h
  refine y_callU C (As := []) (rest := [.ref (ad 53 0)]) (k := 53) (hu := nC_53_0) (hc := (rfl : gCl[7]? = some (RX9, TX9, 8))) (hcell := (obC_53 hp)) (lk_X7_40_X9_X7_l1 C hR (by decide)) (ct_C7_here_k53 hc) rfl rfl (Nat.le_of_ble_eq_true rfl) ⟨Nat.zero_le _, Nat.zero_le _⟩ dX7_one_2 ?_
  refine y_i2l C dX7_one_5 ?_
  refine y_iload_n C dX7_one_6 1 rfl rfl ?_
  refine y_i2l C dX7_one_7 ?_
  refine y_iload_n C dX7_one_8 1 rfl rfl ?_
  refine y_iload_n C dX7_one_9 2 rfl rfl ?_
  refine y_iadd C dX7_one_10 ?_
  refine y_iconst (v := (1 : Int32)) C dX7_one_11 (by decide) ?_
  refine y_isub C dX7_one_12 ?_
  refine y_i2l C dX7_one_13 ?_
  obtain ⟨x2, hc, h⟩ := g_bd h
  refine y_callSN C (As := [.long (x1.toInt64), .long (v1.toInt64), .long (((v1 + v2) - (1 : Int32)).toInt64)]) (rest := [.ref (ad 53 0)]) (lk_X7_44_l1 C hR (by decide)) (ct_C1_in hc) rfl rfl (Nat.le_of_ble_eq_true rfl) ⟨Nat.zero_le _, Nat.zero_le _⟩ dX7_one_14 ?_
  obtain ⟨hp, h⟩ := g_gd h
  rcases g_txE h with ⟨z4, hc, h⟩ | ⟨σ3, hc, h⟩
  · replace h := Option.some.inj h; subst h
    refine y_callUX C (As := [.int x2]) (rest := []) (k := 53) (hu := nC_53_0) (hc := (rfl : gCl[7]? = some (RX9, TX9, 8))) (hcell := (obC_53 hp)) (lk_X7_36_X9_X7x_l6 C hR (by decide)) (cx_C7_need_k53 hlt hc) rfl rfl (Nat.le_of_ble_eq_true rfl) ⟨hw.2.2.1, hw.2.2.2⟩ dX7_one_17 (fun q => ?_)
    exact y_outX C hT hQ ⟨hw.1, hw.2.1⟩
  refine y_callUv C (As := [.int x2]) (rest := []) (k := 53) (hu := nC_53_0) (hc := (rfl : gCl[7]? = some (RX9, TX9, 8))) (hcell := (obC_53 hp)) (lk_X7_36_X9_X7_l6 C hR (by decide)) (ct_C7_need_k53 hlt hc) rfl rfl (Nat.le_of_ble_eq_true rfl) ⟨Nat.zero_le _, Nat.zero_le _⟩ dX7_one_17 ?_
  refine y_aload_n C dX7_one_20 0 rfl rfl ?_
  refine y_dup C dX7_one_21 rfl ?_
  obtain ⟨hp, h⟩ := g_gd h
  refine gf_C_X7_28_53 C nC_53_0 hp dX7_one_22 ?_
  refine y_iconst (v := (1 : Int32)) C dX7_one_25 (by decide) ?_
  refine y_iadd C dX7_one_26 ?_
  obtain ⟨hp, h⟩ := g_gd h
  obtain ⟨σ5, hσ5, h⟩ := g_lt h
  refine pf_C_X7_28_53 C nC_53_0 hp hσ5 dX7_one_27 ?_
  refine y_aload_n C dX7_one_30 0 rfl rfl ?_
  obtain ⟨hp, h⟩ := g_gd h
  refine gf_C_X7_9_53 C nC_53_0 hp dX7_one_31 ?_
  obtain ⟨hu6, h⟩ := g_gd h
  refine y_aload_n C dX7_one_34 0 rfl rfl ?_
  obtain ⟨hp, h⟩ := g_gd h
  refine gf_C_X7_28_53 C nC_53_0 hp dX7_one_35 ?_
  refine y_iconst (v := (1 : Int32)) C dX7_one_38 (by decide) ?_
  refine y_isub C dX7_one_39 ?_
  obtain ⟨hg, h⟩ := g_gd h
  refine al_C_27 C hu6 hg dX7_one_40 ?_
  refine y_iload_n C dX7_one_41 1 rfl rfl ?_
  refine y_isub C dX7_one_42 ?_
  replace h := Option.some.inj h; subst h
  exact y_iret C hQ ⟨Nat.zero_le _, Nat.zero_le _⟩ dX7_one_43
theorem ct_C7_one_k53 {D : va_G} {dA : Nat → ClassId} {A : Nat → Prop} {s0 : State} {b0 : Nat} {l : Launch} {hid : Bool} (hlt : l.stackTraces = false) {ad : Nat → Nat → Nat} {σ : g_S} {v1 : Int32} {v2 : Int32}{r : Int32} {σ1 : g_S} (h : mF_C7_one_k53 σ v1 v2 = some (.inr (r, σ1))) : g_Met gCl D dA A s0 b0 l yX7_one cX7_one 3 (some .int) 7 (0, 0) (gC hid) ad σ [.ref (ad 53 0), .int v1, .int v2] (gC hid) ad σ1 (some (.int r)) :=
  g_Met.of2 pl_X7 (Nat.le_of_ble_eq_true rfl) (fun X C hQ hR _ _ hL hnm es eb el hT => mw_C7_one_k53 C hR hL (by rw [el]; exact hlt) hT h hQ trivial)
theorem cx_C7_one_k53 {D : va_G} {dA : Nat → ClassId} {A : Nat → Prop} {s0 : State} {b0 : Nat} {l : Launch} {hid : Bool} (hlt : l.stackTraces = false) {ad : Nat → Nat → Nat} {σ : g_S} {v1 : Int32} {v2 : Int32} {σ1 : g_S} (h : mF_C7_one_k53 σ v1 v2 = some (.inl σ1)) : g_MetX gCl D dA A s0 b0 l yX7_one cX7_one 3 (some .int) 7 (gC hid) ad σ [.ref (ad 53 0), .int v1, .int v2] (gC hid) ad σ1 :=
  g_MetX.of pl_X7 (Nat.le_of_ble_eq_true rfl) (fun X C hQ hR hmc hms hL hnm es eb el hT => mw_C7_one_k53 C hR hL (by rw [el]; exact hlt) hT h hQ ⟨Nat.le_of_eq hmc.symm, Nat.le_of_eq hms.symm, by rw [hR]; exact Nat.le_refl _, by rw [hR]; exact Nat.le_refl _⟩)
theorem ml_C7_number_k53_11 {X : g_F} {ck sk : Nat} {hid : Bool} (C : g_M gCl X cX7_number RX7 (some .int)) (hR : g_R X = g_rm 8 ck sk) (hL : g_nL X = 4) (hlt : (g_l X).stackTraces = false) (hT : (g_c X).exceptionTable.toList = []) {ad : Nat → Nat → Nat} {σ : g_S} {v1 : Int32} (n : Nat) (v : (Int32 × Int32 × g_S)) (e : (g_S ⊕ (Int32 × g_S))) (h : g_lp (fun v => mB_C7_number_k53_11 v.2.2 v1 v.1 v.2.1) n v = some e) (kx : (∀ y, e = .inl y → g_MQX gCl X (gC hid) ad y = g_Q X ∧ 1 ≤ g_mc X ∧ 7 ≤ g_ms X ∧ 1 ≤ (g_R X).cells ∧ 7 ≤ (g_R X).slots) ∧ (∀ y, e = .inr y → g_Y gCl X (gC hid) ad y.2 (0, 0) 53 [(2, .int y.1)] [])) : g_Y gCl X (gC hid) ad v.2.2 (0, 0) 11 [(0, .ref (ad 53 0)), (1, .int v1), (2, .int v.1), (3, .int v.2.1)] [] := by
  refine g_loop (P := fun v => g_Y gCl X (gC hid) ad v.2.2 (0, 0) 11 [(0, .ref (ad 53 0)), (1, .int v1), (2, .int v.1), (3, .int v.2.1)] []) (T := fun e => (∀ y, e = .inl y → g_MQX gCl X (gC hid) ad y = g_Q X ∧ 1 ≤ g_mc X ∧ 7 ≤ g_ms X ∧ 1 ≤ (g_R X).cells ∧ 7 ≤ (g_R X).slots) ∧ (∀ y, e = .inr y → g_Y gCl X (gC hid) ad y.2 (0, 0) 53 [(2, .int y.1)] [])) ?_ n v e h kx
  clear h kx
  clear n v e
  intro v o h kl kx
  obtain ⟨v2, v3, σ⟩ := v
  have h : mB_C7_number_k53_11 σ v1 v2 v3 = some o := h
  unfold mB_C7_number_k53_11 at h
  show g_Y gCl X (gC hid) ad σ (0, 0) 11 [(0, .ref (ad 53 0)), (1, .int v1), (2, .int v2), (3, .int v3)] []
  refine y_iload_n C dX7_number_11 3 rfl rfl ?_
  refine y_iload_n C dX7_number_12 1 rfl rfl ?_
  refine y_icmp_ge (tgt := 53) C dX7_number_13 rfl (fun hc => ?_) (fun hc => ?_)
  · replace h := g_it h hc
    refine y_sub (vs2 := [(2, .int v2)]) [2] rfl ?_
    exact (kx _ (Option.some.inj h).symm).2 _ rfl
  · replace h := g_if h hc
    refine y_aload_n C dX7_number_16 0 rfl rfl ?_
    obtain ⟨hp, h⟩ := g_gd h
    obtain ⟨x4, hc, h⟩ := g_bd h
    refine y_callU C (As := []) (rest := []) (k := 53) (hu := nC_53_0) (hc := (rfl : gCl[7]? = some (RX9, TX9, 8))) (hcell := (obC_53 hp)) (lk_X7_40_X9_X7_l1 C hR (by decide)) (ct_C7_here_k53 hc) rfl rfl (Nat.le_of_ble_eq_true rfl) ⟨Nat.zero_le _, Nat.zero_le _⟩ dX7_number_17 ?_
    refine y_i2l C dX7_number_20 ?_
    refine y_ldc2 (v := (48 : Int64)) C q590 dX7_number_21 ?_
    refine y_ldc2 (v := (57 : Int64)) C q591 dX7_number_24 ?_
    obtain ⟨x5, hc, h⟩ := g_bd h
    refine y_callSN C (As := [.long (x4.toInt64), .long (48 : Int64), .long (57 : Int64)]) (rest := []) (lk_X7_44_l1 C hR (by decide)) (ct_C1_in hc) rfl rfl (Nat.le_of_ble_eq_true rfl) ⟨Nat.zero_le _, Nat.zero_le _⟩ dX7_number_27 ?_
    refine y_if_eq (tgt := 53) C dX7_number_30 rfl (fun hc => ?_) (fun hc => ?_)
    · replace h := g_it h hc
      refine y_sub (vs2 := [(2, .int v2)]) [2] rfl ?_
      exact (kx _ (Option.some.inj h).symm).2 _ rfl
    · replace h := g_if h hc
      refine y_bipush (v := (10 : Int32)) C dX7_number_33 (by decide) ?_
      refine y_iload_n C dX7_number_35 2 rfl rfl ?_
      refine y_imul C dX7_number_36 ?_
      refine y_aload_n C dX7_number_37 0 rfl rfl ?_
      refine y_bipush (v := (48 : Int32)) C dX7_number_38 (by decide) ?_
      refine y_bipush (v := (10 : Int32)) C dX7_number_40 (by decide) ?_
      obtain ⟨hp, h⟩ := g_gd h
      rcases g_t2E h with ⟨z8, hc, h⟩ | ⟨x7, σ6, hc, h⟩
      · obtain ⟨hQ, hw⟩ := (kx _ (Option.some.inj h).symm).1 _ rfl
        refine y_callUX C (As := [.int (48 : Int32), .int (10 : Int32)]) (rest := [.int ((10 : Int32) * v2)]) (k := 53) (hu := nC_53_0) (hc := (rfl : gCl[7]? = some (RX9, TX9, 8))) (hcell := (obC_53 hp)) (lk_X7_48_X9_X7x_l7 C hR (by decide)) (cx_C7_one_k53 hlt hc) rfl rfl (Nat.le_of_ble_eq_true rfl) ⟨hw.2.2.1, hw.2.2.2⟩ dX7_number_42 (fun q => ?_)
        exact y_outX C hT hQ ⟨hw.1, hw.2.1⟩
      refine y_callU C (As := [.int (48 : Int32), .int (10 : Int32)]) (rest := [.int ((10 : Int32) * v2)]) (k := 53) (hu := nC_53_0) (hc := (rfl : gCl[7]? = some (RX9, TX9, 8))) (hcell := (obC_53 hp)) (lk_X7_48_X9_X7_l7 C hR (by decide)) (ct_C7_one_k53 hlt hc) rfl rfl (Nat.le_of_ble_eq_true rfl) ⟨Nat.zero_le _, Nat.zero_le _⟩ dX7_number_42 ?_
      refine y_iadd C dX7_number_45 ?_
      obtain ⟨x9, hx9, h⟩ := g_lt h
      refine y_istore_n (vs1 := [(2, .int x9), (0, .ref (ad 53 0)), (1, .int v1), (3, .int v3)]) C hx9 dX7_number_46 rfl (g_lL hL rfl) rfl ?_
      obtain ⟨x10, hx10, h⟩ := g_lt h
      refine y_iinc (c := (1 : Int32)) (vs1 := [(3, .int x10), (2, .int x9), (0, .ref (ad 53 0)), (1, .int v1)]) C hx10 (by decide) dX7_number_47 3 rfl (g_lL hL rfl) rfl ?_
      refine y_goto (tgt := 11) C dX7_number_50 rfl ?_
      refine y_sub (vs2 := [(0, .ref (ad 53 0)), (1, .int v1), (2, .int x9), (3, .int x10)]) [2, 3, 1, 0] rfl ?_
      exact kl _ (Option.some.inj h).symm
theorem mw_C7_number_k53 {X : g_F} {ck sk : Nat} {hid : Bool} (C : g_M gCl X cX7_number RX7 (some .int)) (hR : g_R X = g_rm 8 ck sk) (hL : g_nL X = 4) (hlt : (g_l X).stackTraces = false) (hT : (g_c X).exceptionTable.toList = []) {ad : Nat → Nat → Nat} {σ : g_S} {v1 : Int32} {o : (g_S ⊕ (Int32 × g_S))} (h : mF_C7_number_k53 σ v1 = some o) (hQ : Sum.elim (fun z => g_MQX gCl X (gC hid) ad z) (fun z => g_MQ gCl X (gC hid) ad z.2 (some (.int z.1))) o = g_Q X) (hw : Sum.elim (fun _ => 1 ≤ g_mc X ∧ 7 ≤ g_ms X ∧ 1 ≤ (g_R X).cells ∧ 7 ≤ (g_R X).slots) (fun _ => True) o) : g_Y gCl X (gC hid) ad σ (0, 0) 0 [(0, .ref (ad 53 0)), (1, .int v1)] [] := by
  unfold mF_C7_number_k53 at h
  refine y_aload_n C dX7_number_0 0 rfl rfl ?_
  refine y_bipush (v := (48 : Int32)) C dX7_number_1 (by decide) ?_
  refine y_bipush (v := (10 : Int32)) C dX7_number_3 (by decide) ?_
  obtain ⟨hp, h⟩ := g_gd h
  rcases g_t2E h with ⟨z3, hc, h⟩ | ⟨x2, σ1, hc, h⟩
  · replace h := Option.some.inj h; subst h
    refine y_callUX C (As := [.int (48 : Int32), .int (10 : Int32)]) (rest := []) (k := 53) (hu := nC_53_0) (hc := (rfl : gCl[7]? = some (RX9, TX9, 8))) (hcell := (obC_53 hp)) (lk_X7_48_X9_X7x_l7 C hR (by decide)) (cx_C7_one_k53 hlt hc) rfl rfl (Nat.le_of_ble_eq_true rfl) ⟨hw.2.2.1, hw.2.2.2⟩ dX7_number_5 (fun q => ?_)
    exact y_outX C hT hQ ⟨hw.1, hw.2.1⟩
  refine y_callU C (As := [.int (48 : Int32), .int (10 : Int32)]) (rest := []) (k := 53) (hu := nC_53_0) (hc := (rfl : gCl[7]? = some (RX9, TX9, 8))) (hcell := (obC_53 hp)) (lk_X7_48_X9_X7_l7 C hR (by decide)) (ct_C7_one_k53 hlt hc) rfl rfl (Nat.le_of_ble_eq_true rfl) ⟨Nat.zero_le _, Nat.zero_le _⟩ dX7_number_5 ?_
  refine y_istore_n (vs1 := [(2, .int x2), (0, .ref (ad 53 0)), (1, .int v1)]) C rfl dX7_number_8 rfl (g_lL hL rfl) rfl ?_
  refine y_iconst (v := (1 : Int32)) C dX7_number_9 (by decide) ?_
  refine y_istore_n (vs1 := [(3, .int (1 : Int32)), (2, .int x2), (0, .ref (ad 53 0)), (1, .int v1)]) C rfl dX7_number_10 rfl (g_lL hL rfl) rfl ?_
  refine y_sub (vs2 := [(0, .ref (ad 53 0)), (1, .int v1), (2, .int x2), (3, .int (1 : Int32))]) [2, 3, 1, 0] rfl ?_
  obtain ⟨e11, he11, h⟩ := g_bd h
  refine ml_C7_number_k53_11 C hR hL hlt hT (σ := σ1) _ _ _ he11 ⟨fun y he => ?_, fun y he => ?_⟩
  · obtain ⟨y12, rfl⟩ : ∃ z, z = y := ⟨_, rfl⟩
    subst he
    dsimp only at h
    replace h := Option.some.inj h; subst h
    exact ⟨hQ, hw⟩
  · obtain ⟨y13, rfl⟩ : ∃ z, z = y := ⟨_, rfl⟩
    subst he
    dsimp only at h
    refine y_iload_n C dX7_number_53 0 rfl rfl ?_
    replace h := Option.some.inj h; subst h
    exact y_iret C hQ ⟨Nat.zero_le _, Nat.zero_le _⟩ dX7_number_54
theorem ct_C7_number_k53 {D : va_G} {dA : Nat → ClassId} {A : Nat → Prop} {s0 : State} {b0 : Nat} {l : Launch} {hid : Bool} (hlt : l.stackTraces = false) {ad : Nat → Nat → Nat} {σ : g_S} {v1 : Int32}{r : Int32} {σ1 : g_S} (h : mF_C7_number_k53 σ v1 = some (.inr (r, σ1))) : g_Met gCl D dA A s0 b0 l yX7_number cX7_number 4 (some .int) 8 (0, 0) (gC hid) ad σ [.ref (ad 53 0), .int v1] (gC hid) ad σ1 (some (.int r)) :=
  g_Met.of2 pl_X7 (Nat.le_of_ble_eq_true rfl) (fun X C hQ hR _ _ hL hnm es eb el hT => mw_C7_number_k53 C hR hL (by rw [el]; exact hlt) hT h hQ trivial)
theorem cx_C7_number_k53 {D : va_G} {dA : Nat → ClassId} {A : Nat → Prop} {s0 : State} {b0 : Nat} {l : Launch} {hid : Bool} (hlt : l.stackTraces = false) {ad : Nat → Nat → Nat} {σ : g_S} {v1 : Int32} {σ1 : g_S} (h : mF_C7_number_k53 σ v1 = some (.inl σ1)) : g_MetX gCl D dA A s0 b0 l yX7_number cX7_number 4 (some .int) 8 (gC hid) ad σ [.ref (ad 53 0), .int v1] (gC hid) ad σ1 :=
  g_MetX.of pl_X7 (Nat.le_of_ble_eq_true rfl) (fun X C hQ hR hmc hms hL hnm es eb el hT => mw_C7_number_k53 C hR hL (by rw [el]; exact hlt) hT h hQ ⟨Nat.le_of_eq hmc.symm, Nat.le_of_eq hms.symm, by rw [hR]; exact Nat.le_refl _, by rw [hR]; exact Nat.le_refl _⟩)
theorem mw_C9_held_k53 {X : g_F} {d ck sk : Nat} {hid : Bool} (C : g_M gCl X cX9_held RX9 (some .int)) (hR : g_R X = g_rm (d + 1 + 200) ck sk) (hL : g_nL X = 3) {rc : ((g_S → Int32 → Option (g_S ⊕ Int32 × g_S)) × (g_S → Int32 → Option (g_S ⊕ Int32 × g_S)) × (g_S → Int32 → Option (g_S ⊕ Int32 × g_S)) × (g_S → Int32 → Option (g_S ⊕ Int32 × g_S)))} (hlt : (g_l X).stackTraces = false) (hT : (g_c X).exceptionTable.toList = []) (iheld : ∀ (_ : (g_l X).stackTraces = false) {ad : Nat → Nat → Nat} {σ σ1 : g_S} {v r : Int32}, rc.1 σ v = some (.inr (r, σ1)) → g_Met gCl (g_D X) (g_dA X) (g_A X) (g_s0 X) (g_b0 X) (g_l X) yX9_held cX9_held 3 (some .int) (d + 200) (0, 0) (gC hid) ad σ [.ref (ad 53 0), .int v] (gC hid) ad σ1 (some (.int r))) (xheld : ∀ (_ : (g_l X).stackTraces = false) {ad : Nat → Nat → Nat} {σ σ1 : g_S} {v : Int32}, rc.1 σ v = some (.inl σ1) → g_MetX gCl (g_D X) (g_dA X) (g_A X) (g_s0 X) (g_b0 X) (g_l X) yX9_held cX9_held 3 (some .int) (d + 200) (gC hid) ad σ [.ref (ad 53 0), .int v] (gC hid) ad σ1) (isum : ∀ (_ : (g_l X).stackTraces = false) {ad : Nat → Nat → Nat} {σ σ1 : g_S} {v r : Int32}, rc.2.1 σ v = some (.inr (r, σ1)) → g_Met gCl (g_D X) (g_dA X) (g_A X) (g_s0 X) (g_b0 X) (g_l X) yX9_sum cX9_sum 5 (some .int) (d + 200) (0, 0) (gC hid) ad σ [.ref (ad 53 0), .int v] (gC hid) ad σ1 (some (.int r))) (xsum : ∀ (_ : (g_l X).stackTraces = false) {ad : Nat → Nat → Nat} {σ σ1 : g_S} {v : Int32}, rc.2.1 σ v = some (.inl σ1) → g_MetX gCl (g_D X) (g_dA X) (g_A X) (g_s0 X) (g_b0 X) (g_l X) yX9_sum cX9_sum 5 (some .int) (d + 200) (gC hid) ad σ [.ref (ad 53 0), .int v] (gC hid) ad σ1) (iproduct : ∀ (_ : (g_l X).stackTraces = false) {ad : Nat → Nat → Nat} {σ σ1 : g_S} {v r : Int32}, rc.2.2.1 σ v = some (.inr (r, σ1)) → g_Met gCl (g_D X) (g_dA X) (g_A X) (g_s0 X) (g_b0 X) (g_l X) yX9_product cX9_product 5 (some .int) (d + 200) (0, 0) (gC hid) ad σ [.ref (ad 53 0), .int v] (gC hid) ad σ1 (some (.int r))) (xproduct : ∀ (_ : (g_l X).stackTraces = false) {ad : Nat → Nat → Nat} {σ σ1 : g_S} {v : Int32}, rc.2.2.1 σ v = some (.inl σ1) → g_MetX gCl (g_D X) (g_dA X) (g_A X) (g_s0 X) (g_b0 X) (g_l X) yX9_product cX9_product 5 (some .int) (d + 200) (gC hid) ad σ [.ref (ad 53 0), .int v] (gC hid) ad σ1) (ithing : ∀ (_ : (g_l X).stackTraces = false) {ad : Nat → Nat → Nat} {σ σ1 : g_S} {v r : Int32}, rc.2.2.2 σ v = some (.inr (r, σ1)) → g_Met gCl (g_D X) (g_dA X) (g_A X) (g_s0 X) (g_b0 X) (g_l X) yX9_thing cX9_thing 3 (some .int) (d + 200) (0, 0) (gC hid) ad σ [.ref (ad 53 0), .int v] (gC hid) ad σ1 (some (.int r))) (xthing : ∀ (_ : (g_l X).stackTraces = false) {ad : Nat → Nat → Nat} {σ σ1 : g_S} {v : Int32}, rc.2.2.2 σ v = some (.inl σ1) → g_MetX gCl (g_D X) (g_dA X) (g_A X) (g_s0 X) (g_b0 X) (g_l X) yX9_thing cX9_thing 3 (some .int) (d + 200) (gC hid) ad σ [.ref (ad 53 0), .int v] (gC hid) ad σ1) {ad : Nat → Nat → Nat} {σ : g_S} {v1 : Int32} {o : (g_S ⊕ (Int32 × g_S))} (h : mF_C9_held_k53 σ rc v1 = some o) (hQ : Sum.elim (fun z => g_MQX gCl X (gC hid) ad z) (fun z => g_MQ gCl X (gC hid) ad z.2 (some (.int z.1))) o = g_Q X) (hw : Sum.elim (fun _ => 1 ≤ g_mc X ∧ 7 ≤ g_ms X ∧ 1 ≤ (g_R X).cells ∧ 7 ≤ (g_R X).slots) (fun _ => True) o) : g_Y gCl X (gC hid) ad σ (0, 0) 0 [(0, .ref (ad 53 0)), (1, .int v1)] [] := by
  unfold mF_C9_held_k53 at h
  refine y_aload_n C dX9_held_0 0 rfl rfl ?_
  refine y_iload_n C dX9_held_1 1 rfl rfl ?_
  obtain ⟨hp, h⟩ := g_gd h
  rcases g_t2E h with ⟨z3, hc, h⟩ | ⟨x2, σ1, hc, h⟩
  · replace h := Option.some.inj h; subst h
    refine y_callVX C (As := [.int v1]) (rest := []) (k := 53) (hu := nC_53_0) (hc := (rfl : gCl[7]? = some (RX9, TX9, 8))) (hcell := (obC_53 hp)) (lk_X9_39_X9x_ld200 C hR ⟨by omega, by omega⟩) (xsum hlt hc) rfl rfl (Nat.le_of_ble_eq_true rfl) ⟨hw.2.2.1, hw.2.2.2⟩ dX9_held_2 (fun q => ?_)
    exact y_outX C hT hQ ⟨hw.1, hw.2.1⟩
  refine y_callV C (As := [.int v1]) (rest := []) (k := 53) (hu := nC_53_0) (hc := (rfl : gCl[7]? = some (RX9, TX9, 8))) (hcell := (obC_53 hp)) (lk_X9_39_X9_ld200 C hR ⟨by omega, by omega⟩) (isum hlt hc) rfl rfl (Nat.le_of_ble_eq_true rfl) ⟨Nat.zero_le _, Nat.zero_le _⟩ dX9_held_2 ?_
  refine y_istore_n (vs1 := [(2, .int x2), (0, .ref (ad 53 0)), (1, .int v1)]) C rfl dX9_held_5 rfl (g_lL hL rfl) rfl ?_
  refine y_aload_n C dX9_held_6 1 rfl rfl ?_
  refine y_bipush (v := (60 : Int32)) C dX9_held_7 (by decide) ?_
  obtain ⟨hp, h⟩ := g_gd h
  obtain ⟨x5, σ4, hc, h⟩ := g_bp h
  refine y_callU C (As := [.int (60 : Int32)]) (rest := []) (k := 53) (hu := nC_53_0) (hc := (rfl : gCl[7]? = some (RX9, TX9, 8))) (hcell := (obC_53 hp)) (lk_X9_42_X9_X7_l2 C hR ⟨by omega, by omega⟩) (ct_C7_passes_k53 hc) rfl rfl (Nat.le_of_ble_eq_true rfl) ⟨Nat.zero_le _, Nat.zero_le _⟩ dX9_held_9 ?_
  refine y_if_eq (tgt := 30) C dX9_held_12 rfl (fun hc => ?_) (fun hc => ?_)
  · replace h := g_it h hc
    refine y_aload_n C dX9_held_30 1 rfl rfl ?_
    refine y_bipush (v := (62 : Int32)) C dX9_held_31 (by decide) ?_
    obtain ⟨hp, h⟩ := g_gd h
    obtain ⟨x7, σ6, hc, h⟩ := g_bp h
    refine y_callU C (As := [.int (62 : Int32)]) (rest := []) (k := 53) (hu := nC_53_0) (hc := (rfl : gCl[7]? = some (RX9, TX9, 8))) (hcell := (obC_53 hp)) (lk_X9_42_X9_X7_l2 C hR ⟨by omega, by omega⟩) (ct_C7_passes_k53 hc) rfl rfl (Nat.le_of_ble_eq_true rfl) ⟨Nat.zero_le _, Nat.zero_le _⟩ dX9_held_33 ?_
    refine y_if_eq (tgt := 54) C dX9_held_36 rfl (fun hc => ?_) (fun hc => ?_)
    · replace h := g_it h hc
      refine y_aload_n C dX9_held_54 1 rfl rfl ?_
      refine y_bipush (v := (61 : Int32)) C dX9_held_55 (by decide) ?_
      obtain ⟨hp, h⟩ := g_gd h
      obtain ⟨x9, σ8, hc, h⟩ := g_bp h
      refine y_callU C (As := [.int (61 : Int32)]) (rest := []) (k := 53) (hu := nC_53_0) (hc := (rfl : gCl[7]? = some (RX9, TX9, 8))) (hcell := (obC_53 hp)) (lk_X9_42_X9_X7_l2 C hR ⟨by omega, by omega⟩) (ct_C7_passes_k53 hc) rfl rfl (Nat.le_of_ble_eq_true rfl) ⟨Nat.zero_le _, Nat.zero_le _⟩ dX9_held_57 ?_
      refine y_if_eq (tgt := 78) C dX9_held_60 rfl (fun hc => ?_) (fun hc => ?_)
      · replace h := g_it h hc
        refine y_iload_n C dX9_held_78 0 rfl rfl ?_
        replace h := Option.some.inj h; subst h
        exact y_iret C hQ ⟨Nat.zero_le _, Nat.zero_le _⟩ dX9_held_79
      · replace h := g_if h hc
        refine y_iload_n C dX9_held_63 0 rfl rfl ?_
        refine y_aload_n C dX9_held_64 1 rfl rfl ?_
        refine y_iload_n C dX9_held_65 2 rfl rfl ?_
        obtain ⟨hp, h⟩ := g_gd h
        rcases g_t2E h with ⟨z12, hc, h⟩ | ⟨x11, σ10, hc, h⟩
        · replace h := Option.some.inj h; subst h
          refine y_callVX C (As := [.int v1]) (rest := [.int x2]) (k := 53) (hu := nC_53_0) (hc := (rfl : gCl[7]? = some (RX9, TX9, 8))) (hcell := (obC_53 hp)) (lk_X9_39_X9x_ld200 C hR ⟨by omega, by omega⟩) (xsum hlt hc) rfl rfl (Nat.le_of_ble_eq_true rfl) ⟨hw.2.2.1, hw.2.2.2⟩ dX9_held_66 (fun q => ?_)
          exact y_outX C hT hQ ⟨hw.1, hw.2.1⟩
        refine y_callV C (As := [.int v1]) (rest := [.int x2]) (k := 53) (hu := nC_53_0) (hc := (rfl : gCl[7]? = some (RX9, TX9, 8))) (hcell := (obC_53 hp)) (lk_X9_39_X9_ld200 C hR ⟨by omega, by omega⟩) (isum hlt hc) rfl rfl (Nat.le_of_ble_eq_true rfl) ⟨Nat.zero_le _, Nat.zero_le _⟩ dX9_held_66 ?_
        refine y_icmp_ne (tgt := 76) C dX9_held_69 rfl (fun hc => ?_) (fun hc => ?_)
        · replace h := g_if h hc
          refine y_iconst (v := (0 : Int32)) C dX9_held_76 (by decide) ?_
          replace h := Option.some.inj h; subst h
          exact y_iret C hQ ⟨Nat.zero_le _, Nat.zero_le _⟩ dX9_held_77
        · replace h := g_it h hc
          refine y_iconst (v := (1 : Int32)) C dX9_held_72 (by decide) ?_
          refine y_goto (tgt := 77) C dX9_held_73 rfl ?_
          replace h := Option.some.inj h; subst h
          exact y_iret C hQ ⟨Nat.zero_le _, Nat.zero_le _⟩ dX9_held_77
    · replace h := g_if h hc
      refine y_iload_n C dX9_held_39 0 rfl rfl ?_
      refine y_aload_n C dX9_held_40 1 rfl rfl ?_
      refine y_iload_n C dX9_held_41 2 rfl rfl ?_
      obtain ⟨hp, h⟩ := g_gd h
      rcases g_t2E h with ⟨z15, hc, h⟩ | ⟨x14, σ13, hc, h⟩
      · replace h := Option.some.inj h; subst h
        refine y_callVX C (As := [.int v1]) (rest := [.int x2]) (k := 53) (hu := nC_53_0) (hc := (rfl : gCl[7]? = some (RX9, TX9, 8))) (hcell := (obC_53 hp)) (lk_X9_39_X9x_ld200 C hR ⟨by omega, by omega⟩) (xsum hlt hc) rfl rfl (Nat.le_of_ble_eq_true rfl) ⟨hw.2.2.1, hw.2.2.2⟩ dX9_held_42 (fun q => ?_)
        exact y_outX C hT hQ ⟨hw.1, hw.2.1⟩
      refine y_callV C (As := [.int v1]) (rest := [.int x2]) (k := 53) (hu := nC_53_0) (hc := (rfl : gCl[7]? = some (RX9, TX9, 8))) (hcell := (obC_53 hp)) (lk_X9_39_X9_ld200 C hR ⟨by omega, by omega⟩) (isum hlt hc) rfl rfl (Nat.le_of_ble_eq_true rfl) ⟨Nat.zero_le _, Nat.zero_le _⟩ dX9_held_42 ?_
      refine y_icmp_le (tgt := 52) C dX9_held_45 rfl (fun hc => ?_) (fun hc => ?_)
      · replace h := g_it h hc
        refine y_iconst (v := (0 : Int32)) C dX9_held_52 (by decide) ?_
        replace h := Option.some.inj h; subst h
        exact y_iret C hQ ⟨Nat.zero_le _, Nat.zero_le _⟩ dX9_held_53
      · replace h := g_if h hc
        refine y_iconst (v := (1 : Int32)) C dX9_held_48 (by decide) ?_
        refine y_goto (tgt := 53) C dX9_held_49 rfl ?_
        replace h := Option.some.inj h; subst h
        exact y_iret C hQ ⟨Nat.zero_le _, Nat.zero_le _⟩ dX9_held_53
  · replace h := g_if h hc
    refine y_iload_n C dX9_held_15 0 rfl rfl ?_
    refine y_aload_n C dX9_held_16 1 rfl rfl ?_
    refine y_iload_n C dX9_held_17 2 rfl rfl ?_
    obtain ⟨hp, h⟩ := g_gd h
    rcases g_t2E h with ⟨z18, hc, h⟩ | ⟨x17, σ16, hc, h⟩
    · replace h := Option.some.inj h; subst h
      refine y_callVX C (As := [.int v1]) (rest := [.int x2]) (k := 53) (hu := nC_53_0) (hc := (rfl : gCl[7]? = some (RX9, TX9, 8))) (hcell := (obC_53 hp)) (lk_X9_39_X9x_ld200 C hR ⟨by omega, by omega⟩) (xsum hlt hc) rfl rfl (Nat.le_of_ble_eq_true rfl) ⟨hw.2.2.1, hw.2.2.2⟩ dX9_held_18 (fun q => ?_)
      exact y_outX C hT hQ ⟨hw.1, hw.2.1⟩
    refine y_callV C (As := [.int v1]) (rest := [.int x2]) (k := 53) (hu := nC_53_0) (hc := (rfl : gCl[7]? = some (RX9, TX9, 8))) (hcell := (obC_53 hp)) (lk_X9_39_X9_ld200 C hR ⟨by omega, by omega⟩) (isum hlt hc) rfl rfl (Nat.le_of_ble_eq_true rfl) ⟨Nat.zero_le _, Nat.zero_le _⟩ dX9_held_18 ?_
    refine y_icmp_ge (tgt := 28) C dX9_held_21 rfl (fun hc => ?_) (fun hc => ?_)
    · replace h := g_it h hc
      refine y_iconst (v := (0 : Int32)) C dX9_held_28 (by decide) ?_
      replace h := Option.some.inj h; subst h
      exact y_iret C hQ ⟨Nat.zero_le _, Nat.zero_le _⟩ dX9_held_29
    · replace h := g_if h hc
      refine y_iconst (v := (1 : Int32)) C dX9_held_24 (by decide) ?_
      refine y_goto (tgt := 29) C dX9_held_25 rfl ?_
      replace h := Option.some.inj h; subst h
      exact y_iret C hQ ⟨Nat.zero_le _, Nat.zero_le _⟩ dX9_held_29
theorem mj_C9_sum_k53_38 {X : g_F} {d ck sk : Nat} {hid : Bool} (C : g_M gCl X cX9_sum RX9 (some .int)) (hR : g_R X = g_rm (d + 1 + 200) ck sk) (hL : g_nL X = 5) {rc : ((g_S → Int32 → Option (g_S ⊕ Int32 × g_S)) × (g_S → Int32 → Option (g_S ⊕ Int32 × g_S)) × (g_S → Int32 → Option (g_S ⊕ Int32 × g_S)) × (g_S → Int32 → Option (g_S ⊕ Int32 × g_S)))} (hlt : (g_l X).stackTraces = false) (hT : (g_c X).exceptionTable.toList = []) (iheld : ∀ (_ : (g_l X).stackTraces = false) {ad : Nat → Nat → Nat} {σ σ1 : g_S} {v r : Int32}, rc.1 σ v = some (.inr (r, σ1)) → g_Met gCl (g_D X) (g_dA X) (g_A X) (g_s0 X) (g_b0 X) (g_l X) yX9_held cX9_held 3 (some .int) (d + 200) (0, 0) (gC hid) ad σ [.ref (ad 53 0), .int v] (gC hid) ad σ1 (some (.int r))) (xheld : ∀ (_ : (g_l X).stackTraces = false) {ad : Nat → Nat → Nat} {σ σ1 : g_S} {v : Int32}, rc.1 σ v = some (.inl σ1) → g_MetX gCl (g_D X) (g_dA X) (g_A X) (g_s0 X) (g_b0 X) (g_l X) yX9_held cX9_held 3 (some .int) (d + 200) (gC hid) ad σ [.ref (ad 53 0), .int v] (gC hid) ad σ1) (isum : ∀ (_ : (g_l X).stackTraces = false) {ad : Nat → Nat → Nat} {σ σ1 : g_S} {v r : Int32}, rc.2.1 σ v = some (.inr (r, σ1)) → g_Met gCl (g_D X) (g_dA X) (g_A X) (g_s0 X) (g_b0 X) (g_l X) yX9_sum cX9_sum 5 (some .int) (d + 200) (0, 0) (gC hid) ad σ [.ref (ad 53 0), .int v] (gC hid) ad σ1 (some (.int r))) (xsum : ∀ (_ : (g_l X).stackTraces = false) {ad : Nat → Nat → Nat} {σ σ1 : g_S} {v : Int32}, rc.2.1 σ v = some (.inl σ1) → g_MetX gCl (g_D X) (g_dA X) (g_A X) (g_s0 X) (g_b0 X) (g_l X) yX9_sum cX9_sum 5 (some .int) (d + 200) (gC hid) ad σ [.ref (ad 53 0), .int v] (gC hid) ad σ1) (iproduct : ∀ (_ : (g_l X).stackTraces = false) {ad : Nat → Nat → Nat} {σ σ1 : g_S} {v r : Int32}, rc.2.2.1 σ v = some (.inr (r, σ1)) → g_Met gCl (g_D X) (g_dA X) (g_A X) (g_s0 X) (g_b0 X) (g_l X) yX9_product cX9_product 5 (some .int) (d + 200) (0, 0) (gC hid) ad σ [.ref (ad 53 0), .int v] (gC hid) ad σ1 (some (.int r))) (xproduct : ∀ (_ : (g_l X).stackTraces = false) {ad : Nat → Nat → Nat} {σ σ1 : g_S} {v : Int32}, rc.2.2.1 σ v = some (.inl σ1) → g_MetX gCl (g_D X) (g_dA X) (g_A X) (g_s0 X) (g_b0 X) (g_l X) yX9_product cX9_product 5 (some .int) (d + 200) (gC hid) ad σ [.ref (ad 53 0), .int v] (gC hid) ad σ1) (ithing : ∀ (_ : (g_l X).stackTraces = false) {ad : Nat → Nat → Nat} {σ σ1 : g_S} {v r : Int32}, rc.2.2.2 σ v = some (.inr (r, σ1)) → g_Met gCl (g_D X) (g_dA X) (g_A X) (g_s0 X) (g_b0 X) (g_l X) yX9_thing cX9_thing 3 (some .int) (d + 200) (0, 0) (gC hid) ad σ [.ref (ad 53 0), .int v] (gC hid) ad σ1 (some (.int r))) (xthing : ∀ (_ : (g_l X).stackTraces = false) {ad : Nat → Nat → Nat} {σ σ1 : g_S} {v : Int32}, rc.2.2.2 σ v = some (.inl σ1) → g_MetX gCl (g_D X) (g_dA X) (g_A X) (g_s0 X) (g_b0 X) (g_l X) yX9_thing cX9_thing 3 (some .int) (d + 200) (gC hid) ad σ [.ref (ad 53 0), .int v] (gC hid) ad σ1) {ad : Nat → Nat → Nat} {σ : g_S} {v1 : Int32} {v2 : Int32} {s0 : Int32} {o : ((Int32 × g_S) ⊕ (g_S ⊕ (Int32 × g_S)))} (h : mJ_C9_sum_k53_38 σ rc v1 v2 s0 = some o) (kl : ∀ z, o = .inl z → g_Y gCl X (gC hid) ad z.2 (0, 0) 6 [(0, .ref (ad 53 0)), (1, .int v1), (2, .int z.1)] []) (kx : ∀ z, o = .inr z → (∀ y, z = .inl y → g_MQX gCl X (gC hid) ad y = g_Q X ∧ 1 ≤ g_mc X ∧ 7 ≤ g_ms X ∧ 1 ≤ (g_R X).cells ∧ 7 ≤ (g_R X).slots) ∧ (∀ y, z = .inr y → g_Y gCl X (gC hid) ad y.2 (0, 0) 75 [(2, .int y.1)] [])) : g_Y gCl X (gC hid) ad σ (0, 0) 38 [(0, .ref (ad 53 0)), (1, .int v1), (2, .int v2)] [.int s0] := by
  unfold mJ_C9_sum_k53_38 at h
  refine y_istore_n (vs1 := [(3, .int s0), (0, .ref (ad 53 0)), (1, .int v1), (2, .int v2)]) C rfl dX9_sum_38 rfl (g_lL hL rfl) rfl ?_
  refine y_aload_n C dX9_sum_39 1 rfl rfl ?_
  refine y_dup C dX9_sum_40 rfl ?_
  obtain ⟨hp, h⟩ := g_gd h
  refine gf_C_X9_34_53 C nC_53_0 hp dX9_sum_41 ?_
  refine y_iconst (v := (1 : Int32)) C dX9_sum_44 (by decide) ?_
  refine y_iadd C dX9_sum_45 ?_
  obtain ⟨hp, h⟩ := g_gd h
  obtain ⟨σ6, hσ6, h⟩ := g_lt h
  refine pf_C_X9_34_53 C nC_53_0 hp hσ6 dX9_sum_46 ?_
  refine y_aload_n C dX9_sum_49 1 rfl rfl ?_
  refine y_iload_n C dX9_sum_50 2 rfl rfl ?_
  obtain ⟨hp, h⟩ := g_gd h
  rcases g_t2E h with ⟨z9, hc, h⟩ | ⟨x8, σ7, hc, h⟩
  · obtain ⟨hQ, hw⟩ := (kx _ (Option.some.inj h).symm).1 _ rfl
    refine y_callVX C (As := [.int v1]) (rest := []) (k := 53) (hu := nC_53_0) (hc := (rfl : gCl[7]? = some (RX9, TX9, 8))) (hcell := (obC_53 hp)) (lk_X9_46_X9x_ld200 C hR ⟨by omega, by omega⟩) (xproduct hlt hc) rfl rfl (Nat.le_of_ble_eq_true rfl) ⟨hw.2.2.1, hw.2.2.2⟩ dX9_sum_51 (fun q => ?_)
    exact y_outX C hT hQ ⟨hw.1, hw.2.1⟩
  refine y_callV C (As := [.int v1]) (rest := []) (k := 53) (hu := nC_53_0) (hc := (rfl : gCl[7]? = some (RX9, TX9, 8))) (hcell := (obC_53 hp)) (lk_X9_46_X9_ld200 C hR ⟨by omega, by omega⟩) (iproduct hlt hc) rfl rfl (Nat.le_of_ble_eq_true rfl) ⟨Nat.zero_le _, Nat.zero_le _⟩ dX9_sum_51 ?_
  refine y_istore (vs1 := [(4, .int x8), (3, .int s0), (0, .ref (ad 53 0)), (1, .int v1), (2, .int v2)]) C rfl dX9_sum_54 (g_lL hL rfl) rfl ?_
  refine y_iload_n C dX9_sum_56 1 rfl rfl ?_
  refine y_if_eq (tgt := 67) C dX9_sum_57 rfl (fun hc => ?_) (fun hc => ?_)
  · replace h := g_it h hc
    refine y_iload_n C dX9_sum_67 4 rfl rfl ?_
    refine y_iload C dX9_sum_68 0 rfl ?_
    refine y_isub C dX9_sum_70 ?_
    obtain ⟨x10, hx10, h⟩ := g_lt h
    refine y_istore_n (vs1 := [(2, .int x10), (4, .int x8), (3, .int s0), (0, .ref (ad 53 0)), (1, .int v1)]) C hx10 dX9_sum_71 rfl (g_lL hL rfl) rfl ?_
    refine y_goto (tgt := 6) C dX9_sum_72 rfl ?_
    refine y_sub (vs2 := [(0, .ref (ad 53 0)), (1, .int v1), (2, .int x10)]) [3, 4, 0] rfl ?_
    exact kl _ (Option.some.inj h).symm
  · replace h := g_if h hc
    refine y_iload_n C dX9_sum_60 4 rfl rfl ?_
    refine y_iload C dX9_sum_61 0 rfl ?_
    refine y_iadd C dX9_sum_63 ?_
    refine y_goto (tgt := 71) C dX9_sum_64 rfl ?_
    obtain ⟨x11, hx11, h⟩ := g_lt h
    refine y_istore_n (vs1 := [(2, .int x11), (4, .int x8), (3, .int s0), (0, .ref (ad 53 0)), (1, .int v1)]) C hx11 dX9_sum_71 rfl (g_lL hL rfl) rfl ?_
    refine y_goto (tgt := 6) C dX9_sum_72 rfl ?_
    refine y_sub (vs2 := [(0, .ref (ad 53 0)), (1, .int v1), (2, .int x11)]) [3, 4, 0] rfl ?_
    exact kl _ (Option.some.inj h).symm
theorem mj_C9_sum_k53_24 {X : g_F} {d ck sk : Nat} {hid : Bool} (C : g_M gCl X cX9_sum RX9 (some .int)) (hR : g_R X = g_rm (d + 1 + 200) ck sk) (hL : g_nL X = 5) {rc : ((g_S → Int32 → Option (g_S ⊕ Int32 × g_S)) × (g_S → Int32 → Option (g_S ⊕ Int32 × g_S)) × (g_S → Int32 → Option (g_S ⊕ Int32 × g_S)) × (g_S → Int32 → Option (g_S ⊕ Int32 × g_S)))} (hlt : (g_l X).stackTraces = false) (hT : (g_c X).exceptionTable.toList = []) (iheld : ∀ (_ : (g_l X).stackTraces = false) {ad : Nat → Nat → Nat} {σ σ1 : g_S} {v r : Int32}, rc.1 σ v = some (.inr (r, σ1)) → g_Met gCl (g_D X) (g_dA X) (g_A X) (g_s0 X) (g_b0 X) (g_l X) yX9_held cX9_held 3 (some .int) (d + 200) (0, 0) (gC hid) ad σ [.ref (ad 53 0), .int v] (gC hid) ad σ1 (some (.int r))) (xheld : ∀ (_ : (g_l X).stackTraces = false) {ad : Nat → Nat → Nat} {σ σ1 : g_S} {v : Int32}, rc.1 σ v = some (.inl σ1) → g_MetX gCl (g_D X) (g_dA X) (g_A X) (g_s0 X) (g_b0 X) (g_l X) yX9_held cX9_held 3 (some .int) (d + 200) (gC hid) ad σ [.ref (ad 53 0), .int v] (gC hid) ad σ1) (isum : ∀ (_ : (g_l X).stackTraces = false) {ad : Nat → Nat → Nat} {σ σ1 : g_S} {v r : Int32}, rc.2.1 σ v = some (.inr (r, σ1)) → g_Met gCl (g_D X) (g_dA X) (g_A X) (g_s0 X) (g_b0 X) (g_l X) yX9_sum cX9_sum 5 (some .int) (d + 200) (0, 0) (gC hid) ad σ [.ref (ad 53 0), .int v] (gC hid) ad σ1 (some (.int r))) (xsum : ∀ (_ : (g_l X).stackTraces = false) {ad : Nat → Nat → Nat} {σ σ1 : g_S} {v : Int32}, rc.2.1 σ v = some (.inl σ1) → g_MetX gCl (g_D X) (g_dA X) (g_A X) (g_s0 X) (g_b0 X) (g_l X) yX9_sum cX9_sum 5 (some .int) (d + 200) (gC hid) ad σ [.ref (ad 53 0), .int v] (gC hid) ad σ1) (iproduct : ∀ (_ : (g_l X).stackTraces = false) {ad : Nat → Nat → Nat} {σ σ1 : g_S} {v r : Int32}, rc.2.2.1 σ v = some (.inr (r, σ1)) → g_Met gCl (g_D X) (g_dA X) (g_A X) (g_s0 X) (g_b0 X) (g_l X) yX9_product cX9_product 5 (some .int) (d + 200) (0, 0) (gC hid) ad σ [.ref (ad 53 0), .int v] (gC hid) ad σ1 (some (.int r))) (xproduct : ∀ (_ : (g_l X).stackTraces = false) {ad : Nat → Nat → Nat} {σ σ1 : g_S} {v : Int32}, rc.2.2.1 σ v = some (.inl σ1) → g_MetX gCl (g_D X) (g_dA X) (g_A X) (g_s0 X) (g_b0 X) (g_l X) yX9_product cX9_product 5 (some .int) (d + 200) (gC hid) ad σ [.ref (ad 53 0), .int v] (gC hid) ad σ1) (ithing : ∀ (_ : (g_l X).stackTraces = false) {ad : Nat → Nat → Nat} {σ σ1 : g_S} {v r : Int32}, rc.2.2.2 σ v = some (.inr (r, σ1)) → g_Met gCl (g_D X) (g_dA X) (g_A X) (g_s0 X) (g_b0 X) (g_l X) yX9_thing cX9_thing 3 (some .int) (d + 200) (0, 0) (gC hid) ad σ [.ref (ad 53 0), .int v] (gC hid) ad σ1 (some (.int r))) (xthing : ∀ (_ : (g_l X).stackTraces = false) {ad : Nat → Nat → Nat} {σ σ1 : g_S} {v : Int32}, rc.2.2.2 σ v = some (.inl σ1) → g_MetX gCl (g_D X) (g_dA X) (g_A X) (g_s0 X) (g_b0 X) (g_l X) yX9_thing cX9_thing 3 (some .int) (d + 200) (gC hid) ad σ [.ref (ad 53 0), .int v] (gC hid) ad σ1) {ad : Nat → Nat → Nat} {σ : g_S} {v1 : Int32} {v2 : Int32} {o : ((Int32 × g_S) ⊕ (g_S ⊕ (Int32 × g_S)))} (h : mJ_C9_sum_k53_24 σ rc v1 v2 = some o) (kl : ∀ z, o = .inl z → g_Y gCl X (gC hid) ad z.2 (0, 0) 6 [(0, .ref (ad 53 0)), (1, .int v1), (2, .int z.1)] []) (kx : ∀ z, o = .inr z → (∀ y, z = .inl y → g_MQX gCl X (gC hid) ad y = g_Q X ∧ 1 ≤ g_mc X ∧ 7 ≤ g_ms X ∧ 1 ≤ (g_R X).cells ∧ 7 ≤ (g_R X).slots) ∧ (∀ y, z = .inr y → g_Y gCl X (gC hid) ad y.2 (0, 0) 75 [(2, .int y.1)] [])) : g_Y gCl X (gC hid) ad σ (0, 0) 24 [(0, .ref (ad 53 0)), (1, .int v1), (2, .int v2)] [] := by
  unfold mJ_C9_sum_k53_24 at h
  refine y_aload_n C dX9_sum_24 0 rfl rfl ?_
  obtain ⟨hp, h⟩ := g_gd h
  obtain ⟨x5, hc, h⟩ := g_bd h
  refine y_callU C (As := []) (rest := []) (k := 53) (hu := nC_53_0) (hc := (rfl : gCl[7]? = some (RX9, TX9, 8))) (hcell := (obC_53 hp)) (lk_X9_49_X9_X7_l1 C hR ⟨by omega, by omega⟩) (ct_C7_here_k53 hc) rfl rfl (Nat.le_of_ble_eq_true rfl) ⟨Nat.zero_le _, Nat.zero_le _⟩ dX9_sum_25 ?_
  refine y_bipush (v := (43 : Int32)) C dX9_sum_28 (by decide) ?_
  refine y_icmp_ne (tgt := 37) C dX9_sum_30 rfl (fun hc => ?_) (fun hc => ?_)
  · replace h := g_if h hc
    refine y_iconst (v := (0 : Int32)) C dX9_sum_37 (by decide) ?_
    exact mj_C9_sum_k53_38 C hR hL hlt hT iheld xheld isum xsum iproduct xproduct ithing xthing h kl kx
  · replace h := g_it h hc
    refine y_iconst (v := (1 : Int32)) C dX9_sum_33 (by decide) ?_
    refine y_goto (tgt := 38) C dX9_sum_34 rfl ?_
    exact mj_C9_sum_k53_38 C hR hL hlt hT iheld xheld isum xsum iproduct xproduct ithing xthing h kl kx
theorem ml_C9_sum_k53_6 {X : g_F} {d ck sk : Nat} {hid : Bool} (C : g_M gCl X cX9_sum RX9 (some .int)) (hR : g_R X = g_rm (d + 1 + 200) ck sk) (hL : g_nL X = 5) {rc : ((g_S → Int32 → Option (g_S ⊕ Int32 × g_S)) × (g_S → Int32 → Option (g_S ⊕ Int32 × g_S)) × (g_S → Int32 → Option (g_S ⊕ Int32 × g_S)) × (g_S → Int32 → Option (g_S ⊕ Int32 × g_S)))} (hlt : (g_l X).stackTraces = false) (hT : (g_c X).exceptionTable.toList = []) (iheld : ∀ (_ : (g_l X).stackTraces = false) {ad : Nat → Nat → Nat} {σ σ1 : g_S} {v r : Int32}, rc.1 σ v = some (.inr (r, σ1)) → g_Met gCl (g_D X) (g_dA X) (g_A X) (g_s0 X) (g_b0 X) (g_l X) yX9_held cX9_held 3 (some .int) (d + 200) (0, 0) (gC hid) ad σ [.ref (ad 53 0), .int v] (gC hid) ad σ1 (some (.int r))) (xheld : ∀ (_ : (g_l X).stackTraces = false) {ad : Nat → Nat → Nat} {σ σ1 : g_S} {v : Int32}, rc.1 σ v = some (.inl σ1) → g_MetX gCl (g_D X) (g_dA X) (g_A X) (g_s0 X) (g_b0 X) (g_l X) yX9_held cX9_held 3 (some .int) (d + 200) (gC hid) ad σ [.ref (ad 53 0), .int v] (gC hid) ad σ1) (isum : ∀ (_ : (g_l X).stackTraces = false) {ad : Nat → Nat → Nat} {σ σ1 : g_S} {v r : Int32}, rc.2.1 σ v = some (.inr (r, σ1)) → g_Met gCl (g_D X) (g_dA X) (g_A X) (g_s0 X) (g_b0 X) (g_l X) yX9_sum cX9_sum 5 (some .int) (d + 200) (0, 0) (gC hid) ad σ [.ref (ad 53 0), .int v] (gC hid) ad σ1 (some (.int r))) (xsum : ∀ (_ : (g_l X).stackTraces = false) {ad : Nat → Nat → Nat} {σ σ1 : g_S} {v : Int32}, rc.2.1 σ v = some (.inl σ1) → g_MetX gCl (g_D X) (g_dA X) (g_A X) (g_s0 X) (g_b0 X) (g_l X) yX9_sum cX9_sum 5 (some .int) (d + 200) (gC hid) ad σ [.ref (ad 53 0), .int v] (gC hid) ad σ1) (iproduct : ∀ (_ : (g_l X).stackTraces = false) {ad : Nat → Nat → Nat} {σ σ1 : g_S} {v r : Int32}, rc.2.2.1 σ v = some (.inr (r, σ1)) → g_Met gCl (g_D X) (g_dA X) (g_A X) (g_s0 X) (g_b0 X) (g_l X) yX9_product cX9_product 5 (some .int) (d + 200) (0, 0) (gC hid) ad σ [.ref (ad 53 0), .int v] (gC hid) ad σ1 (some (.int r))) (xproduct : ∀ (_ : (g_l X).stackTraces = false) {ad : Nat → Nat → Nat} {σ σ1 : g_S} {v : Int32}, rc.2.2.1 σ v = some (.inl σ1) → g_MetX gCl (g_D X) (g_dA X) (g_A X) (g_s0 X) (g_b0 X) (g_l X) yX9_product cX9_product 5 (some .int) (d + 200) (gC hid) ad σ [.ref (ad 53 0), .int v] (gC hid) ad σ1) (ithing : ∀ (_ : (g_l X).stackTraces = false) {ad : Nat → Nat → Nat} {σ σ1 : g_S} {v r : Int32}, rc.2.2.2 σ v = some (.inr (r, σ1)) → g_Met gCl (g_D X) (g_dA X) (g_A X) (g_s0 X) (g_b0 X) (g_l X) yX9_thing cX9_thing 3 (some .int) (d + 200) (0, 0) (gC hid) ad σ [.ref (ad 53 0), .int v] (gC hid) ad σ1 (some (.int r))) (xthing : ∀ (_ : (g_l X).stackTraces = false) {ad : Nat → Nat → Nat} {σ σ1 : g_S} {v : Int32}, rc.2.2.2 σ v = some (.inl σ1) → g_MetX gCl (g_D X) (g_dA X) (g_A X) (g_s0 X) (g_b0 X) (g_l X) yX9_thing cX9_thing 3 (some .int) (d + 200) (gC hid) ad σ [.ref (ad 53 0), .int v] (gC hid) ad σ1) {ad : Nat → Nat → Nat} {σ : g_S} {v1 : Int32} (n : Nat) (v : (Int32 × g_S)) (e : (g_S ⊕ (Int32 × g_S))) (h : g_lp (fun v => mB_C9_sum_k53_6 v.2 rc v1 v.1) n v = some e) (kx : (∀ y, e = .inl y → g_MQX gCl X (gC hid) ad y = g_Q X ∧ 1 ≤ g_mc X ∧ 7 ≤ g_ms X ∧ 1 ≤ (g_R X).cells ∧ 7 ≤ (g_R X).slots) ∧ (∀ y, e = .inr y → g_Y gCl X (gC hid) ad y.2 (0, 0) 75 [(2, .int y.1)] [])) : g_Y gCl X (gC hid) ad v.2 (0, 0) 6 [(0, .ref (ad 53 0)), (1, .int v1), (2, .int v.1)] [] := by
  refine g_loop (P := fun v => g_Y gCl X (gC hid) ad v.2 (0, 0) 6 [(0, .ref (ad 53 0)), (1, .int v1), (2, .int v.1)] []) (T := fun e => (∀ y, e = .inl y → g_MQX gCl X (gC hid) ad y = g_Q X ∧ 1 ≤ g_mc X ∧ 7 ≤ g_ms X ∧ 1 ≤ (g_R X).cells ∧ 7 ≤ (g_R X).slots) ∧ (∀ y, e = .inr y → g_Y gCl X (gC hid) ad y.2 (0, 0) 75 [(2, .int y.1)] [])) ?_ n v e h kx
  clear h kx
  clear n v e
  intro v o h kl kx
  obtain ⟨v2, σ⟩ := v
  have h : mB_C9_sum_k53_6 σ rc v1 v2 = some o := h
  unfold mB_C9_sum_k53_6 at h
  show g_Y gCl X (gC hid) ad σ (0, 0) 6 [(0, .ref (ad 53 0)), (1, .int v1), (2, .int v2)] []
  refine y_aload_n C dX9_sum_6 0 rfl rfl ?_
  obtain ⟨hp, h⟩ := g_gd h
  obtain ⟨x4, hc, h⟩ := g_bd h
  refine y_callU C (As := []) (rest := []) (k := 53) (hu := nC_53_0) (hc := (rfl : gCl[7]? = some (RX9, TX9, 8))) (hcell := (obC_53 hp)) (lk_X9_49_X9_X7_l1 C hR ⟨by omega, by omega⟩) (ct_C7_here_k53 hc) rfl rfl (Nat.le_of_ble_eq_true rfl) ⟨Nat.zero_le _, Nat.zero_le _⟩ dX9_sum_7 ?_
  refine y_bipush (v := (43 : Int32)) C dX9_sum_10 (by decide) ?_
  refine y_icmp_eq (tgt := 24) C dX9_sum_12 rfl (fun hc => ?_) (fun hc => ?_)
  · replace h := g_it h hc
    exact mj_C9_sum_k53_24 C hR hL hlt hT iheld xheld isum xsum iproduct xproduct ithing xthing h kl kx
  · replace h := g_if h hc
    refine y_aload_n C dX9_sum_15 0 rfl rfl ?_
    obtain ⟨hp, h⟩ := g_gd h
    obtain ⟨x12, hc, h⟩ := g_bd h
    refine y_callU C (As := []) (rest := []) (k := 53) (hu := nC_53_0) (hc := (rfl : gCl[7]? = some (RX9, TX9, 8))) (hcell := (obC_53 hp)) (lk_X9_49_X9_X7_l1 C hR ⟨by omega, by omega⟩) (ct_C7_here_k53 hc) rfl rfl (Nat.le_of_ble_eq_true rfl) ⟨Nat.zero_le _, Nat.zero_le _⟩ dX9_sum_16 ?_
    refine y_bipush (v := (45 : Int32)) C dX9_sum_19 (by decide) ?_
    refine y_icmp_ne (tgt := 75) C dX9_sum_21 rfl (fun hc => ?_) (fun hc => ?_)
    · replace h := g_if h hc
      refine y_sub (vs2 := [(2, .int v2)]) [2] rfl ?_
      exact (kx _ (Option.some.inj h).symm).2 _ rfl
    · replace h := g_it h hc
      exact mj_C9_sum_k53_24 C hR hL hlt hT iheld xheld isum xsum iproduct xproduct ithing xthing h kl kx
theorem mw_C9_sum_k53 {X : g_F} {d ck sk : Nat} {hid : Bool} (C : g_M gCl X cX9_sum RX9 (some .int)) (hR : g_R X = g_rm (d + 1 + 200) ck sk) (hL : g_nL X = 5) {rc : ((g_S → Int32 → Option (g_S ⊕ Int32 × g_S)) × (g_S → Int32 → Option (g_S ⊕ Int32 × g_S)) × (g_S → Int32 → Option (g_S ⊕ Int32 × g_S)) × (g_S → Int32 → Option (g_S ⊕ Int32 × g_S)))} (hlt : (g_l X).stackTraces = false) (hT : (g_c X).exceptionTable.toList = []) (iheld : ∀ (_ : (g_l X).stackTraces = false) {ad : Nat → Nat → Nat} {σ σ1 : g_S} {v r : Int32}, rc.1 σ v = some (.inr (r, σ1)) → g_Met gCl (g_D X) (g_dA X) (g_A X) (g_s0 X) (g_b0 X) (g_l X) yX9_held cX9_held 3 (some .int) (d + 200) (0, 0) (gC hid) ad σ [.ref (ad 53 0), .int v] (gC hid) ad σ1 (some (.int r))) (xheld : ∀ (_ : (g_l X).stackTraces = false) {ad : Nat → Nat → Nat} {σ σ1 : g_S} {v : Int32}, rc.1 σ v = some (.inl σ1) → g_MetX gCl (g_D X) (g_dA X) (g_A X) (g_s0 X) (g_b0 X) (g_l X) yX9_held cX9_held 3 (some .int) (d + 200) (gC hid) ad σ [.ref (ad 53 0), .int v] (gC hid) ad σ1) (isum : ∀ (_ : (g_l X).stackTraces = false) {ad : Nat → Nat → Nat} {σ σ1 : g_S} {v r : Int32}, rc.2.1 σ v = some (.inr (r, σ1)) → g_Met gCl (g_D X) (g_dA X) (g_A X) (g_s0 X) (g_b0 X) (g_l X) yX9_sum cX9_sum 5 (some .int) (d + 200) (0, 0) (gC hid) ad σ [.ref (ad 53 0), .int v] (gC hid) ad σ1 (some (.int r))) (xsum : ∀ (_ : (g_l X).stackTraces = false) {ad : Nat → Nat → Nat} {σ σ1 : g_S} {v : Int32}, rc.2.1 σ v = some (.inl σ1) → g_MetX gCl (g_D X) (g_dA X) (g_A X) (g_s0 X) (g_b0 X) (g_l X) yX9_sum cX9_sum 5 (some .int) (d + 200) (gC hid) ad σ [.ref (ad 53 0), .int v] (gC hid) ad σ1) (iproduct : ∀ (_ : (g_l X).stackTraces = false) {ad : Nat → Nat → Nat} {σ σ1 : g_S} {v r : Int32}, rc.2.2.1 σ v = some (.inr (r, σ1)) → g_Met gCl (g_D X) (g_dA X) (g_A X) (g_s0 X) (g_b0 X) (g_l X) yX9_product cX9_product 5 (some .int) (d + 200) (0, 0) (gC hid) ad σ [.ref (ad 53 0), .int v] (gC hid) ad σ1 (some (.int r))) (xproduct : ∀ (_ : (g_l X).stackTraces = false) {ad : Nat → Nat → Nat} {σ σ1 : g_S} {v : Int32}, rc.2.2.1 σ v = some (.inl σ1) → g_MetX gCl (g_D X) (g_dA X) (g_A X) (g_s0 X) (g_b0 X) (g_l X) yX9_product cX9_product 5 (some .int) (d + 200) (gC hid) ad σ [.ref (ad 53 0), .int v] (gC hid) ad σ1) (ithing : ∀ (_ : (g_l X).stackTraces = false) {ad : Nat → Nat → Nat} {σ σ1 : g_S} {v r : Int32}, rc.2.2.2 σ v = some (.inr (r, σ1)) → g_Met gCl (g_D X) (g_dA X) (g_A X) (g_s0 X) (g_b0 X) (g_l X) yX9_thing cX9_thing 3 (some .int) (d + 200) (0, 0) (gC hid) ad σ [.ref (ad 53 0), .int v] (gC hid) ad σ1 (some (.int r))) (xthing : ∀ (_ : (g_l X).stackTraces = false) {ad : Nat → Nat → Nat} {σ σ1 : g_S} {v : Int32}, rc.2.2.2 σ v = some (.inl σ1) → g_MetX gCl (g_D X) (g_dA X) (g_A X) (g_s0 X) (g_b0 X) (g_l X) yX9_thing cX9_thing 3 (some .int) (d + 200) (gC hid) ad σ [.ref (ad 53 0), .int v] (gC hid) ad σ1) {ad : Nat → Nat → Nat} {σ : g_S} {v1 : Int32} {o : (g_S ⊕ (Int32 × g_S))} (h : mF_C9_sum_k53 σ rc v1 = some o) (hQ : Sum.elim (fun z => g_MQX gCl X (gC hid) ad z) (fun z => g_MQ gCl X (gC hid) ad z.2 (some (.int z.1))) o = g_Q X) (hw : Sum.elim (fun _ => 1 ≤ g_mc X ∧ 7 ≤ g_ms X ∧ 1 ≤ (g_R X).cells ∧ 7 ≤ (g_R X).slots) (fun _ => True) o) : g_Y gCl X (gC hid) ad σ (0, 0) 0 [(0, .ref (ad 53 0)), (1, .int v1)] [] := by
  unfold mF_C9_sum_k53 at h
  refine y_aload_n C dX9_sum_0 0 rfl rfl ?_
  refine y_iload_n C dX9_sum_1 1 rfl rfl ?_
  obtain ⟨hp, h⟩ := g_gd h
  rcases g_t2E h with ⟨z3, hc, h⟩ | ⟨x2, σ1, hc, h⟩
  · replace h := Option.some.inj h; subst h
    refine y_callVX C (As := [.int v1]) (rest := []) (k := 53) (hu := nC_53_0) (hc := (rfl : gCl[7]? = some (RX9, TX9, 8))) (hcell := (obC_53 hp)) (lk_X9_46_X9x_ld200 C hR ⟨by omega, by omega⟩) (xproduct hlt hc) rfl rfl (Nat.le_of_ble_eq_true rfl) ⟨hw.2.2.1, hw.2.2.2⟩ dX9_sum_2 (fun q => ?_)
    exact y_outX C hT hQ ⟨hw.1, hw.2.1⟩
  refine y_callV C (As := [.int v1]) (rest := []) (k := 53) (hu := nC_53_0) (hc := (rfl : gCl[7]? = some (RX9, TX9, 8))) (hcell := (obC_53 hp)) (lk_X9_46_X9_ld200 C hR ⟨by omega, by omega⟩) (iproduct hlt hc) rfl rfl (Nat.le_of_ble_eq_true rfl) ⟨Nat.zero_le _, Nat.zero_le _⟩ dX9_sum_2 ?_
  refine y_istore_n (vs1 := [(2, .int x2), (0, .ref (ad 53 0)), (1, .int v1)]) C rfl dX9_sum_5 rfl (g_lL hL rfl) rfl ?_
  refine y_sub (vs2 := [(0, .ref (ad 53 0)), (1, .int v1), (2, .int x2)]) [1, 2, 0] rfl ?_
  obtain ⟨e13, he13, h⟩ := g_bd h
  refine ml_C9_sum_k53_6 C hR hL hlt hT iheld xheld isum xsum iproduct xproduct ithing xthing (σ := σ1) _ _ _ he13 ⟨fun y he => ?_, fun y he => ?_⟩
  · obtain ⟨y14, rfl⟩ : ∃ z, z = y := ⟨_, rfl⟩
    subst he
    dsimp only at h
    replace h := Option.some.inj h; subst h
    exact ⟨hQ, hw⟩
  · obtain ⟨y15, rfl⟩ : ∃ z, z = y := ⟨_, rfl⟩
    subst he
    dsimp only at h
    refine y_iload_n C dX9_sum_75 0 rfl rfl ?_
    replace h := Option.some.inj h; subst h
    exact y_iret C hQ ⟨Nat.zero_le _, Nat.zero_le _⟩ dX9_sum_76
theorem mj_C9_product_k53_38 {X : g_F} {d ck sk : Nat} {hid : Bool} (C : g_M gCl X cX9_product RX9 (some .int)) (hR : g_R X = g_rm (d + 1 + 200) ck sk) (hL : g_nL X = 5) {rc : ((g_S → Int32 → Option (g_S ⊕ Int32 × g_S)) × (g_S → Int32 → Option (g_S ⊕ Int32 × g_S)) × (g_S → Int32 → Option (g_S ⊕ Int32 × g_S)) × (g_S → Int32 → Option (g_S ⊕ Int32 × g_S)))} (hlt : (g_l X).stackTraces = false) (hT : (g_c X).exceptionTable.toList = []) (iheld : ∀ (_ : (g_l X).stackTraces = false) {ad : Nat → Nat → Nat} {σ σ1 : g_S} {v r : Int32}, rc.1 σ v = some (.inr (r, σ1)) → g_Met gCl (g_D X) (g_dA X) (g_A X) (g_s0 X) (g_b0 X) (g_l X) yX9_held cX9_held 3 (some .int) (d + 200) (0, 0) (gC hid) ad σ [.ref (ad 53 0), .int v] (gC hid) ad σ1 (some (.int r))) (xheld : ∀ (_ : (g_l X).stackTraces = false) {ad : Nat → Nat → Nat} {σ σ1 : g_S} {v : Int32}, rc.1 σ v = some (.inl σ1) → g_MetX gCl (g_D X) (g_dA X) (g_A X) (g_s0 X) (g_b0 X) (g_l X) yX9_held cX9_held 3 (some .int) (d + 200) (gC hid) ad σ [.ref (ad 53 0), .int v] (gC hid) ad σ1) (isum : ∀ (_ : (g_l X).stackTraces = false) {ad : Nat → Nat → Nat} {σ σ1 : g_S} {v r : Int32}, rc.2.1 σ v = some (.inr (r, σ1)) → g_Met gCl (g_D X) (g_dA X) (g_A X) (g_s0 X) (g_b0 X) (g_l X) yX9_sum cX9_sum 5 (some .int) (d + 200) (0, 0) (gC hid) ad σ [.ref (ad 53 0), .int v] (gC hid) ad σ1 (some (.int r))) (xsum : ∀ (_ : (g_l X).stackTraces = false) {ad : Nat → Nat → Nat} {σ σ1 : g_S} {v : Int32}, rc.2.1 σ v = some (.inl σ1) → g_MetX gCl (g_D X) (g_dA X) (g_A X) (g_s0 X) (g_b0 X) (g_l X) yX9_sum cX9_sum 5 (some .int) (d + 200) (gC hid) ad σ [.ref (ad 53 0), .int v] (gC hid) ad σ1) (iproduct : ∀ (_ : (g_l X).stackTraces = false) {ad : Nat → Nat → Nat} {σ σ1 : g_S} {v r : Int32}, rc.2.2.1 σ v = some (.inr (r, σ1)) → g_Met gCl (g_D X) (g_dA X) (g_A X) (g_s0 X) (g_b0 X) (g_l X) yX9_product cX9_product 5 (some .int) (d + 200) (0, 0) (gC hid) ad σ [.ref (ad 53 0), .int v] (gC hid) ad σ1 (some (.int r))) (xproduct : ∀ (_ : (g_l X).stackTraces = false) {ad : Nat → Nat → Nat} {σ σ1 : g_S} {v : Int32}, rc.2.2.1 σ v = some (.inl σ1) → g_MetX gCl (g_D X) (g_dA X) (g_A X) (g_s0 X) (g_b0 X) (g_l X) yX9_product cX9_product 5 (some .int) (d + 200) (gC hid) ad σ [.ref (ad 53 0), .int v] (gC hid) ad σ1) (ithing : ∀ (_ : (g_l X).stackTraces = false) {ad : Nat → Nat → Nat} {σ σ1 : g_S} {v r : Int32}, rc.2.2.2 σ v = some (.inr (r, σ1)) → g_Met gCl (g_D X) (g_dA X) (g_A X) (g_s0 X) (g_b0 X) (g_l X) yX9_thing cX9_thing 3 (some .int) (d + 200) (0, 0) (gC hid) ad σ [.ref (ad 53 0), .int v] (gC hid) ad σ1 (some (.int r))) (xthing : ∀ (_ : (g_l X).stackTraces = false) {ad : Nat → Nat → Nat} {σ σ1 : g_S} {v : Int32}, rc.2.2.2 σ v = some (.inl σ1) → g_MetX gCl (g_D X) (g_dA X) (g_A X) (g_s0 X) (g_b0 X) (g_l X) yX9_thing cX9_thing 3 (some .int) (d + 200) (gC hid) ad σ [.ref (ad 53 0), .int v] (gC hid) ad σ1) {ad : Nat → Nat → Nat} {σ : g_S} {v1 : Int32} {v2 : Int32} {s0 : Int32} {o : ((Int32 × g_S) ⊕ (g_S ⊕ (Int32 × g_S)))} (h : mJ_C9_product_k53_38 σ rc v1 v2 s0 = some o) (kl : ∀ z, o = .inl z → g_Y gCl X (gC hid) ad z.2 (0, 0) 6 [(0, .ref (ad 53 0)), (1, .int v1), (2, .int z.1)] []) (kx : ∀ z, o = .inr z → (∀ y, z = .inl y → g_MQX gCl X (gC hid) ad y = g_Q X ∧ 1 ≤ g_mc X ∧ 7 ≤ g_ms X ∧ 1 ≤ (g_R X).cells ∧ 7 ≤ (g_R X).slots) ∧ (∀ y, z = .inr y → g_Y gCl X (gC hid) ad y.2 (0, 0) 84 [(2, .int y.1)] [])) : g_Y gCl X (gC hid) ad σ (0, 0) 38 [(0, .ref (ad 53 0)), (1, .int v1), (2, .int v2)] [.int s0] := by
  unfold mJ_C9_product_k53_38 at h
  refine y_istore_n (vs1 := [(3, .int s0), (0, .ref (ad 53 0)), (1, .int v1), (2, .int v2)]) C rfl dX9_product_38 rfl (g_lL hL rfl) rfl ?_
  refine y_aload_n C dX9_product_39 1 rfl rfl ?_
  refine y_dup C dX9_product_40 rfl ?_
  obtain ⟨hp, h⟩ := g_gd h
  refine gf_C_X9_34_53 C nC_53_0 hp dX9_product_41 ?_
  refine y_iconst (v := (1 : Int32)) C dX9_product_44 (by decide) ?_
  refine y_iadd C dX9_product_45 ?_
  obtain ⟨hp, h⟩ := g_gd h
  obtain ⟨σ6, hσ6, h⟩ := g_lt h
  refine pf_C_X9_34_53 C nC_53_0 hp hσ6 dX9_product_46 ?_
  refine y_aload_n C dX9_product_49 1 rfl rfl ?_
  refine y_iload_n C dX9_product_50 2 rfl rfl ?_
  obtain ⟨hp, h⟩ := g_gd h
  rcases g_t2E h with ⟨z9, hc, h⟩ | ⟨x8, σ7, hc, h⟩
  · obtain ⟨hQ, hw⟩ := (kx _ (Option.some.inj h).symm).1 _ rfl
    refine y_callVX C (As := [.int v1]) (rest := []) (k := 53) (hu := nC_53_0) (hc := (rfl : gCl[7]? = some (RX9, TX9, 8))) (hcell := (obC_53 hp)) (lk_X9_53_X9x_ld200 C hR ⟨by omega, by omega⟩) (xthing hlt hc) rfl rfl (Nat.le_of_ble_eq_true rfl) ⟨hw.2.2.1, hw.2.2.2⟩ dX9_product_51 (fun q => ?_)
    exact y_outX C hT hQ ⟨hw.1, hw.2.1⟩
  refine y_callV C (As := [.int v1]) (rest := []) (k := 53) (hu := nC_53_0) (hc := (rfl : gCl[7]? = some (RX9, TX9, 8))) (hcell := (obC_53 hp)) (lk_X9_53_X9_ld200 C hR ⟨by omega, by omega⟩) (ithing hlt hc) rfl rfl (Nat.le_of_ble_eq_true rfl) ⟨Nat.zero_le _, Nat.zero_le _⟩ dX9_product_51 ?_
  refine y_istore (vs1 := [(4, .int x8), (3, .int s0), (0, .ref (ad 53 0)), (1, .int v1), (2, .int v2)]) C rfl dX9_product_54 (g_lL hL rfl) rfl ?_
  refine y_iload_n C dX9_product_56 1 rfl rfl ?_
  refine y_if_eq (tgt := 67) C dX9_product_57 rfl (fun hc => ?_) (fun hc => ?_)
  · replace h := g_it h hc
    refine y_iload C dX9_product_67 0 rfl ?_
    refine y_if_ne (tgt := 76) C dX9_product_69 rfl (fun hc => ?_) (fun hc => ?_)
    · replace h := g_if h hc
      refine y_iload_n C dX9_product_76 4 rfl rfl ?_
      refine y_iload C dX9_product_77 0 rfl ?_
      obtain ⟨hg, h⟩ := g_gd h
      refine y_idiv C dX9_product_79 hg ?_
      obtain ⟨x10, hx10, h⟩ := g_lt h
      refine y_istore_n (vs1 := [(2, .int x10), (4, .int x8), (3, .int s0), (0, .ref (ad 53 0)), (1, .int v1)]) C hx10 dX9_product_80 rfl (g_lL hL rfl) rfl ?_
      refine y_goto (tgt := 6) C dX9_product_81 rfl ?_
      refine y_sub (vs2 := [(0, .ref (ad 53 0)), (1, .int v1), (2, .int x10)]) [3, 4, 0] rfl ?_
      exact kl _ (Option.some.inj h).symm
    · replace h := g_it h hc
      refine y_iconst (v := (0 : Int32)) C dX9_product_72 (by decide) ?_
      refine y_goto (tgt := 80) C dX9_product_73 rfl ?_
      refine y_istore_n (vs1 := [(2, .int (0 : Int32)), (4, .int x8), (3, .int s0), (0, .ref (ad 53 0)), (1, .int v1)]) C rfl dX9_product_80 rfl (g_lL hL rfl) rfl ?_
      refine y_goto (tgt := 6) C dX9_product_81 rfl ?_
      refine y_sub (vs2 := [(0, .ref (ad 53 0)), (1, .int v1), (2, .int (0 : Int32))]) [3, 4, 0] rfl ?_
      exact kl _ (Option.some.inj h).symm
  · replace h := g_if h hc
    refine y_iload_n C dX9_product_60 4 rfl rfl ?_
    refine y_iload C dX9_product_61 0 rfl ?_
    refine y_imul C dX9_product_63 ?_
    refine y_goto (tgt := 80) C dX9_product_64 rfl ?_
    obtain ⟨x11, hx11, h⟩ := g_lt h
    refine y_istore_n (vs1 := [(2, .int x11), (4, .int x8), (3, .int s0), (0, .ref (ad 53 0)), (1, .int v1)]) C hx11 dX9_product_80 rfl (g_lL hL rfl) rfl ?_
    refine y_goto (tgt := 6) C dX9_product_81 rfl ?_
    refine y_sub (vs2 := [(0, .ref (ad 53 0)), (1, .int v1), (2, .int x11)]) [3, 4, 0] rfl ?_
    exact kl _ (Option.some.inj h).symm
theorem mj_C9_product_k53_24 {X : g_F} {d ck sk : Nat} {hid : Bool} (C : g_M gCl X cX9_product RX9 (some .int)) (hR : g_R X = g_rm (d + 1 + 200) ck sk) (hL : g_nL X = 5) {rc : ((g_S → Int32 → Option (g_S ⊕ Int32 × g_S)) × (g_S → Int32 → Option (g_S ⊕ Int32 × g_S)) × (g_S → Int32 → Option (g_S ⊕ Int32 × g_S)) × (g_S → Int32 → Option (g_S ⊕ Int32 × g_S)))} (hlt : (g_l X).stackTraces = false) (hT : (g_c X).exceptionTable.toList = []) (iheld : ∀ (_ : (g_l X).stackTraces = false) {ad : Nat → Nat → Nat} {σ σ1 : g_S} {v r : Int32}, rc.1 σ v = some (.inr (r, σ1)) → g_Met gCl (g_D X) (g_dA X) (g_A X) (g_s0 X) (g_b0 X) (g_l X) yX9_held cX9_held 3 (some .int) (d + 200) (0, 0) (gC hid) ad σ [.ref (ad 53 0), .int v] (gC hid) ad σ1 (some (.int r))) (xheld : ∀ (_ : (g_l X).stackTraces = false) {ad : Nat → Nat → Nat} {σ σ1 : g_S} {v : Int32}, rc.1 σ v = some (.inl σ1) → g_MetX gCl (g_D X) (g_dA X) (g_A X) (g_s0 X) (g_b0 X) (g_l X) yX9_held cX9_held 3 (some .int) (d + 200) (gC hid) ad σ [.ref (ad 53 0), .int v] (gC hid) ad σ1) (isum : ∀ (_ : (g_l X).stackTraces = false) {ad : Nat → Nat → Nat} {σ σ1 : g_S} {v r : Int32}, rc.2.1 σ v = some (.inr (r, σ1)) → g_Met gCl (g_D X) (g_dA X) (g_A X) (g_s0 X) (g_b0 X) (g_l X) yX9_sum cX9_sum 5 (some .int) (d + 200) (0, 0) (gC hid) ad σ [.ref (ad 53 0), .int v] (gC hid) ad σ1 (some (.int r))) (xsum : ∀ (_ : (g_l X).stackTraces = false) {ad : Nat → Nat → Nat} {σ σ1 : g_S} {v : Int32}, rc.2.1 σ v = some (.inl σ1) → g_MetX gCl (g_D X) (g_dA X) (g_A X) (g_s0 X) (g_b0 X) (g_l X) yX9_sum cX9_sum 5 (some .int) (d + 200) (gC hid) ad σ [.ref (ad 53 0), .int v] (gC hid) ad σ1) (iproduct : ∀ (_ : (g_l X).stackTraces = false) {ad : Nat → Nat → Nat} {σ σ1 : g_S} {v r : Int32}, rc.2.2.1 σ v = some (.inr (r, σ1)) → g_Met gCl (g_D X) (g_dA X) (g_A X) (g_s0 X) (g_b0 X) (g_l X) yX9_product cX9_product 5 (some .int) (d + 200) (0, 0) (gC hid) ad σ [.ref (ad 53 0), .int v] (gC hid) ad σ1 (some (.int r))) (xproduct : ∀ (_ : (g_l X).stackTraces = false) {ad : Nat → Nat → Nat} {σ σ1 : g_S} {v : Int32}, rc.2.2.1 σ v = some (.inl σ1) → g_MetX gCl (g_D X) (g_dA X) (g_A X) (g_s0 X) (g_b0 X) (g_l X) yX9_product cX9_product 5 (some .int) (d + 200) (gC hid) ad σ [.ref (ad 53 0), .int v] (gC hid) ad σ1) (ithing : ∀ (_ : (g_l X).stackTraces = false) {ad : Nat → Nat → Nat} {σ σ1 : g_S} {v r : Int32}, rc.2.2.2 σ v = some (.inr (r, σ1)) → g_Met gCl (g_D X) (g_dA X) (g_A X) (g_s0 X) (g_b0 X) (g_l X) yX9_thing cX9_thing 3 (some .int) (d + 200) (0, 0) (gC hid) ad σ [.ref (ad 53 0), .int v] (gC hid) ad σ1 (some (.int r))) (xthing : ∀ (_ : (g_l X).stackTraces = false) {ad : Nat → Nat → Nat} {σ σ1 : g_S} {v : Int32}, rc.2.2.2 σ v = some (.inl σ1) → g_MetX gCl (g_D X) (g_dA X) (g_A X) (g_s0 X) (g_b0 X) (g_l X) yX9_thing cX9_thing 3 (some .int) (d + 200) (gC hid) ad σ [.ref (ad 53 0), .int v] (gC hid) ad σ1) {ad : Nat → Nat → Nat} {σ : g_S} {v1 : Int32} {v2 : Int32} {o : ((Int32 × g_S) ⊕ (g_S ⊕ (Int32 × g_S)))} (h : mJ_C9_product_k53_24 σ rc v1 v2 = some o) (kl : ∀ z, o = .inl z → g_Y gCl X (gC hid) ad z.2 (0, 0) 6 [(0, .ref (ad 53 0)), (1, .int v1), (2, .int z.1)] []) (kx : ∀ z, o = .inr z → (∀ y, z = .inl y → g_MQX gCl X (gC hid) ad y = g_Q X ∧ 1 ≤ g_mc X ∧ 7 ≤ g_ms X ∧ 1 ≤ (g_R X).cells ∧ 7 ≤ (g_R X).slots) ∧ (∀ y, z = .inr y → g_Y gCl X (gC hid) ad y.2 (0, 0) 84 [(2, .int y.1)] [])) : g_Y gCl X (gC hid) ad σ (0, 0) 24 [(0, .ref (ad 53 0)), (1, .int v1), (2, .int v2)] [] := by
  unfold mJ_C9_product_k53_24 at h
  refine y_aload_n C dX9_product_24 0 rfl rfl ?_
  obtain ⟨hp, h⟩ := g_gd h
  obtain ⟨x5, hc, h⟩ := g_bd h
  refine y_callU C (As := []) (rest := []) (k := 53) (hu := nC_53_0) (hc := (rfl : gCl[7]? = some (RX9, TX9, 8))) (hcell := (obC_53 hp)) (lk_X9_49_X9_X7_l1 C hR ⟨by omega, by omega⟩) (ct_C7_here_k53 hc) rfl rfl (Nat.le_of_ble_eq_true rfl) ⟨Nat.zero_le _, Nat.zero_le _⟩ dX9_product_25 ?_
  refine y_bipush (v := (42 : Int32)) C dX9_product_28 (by decide) ?_
  refine y_icmp_ne (tgt := 37) C dX9_product_30 rfl (fun hc => ?_) (fun hc => ?_)
  · replace h := g_if h hc
    refine y_iconst (v := (0 : Int32)) C dX9_product_37 (by decide) ?_
    exact mj_C9_product_k53_38 C hR hL hlt hT iheld xheld isum xsum iproduct xproduct ithing xthing h kl kx
  · replace h := g_it h hc
    refine y_iconst (v := (1 : Int32)) C dX9_product_33 (by decide) ?_
    refine y_goto (tgt := 38) C dX9_product_34 rfl ?_
    exact mj_C9_product_k53_38 C hR hL hlt hT iheld xheld isum xsum iproduct xproduct ithing xthing h kl kx
theorem ml_C9_product_k53_6 {X : g_F} {d ck sk : Nat} {hid : Bool} (C : g_M gCl X cX9_product RX9 (some .int)) (hR : g_R X = g_rm (d + 1 + 200) ck sk) (hL : g_nL X = 5) {rc : ((g_S → Int32 → Option (g_S ⊕ Int32 × g_S)) × (g_S → Int32 → Option (g_S ⊕ Int32 × g_S)) × (g_S → Int32 → Option (g_S ⊕ Int32 × g_S)) × (g_S → Int32 → Option (g_S ⊕ Int32 × g_S)))} (hlt : (g_l X).stackTraces = false) (hT : (g_c X).exceptionTable.toList = []) (iheld : ∀ (_ : (g_l X).stackTraces = false) {ad : Nat → Nat → Nat} {σ σ1 : g_S} {v r : Int32}, rc.1 σ v = some (.inr (r, σ1)) → g_Met gCl (g_D X) (g_dA X) (g_A X) (g_s0 X) (g_b0 X) (g_l X) yX9_held cX9_held 3 (some .int) (d + 200) (0, 0) (gC hid) ad σ [.ref (ad 53 0), .int v] (gC hid) ad σ1 (some (.int r))) (xheld : ∀ (_ : (g_l X).stackTraces = false) {ad : Nat → Nat → Nat} {σ σ1 : g_S} {v : Int32}, rc.1 σ v = some (.inl σ1) → g_MetX gCl (g_D X) (g_dA X) (g_A X) (g_s0 X) (g_b0 X) (g_l X) yX9_held cX9_held 3 (some .int) (d + 200) (gC hid) ad σ [.ref (ad 53 0), .int v] (gC hid) ad σ1) (isum : ∀ (_ : (g_l X).stackTraces = false) {ad : Nat → Nat → Nat} {σ σ1 : g_S} {v r : Int32}, rc.2.1 σ v = some (.inr (r, σ1)) → g_Met gCl (g_D X) (g_dA X) (g_A X) (g_s0 X) (g_b0 X) (g_l X) yX9_sum cX9_sum 5 (some .int) (d + 200) (0, 0) (gC hid) ad σ [.ref (ad 53 0), .int v] (gC hid) ad σ1 (some (.int r))) (xsum : ∀ (_ : (g_l X).stackTraces = false) {ad : Nat → Nat → Nat} {σ σ1 : g_S} {v : Int32}, rc.2.1 σ v = some (.inl σ1) → g_MetX gCl (g_D X) (g_dA X) (g_A X) (g_s0 X) (g_b0 X) (g_l X) yX9_sum cX9_sum 5 (some .int) (d + 200) (gC hid) ad σ [.ref (ad 53 0), .int v] (gC hid) ad σ1) (iproduct : ∀ (_ : (g_l X).stackTraces = false) {ad : Nat → Nat → Nat} {σ σ1 : g_S} {v r : Int32}, rc.2.2.1 σ v = some (.inr (r, σ1)) → g_Met gCl (g_D X) (g_dA X) (g_A X) (g_s0 X) (g_b0 X) (g_l X) yX9_product cX9_product 5 (some .int) (d + 200) (0, 0) (gC hid) ad σ [.ref (ad 53 0), .int v] (gC hid) ad σ1 (some (.int r))) (xproduct : ∀ (_ : (g_l X).stackTraces = false) {ad : Nat → Nat → Nat} {σ σ1 : g_S} {v : Int32}, rc.2.2.1 σ v = some (.inl σ1) → g_MetX gCl (g_D X) (g_dA X) (g_A X) (g_s0 X) (g_b0 X) (g_l X) yX9_product cX9_product 5 (some .int) (d + 200) (gC hid) ad σ [.ref (ad 53 0), .int v] (gC hid) ad σ1) (ithing : ∀ (_ : (g_l X).stackTraces = false) {ad : Nat → Nat → Nat} {σ σ1 : g_S} {v r : Int32}, rc.2.2.2 σ v = some (.inr (r, σ1)) → g_Met gCl (g_D X) (g_dA X) (g_A X) (g_s0 X) (g_b0 X) (g_l X) yX9_thing cX9_thing 3 (some .int) (d + 200) (0, 0) (gC hid) ad σ [.ref (ad 53 0), .int v] (gC hid) ad σ1 (some (.int r))) (xthing : ∀ (_ : (g_l X).stackTraces = false) {ad : Nat → Nat → Nat} {σ σ1 : g_S} {v : Int32}, rc.2.2.2 σ v = some (.inl σ1) → g_MetX gCl (g_D X) (g_dA X) (g_A X) (g_s0 X) (g_b0 X) (g_l X) yX9_thing cX9_thing 3 (some .int) (d + 200) (gC hid) ad σ [.ref (ad 53 0), .int v] (gC hid) ad σ1) {ad : Nat → Nat → Nat} {σ : g_S} {v1 : Int32} (n : Nat) (v : (Int32 × g_S)) (e : (g_S ⊕ (Int32 × g_S))) (h : g_lp (fun v => mB_C9_product_k53_6 v.2 rc v1 v.1) n v = some e) (kx : (∀ y, e = .inl y → g_MQX gCl X (gC hid) ad y = g_Q X ∧ 1 ≤ g_mc X ∧ 7 ≤ g_ms X ∧ 1 ≤ (g_R X).cells ∧ 7 ≤ (g_R X).slots) ∧ (∀ y, e = .inr y → g_Y gCl X (gC hid) ad y.2 (0, 0) 84 [(2, .int y.1)] [])) : g_Y gCl X (gC hid) ad v.2 (0, 0) 6 [(0, .ref (ad 53 0)), (1, .int v1), (2, .int v.1)] [] := by
  refine g_loop (P := fun v => g_Y gCl X (gC hid) ad v.2 (0, 0) 6 [(0, .ref (ad 53 0)), (1, .int v1), (2, .int v.1)] []) (T := fun e => (∀ y, e = .inl y → g_MQX gCl X (gC hid) ad y = g_Q X ∧ 1 ≤ g_mc X ∧ 7 ≤ g_ms X ∧ 1 ≤ (g_R X).cells ∧ 7 ≤ (g_R X).slots) ∧ (∀ y, e = .inr y → g_Y gCl X (gC hid) ad y.2 (0, 0) 84 [(2, .int y.1)] [])) ?_ n v e h kx
  clear h kx
  clear n v e
  intro v o h kl kx
  obtain ⟨v2, σ⟩ := v
  have h : mB_C9_product_k53_6 σ rc v1 v2 = some o := h
  unfold mB_C9_product_k53_6 at h
  show g_Y gCl X (gC hid) ad σ (0, 0) 6 [(0, .ref (ad 53 0)), (1, .int v1), (2, .int v2)] []
  refine y_aload_n C dX9_product_6 0 rfl rfl ?_
  obtain ⟨hp, h⟩ := g_gd h
  obtain ⟨x4, hc, h⟩ := g_bd h
  refine y_callU C (As := []) (rest := []) (k := 53) (hu := nC_53_0) (hc := (rfl : gCl[7]? = some (RX9, TX9, 8))) (hcell := (obC_53 hp)) (lk_X9_49_X9_X7_l1 C hR ⟨by omega, by omega⟩) (ct_C7_here_k53 hc) rfl rfl (Nat.le_of_ble_eq_true rfl) ⟨Nat.zero_le _, Nat.zero_le _⟩ dX9_product_7 ?_
  refine y_bipush (v := (42 : Int32)) C dX9_product_10 (by decide) ?_
  refine y_icmp_eq (tgt := 24) C dX9_product_12 rfl (fun hc => ?_) (fun hc => ?_)
  · replace h := g_it h hc
    exact mj_C9_product_k53_24 C hR hL hlt hT iheld xheld isum xsum iproduct xproduct ithing xthing h kl kx
  · replace h := g_if h hc
    refine y_aload_n C dX9_product_15 0 rfl rfl ?_
    obtain ⟨hp, h⟩ := g_gd h
    obtain ⟨x12, hc, h⟩ := g_bd h
    refine y_callU C (As := []) (rest := []) (k := 53) (hu := nC_53_0) (hc := (rfl : gCl[7]? = some (RX9, TX9, 8))) (hcell := (obC_53 hp)) (lk_X9_49_X9_X7_l1 C hR ⟨by omega, by omega⟩) (ct_C7_here_k53 hc) rfl rfl (Nat.le_of_ble_eq_true rfl) ⟨Nat.zero_le _, Nat.zero_le _⟩ dX9_product_16 ?_
    refine y_bipush (v := (47 : Int32)) C dX9_product_19 (by decide) ?_
    refine y_icmp_ne (tgt := 84) C dX9_product_21 rfl (fun hc => ?_) (fun hc => ?_)
    · replace h := g_if h hc
      refine y_sub (vs2 := [(2, .int v2)]) [2] rfl ?_
      exact (kx _ (Option.some.inj h).symm).2 _ rfl
    · replace h := g_it h hc
      exact mj_C9_product_k53_24 C hR hL hlt hT iheld xheld isum xsum iproduct xproduct ithing xthing h kl kx
theorem mw_C9_product_k53 {X : g_F} {d ck sk : Nat} {hid : Bool} (C : g_M gCl X cX9_product RX9 (some .int)) (hR : g_R X = g_rm (d + 1 + 200) ck sk) (hL : g_nL X = 5) {rc : ((g_S → Int32 → Option (g_S ⊕ Int32 × g_S)) × (g_S → Int32 → Option (g_S ⊕ Int32 × g_S)) × (g_S → Int32 → Option (g_S ⊕ Int32 × g_S)) × (g_S → Int32 → Option (g_S ⊕ Int32 × g_S)))} (hlt : (g_l X).stackTraces = false) (hT : (g_c X).exceptionTable.toList = []) (iheld : ∀ (_ : (g_l X).stackTraces = false) {ad : Nat → Nat → Nat} {σ σ1 : g_S} {v r : Int32}, rc.1 σ v = some (.inr (r, σ1)) → g_Met gCl (g_D X) (g_dA X) (g_A X) (g_s0 X) (g_b0 X) (g_l X) yX9_held cX9_held 3 (some .int) (d + 200) (0, 0) (gC hid) ad σ [.ref (ad 53 0), .int v] (gC hid) ad σ1 (some (.int r))) (xheld : ∀ (_ : (g_l X).stackTraces = false) {ad : Nat → Nat → Nat} {σ σ1 : g_S} {v : Int32}, rc.1 σ v = some (.inl σ1) → g_MetX gCl (g_D X) (g_dA X) (g_A X) (g_s0 X) (g_b0 X) (g_l X) yX9_held cX9_held 3 (some .int) (d + 200) (gC hid) ad σ [.ref (ad 53 0), .int v] (gC hid) ad σ1) (isum : ∀ (_ : (g_l X).stackTraces = false) {ad : Nat → Nat → Nat} {σ σ1 : g_S} {v r : Int32}, rc.2.1 σ v = some (.inr (r, σ1)) → g_Met gCl (g_D X) (g_dA X) (g_A X) (g_s0 X) (g_b0 X) (g_l X) yX9_sum cX9_sum 5 (some .int) (d + 200) (0, 0) (gC hid) ad σ [.ref (ad 53 0), .int v] (gC hid) ad σ1 (some (.int r))) (xsum : ∀ (_ : (g_l X).stackTraces = false) {ad : Nat → Nat → Nat} {σ σ1 : g_S} {v : Int32}, rc.2.1 σ v = some (.inl σ1) → g_MetX gCl (g_D X) (g_dA X) (g_A X) (g_s0 X) (g_b0 X) (g_l X) yX9_sum cX9_sum 5 (some .int) (d + 200) (gC hid) ad σ [.ref (ad 53 0), .int v] (gC hid) ad σ1) (iproduct : ∀ (_ : (g_l X).stackTraces = false) {ad : Nat → Nat → Nat} {σ σ1 : g_S} {v r : Int32}, rc.2.2.1 σ v = some (.inr (r, σ1)) → g_Met gCl (g_D X) (g_dA X) (g_A X) (g_s0 X) (g_b0 X) (g_l X) yX9_product cX9_product 5 (some .int) (d + 200) (0, 0) (gC hid) ad σ [.ref (ad 53 0), .int v] (gC hid) ad σ1 (some (.int r))) (xproduct : ∀ (_ : (g_l X).stackTraces = false) {ad : Nat → Nat → Nat} {σ σ1 : g_S} {v : Int32}, rc.2.2.1 σ v = some (.inl σ1) → g_MetX gCl (g_D X) (g_dA X) (g_A X) (g_s0 X) (g_b0 X) (g_l X) yX9_product cX9_product 5 (some .int) (d + 200) (gC hid) ad σ [.ref (ad 53 0), .int v] (gC hid) ad σ1) (ithing : ∀ (_ : (g_l X).stackTraces = false) {ad : Nat → Nat → Nat} {σ σ1 : g_S} {v r : Int32}, rc.2.2.2 σ v = some (.inr (r, σ1)) → g_Met gCl (g_D X) (g_dA X) (g_A X) (g_s0 X) (g_b0 X) (g_l X) yX9_thing cX9_thing 3 (some .int) (d + 200) (0, 0) (gC hid) ad σ [.ref (ad 53 0), .int v] (gC hid) ad σ1 (some (.int r))) (xthing : ∀ (_ : (g_l X).stackTraces = false) {ad : Nat → Nat → Nat} {σ σ1 : g_S} {v : Int32}, rc.2.2.2 σ v = some (.inl σ1) → g_MetX gCl (g_D X) (g_dA X) (g_A X) (g_s0 X) (g_b0 X) (g_l X) yX9_thing cX9_thing 3 (some .int) (d + 200) (gC hid) ad σ [.ref (ad 53 0), .int v] (gC hid) ad σ1) {ad : Nat → Nat → Nat} {σ : g_S} {v1 : Int32} {o : (g_S ⊕ (Int32 × g_S))} (h : mF_C9_product_k53 σ rc v1 = some o) (hQ : Sum.elim (fun z => g_MQX gCl X (gC hid) ad z) (fun z => g_MQ gCl X (gC hid) ad z.2 (some (.int z.1))) o = g_Q X) (hw : Sum.elim (fun _ => 1 ≤ g_mc X ∧ 7 ≤ g_ms X ∧ 1 ≤ (g_R X).cells ∧ 7 ≤ (g_R X).slots) (fun _ => True) o) : g_Y gCl X (gC hid) ad σ (0, 0) 0 [(0, .ref (ad 53 0)), (1, .int v1)] [] := by
  unfold mF_C9_product_k53 at h
  refine y_aload_n C dX9_product_0 0 rfl rfl ?_
  refine y_iload_n C dX9_product_1 1 rfl rfl ?_
  obtain ⟨hp, h⟩ := g_gd h
  rcases g_t2E h with ⟨z3, hc, h⟩ | ⟨x2, σ1, hc, h⟩
  · replace h := Option.some.inj h; subst h
    refine y_callVX C (As := [.int v1]) (rest := []) (k := 53) (hu := nC_53_0) (hc := (rfl : gCl[7]? = some (RX9, TX9, 8))) (hcell := (obC_53 hp)) (lk_X9_53_X9x_ld200 C hR ⟨by omega, by omega⟩) (xthing hlt hc) rfl rfl (Nat.le_of_ble_eq_true rfl) ⟨hw.2.2.1, hw.2.2.2⟩ dX9_product_2 (fun q => ?_)
    exact y_outX C hT hQ ⟨hw.1, hw.2.1⟩
  refine y_callV C (As := [.int v1]) (rest := []) (k := 53) (hu := nC_53_0) (hc := (rfl : gCl[7]? = some (RX9, TX9, 8))) (hcell := (obC_53 hp)) (lk_X9_53_X9_ld200 C hR ⟨by omega, by omega⟩) (ithing hlt hc) rfl rfl (Nat.le_of_ble_eq_true rfl) ⟨Nat.zero_le _, Nat.zero_le _⟩ dX9_product_2 ?_
  refine y_istore_n (vs1 := [(2, .int x2), (0, .ref (ad 53 0)), (1, .int v1)]) C rfl dX9_product_5 rfl (g_lL hL rfl) rfl ?_
  refine y_sub (vs2 := [(0, .ref (ad 53 0)), (1, .int v1), (2, .int x2)]) [1, 2, 0] rfl ?_
  obtain ⟨e13, he13, h⟩ := g_bd h
  refine ml_C9_product_k53_6 C hR hL hlt hT iheld xheld isum xsum iproduct xproduct ithing xthing (σ := σ1) _ _ _ he13 ⟨fun y he => ?_, fun y he => ?_⟩
  · obtain ⟨y14, rfl⟩ : ∃ z, z = y := ⟨_, rfl⟩
    subst he
    dsimp only at h
    replace h := Option.some.inj h; subst h
    exact ⟨hQ, hw⟩
  · obtain ⟨y15, rfl⟩ : ∃ z, z = y := ⟨_, rfl⟩
    subst he
    dsimp only at h
    refine y_iload_n C dX9_product_84 0 rfl rfl ?_
    replace h := Option.some.inj h; subst h
    exact y_iret C hQ ⟨Nat.zero_le _, Nat.zero_le _⟩ dX9_product_85
theorem mj_C9_thing_k53_117 {X : g_F} {d ck sk : Nat} {hid : Bool} (C : g_M gCl X cX9_thing RX9 (some .int)) (hR : g_R X = g_rm (d + 1 + 200) ck sk) (hL : g_nL X = 3) {rc : ((g_S → Int32 → Option (g_S ⊕ Int32 × g_S)) × (g_S → Int32 → Option (g_S ⊕ Int32 × g_S)) × (g_S → Int32 → Option (g_S ⊕ Int32 × g_S)) × (g_S → Int32 → Option (g_S ⊕ Int32 × g_S)))} (hlt : (g_l X).stackTraces = false) (hT : (g_c X).exceptionTable.toList = []) (iheld : ∀ (_ : (g_l X).stackTraces = false) {ad : Nat → Nat → Nat} {σ σ1 : g_S} {v r : Int32}, rc.1 σ v = some (.inr (r, σ1)) → g_Met gCl (g_D X) (g_dA X) (g_A X) (g_s0 X) (g_b0 X) (g_l X) yX9_held cX9_held 3 (some .int) (d + 200) (0, 0) (gC hid) ad σ [.ref (ad 53 0), .int v] (gC hid) ad σ1 (some (.int r))) (xheld : ∀ (_ : (g_l X).stackTraces = false) {ad : Nat → Nat → Nat} {σ σ1 : g_S} {v : Int32}, rc.1 σ v = some (.inl σ1) → g_MetX gCl (g_D X) (g_dA X) (g_A X) (g_s0 X) (g_b0 X) (g_l X) yX9_held cX9_held 3 (some .int) (d + 200) (gC hid) ad σ [.ref (ad 53 0), .int v] (gC hid) ad σ1) (isum : ∀ (_ : (g_l X).stackTraces = false) {ad : Nat → Nat → Nat} {σ σ1 : g_S} {v r : Int32}, rc.2.1 σ v = some (.inr (r, σ1)) → g_Met gCl (g_D X) (g_dA X) (g_A X) (g_s0 X) (g_b0 X) (g_l X) yX9_sum cX9_sum 5 (some .int) (d + 200) (0, 0) (gC hid) ad σ [.ref (ad 53 0), .int v] (gC hid) ad σ1 (some (.int r))) (xsum : ∀ (_ : (g_l X).stackTraces = false) {ad : Nat → Nat → Nat} {σ σ1 : g_S} {v : Int32}, rc.2.1 σ v = some (.inl σ1) → g_MetX gCl (g_D X) (g_dA X) (g_A X) (g_s0 X) (g_b0 X) (g_l X) yX9_sum cX9_sum 5 (some .int) (d + 200) (gC hid) ad σ [.ref (ad 53 0), .int v] (gC hid) ad σ1) (iproduct : ∀ (_ : (g_l X).stackTraces = false) {ad : Nat → Nat → Nat} {σ σ1 : g_S} {v r : Int32}, rc.2.2.1 σ v = some (.inr (r, σ1)) → g_Met gCl (g_D X) (g_dA X) (g_A X) (g_s0 X) (g_b0 X) (g_l X) yX9_product cX9_product 5 (some .int) (d + 200) (0, 0) (gC hid) ad σ [.ref (ad 53 0), .int v] (gC hid) ad σ1 (some (.int r))) (xproduct : ∀ (_ : (g_l X).stackTraces = false) {ad : Nat → Nat → Nat} {σ σ1 : g_S} {v : Int32}, rc.2.2.1 σ v = some (.inl σ1) → g_MetX gCl (g_D X) (g_dA X) (g_A X) (g_s0 X) (g_b0 X) (g_l X) yX9_product cX9_product 5 (some .int) (d + 200) (gC hid) ad σ [.ref (ad 53 0), .int v] (gC hid) ad σ1) (ithing : ∀ (_ : (g_l X).stackTraces = false) {ad : Nat → Nat → Nat} {σ σ1 : g_S} {v r : Int32}, rc.2.2.2 σ v = some (.inr (r, σ1)) → g_Met gCl (g_D X) (g_dA X) (g_A X) (g_s0 X) (g_b0 X) (g_l X) yX9_thing cX9_thing 3 (some .int) (d + 200) (0, 0) (gC hid) ad σ [.ref (ad 53 0), .int v] (gC hid) ad σ1 (some (.int r))) (xthing : ∀ (_ : (g_l X).stackTraces = false) {ad : Nat → Nat → Nat} {σ σ1 : g_S} {v : Int32}, rc.2.2.2 σ v = some (.inl σ1) → g_MetX gCl (g_D X) (g_dA X) (g_A X) (g_s0 X) (g_b0 X) (g_l X) yX9_thing cX9_thing 3 (some .int) (d + 200) (gC hid) ad σ [.ref (ad 53 0), .int v] (gC hid) ad σ1) {ad : Nat → Nat → Nat} {σ : g_S} {v2 : Int32} {s1 : Int32} {o : (g_S ⊕ (Int32 × g_S))} (h : mJ_C9_thing_k53_117 σ rc v2 s1 = some o) (hQ : Sum.elim (fun z => g_MQX gCl X (gC hid) ad z) (fun z => g_MQ gCl X (gC hid) ad z.2 (some (.int z.1))) o = g_Q X) (hw : Sum.elim (fun _ => 1 ≤ g_mc X ∧ 7 ≤ g_ms X ∧ 1 ≤ (g_R X).cells ∧ 7 ≤ (g_R X).slots) (fun _ => True) o) : g_Y gCl X (gC hid) ad σ (0, 0) 117 [(0, .ref (ad 53 0)), (2, .int v2)] [.int s1, .ref (ad 53 0)] := by
  unfold mJ_C9_thing_k53_117 at h
  obtain ⟨hp, h⟩ := g_gd h
  rcases g_txE h with ⟨z8, hc, h⟩ | ⟨σ7, hc, h⟩
  · replace h := Option.some.inj h; subst h
    refine y_callUX C (As := [.int s1]) (rest := []) (k := 53) (hu := nC_53_0) (hc := (rfl : gCl[7]? = some (RX9, TX9, 8))) (hcell := (obC_53 hp)) (lk_X9_56_X9_X7x_l6 C hR ⟨by omega, by omega⟩) (cx_C7_need_k53 hlt hc) rfl rfl (Nat.le_of_ble_eq_true rfl) ⟨hw.2.2.1, hw.2.2.2⟩ dX9_thing_117 (fun q => ?_)
    exact y_outX C hT hQ ⟨hw.1, hw.2.1⟩
  refine y_callUv C (As := [.int s1]) (rest := []) (k := 53) (hu := nC_53_0) (hc := (rfl : gCl[7]? = some (RX9, TX9, 8))) (hcell := (obC_53 hp)) (lk_X9_56_X9_X7_l6 C hR ⟨by omega, by omega⟩) (ct_C7_need_k53 hlt hc) rfl rfl (Nat.le_of_ble_eq_true rfl) ⟨Nat.zero_le _, Nat.zero_le _⟩ dX9_thing_117 ?_
  refine y_aload_n C dX9_thing_120 0 rfl rfl ?_
  refine y_dup C dX9_thing_121 rfl ?_
  obtain ⟨hp, h⟩ := g_gd h
  refine gf_C_X9_34_53 C nC_53_0 hp dX9_thing_122 ?_
  refine y_iconst (v := (1 : Int32)) C dX9_thing_125 (by decide) ?_
  refine y_iadd C dX9_thing_126 ?_
  obtain ⟨hp, h⟩ := g_gd h
  obtain ⟨σ9, hσ9, h⟩ := g_lt h
  refine pf_C_X9_34_53 C nC_53_0 hp hσ9 dX9_thing_127 ?_
  refine y_aload_n C dX9_thing_130 0 rfl rfl ?_
  obtain ⟨hp, h⟩ := g_gd h
  by_cases hc : (σ9.2.2 53 0 4) = 0
  · replace h := g_it h hc
    refine gf_C_X9_23_53_n C nC_53_0 hp hc dX9_thing_131 ?_
    refine y_ifnonnullN C dX9_thing_134 ?_
    refine y_iconst (v := (0 : Int32)) C dX9_thing_137 (by decide) ?_
    refine y_goto (tgt := 146) C dX9_thing_138 rfl ?_
    replace h := Option.some.inj h; subst h
    exact y_iret C hQ ⟨Nat.zero_le _, Nat.zero_le _⟩ dX9_thing_146
  · replace h := g_if h hc
    refine gf_C_X9_23_53_r C nC_53_0 hp hc dX9_thing_131 ?_
    obtain ⟨hu10, h⟩ := g_gd h
    refine y_ifnonnull (tgt := 141) C dX9_thing_134 rfl ?_
    refine y_aload_n C dX9_thing_141 0 rfl rfl ?_
    refine y_iload_n C dX9_thing_142 1 rfl rfl ?_
    obtain ⟨hp, h⟩ := g_gd h
    obtain ⟨x11, hc, h⟩ := g_bd h
    refine y_callV C (As := [.int v2]) (rest := []) (k := 53) (hu := nC_53_0) (hc := (rfl : gCl[7]? = some (RX9, TX9, 8))) (hcell := (obC_53 hp)) (lk_X9_78_X9_l3 C hR ⟨by omega, by omega⟩) (ct_C9_value_k53 hc) rfl rfl (Nat.le_of_ble_eq_true rfl) ⟨Nat.zero_le _, Nat.zero_le _⟩ dX9_thing_143 ?_
    replace h := Option.some.inj h; subst h
    exact y_iret C hQ ⟨Nat.zero_le _, Nat.zero_le _⟩ dX9_thing_146
theorem mj_C9_thing_k53_116 {X : g_F} {d ck sk : Nat} {hid : Bool} (C : g_M gCl X cX9_thing RX9 (some .int)) (hR : g_R X = g_rm (d + 1 + 200) ck sk) (hL : g_nL X = 3) {rc : ((g_S → Int32 → Option (g_S ⊕ Int32 × g_S)) × (g_S → Int32 → Option (g_S ⊕ Int32 × g_S)) × (g_S → Int32 → Option (g_S ⊕ Int32 × g_S)) × (g_S → Int32 → Option (g_S ⊕ Int32 × g_S)))} (hlt : (g_l X).stackTraces = false) (hT : (g_c X).exceptionTable.toList = []) (iheld : ∀ (_ : (g_l X).stackTraces = false) {ad : Nat → Nat → Nat} {σ σ1 : g_S} {v r : Int32}, rc.1 σ v = some (.inr (r, σ1)) → g_Met gCl (g_D X) (g_dA X) (g_A X) (g_s0 X) (g_b0 X) (g_l X) yX9_held cX9_held 3 (some .int) (d + 200) (0, 0) (gC hid) ad σ [.ref (ad 53 0), .int v] (gC hid) ad σ1 (some (.int r))) (xheld : ∀ (_ : (g_l X).stackTraces = false) {ad : Nat → Nat → Nat} {σ σ1 : g_S} {v : Int32}, rc.1 σ v = some (.inl σ1) → g_MetX gCl (g_D X) (g_dA X) (g_A X) (g_s0 X) (g_b0 X) (g_l X) yX9_held cX9_held 3 (some .int) (d + 200) (gC hid) ad σ [.ref (ad 53 0), .int v] (gC hid) ad σ1) (isum : ∀ (_ : (g_l X).stackTraces = false) {ad : Nat → Nat → Nat} {σ σ1 : g_S} {v r : Int32}, rc.2.1 σ v = some (.inr (r, σ1)) → g_Met gCl (g_D X) (g_dA X) (g_A X) (g_s0 X) (g_b0 X) (g_l X) yX9_sum cX9_sum 5 (some .int) (d + 200) (0, 0) (gC hid) ad σ [.ref (ad 53 0), .int v] (gC hid) ad σ1 (some (.int r))) (xsum : ∀ (_ : (g_l X).stackTraces = false) {ad : Nat → Nat → Nat} {σ σ1 : g_S} {v : Int32}, rc.2.1 σ v = some (.inl σ1) → g_MetX gCl (g_D X) (g_dA X) (g_A X) (g_s0 X) (g_b0 X) (g_l X) yX9_sum cX9_sum 5 (some .int) (d + 200) (gC hid) ad σ [.ref (ad 53 0), .int v] (gC hid) ad σ1) (iproduct : ∀ (_ : (g_l X).stackTraces = false) {ad : Nat → Nat → Nat} {σ σ1 : g_S} {v r : Int32}, rc.2.2.1 σ v = some (.inr (r, σ1)) → g_Met gCl (g_D X) (g_dA X) (g_A X) (g_s0 X) (g_b0 X) (g_l X) yX9_product cX9_product 5 (some .int) (d + 200) (0, 0) (gC hid) ad σ [.ref (ad 53 0), .int v] (gC hid) ad σ1 (some (.int r))) (xproduct : ∀ (_ : (g_l X).stackTraces = false) {ad : Nat → Nat → Nat} {σ σ1 : g_S} {v : Int32}, rc.2.2.1 σ v = some (.inl σ1) → g_MetX gCl (g_D X) (g_dA X) (g_A X) (g_s0 X) (g_b0 X) (g_l X) yX9_product cX9_product 5 (some .int) (d + 200) (gC hid) ad σ [.ref (ad 53 0), .int v] (gC hid) ad σ1) (ithing : ∀ (_ : (g_l X).stackTraces = false) {ad : Nat → Nat → Nat} {σ σ1 : g_S} {v r : Int32}, rc.2.2.2 σ v = some (.inr (r, σ1)) → g_Met gCl (g_D X) (g_dA X) (g_A X) (g_s0 X) (g_b0 X) (g_l X) yX9_thing cX9_thing 3 (some .int) (d + 200) (0, 0) (gC hid) ad σ [.ref (ad 53 0), .int v] (gC hid) ad σ1 (some (.int r))) (xthing : ∀ (_ : (g_l X).stackTraces = false) {ad : Nat → Nat → Nat} {σ σ1 : g_S} {v : Int32}, rc.2.2.2 σ v = some (.inl σ1) → g_MetX gCl (g_D X) (g_dA X) (g_A X) (g_s0 X) (g_b0 X) (g_l X) yX9_thing cX9_thing 3 (some .int) (d + 200) (gC hid) ad σ [.ref (ad 53 0), .int v] (gC hid) ad σ1) {ad : Nat → Nat → Nat} {σ : g_S} {v2 : Int32} {o : (g_S ⊕ (Int32 × g_S))} (h : mJ_C9_thing_k53_116 σ rc v2 = some o) (hQ : Sum.elim (fun z => g_MQX gCl X (gC hid) ad z) (fun z => g_MQ gCl X (gC hid) ad z.2 (some (.int z.1))) o = g_Q X) (hw : Sum.elim (fun _ => 1 ≤ g_mc X ∧ 7 ≤ g_ms X ∧ 1 ≤ (g_R X).cells ∧ 7 ≤ (g_R X).slots) (fun _ => True) o) : g_Y gCl X (gC hid) ad σ (0, 0) 116 [(0, .ref (ad 53 0)), (2, .int v2)] [.ref (ad 53 0)] := by
  unfold mJ_C9_thing_k53_116 at h
  refine y_iconst (v := (0 : Int32)) C dX9_thing_116 (by decide) ?_
  exact mj_C9_thing_k53_117 C hR hL hlt hT iheld xheld isum xsum iproduct xproduct ithing xthing h hQ hw
theorem mj_C9_thing_k53_36 {X : g_F} {d ck sk : Nat} {hid : Bool} (C : g_M gCl X cX9_thing RX9 (some .int)) (hR : g_R X = g_rm (d + 1 + 200) ck sk) (hL : g_nL X = 3) {rc : ((g_S → Int32 → Option (g_S ⊕ Int32 × g_S)) × (g_S → Int32 → Option (g_S ⊕ Int32 × g_S)) × (g_S → Int32 → Option (g_S ⊕ Int32 × g_S)) × (g_S → Int32 → Option (g_S ⊕ Int32 × g_S)))} (hlt : (g_l X).stackTraces = false) (hT : (g_c X).exceptionTable.toList = []) (iheld : ∀ (_ : (g_l X).stackTraces = false) {ad : Nat → Nat → Nat} {σ σ1 : g_S} {v r : Int32}, rc.1 σ v = some (.inr (r, σ1)) → g_Met gCl (g_D X) (g_dA X) (g_A X) (g_s0 X) (g_b0 X) (g_l X) yX9_held cX9_held 3 (some .int) (d + 200) (0, 0) (gC hid) ad σ [.ref (ad 53 0), .int v] (gC hid) ad σ1 (some (.int r))) (xheld : ∀ (_ : (g_l X).stackTraces = false) {ad : Nat → Nat → Nat} {σ σ1 : g_S} {v : Int32}, rc.1 σ v = some (.inl σ1) → g_MetX gCl (g_D X) (g_dA X) (g_A X) (g_s0 X) (g_b0 X) (g_l X) yX9_held cX9_held 3 (some .int) (d + 200) (gC hid) ad σ [.ref (ad 53 0), .int v] (gC hid) ad σ1) (isum : ∀ (_ : (g_l X).stackTraces = false) {ad : Nat → Nat → Nat} {σ σ1 : g_S} {v r : Int32}, rc.2.1 σ v = some (.inr (r, σ1)) → g_Met gCl (g_D X) (g_dA X) (g_A X) (g_s0 X) (g_b0 X) (g_l X) yX9_sum cX9_sum 5 (some .int) (d + 200) (0, 0) (gC hid) ad σ [.ref (ad 53 0), .int v] (gC hid) ad σ1 (some (.int r))) (xsum : ∀ (_ : (g_l X).stackTraces = false) {ad : Nat → Nat → Nat} {σ σ1 : g_S} {v : Int32}, rc.2.1 σ v = some (.inl σ1) → g_MetX gCl (g_D X) (g_dA X) (g_A X) (g_s0 X) (g_b0 X) (g_l X) yX9_sum cX9_sum 5 (some .int) (d + 200) (gC hid) ad σ [.ref (ad 53 0), .int v] (gC hid) ad σ1) (iproduct : ∀ (_ : (g_l X).stackTraces = false) {ad : Nat → Nat → Nat} {σ σ1 : g_S} {v r : Int32}, rc.2.2.1 σ v = some (.inr (r, σ1)) → g_Met gCl (g_D X) (g_dA X) (g_A X) (g_s0 X) (g_b0 X) (g_l X) yX9_product cX9_product 5 (some .int) (d + 200) (0, 0) (gC hid) ad σ [.ref (ad 53 0), .int v] (gC hid) ad σ1 (some (.int r))) (xproduct : ∀ (_ : (g_l X).stackTraces = false) {ad : Nat → Nat → Nat} {σ σ1 : g_S} {v : Int32}, rc.2.2.1 σ v = some (.inl σ1) → g_MetX gCl (g_D X) (g_dA X) (g_A X) (g_s0 X) (g_b0 X) (g_l X) yX9_product cX9_product 5 (some .int) (d + 200) (gC hid) ad σ [.ref (ad 53 0), .int v] (gC hid) ad σ1) (ithing : ∀ (_ : (g_l X).stackTraces = false) {ad : Nat → Nat → Nat} {σ σ1 : g_S} {v r : Int32}, rc.2.2.2 σ v = some (.inr (r, σ1)) → g_Met gCl (g_D X) (g_dA X) (g_A X) (g_s0 X) (g_b0 X) (g_l X) yX9_thing cX9_thing 3 (some .int) (d + 200) (0, 0) (gC hid) ad σ [.ref (ad 53 0), .int v] (gC hid) ad σ1 (some (.int r))) (xthing : ∀ (_ : (g_l X).stackTraces = false) {ad : Nat → Nat → Nat} {σ σ1 : g_S} {v : Int32}, rc.2.2.2 σ v = some (.inl σ1) → g_MetX gCl (g_D X) (g_dA X) (g_A X) (g_s0 X) (g_b0 X) (g_l X) yX9_thing cX9_thing 3 (some .int) (d + 200) (gC hid) ad σ [.ref (ad 53 0), .int v] (gC hid) ad σ1) {ad : Nat → Nat → Nat} {σ : g_S} {v1 : Int32} {s1 : Int32} {o : (g_S ⊕ (Int32 × g_S))} (h : mJ_C9_thing_k53_36 σ rc v1 s1 = some o) (hQ : Sum.elim (fun z => g_MQX gCl X (gC hid) ad z) (fun z => g_MQ gCl X (gC hid) ad z.2 (some (.int z.1))) o = g_Q X) (hw : Sum.elim (fun _ => 1 ≤ g_mc X ∧ 7 ≤ g_ms X ∧ 1 ≤ (g_R X).cells ∧ 7 ≤ (g_R X).slots) (fun _ => True) o) : g_Y gCl X (gC hid) ad σ (0, 0) 36 [(0, .ref (ad 53 0)), (1, .int v1)] [.int s1, .ref (ad 53 0)] := by
  unfold mJ_C9_thing_k53_36 at h
  obtain ⟨hp, h⟩ := g_gd h
  rcases g_txE h with ⟨z17, hc, h⟩ | ⟨σ16, hc, h⟩
  · replace h := Option.some.inj h; subst h
    refine y_callUX C (As := [.int s1]) (rest := []) (k := 53) (hu := nC_53_0) (hc := (rfl : gCl[7]? = some (RX9, TX9, 8))) (hcell := (obC_53 hp)) (lk_X9_56_X9_X7x_l6 C hR ⟨by omega, by omega⟩) (cx_C7_need_k53 hlt hc) rfl rfl (Nat.le_of_ble_eq_true rfl) ⟨hw.2.2.1, hw.2.2.2⟩ dX9_thing_36 (fun q => ?_)
    exact y_outX C hT hQ ⟨hw.1, hw.2.1⟩
  refine y_callUv C (As := [.int s1]) (rest := []) (k := 53) (hu := nC_53_0) (hc := (rfl : gCl[7]? = some (RX9, TX9, 8))) (hcell := (obC_53 hp)) (lk_X9_56_X9_X7_l6 C hR ⟨by omega, by omega⟩) (ct_C7_need_k53 hlt hc) rfl rfl (Nat.le_of_ble_eq_true rfl) ⟨Nat.zero_le _, Nat.zero_le _⟩ dX9_thing_36 ?_
  refine y_aload_n C dX9_thing_39 0 rfl rfl ?_
  refine y_dup C dX9_thing_40 rfl ?_
  obtain ⟨hp, h⟩ := g_gd h
  refine gf_C_X9_34_53 C nC_53_0 hp dX9_thing_41 ?_
  refine y_iconst (v := (1 : Int32)) C dX9_thing_44 (by decide) ?_
  refine y_iadd C dX9_thing_45 ?_
  obtain ⟨hp, h⟩ := g_gd h
  obtain ⟨σ18, hσ18, h⟩ := g_lt h
  refine pf_C_X9_34_53 C nC_53_0 hp hσ18 dX9_thing_46 ?_
  refine y_aload_n C dX9_thing_49 0 rfl rfl ?_
  refine y_iload_n C dX9_thing_50 1 rfl rfl ?_
  refine y_iconst (v := (1 : Int32)) C dX9_thing_51 (by decide) ?_
  refine y_iadd C dX9_thing_52 ?_
  obtain ⟨hp, h⟩ := g_gd h
  rcases g_t2E h with ⟨z21, hc, h⟩ | ⟨x20, σ19, hc, h⟩
  · replace h := Option.some.inj h; subst h
    refine y_callVX C (As := [.int (v1 + (1 : Int32))]) (rest := []) (k := 53) (hu := nC_53_0) (hc := (rfl : gCl[7]? = some (RX9, TX9, 8))) (hcell := (obC_53 hp)) (lk_X9_15_X9x_ld200 C hR ⟨by omega, by omega⟩) (xheld hlt hc) rfl rfl (Nat.le_of_ble_eq_true rfl) ⟨hw.2.2.1, hw.2.2.2⟩ dX9_thing_53 (fun q => ?_)
    exact y_outX C hT hQ ⟨hw.1, hw.2.1⟩
  refine y_callV C (As := [.int (v1 + (1 : Int32))]) (rest := []) (k := 53) (hu := nC_53_0) (hc := (rfl : gCl[7]? = some (RX9, TX9, 8))) (hcell := (obC_53 hp)) (lk_X9_15_X9_ld200 C hR ⟨by omega, by omega⟩) (iheld hlt hc) rfl rfl (Nat.le_of_ble_eq_true rfl) ⟨Nat.zero_le _, Nat.zero_le _⟩ dX9_thing_53 ?_
  refine y_istore_n (vs1 := [(2, .int x20), (0, .ref (ad 53 0)), (1, .int v1)]) C rfl dX9_thing_56 rfl (g_lL hL rfl) rfl ?_
  refine y_aload_n C dX9_thing_57 1 rfl rfl ?_
  refine y_aload_n C dX9_thing_58 1 rfl rfl ?_
  refine y_bipush (v := (41 : Int32)) C dX9_thing_59 (by decide) ?_
  obtain ⟨hp, h⟩ := g_gd h
  obtain ⟨x23, σ22, hc, h⟩ := g_bp h
  refine y_callU C (As := [.int (41 : Int32)]) (rest := [.ref (ad 53 0)]) (k := 53) (hu := nC_53_0) (hc := (rfl : gCl[7]? = some (RX9, TX9, 8))) (hcell := (obC_53 hp)) (lk_X9_42_X9_X7_l2 C hR ⟨by omega, by omega⟩) (ct_C7_passes_k53 hc) rfl rfl (Nat.le_of_ble_eq_true rfl) ⟨Nat.zero_le _, Nat.zero_le _⟩ dX9_thing_61 ?_
  obtain ⟨hp, h⟩ := g_gd h
  rcases g_txE h with ⟨z25, hc, h⟩ | ⟨σ24, hc, h⟩
  · replace h := Option.some.inj h; subst h
    refine y_callUX C (As := [.int x23]) (rest := []) (k := 53) (hu := nC_53_0) (hc := (rfl : gCl[7]? = some (RX9, TX9, 8))) (hcell := (obC_53 hp)) (lk_X9_56_X9_X7x_l6 C hR ⟨by omega, by omega⟩) (cx_C7_need_k53 hlt hc) rfl rfl (Nat.le_of_ble_eq_true rfl) ⟨hw.2.2.1, hw.2.2.2⟩ dX9_thing_64 (fun q => ?_)
    exact y_outX C hT hQ ⟨hw.1, hw.2.1⟩
  refine y_callUv C (As := [.int x23]) (rest := []) (k := 53) (hu := nC_53_0) (hc := (rfl : gCl[7]? = some (RX9, TX9, 8))) (hcell := (obC_53 hp)) (lk_X9_56_X9_X7_l6 C hR ⟨by omega, by omega⟩) (ct_C7_need_k53 hlt hc) rfl rfl (Nat.le_of_ble_eq_true rfl) ⟨Nat.zero_le _, Nat.zero_le _⟩ dX9_thing_64 ?_
  refine y_iload_n C dX9_thing_67 0 rfl rfl ?_
  replace h := Option.some.inj h; subst h
  exact y_iret C hQ ⟨Nat.zero_le _, Nat.zero_le _⟩ dX9_thing_68
theorem mw_C9_thing_k53 {X : g_F} {d ck sk : Nat} {hid : Bool} (C : g_M gCl X cX9_thing RX9 (some .int)) (hR : g_R X = g_rm (d + 1 + 200) ck sk) (hL : g_nL X = 3) {rc : ((g_S → Int32 → Option (g_S ⊕ Int32 × g_S)) × (g_S → Int32 → Option (g_S ⊕ Int32 × g_S)) × (g_S → Int32 → Option (g_S ⊕ Int32 × g_S)) × (g_S → Int32 → Option (g_S ⊕ Int32 × g_S)))} (hlt : (g_l X).stackTraces = false) (hT : (g_c X).exceptionTable.toList = []) (iheld : ∀ (_ : (g_l X).stackTraces = false) {ad : Nat → Nat → Nat} {σ σ1 : g_S} {v r : Int32}, rc.1 σ v = some (.inr (r, σ1)) → g_Met gCl (g_D X) (g_dA X) (g_A X) (g_s0 X) (g_b0 X) (g_l X) yX9_held cX9_held 3 (some .int) (d + 200) (0, 0) (gC hid) ad σ [.ref (ad 53 0), .int v] (gC hid) ad σ1 (some (.int r))) (xheld : ∀ (_ : (g_l X).stackTraces = false) {ad : Nat → Nat → Nat} {σ σ1 : g_S} {v : Int32}, rc.1 σ v = some (.inl σ1) → g_MetX gCl (g_D X) (g_dA X) (g_A X) (g_s0 X) (g_b0 X) (g_l X) yX9_held cX9_held 3 (some .int) (d + 200) (gC hid) ad σ [.ref (ad 53 0), .int v] (gC hid) ad σ1) (isum : ∀ (_ : (g_l X).stackTraces = false) {ad : Nat → Nat → Nat} {σ σ1 : g_S} {v r : Int32}, rc.2.1 σ v = some (.inr (r, σ1)) → g_Met gCl (g_D X) (g_dA X) (g_A X) (g_s0 X) (g_b0 X) (g_l X) yX9_sum cX9_sum 5 (some .int) (d + 200) (0, 0) (gC hid) ad σ [.ref (ad 53 0), .int v] (gC hid) ad σ1 (some (.int r))) (xsum : ∀ (_ : (g_l X).stackTraces = false) {ad : Nat → Nat → Nat} {σ σ1 : g_S} {v : Int32}, rc.2.1 σ v = some (.inl σ1) → g_MetX gCl (g_D X) (g_dA X) (g_A X) (g_s0 X) (g_b0 X) (g_l X) yX9_sum cX9_sum 5 (some .int) (d + 200) (gC hid) ad σ [.ref (ad 53 0), .int v] (gC hid) ad σ1) (iproduct : ∀ (_ : (g_l X).stackTraces = false) {ad : Nat → Nat → Nat} {σ σ1 : g_S} {v r : Int32}, rc.2.2.1 σ v = some (.inr (r, σ1)) → g_Met gCl (g_D X) (g_dA X) (g_A X) (g_s0 X) (g_b0 X) (g_l X) yX9_product cX9_product 5 (some .int) (d + 200) (0, 0) (gC hid) ad σ [.ref (ad 53 0), .int v] (gC hid) ad σ1 (some (.int r))) (xproduct : ∀ (_ : (g_l X).stackTraces = false) {ad : Nat → Nat → Nat} {σ σ1 : g_S} {v : Int32}, rc.2.2.1 σ v = some (.inl σ1) → g_MetX gCl (g_D X) (g_dA X) (g_A X) (g_s0 X) (g_b0 X) (g_l X) yX9_product cX9_product 5 (some .int) (d + 200) (gC hid) ad σ [.ref (ad 53 0), .int v] (gC hid) ad σ1) (ithing : ∀ (_ : (g_l X).stackTraces = false) {ad : Nat → Nat → Nat} {σ σ1 : g_S} {v r : Int32}, rc.2.2.2 σ v = some (.inr (r, σ1)) → g_Met gCl (g_D X) (g_dA X) (g_A X) (g_s0 X) (g_b0 X) (g_l X) yX9_thing cX9_thing 3 (some .int) (d + 200) (0, 0) (gC hid) ad σ [.ref (ad 53 0), .int v] (gC hid) ad σ1 (some (.int r))) (xthing : ∀ (_ : (g_l X).stackTraces = false) {ad : Nat → Nat → Nat} {σ σ1 : g_S} {v : Int32}, rc.2.2.2 σ v = some (.inl σ1) → g_MetX gCl (g_D X) (g_dA X) (g_A X) (g_s0 X) (g_b0 X) (g_l X) yX9_thing cX9_thing 3 (some .int) (d + 200) (gC hid) ad σ [.ref (ad 53 0), .int v] (gC hid) ad σ1) {ad : Nat → Nat → Nat} {σ : g_S} {v1 : Int32} {o : (g_S ⊕ (Int32 × g_S))} (h : mF_C9_thing_k53 σ rc v1 = some o) (hQ : Sum.elim (fun z => g_MQX gCl X (gC hid) ad z) (fun z => g_MQ gCl X (gC hid) ad z.2 (some (.int z.1))) o = g_Q X) (hw : Sum.elim (fun _ => 1 ≤ g_mc X ∧ 7 ≤ g_ms X ∧ 1 ≤ (g_R X).cells ∧ 7 ≤ (g_R X).slots) (fun _ => True) o) : g_Y gCl X (gC hid) ad σ (0, 0) 0 [(0, .ref (ad 53 0)), (1, .int v1)] [] := by
  unfold mF_C9_thing_k53 at h
  refine y_aload_n C dX9_thing_0 0 rfl rfl ?_
  refine y_bipush (v := (45 : Int32)) C dX9_thing_1 (by decide) ?_
  obtain ⟨hp, h⟩ := g_gd h
  obtain ⟨x2, σ1, hc, h⟩ := g_bp h
  refine y_callU C (As := [.int (45 : Int32)]) (rest := []) (k := 53) (hu := nC_53_0) (hc := (rfl : gCl[7]? = some (RX9, TX9, 8))) (hcell := (obC_53 hp)) (lk_X9_42_X9_X7_l2 C hR ⟨by omega, by omega⟩) (ct_C7_passes_k53 hc) rfl rfl (Nat.le_of_ble_eq_true rfl) ⟨Nat.zero_le _, Nat.zero_le _⟩ dX9_thing_3 ?_
  refine y_if_eq (tgt := 16) C dX9_thing_6 rfl (fun hc => ?_) (fun hc => ?_)
  · replace h := g_it h hc
    refine y_aload_n C dX9_thing_16 0 rfl rfl ?_
    obtain ⟨hp, h⟩ := g_gd h
    obtain ⟨x3, hc, h⟩ := g_bd h
    refine y_callU C (As := []) (rest := []) (k := 53) (hu := nC_53_0) (hc := (rfl : gCl[7]? = some (RX9, TX9, 8))) (hcell := (obC_53 hp)) (lk_X9_49_X9_X7_l1 C hR ⟨by omega, by omega⟩) (ct_C7_here_k53 hc) rfl rfl (Nat.le_of_ble_eq_true rfl) ⟨Nat.zero_le _, Nat.zero_le _⟩ dX9_thing_17 ?_
    refine y_bipush (v := (40 : Int32)) C dX9_thing_20 (by decide) ?_
    refine y_icmp_ne (tgt := 69) C dX9_thing_22 rfl (fun hc => ?_) (fun hc => ?_)
    · replace h := g_if h hc
      refine y_aload_n C dX9_thing_69 0 rfl rfl ?_
      obtain ⟨hp, h⟩ := g_gd h
      obtain ⟨x4, hc, h⟩ := g_bd h
      refine y_callU C (As := []) (rest := []) (k := 53) (hu := nC_53_0) (hc := (rfl : gCl[7]? = some (RX9, TX9, 8))) (hcell := (obC_53 hp)) (lk_X9_49_X9_X7_l1 C hR ⟨by omega, by omega⟩) (ct_C7_here_k53 hc) rfl rfl (Nat.le_of_ble_eq_true rfl) ⟨Nat.zero_le _, Nat.zero_le _⟩ dX9_thing_70 ?_
      refine y_i2l C dX9_thing_73 ?_
      refine y_ldc2 (v := (48 : Int64)) C q580 dX9_thing_74 ?_
      refine y_ldc2 (v := (57 : Int64)) C q581 dX9_thing_77 ?_
      obtain ⟨x5, hc, h⟩ := g_bd h
      refine y_callSN C (As := [.long (x4.toInt64), .long (48 : Int64), .long (57 : Int64)]) (rest := []) (lk_X9_64_l1 C hR ⟨by omega, by omega⟩) (ct_C1_in hc) rfl rfl (Nat.le_of_ble_eq_true rfl) ⟨Nat.zero_le _, Nat.zero_le _⟩ dX9_thing_80 ?_
      refine y_if_eq (tgt := 92) C dX9_thing_83 rfl (fun hc => ?_) (fun hc => ?_)
      · replace h := g_it h hc
        refine y_aload_n C dX9_thing_92 0 rfl rfl ?_
        obtain ⟨hp, h⟩ := g_gd h
        obtain ⟨x6, hc, h⟩ := g_bd h
        refine y_callU C (As := []) (rest := []) (k := 53) (hu := nC_53_0) (hc := (rfl : gCl[7]? = some (RX9, TX9, 8))) (hcell := (obC_53 hp)) (lk_X9_49_X9_X7_l1 C hR ⟨by omega, by omega⟩) (ct_C7_here_k53 hc) rfl rfl (Nat.le_of_ble_eq_true rfl) ⟨Nat.zero_le _, Nat.zero_le _⟩ dX9_thing_93 ?_
        refine y_istore_n (vs1 := [(2, .int x6), (0, .ref (ad 53 0)), (1, .int v1)]) C rfl dX9_thing_96 rfl (g_lL hL rfl) rfl ?_
        refine y_aload_n C dX9_thing_97 1 rfl rfl ?_
        refine y_iload_n C dX9_thing_98 0 rfl rfl ?_
        refine y_iconst (v := (-1 : Int32)) C dX9_thing_99 (by decide) ?_
        refine y_icmp_eq (tgt := 116) C dX9_thing_100 rfl (fun hc => ?_) (fun hc => ?_)
        · replace h := g_it h hc
          refine y_sub (vs2 := [(0, .ref (ad 53 0)), (2, .int x6)]) [1, 0] rfl ?_
          exact mj_C9_thing_k53_116 C hR hL hlt hT iheld xheld isum xsum iproduct xproduct ithing xthing h hQ hw
        · replace h := g_if h hc
          refine y_ldcS (i := 1) C q592 (g_strR C.2.2.2.2.2.2.2.2.2.1) dX9_thing_103 ?_
          refine y_iload_n C dX9_thing_105 0 rfl rfl ?_
          obtain ⟨x12, hc, h⟩ := g_bd h
          refine y_callH C (As := [.int x6]) (rest := [.ref (ad 53 0)]) (C1 := "java/lang/String") (fun H locs hS => vk_recv (g_strX C) (by decide) hS) (lk_X9_73_J3_l4 C hR ⟨by omega, by omega⟩) (ct_J3_indexOf (by decide) hc) rfl rfl (Nat.le_of_ble_eq_true rfl) ⟨Nat.zero_le _, Nat.zero_le _⟩ dX9_thing_106 ?_
          refine y_if_lt (tgt := 116) C dX9_thing_109 rfl (fun hc => ?_) (fun hc => ?_)
          · replace h := g_it h hc
            refine y_sub (vs2 := [(0, .ref (ad 53 0)), (2, .int x6)]) [1, 0] rfl ?_
            exact mj_C9_thing_k53_116 C hR hL hlt hT iheld xheld isum xsum iproduct xproduct ithing xthing h hQ hw
          · replace h := g_if h hc
            refine y_iconst (v := (1 : Int32)) C dX9_thing_112 (by decide) ?_
            refine y_goto (tgt := 117) C dX9_thing_113 rfl ?_
            refine y_sub (vs2 := [(0, .ref (ad 53 0)), (2, .int x6)]) [1, 0] rfl ?_
            exact mj_C9_thing_k53_117 C hR hL hlt hT iheld xheld isum xsum iproduct xproduct ithing xthing h hQ hw
      · replace h := g_if h hc
        refine y_aload_n C dX9_thing_86 0 rfl rfl ?_
        refine y_iconst (v := (3 : Int32)) C dX9_thing_87 (by decide) ?_
        obtain ⟨hp, h⟩ := g_gd h
        rcases g_t2E h with ⟨z15, hc, h⟩ | ⟨x14, σ13, hc, h⟩
        · replace h := Option.some.inj h; subst h
          refine y_callUX C (As := [.int (3 : Int32)]) (rest := []) (k := 53) (hu := nC_53_0) (hc := (rfl : gCl[7]? = some (RX9, TX9, 8))) (hcell := (obC_53 hp)) (lk_X9_68_X9_X7x_l8 C hR ⟨by omega, by omega⟩) (cx_C7_number_k53 hlt hc) rfl rfl (Nat.le_of_ble_eq_true rfl) ⟨hw.2.2.1, hw.2.2.2⟩ dX9_thing_88 (fun q => ?_)
          exact y_outX C hT hQ ⟨hw.1, hw.2.1⟩
        refine y_callU C (As := [.int (3 : Int32)]) (rest := []) (k := 53) (hu := nC_53_0) (hc := (rfl : gCl[7]? = some (RX9, TX9, 8))) (hcell := (obC_53 hp)) (lk_X9_68_X9_X7_l8 C hR ⟨by omega, by omega⟩) (ct_C7_number_k53 hlt hc) rfl rfl (Nat.le_of_ble_eq_true rfl) ⟨Nat.zero_le _, Nat.zero_le _⟩ dX9_thing_88 ?_
        replace h := Option.some.inj h; subst h
        exact y_iret C hQ ⟨Nat.zero_le _, Nat.zero_le _⟩ dX9_thing_91
    · replace h := g_it h hc
      refine y_aload_n C dX9_thing_25 0 rfl rfl ?_
      refine y_iload_n C dX9_thing_26 1 rfl rfl ?_
      refine y_iconst (v := (4 : Int32)) C dX9_thing_27 (by decide) ?_
      refine y_icmp_ge (tgt := 35) C dX9_thing_28 rfl (fun hc => ?_) (fun hc => ?_)
      · replace h := g_it h hc
        refine y_iconst (v := (0 : Int32)) C dX9_thing_35 (by decide) ?_
        exact mj_C9_thing_k53_36 C hR hL hlt hT iheld xheld isum xsum iproduct xproduct ithing xthing h hQ hw
      · replace h := g_if h hc
        refine y_iconst (v := (1 : Int32)) C dX9_thing_31 (by decide) ?_
        refine y_goto (tgt := 36) C dX9_thing_32 rfl ?_
        exact mj_C9_thing_k53_36 C hR hL hlt hT iheld xheld isum xsum iproduct xproduct ithing xthing h hQ hw
  · replace h := g_if h hc
    refine y_aload_n C dX9_thing_9 0 rfl rfl ?_
    refine y_iload_n C dX9_thing_10 1 rfl rfl ?_
    obtain ⟨hp, h⟩ := g_gd h
    rcases g_t2E h with ⟨z28, hc, h⟩ | ⟨x27, σ26, hc, h⟩
    · replace h := Option.some.inj h; subst h
      refine y_callVX C (As := [.int v1]) (rest := []) (k := 53) (hu := nC_53_0) (hc := (rfl : gCl[7]? = some (RX9, TX9, 8))) (hcell := (obC_53 hp)) (lk_X9_53_X9x_ld200 C hR ⟨by omega, by omega⟩) (xthing hlt hc) rfl rfl (Nat.le_of_ble_eq_true rfl) ⟨hw.2.2.1, hw.2.2.2⟩ dX9_thing_11 (fun q => ?_)
      exact y_outX C hT hQ ⟨hw.1, hw.2.1⟩
    refine y_callV C (As := [.int v1]) (rest := []) (k := 53) (hu := nC_53_0) (hc := (rfl : gCl[7]? = some (RX9, TX9, 8))) (hcell := (obC_53 hp)) (lk_X9_53_X9_ld200 C hR ⟨by omega, by omega⟩) (ithing hlt hc) rfl rfl (Nat.le_of_ble_eq_true rfl) ⟨Nat.zero_le _, Nat.zero_le _⟩ dX9_thing_11 ?_
    refine y_ineg C dX9_thing_14 ?_
    replace h := Option.some.inj h; subst h
    exact y_iret C hQ ⟨Nat.zero_le _, Nat.zero_le _⟩ dX9_thing_15
theorem ctr_rule_k53 : ∀ (n : Nat) {D : va_G} {dA : Nat → ClassId} {A : Nat → Prop} {s0 : State} {b0 : Nat} {l : Launch} (hlt : l.stackTraces = false) {hid : Bool}, (∀ {ad : Nat → Nat → Nat} {σ σ1 : g_S} {v r : Int32}, (mR_rule_k53 n).1 σ v = some (.inr (r, σ1)) → g_Met gCl D dA A s0 b0 l yX9_held cX9_held 3 (some .int) (n + 200) (0, 0) (gC hid) ad σ [.ref (ad 53 0), .int v] (gC hid) ad σ1 (some (.int r))) ∧ (∀ {ad : Nat → Nat → Nat} {σ σ1 : g_S} {v : Int32}, (mR_rule_k53 n).1 σ v = some (.inl σ1) → g_MetX gCl D dA A s0 b0 l yX9_held cX9_held 3 (some .int) (n + 200) (gC hid) ad σ [.ref (ad 53 0), .int v] (gC hid) ad σ1) ∧ (∀ {ad : Nat → Nat → Nat} {σ σ1 : g_S} {v r : Int32}, (mR_rule_k53 n).2.1 σ v = some (.inr (r, σ1)) → g_Met gCl D dA A s0 b0 l yX9_sum cX9_sum 5 (some .int) (n + 200) (0, 0) (gC hid) ad σ [.ref (ad 53 0), .int v] (gC hid) ad σ1 (some (.int r))) ∧ (∀ {ad : Nat → Nat → Nat} {σ σ1 : g_S} {v : Int32}, (mR_rule_k53 n).2.1 σ v = some (.inl σ1) → g_MetX gCl D dA A s0 b0 l yX9_sum cX9_sum 5 (some .int) (n + 200) (gC hid) ad σ [.ref (ad 53 0), .int v] (gC hid) ad σ1) ∧ (∀ {ad : Nat → Nat → Nat} {σ σ1 : g_S} {v r : Int32}, (mR_rule_k53 n).2.2.1 σ v = some (.inr (r, σ1)) → g_Met gCl D dA A s0 b0 l yX9_product cX9_product 5 (some .int) (n + 200) (0, 0) (gC hid) ad σ [.ref (ad 53 0), .int v] (gC hid) ad σ1 (some (.int r))) ∧ (∀ {ad : Nat → Nat → Nat} {σ σ1 : g_S} {v : Int32}, (mR_rule_k53 n).2.2.1 σ v = some (.inl σ1) → g_MetX gCl D dA A s0 b0 l yX9_product cX9_product 5 (some .int) (n + 200) (gC hid) ad σ [.ref (ad 53 0), .int v] (gC hid) ad σ1) ∧ (∀ {ad : Nat → Nat → Nat} {σ σ1 : g_S} {v r : Int32}, (mR_rule_k53 n).2.2.2 σ v = some (.inr (r, σ1)) → g_Met gCl D dA A s0 b0 l yX9_thing cX9_thing 3 (some .int) (n + 200) (0, 0) (gC hid) ad σ [.ref (ad 53 0), .int v] (gC hid) ad σ1 (some (.int r))) ∧ (∀ {ad : Nat → Nat → Nat} {σ σ1 : g_S} {v : Int32}, (mR_rule_k53 n).2.2.2 σ v = some (.inl σ1) → g_MetX gCl D dA A s0 b0 l yX9_thing cX9_thing 3 (some .int) (n + 200) (gC hid) ad σ [.ref (ad 53 0), .int v] (gC hid) ad σ1) := by
  intro n
  induction n with
  | zero =>
    intro D dA A s0 b0 l hlt hid
    refine ⟨?_, ?_, ?_, ?_, ?_, ?_, ?_, ?_⟩
    · intro _ _ _ _ _ h; cases h
    · intro _ _ _ _ h; cases h
    · intro _ _ _ _ _ h; cases h
    · intro _ _ _ _ h; cases h
    · intro _ _ _ _ _ h; cases h
    · intro _ _ _ _ h; cases h
    · intro _ _ _ _ _ h; cases h
    · intro _ _ _ _ h; cases h
  | succ n ih =>
    intro D dA A s0 b0 l hlt hid
    refine ⟨?_, ?_, ?_, ?_, ?_, ?_, ?_, ?_⟩
    · intro ad σ σ1 v r h
      exact g_Met.of2 pl_X9 (Nat.le_of_ble_eq_true rfl) (fun X C hQ hR _ _ hL hnm es eb el hT => by subst el; exact mw_C9_held_k53 C hR hL hlt hT (fun hl1 _ _ _ _ _ h => (ih hl1).1 h) (fun hl1 _ _ _ _ h => (ih hl1).2.1 h) (fun hl1 _ _ _ _ _ h => (ih hl1).2.2.1 h) (fun hl1 _ _ _ _ h => (ih hl1).2.2.2.1 h) (fun hl1 _ _ _ _ _ h => (ih hl1).2.2.2.2.1 h) (fun hl1 _ _ _ _ h => (ih hl1).2.2.2.2.2.1 h) (fun hl1 _ _ _ _ _ h => (ih hl1).2.2.2.2.2.2.1 h) (fun hl1 _ _ _ _ h => (ih hl1).2.2.2.2.2.2.2 h) h hQ trivial)
    · intro ad σ σ1 v h
      exact g_MetX.of pl_X9 (Nat.le_of_ble_eq_true rfl) (fun X C hQ hR hmc hms hL hnm es eb el hT => by subst el; exact mw_C9_held_k53 C hR hL hlt hT (fun hl1 _ _ _ _ _ h => (ih hl1).1 h) (fun hl1 _ _ _ _ h => (ih hl1).2.1 h) (fun hl1 _ _ _ _ _ h => (ih hl1).2.2.1 h) (fun hl1 _ _ _ _ h => (ih hl1).2.2.2.1 h) (fun hl1 _ _ _ _ _ h => (ih hl1).2.2.2.2.1 h) (fun hl1 _ _ _ _ h => (ih hl1).2.2.2.2.2.1 h) (fun hl1 _ _ _ _ _ h => (ih hl1).2.2.2.2.2.2.1 h) (fun hl1 _ _ _ _ h => (ih hl1).2.2.2.2.2.2.2 h) h hQ ⟨Nat.le_of_eq hmc.symm, Nat.le_of_eq hms.symm, by rw [hR]; exact Nat.le_refl _, by rw [hR]; exact Nat.le_refl _⟩)
    · intro ad σ σ1 v r h
      exact g_Met.of2 pl_X9 (Nat.le_of_ble_eq_true rfl) (fun X C hQ hR _ _ hL hnm es eb el hT => by subst el; exact mw_C9_sum_k53 C hR hL hlt hT (fun hl1 _ _ _ _ _ h => (ih hl1).1 h) (fun hl1 _ _ _ _ h => (ih hl1).2.1 h) (fun hl1 _ _ _ _ _ h => (ih hl1).2.2.1 h) (fun hl1 _ _ _ _ h => (ih hl1).2.2.2.1 h) (fun hl1 _ _ _ _ _ h => (ih hl1).2.2.2.2.1 h) (fun hl1 _ _ _ _ h => (ih hl1).2.2.2.2.2.1 h) (fun hl1 _ _ _ _ _ h => (ih hl1).2.2.2.2.2.2.1 h) (fun hl1 _ _ _ _ h => (ih hl1).2.2.2.2.2.2.2 h) h hQ trivial)
    · intro ad σ σ1 v h
      exact g_MetX.of pl_X9 (Nat.le_of_ble_eq_true rfl) (fun X C hQ hR hmc hms hL hnm es eb el hT => by subst el; exact mw_C9_sum_k53 C hR hL hlt hT (fun hl1 _ _ _ _ _ h => (ih hl1).1 h) (fun hl1 _ _ _ _ h => (ih hl1).2.1 h) (fun hl1 _ _ _ _ _ h => (ih hl1).2.2.1 h) (fun hl1 _ _ _ _ h => (ih hl1).2.2.2.1 h) (fun hl1 _ _ _ _ _ h => (ih hl1).2.2.2.2.1 h) (fun hl1 _ _ _ _ h => (ih hl1).2.2.2.2.2.1 h) (fun hl1 _ _ _ _ _ h => (ih hl1).2.2.2.2.2.2.1 h) (fun hl1 _ _ _ _ h => (ih hl1).2.2.2.2.2.2.2 h) h hQ ⟨Nat.le_of_eq hmc.symm, Nat.le_of_eq hms.symm, by rw [hR]; exact Nat.le_refl _, by rw [hR]; exact Nat.le_refl _⟩)
    · intro ad σ σ1 v r h
      exact g_Met.of2 pl_X9 (Nat.le_of_ble_eq_true rfl) (fun X C hQ hR _ _ hL hnm es eb el hT => by subst el; exact mw_C9_product_k53 C hR hL hlt hT (fun hl1 _ _ _ _ _ h => (ih hl1).1 h) (fun hl1 _ _ _ _ h => (ih hl1).2.1 h) (fun hl1 _ _ _ _ _ h => (ih hl1).2.2.1 h) (fun hl1 _ _ _ _ h => (ih hl1).2.2.2.1 h) (fun hl1 _ _ _ _ _ h => (ih hl1).2.2.2.2.1 h) (fun hl1 _ _ _ _ h => (ih hl1).2.2.2.2.2.1 h) (fun hl1 _ _ _ _ _ h => (ih hl1).2.2.2.2.2.2.1 h) (fun hl1 _ _ _ _ h => (ih hl1).2.2.2.2.2.2.2 h) h hQ trivial)
    · intro ad σ σ1 v h
      exact g_MetX.of pl_X9 (Nat.le_of_ble_eq_true rfl) (fun X C hQ hR hmc hms hL hnm es eb el hT => by subst el; exact mw_C9_product_k53 C hR hL hlt hT (fun hl1 _ _ _ _ _ h => (ih hl1).1 h) (fun hl1 _ _ _ _ h => (ih hl1).2.1 h) (fun hl1 _ _ _ _ _ h => (ih hl1).2.2.1 h) (fun hl1 _ _ _ _ h => (ih hl1).2.2.2.1 h) (fun hl1 _ _ _ _ _ h => (ih hl1).2.2.2.2.1 h) (fun hl1 _ _ _ _ h => (ih hl1).2.2.2.2.2.1 h) (fun hl1 _ _ _ _ _ h => (ih hl1).2.2.2.2.2.2.1 h) (fun hl1 _ _ _ _ h => (ih hl1).2.2.2.2.2.2.2 h) h hQ ⟨Nat.le_of_eq hmc.symm, Nat.le_of_eq hms.symm, by rw [hR]; exact Nat.le_refl _, by rw [hR]; exact Nat.le_refl _⟩)
    · intro ad σ σ1 v r h
      exact g_Met.of2 pl_X9 (Nat.le_of_ble_eq_true rfl) (fun X C hQ hR _ _ hL hnm es eb el hT => by subst el; exact mw_C9_thing_k53 C hR hL hlt hT (fun hl1 _ _ _ _ _ h => (ih hl1).1 h) (fun hl1 _ _ _ _ h => (ih hl1).2.1 h) (fun hl1 _ _ _ _ _ h => (ih hl1).2.2.1 h) (fun hl1 _ _ _ _ h => (ih hl1).2.2.2.1 h) (fun hl1 _ _ _ _ _ h => (ih hl1).2.2.2.2.1 h) (fun hl1 _ _ _ _ h => (ih hl1).2.2.2.2.2.1 h) (fun hl1 _ _ _ _ _ h => (ih hl1).2.2.2.2.2.2.1 h) (fun hl1 _ _ _ _ h => (ih hl1).2.2.2.2.2.2.2 h) h hQ trivial)
    · intro ad σ σ1 v h
      exact g_MetX.of pl_X9 (Nat.le_of_ble_eq_true rfl) (fun X C hQ hR hmc hms hL hnm es eb el hT => by subst el; exact mw_C9_thing_k53 C hR hL hlt hT (fun hl1 _ _ _ _ _ h => (ih hl1).1 h) (fun hl1 _ _ _ _ h => (ih hl1).2.1 h) (fun hl1 _ _ _ _ _ h => (ih hl1).2.2.1 h) (fun hl1 _ _ _ _ h => (ih hl1).2.2.2.1 h) (fun hl1 _ _ _ _ _ h => (ih hl1).2.2.2.2.1 h) (fun hl1 _ _ _ _ h => (ih hl1).2.2.2.2.2.1 h) (fun hl1 _ _ _ _ _ h => (ih hl1).2.2.2.2.2.2.1 h) (fun hl1 _ _ _ _ h => (ih hl1).2.2.2.2.2.2.2 h) h hQ ⟨Nat.le_of_eq hmc.symm, Nat.le_of_eq hms.symm, by rw [hR]; exact Nat.le_refl _, by rw [hR]; exact Nat.le_refl _⟩)
theorem ct_held_k53 {D : va_G} {dA : Nat → ClassId} {A : Nat → Prop} {s0 : State} {b0 : Nat} {l : Launch} {hid : Bool} (hlt : l.stackTraces = false) {ad : Nat → Nat → Nat} {σ σ1 : g_S} {v r : Int32} (h : mC_held_k53 σ v = some (.inr (r, σ1))) : g_Met gCl D dA A s0 b0 l yX9_held cX9_held 3 (some .int) 300 (0, 0) (gC hid) ad σ [.ref (ad 53 0), .int v] (gC hid) ad σ1 (some (.int r)) := (ctr_rule_k53 100 hlt).1 h
theorem cx_held_k53 {D : va_G} {dA : Nat → ClassId} {A : Nat → Prop} {s0 : State} {b0 : Nat} {l : Launch} {hid : Bool} (hlt : l.stackTraces = false) {ad : Nat → Nat → Nat} {σ σ1 : g_S} {v : Int32} (h : mC_held_k53 σ v = some (.inl σ1)) : g_MetX gCl D dA A s0 b0 l yX9_held cX9_held 3 (some .int) 300 (gC hid) ad σ [.ref (ad 53 0), .int v] (gC hid) ad σ1 := (ctr_rule_k53 100 hlt).2.1 h
theorem ml_C1_sign_16 {X : g_F} {hid : Bool} (C : g_M gCl X cX1_sign RX1 (some .int)) (hR : g_R X = g_rm 1 0 0) (hL : g_nL X = 3) {ad : Nat → Nat → Nat} {σ : g_S} {v1 : Int32} (n : Nat) (v : (Int32 × g_S)) (e : g_S) (h : g_lp (fun v => mB_C1_sign_16 v.2 v1 v.1) n v = some e) (kx : g_Y gCl X (gC hid) ad e (0, 0) 49 [(0, .ref (ad 0 0))] []) : g_Y gCl X (gC hid) ad v.2 (0, 0) 16 [(0, .ref (ad 0 0)), (1, .int v1), (2, .int v.1)] [] := by
  refine g_loop (P := fun v => g_Y gCl X (gC hid) ad v.2 (0, 0) 16 [(0, .ref (ad 0 0)), (1, .int v1), (2, .int v.1)] []) (T := fun e => g_Y gCl X (gC hid) ad e (0, 0) 49 [(0, .ref (ad 0 0))] []) ?_ n v e h kx
  clear h kx
  clear n v e
  intro v o h kl kx
  obtain ⟨v2, σ⟩ := v
  have h : mB_C1_sign_16 σ v1 v2 = some o := h
  unfold mB_C1_sign_16 at h
  show g_Y gCl X (gC hid) ad σ (0, 0) 16 [(0, .ref (ad 0 0)), (1, .int v1), (2, .int v2)] []
  refine y_iload_n C dX1_sign_16 2 rfl rfl ?_
  refine y_if_lt (tgt := 49) C dX1_sign_17 rfl (fun hc => ?_) (fun hc => ?_)
  · replace h := g_it h hc
    refine y_sub (vs2 := [(0, .ref (ad 0 0))]) [0] rfl ?_
    exact kx _ (Option.some.inj h).symm
  · replace h := g_if h hc
    refine y_aload_n C dX1_sign_20 0 rfl rfl ?_
    refine gf_C_X1_102_0 C nC_0_0 dX1_sign_21 ?_
    refine y_aload_n C dX1_sign_24 0 rfl rfl ?_
    refine gf_C_X1_160_0 C nC_0_0 dX1_sign_25 ?_
    refine y_iload_n C dX1_sign_28 1 rfl rfl ?_
    refine y_iload_n C dX1_sign_29 2 rfl rfl ?_
    refine y_ishr C dX1_sign_30 ?_
    refine y_i2b C dX1_sign_31 ?_
    obtain ⟨hg, h⟩ := g_gd h
    obtain ⟨σ1, hσ1, h⟩ := g_lt h
    refine as_C_12 C nC_12_0 hσ1 hg dX1_sign_32 ?_
    refine y_aload_n C dX1_sign_33 0 rfl rfl ?_
    refine y_dup C dX1_sign_34 rfl ?_
    refine gf_C_X1_160_0 C nC_0_0 dX1_sign_35 ?_
    refine y_iconst (v := (1 : Int32)) C dX1_sign_38 (by decide) ?_
    refine y_iadd C dX1_sign_39 ?_
    obtain ⟨σ2, hσ2, h⟩ := g_lt h
    refine pf_C_X1_160_0 C nC_0_0 hσ2 dX1_sign_40 ?_
    obtain ⟨x3, hx3, h⟩ := g_lt h
    refine y_iinc (c := (-8 : Int32)) (vs1 := [(2, .int x3), (0, .ref (ad 0 0)), (1, .int v1)]) C hx3 (by decide) dX1_sign_43 2 rfl (g_lL hL rfl) rfl ?_
    refine y_goto (tgt := 16) C dX1_sign_46 rfl ?_
    refine y_sub (vs2 := [(0, .ref (ad 0 0)), (1, .int v1), (2, .int x3)]) [1, 2, 0] rfl ?_
    exact kl _ (Option.some.inj h).symm
theorem mw_C1_sign {X : g_F} {hid : Bool} (C : g_M gCl X cX1_sign RX1 (some .int)) (hR : g_R X = g_rm 1 0 0) (hL : g_nL X = 3) {ad : Nat → Nat → Nat} {σ : g_S} {v1 : Int32} {o : (Int32 × g_S)} (h : mF_C1_sign σ v1 = some o) (hQ : g_MQ gCl X (gC hid) ad o.2 (some (.int o.1)) = g_Q X) : g_Y gCl X (gC hid) ad σ (0, 0) 0 [(0, .ref (ad 0 0)), (1, .int v1)] [] := by
  unfold mF_C1_sign at h
  refine y_aload_n C dX1_sign_0 0 rfl rfl ?_
  refine gf_C_X1_160_0 C nC_0_0 dX1_sign_1 ?_
  refine y_iconst (v := (4 : Int32)) C dX1_sign_4 (by decide) ?_
  refine y_iadd C dX1_sign_5 ?_
  refine y_bipush (v := (80 : Int32)) C dX1_sign_6 (by decide) ?_
  refine y_icmp_le (tgt := 13) C dX1_sign_8 rfl (fun hc => ?_) (fun hc => ?_)
  · replace h := g_it h hc
    refine y_bipush (v := (24 : Int32)) C dX1_sign_13 (by decide) ?_
    refine y_istore_n (vs1 := [(2, .int (24 : Int32)), (0, .ref (ad 0 0)), (1, .int v1)]) C rfl dX1_sign_15 rfl (g_lL hL rfl) rfl ?_
    refine y_sub (vs2 := [(0, .ref (ad 0 0)), (1, .int v1), (2, .int (24 : Int32))]) [1, 2, 0] rfl ?_
    obtain ⟨e4, he4, h⟩ := g_bd h
    refine ml_C1_sign_16 C hR hL (σ := σ) _ _ _ he4 ?_
    refine y_aload_n C dX1_sign_49 0 rfl rfl ?_
    refine gf_C_X1_160_0 C nC_0_0 dX1_sign_50 ?_
    replace h := Option.some.inj h; subst h
    exact y_iret C hQ ⟨Nat.zero_le _, Nat.zero_le _⟩ dX1_sign_53
  · replace h := g_if h hc
    refine y_iconst (v := (-1 : Int32)) C dX1_sign_11 (by decide) ?_
    replace h := Option.some.inj h; subst h
    exact y_iret C hQ ⟨Nat.zero_le _, Nat.zero_le _⟩ dX1_sign_12
theorem ct_C1_sign {D : va_G} {dA : Nat → ClassId} {A : Nat → Prop} {s0 : State} {b0 : Nat} {l : Launch} {hid : Bool} {ad : Nat → Nat → Nat} {σ : g_S} {v1 : Int32} {r : Int32} {σ1 : g_S} (h : mF_C1_sign σ v1 = some (r, σ1)) : g_Met gCl D dA A s0 b0 l yX1_sign cX1_sign 3 (some .int) 1 (0, 0) (gC hid) ad σ [.ref (ad 0 0), .int v1] (gC hid) ad σ1 (some (.int r)) :=
  g_Met.of pl_X1 (Nat.le_of_ble_eq_true rfl) (fun X C hQ hR _ _ hL _ es eb => mw_C1_sign C hR hL h hQ)
theorem mw_C1_end {X : g_F} {hid : Bool} (C : g_M gCl X cX1_end RX1 (some .boolean)) (hR : g_R X = g_rm 2 0 0) (hL : g_nL X = 2) {ad : Nat → Nat → Nat} {σ : g_S} {v1 : Int32} {o : (Int32 × g_S)} (h : mF_C1_end σ v1 = some o) (hQ : g_MQ gCl X (gC hid) ad o.2 (some (.int o.1)) = g_Q X) : g_Y gCl X (gC hid) ad σ (0, 0) 0 [(0, .ref (ad 0 0)), (1, .int v1)] [] := by
  unfold mF_C1_end at h
  refine y_iload_n C dX1_end_0 1 rfl rfl ?_
  refine y_i2l C dX1_end_1 ?_
  refine y_lconst (v := (0 : Int64)) C dX1_end_2 (by decide) ?_
  refine y_aload_n C dX1_end_3 0 rfl rfl ?_
  refine gf_C_X1_160_0 C nC_0_0 dX1_end_4 ?_
  refine y_i2l C dX1_end_7 ?_
  obtain ⟨x1, hc, h⟩ := g_bd h
  refine y_callS C (As := [.long (v1.toInt64), .long (0 : Int64), .long ((σ.1 0 0 16).toInt64)]) (rest := []) (lk_X1_146_l1 C hR (by decide)) (ct_C1_in hc) rfl rfl (Nat.le_of_ble_eq_true rfl) ⟨Nat.zero_le _, Nat.zero_le _⟩ dX1_end_8 ?_
  refine y_if_ne (tgt := 16) C dX1_end_11 rfl (fun hc => ?_) (fun hc => ?_)
  · replace h := g_if h hc
    refine y_aload_n C dX1_end_16 0 rfl rfl ?_
    refine y_iload_n C dX1_end_17 1 rfl rfl ?_
    obtain ⟨σ2, hσ2, h⟩ := g_lt h
    refine pf_C_X1_160_0 C nC_0_0 hσ2 dX1_end_18 ?_
    refine y_iconst (v := (1 : Int32)) C dX1_end_21 (by decide) ?_
    replace h := Option.some.inj h; subst h
    exact y_zret C (by decide) hQ ⟨Nat.zero_le _, Nat.zero_le _⟩ dX1_end_22
  · replace h := g_it h hc
    refine y_iconst (v := (0 : Int32)) C dX1_end_14 (by decide) ?_
    replace h := Option.some.inj h; subst h
    exact y_zret C (by decide) hQ ⟨Nat.zero_le _, Nat.zero_le _⟩ dX1_end_15
theorem ct_C1_end {D : va_G} {dA : Nat → ClassId} {A : Nat → Prop} {s0 : State} {b0 : Nat} {l : Launch} {hid : Bool} {ad : Nat → Nat → Nat} {σ : g_S} {v1 : Int32} {r : Int32} {σ1 : g_S} (h : mF_C1_end σ v1 = some (r, σ1)) : g_Met gCl D dA A s0 b0 l yX1_end cX1_end 2 (some .boolean) 2 (0, 0) (gC hid) ad σ [.ref (ad 0 0), .int v1] (gC hid) ad σ1 (some (.int r)) :=
  g_Met.of pl_X1 (Nat.le_of_ble_eq_true rfl) (fun X C hQ hR _ _ hL _ es eb => mw_C1_end C hR hL h hQ)
theorem mw_C7_init_k40_12 {X : g_F} {hid : Bool} (C : g_M gCl X cX7_init RX7 none) (hR : g_R X = g_rm 1 0 0) (hL : g_nL X = 4) (hnm : (g_me X).name = "<init>") {ad : Nat → Nat → Nat} {σ : g_S} {v2 : Int32} {v3 : Int32} {o : g_S} (h : mF_C7_init_k40_12 σ v2 v3 = some o) (hQ : g_MQ gCl X (gC hid) ad o none = g_Q X) : g_Y gCl X (gC hid) ad σ (0, 0) 0 [(0, .ref (ad 40 0)), (1, .ref (ad 12 0)), (2, .int v2), (3, .int v3)] [] := by
  unfold mF_C7_init_k40_12 at h
  refine y_aload_n C dX7_init_0 0 rfl rfl ?_
  refine y_objInit C q356 q142 q143 dX7_init_1 (g_rmM hR (Nat.le_of_ble_eq_true rfl)).1 (Nat.le_trans (by decide) (g_rmM hR (Nat.le_of_ble_eq_true rfl)).2) (by decide) ?_
  refine y_aload_n C dX7_init_4 0 rfl rfl ?_
  refine y_aload_n C dX7_init_5 1 rfl rfl ?_
  obtain ⟨hp, h⟩ := g_gd h
  obtain ⟨σ1, hσ1, h⟩ := g_lt h
  refine pf_C_X7_9_40 C nC_40_0 hp hnm hσ1 dX7_init_6 ?_
  refine y_aload_n C dX7_init_9 0 rfl rfl ?_
  refine y_iload_n C dX7_init_10 2 rfl rfl ?_
  obtain ⟨hp, h⟩ := g_gd h
  obtain ⟨σ2, hσ2, h⟩ := g_lt h
  refine pf_C_X7_15_40 C nC_40_0 hp hnm hσ2 dX7_init_11 ?_
  refine y_aload_n C dX7_init_14 0 rfl rfl ?_
  refine y_iload_n C dX7_init_15 2 rfl rfl ?_
  refine y_iload_n C dX7_init_16 3 rfl rfl ?_
  refine y_mmin C q357 (g_rmM hR (by decide)) (Nat.le_of_ble_eq_true rfl) ⟨Nat.zero_le _, Nat.zero_le _⟩ dX7_init_17 ?_
  obtain ⟨hp, h⟩ := g_gd h
  obtain ⟨σ3, hσ3, h⟩ := g_lt h
  refine pf_C_X7_25_40 C nC_40_0 hp hnm hσ3 dX7_init_20 ?_
  replace h := Option.some.inj h; subst h
  exact y_vret C hQ ⟨Nat.zero_le _, Nat.zero_le _⟩ dX7_init_23
theorem ct_C7_init_k40_12 {D : va_G} {dA : Nat → ClassId} {A : Nat → Prop} {s0 : State} {b0 : Nat} {l : Launch} {hid : Bool} {ad : Nat → Nat → Nat} {σ : g_S} {v2 : Int32} {v3 : Int32} {σ1 : g_S} (h : mF_C7_init_k40_12 σ v2 v3 = some σ1) : g_Met gCl D dA A s0 b0 l yX7_init cX7_init 4 none 1 (0, 0) (gC hid) ad σ [.ref (ad 40 0), .ref (ad 12 0), .int v2, .int v3] (gC hid) ad σ1 none :=
  g_Met.of pl_X7 (Nat.le_of_ble_eq_true rfl) (fun X C hQ hR _ _ hL hnm es eb => mw_C7_init_k40_12 C hR hL hnm h hQ)
theorem mw_C1_words {X : g_F} {hid : Bool} (C : g_M gCl X cX1_words RX1 (some (.object "BonnetValley$Words"))) (hR : g_R X = g_rm 2 1 4) (hL : g_nL X = 3) (hmc : g_mc X = 1 ∧ g_ms X = 4) {ad : Nat → Nat → Nat} {σ : g_S} {v1 : Int32} {o : g_S} (h : mF_C1_words σ v1 = some o) (hQ : g_MQG gCl X (gC hid) (fun v ad2 s2 => v = some (.ref (ad2 40 0)) ∧ s2 = o ∧ ∃ q0, ad2 = (g_ua ad 40 0 q0)) (fun _ _ _ _ => False) = g_Q X) : g_Y gCl X (gC hid) ad σ (0, 0) 0 [(0, .ref (ad 0 0)), (1, .int v1)] [] := by
  unfold mF_C1_words at h
  obtain ⟨σ1, hσ1, h⟩ := g_lt h
  refine y_new (σ1 := σ1) (fs := [.null, .int 0, .int 0, .int 0]) C 40 0 in_X7 tyX7 tyX7_ok q351 q352 q116 (rfl : gCl[6]? = _) (fun j hj => by rcases (show j = 0 ∨ j = 1 ∨ j = 2 ∨ j = 3 by omega) with rfl | rfl | rfl | rfl <;> rfl) (by rw [hR]; exact ⟨Nat.le_of_ble_eq_true rfl, Nat.le_of_ble_eq_true rfl⟩) dX1_words_0 (by rw [hσ1]; exact fr_40) (fun q => by rw [hσ1]; exact me_40) (fun q2 => ?_)
  have hq2 : (g_ua ad 40 0 q2) 40 0 = q2 := g_ua_s
  suffices key : g_Y gCl X (gC hid) (g_ua ad 40 0 q2) σ1 (1, 4) 3 [(0, .ref ((g_ua ad 40 0 q2) 0 0)), (1, .int v1)] [.ref ((g_ua ad 40 0 q2) 40 0)] by rw [hq2] at key; exact key
  refine y_dup C dX1_words_3 rfl ?_
  refine y_aload_n C dX1_words_4 0 rfl rfl ?_
  refine gf_C_X1_102_0 C nC_0_0 dX1_words_5 ?_
  refine y_aload_n C dX1_words_8 0 rfl rfl ?_
  refine gf_C_X1_160_0 C nC_0_0 dX1_words_9 ?_
  refine y_iload_n C dX1_words_12 1 rfl rfl ?_
  obtain ⟨σ3, hc, h⟩ := g_bd h
  refine y_callIv C (As := [.ref ((g_ua ad 40 0 q2) 12 0), .int (σ1.1 0 0 16), .int v1]) (rest := [.ref ((g_ua ad 40 0 q2) 40 0)]) (lk_X1_163_X7_l1 C hR (by decide)) (ct_C7_init_k40_12 hc) rfl rfl (Nat.le_of_ble_eq_true rfl) (by rw [hR]; exact ⟨Nat.le_of_ble_eq_true rfl, Nat.le_of_ble_eq_true rfl⟩) dX1_words_13 ?_
  refine y_astore_n (vs1 := [(2, .ref ((g_ua ad 40 0 q2) 40 0)), (0, .ref ((g_ua ad 40 0 q2) 0 0)), (1, .int v1)]) C rfl dX1_words_16 rfl (g_lL hL rfl) rfl ?_
  refine y_aload_n C dX1_words_17 1 rfl rfl ?_
  refine y_iconst (v := (0 : Int32)) C dX1_words_18 (by decide) ?_
  obtain ⟨σ4, hσ4, h⟩ := g_lt h
  refine pf_C_X1_160_0 C nC_0_0 hσ4 dX1_words_19 ?_
  refine y_aload_n C dX1_words_22 0 rfl rfl ?_
  replace h := Option.some.inj h; subst h
  exact y_aretG C (Or.inl ⟨_, rfl⟩) (Or.inr ⟨_, rfl⟩) hQ ⟨rfl, rfl, _, rfl⟩ (by rw [hmc.1, hmc.2]; exact ⟨Nat.le_of_ble_eq_true rfl, Nat.le_of_ble_eq_true rfl⟩) dX1_words_23
theorem ct_C1_words {D : va_G} {dA : Nat → ClassId} {A : Nat → Prop} {s0 : State} {b0 : Nat} {l : Launch} {hid : Bool} {ad : Nat → Nat → Nat} {σ : g_S} {v1 : Int32}{σ1 : g_S} (h : mF_C1_words σ v1 = some σ1) : g_MetG gCl D dA A s0 b0 l yX1_words (ws_ yX1_words cX1_words 3 (some (.object "BonnetValley$Words"))) 2 (1, 4) (gC hid) ad σ [.ref (ad 0 0), .int v1] (gC hid) (fun v ad2 s2 => v = some (.ref (ad2 40 0)) ∧ s2 = σ1 ∧ ∃ q0, ad2 = (g_ua ad 40 0 q0)) (fun _ _ _ _ => False) :=
  g_MetG.of pl_X1 (Nat.le_of_ble_eq_true rfl) (fun X C hQ hR hmc hms hL hnm es eb el hT => mw_C1_words C hR hL ⟨hmc, hms⟩ h hQ)
theorem mw_C7_here_k40 {X : g_F} {hid : Bool} (C : g_M gCl X cX7_here RX7 (some .int)) (hR : g_R X = g_rm 1 0 0) (hL : g_nL X = 1) {ad : Nat → Nat → Nat} {σ : g_S} {o : Int32} (h : mF_C7_here_k40 σ = some o) (hQ : g_MQ gCl X (gC hid) ad σ (some (.int o)) = g_Q X) : g_Y gCl X (gC hid) ad σ (0, 0) 0 [(0, .ref (ad 40 0))] [] := by
  unfold mF_C7_here_k40 at h
  refine y_aload_n C dX7_here_0 0 rfl rfl ?_
  obtain ⟨hp, h⟩ := g_gd h
  refine gf_C_X7_28_40 C nC_40_0 hp dX7_here_1 ?_
  refine y_aload_n C dX7_here_4 0 rfl rfl ?_
  obtain ⟨hp, h⟩ := g_gd h
  refine gf_C_X7_25_40 C nC_40_0 hp dX7_here_5 ?_
  refine y_icmp_ge (tgt := 27) C dX7_here_8 rfl (fun hc => ?_) (fun hc => ?_)
  · replace h := g_it h hc
    refine y_iconst (v := (-1 : Int32)) C dX7_here_27 (by decide) ?_
    replace h := Option.some.inj h; subst h
    exact y_iret C hQ ⟨Nat.zero_le _, Nat.zero_le _⟩ dX7_here_28
  · replace h := g_if h hc
    refine y_aload_n C dX7_here_11 0 rfl rfl ?_
    obtain ⟨hp, h⟩ := g_gd h
    refine gf_C_X7_9_40 C nC_40_0 hp dX7_here_12 ?_
    refine y_aload_n C dX7_here_15 0 rfl rfl ?_
    obtain ⟨hp, h⟩ := g_gd h
    refine gf_C_X7_28_40 C nC_40_0 hp dX7_here_16 ?_
    obtain ⟨hg, h⟩ := g_gd h
    refine al_C_12 C nC_12_0 hg dX7_here_19 ?_
    refine y_sipush (v := (255 : Int32)) C dX7_here_20 (by decide) ?_
    refine y_iand C dX7_here_23 ?_
    refine y_goto (tgt := 28) C dX7_here_24 rfl ?_
    replace h := Option.some.inj h; subst h
    exact y_iret C hQ ⟨Nat.zero_le _, Nat.zero_le _⟩ dX7_here_28
theorem ct_C7_here_k40 {D : va_G} {dA : Nat → ClassId} {A : Nat → Prop} {s0 : State} {b0 : Nat} {l : Launch} {hid : Bool} {ad : Nat → Nat → Nat} {σ : g_S} {r : Int32} (h : mF_C7_here_k40 σ = some r) : g_Met gCl D dA A s0 b0 l yX7_here cX7_here 1 (some .int) 1 (0, 0) (gC hid) ad σ [.ref (ad 40 0)] (gC hid) ad σ (some (.int r)) :=
  g_Met.of pl_X7 (Nat.le_of_ble_eq_true rfl) (fun X C hQ hR _ _ hL _ es eb => mw_C7_here_k40 C hR hL h hQ)
theorem mw_C7_need_k40 {X : g_F} {ck sk : Nat} {hid : Bool} (C : g_M gCl X cX7_need RX7 none) (hR : g_R X = g_rm 6 ck sk) (hL : g_nL X = 2) (hlt : (g_l X).stackTraces = false) (hT : (g_c X).exceptionTable.toList = []) {ad : Nat → Nat → Nat} {σ : g_S} {v1 : Int32} {o : (g_S ⊕ g_S)} (h : mF_C7_need_k40 σ v1 = some o) (hQ : Sum.elim (fun z => g_MQX gCl X (gC hid) ad z) (fun z => g_MQ gCl X (gC hid) ad z none) o = g_Q X) (hw : Sum.elim (fun _ => 1 ≤ g_mc X ∧ 7 ≤ g_ms X ∧ 1 ≤ (g_R X).cells ∧ 7 ≤ (g_R X).slots) (fun _ => True) o) : g_Y gCl X (gC hid) ad σ (0, 0) 0 [(0, .ref (ad 40 0)), (1, .int v1)] [] := by
  unfold mF_C7_need_k40 at h
  refine y_iload_n C dX7_need_0 1 rfl rfl ?_
  refine y_if_ne (tgt := 16) C dX7_need_1 rfl (fun hc => ?_) (fun hc => ?_)
  · replace h := g_if h hc
    replace h := Option.some.inj h; subst h
    exact y_vret C hQ ⟨Nat.zero_le _, Nat.zero_le _⟩ dX7_need_16
  · replace h := g_it h hc
    obtain ⟨hp, h⟩ := g_gd h
    obtain ⟨x2, hx2, h⟩ := g_lt h
    obtain ⟨σ1, hσ1, h⟩ := g_lt h
    replace h := Option.some.inj h
    have hQ1 := hQ
    have hw1 := hw
    rw [← h] at hQ1 hw1
    refine y_newFault (v := x2) (σ1 := σ1) C hlt (rfl : gCl[10]? = _) nC_52_0 q403 (lkf_X7_33 C hR (by decide)) (Nat.le_of_ble_eq_true rfl) ⟨hw1.2.2.1, hw1.2.2.2⟩ dX7_need_4 dX7_need_7 dX7_need_12 fr_52 (fun q => me_52) (fun q => by rw [hσ1]; exact me1_52) (by rw [hσ1]; exact ho_52) (fun H locs ls q c s hW hS hl k => by rw [hx2] at k; exact lv_aload_n C.1 C.2.1 dX7_need_8 rfl (lv_at hl 0 rfl) (va_get C.1 C.2.1 C.2.2.2.2.1 in_X7 C.2.2.2.1 C.2.2.2.2.2.2.2.2.1 (hW.at nC_40_0 (if_neg hp)) 0 rfl (rfl : gCl[6]? = _) 3 (by decide) (C.2.2.2.2.1 _ q366) (fun x h => h) rfl dX7_need_9 (k))) (fun q => ?_)
    have hq : g_ua ad 52 0 q 52 0 = q := g_ua_s
    suffices key : g_Y gCl X (gC hid) (g_ua ad 52 0 q) σ1 (1, 7) 15 [(0, .ref (ad 40 0)), (1, .int v1)] [.ref (g_ua ad 52 0 q 52 0)] by rw [hq] at key; exact key
    refine y_athrow C nC_52_0 (rfl : gCl[10]? = _) (by rw [hσ1]; exact me1_52) dX7_need_15 ?_
    rw [hq]
    exact y_outX C hT hQ1 ⟨hw1.1, hw1.2.1⟩
theorem ct_C7_need_k40 {D : va_G} {dA : Nat → ClassId} {A : Nat → Prop} {s0 : State} {b0 : Nat} {l : Launch} {hid : Bool} (hlt : l.stackTraces = false) {ad : Nat → Nat → Nat} {σ : g_S} {v1 : Int32}{σ1 : g_S} (h : mF_C7_need_k40 σ v1 = some (.inr σ1)) : g_Met gCl D dA A s0 b0 l yX7_need cX7_need 2 none 6 (0, 0) (gC hid) ad σ [.ref (ad 40 0), .int v1] (gC hid) ad σ1 none :=
  g_Met.of2 pl_X7 (Nat.le_of_ble_eq_true rfl) (fun X C hQ hR _ _ hL hnm es eb el hT => mw_C7_need_k40 C hR hL (by rw [el]; exact hlt) hT h hQ trivial)
theorem cx_C7_need_k40 {D : va_G} {dA : Nat → ClassId} {A : Nat → Prop} {s0 : State} {b0 : Nat} {l : Launch} {hid : Bool} (hlt : l.stackTraces = false) {ad : Nat → Nat → Nat} {σ : g_S} {v1 : Int32} {σ1 : g_S} (h : mF_C7_need_k40 σ v1 = some (.inl σ1)) : g_MetX gCl D dA A s0 b0 l yX7_need cX7_need 2 none 6 (gC hid) ad σ [.ref (ad 40 0), .int v1] (gC hid) ad σ1 :=
  g_MetX.of pl_X7 (Nat.le_of_ble_eq_true rfl) (fun X C hQ hR hmc hms hL hnm es eb el hT => mw_C7_need_k40 C hR hL (by rw [el]; exact hlt) hT h hQ ⟨Nat.le_of_eq hmc.symm, Nat.le_of_eq hms.symm, by rw [hR]; exact Nat.le_refl _, by rw [hR]; exact Nat.le_refl _⟩)
theorem mw_C7_one_k40 {X : g_F} {ck sk : Nat} {hid : Bool} (C : g_M gCl X cX7_one RX7 (some .int)) (hR : g_R X = g_rm 7 ck sk) (hL : g_nL X = 3) (hlt : (g_l X).stackTraces = false) (hT : (g_c X).exceptionTable.toList = []) {ad : Nat → Nat → Nat} {σ : g_S} {v1 : Int32} {v2 : Int32} {o : (g_S ⊕ (Int32 × g_S))} (h : mF_C7_one_k40 σ v1 v2 = some o) (hQ : Sum.elim (fun z => g_MQX gCl X (gC hid) ad z) (fun z => g_MQ gCl X (gC hid) ad z.2 (some (.int z.1))) o = g_Q X) (hw : Sum.elim (fun _ => 1 ≤ g_mc X ∧ 7 ≤ g_ms X ∧ 1 ≤ (g_R X).cells ∧ 7 ≤ (g_R X).slots) (fun _ => True) o) : g_Y gCl X (gC hid) ad σ (0, 0) 0 [(0, .ref (ad 40 0)), (1, .int v1), (2, .int v2)] [] := by
  unfold mF_C7_one_k40 at h
  refine y_aload_n C dX7_one_0 0 rfl rfl ?_
  refine y_aload_n C dX7_one_1 0 rfl rfl ?_
  obtain ⟨hp, h⟩ := g_gd h
  obtain ⟨x1, hc, h⟩ := g_bd h
  refine y_callV C (As := []) (rest := [.ref (ad 40 0)]) (k := 40) (hu := nC_40_0) (hc := (rfl : gCl[6]? = some (RX7, TX7, 4))) (hcell := (obC_40 hp)) (lk_X7_40_X7_l1 C hR (by decide)) (ct_C7_here_k40 hc) rfl rfl (Nat.le_of_ble_eq_true rfl) ⟨Nat.zero_le _, Nat.zero_le _⟩ dX7_one_2 ?_
  refine y_i2l C dX7_one_5 ?_
  refine y_iload_n C dX7_one_6 1 rfl rfl ?_
  refine y_i2l C dX7_one_7 ?_
  refine y_iload_n C dX7_one_8 1 rfl rfl ?_
  refine y_iload_n C dX7_one_9 2 rfl rfl ?_
  refine y_iadd C dX7_one_10 ?_
  refine y_iconst (v := (1 : Int32)) C dX7_one_11 (by decide) ?_
  refine y_isub C dX7_one_12 ?_
  refine y_i2l C dX7_one_13 ?_
  obtain ⟨x2, hc, h⟩ := g_bd h
  refine y_callSN C (As := [.long (x1.toInt64), .long (v1.toInt64), .long (((v1 + v2) - (1 : Int32)).toInt64)]) (rest := [.ref (ad 40 0)]) (lk_X7_44_l1 C hR (by decide)) (ct_C1_in hc) rfl rfl (Nat.le_of_ble_eq_true rfl) ⟨Nat.zero_le _, Nat.zero_le _⟩ dX7_one_14 ?_
  obtain ⟨hp, h⟩ := g_gd h
  rcases g_txE h with ⟨z4, hc, h⟩ | ⟨σ3, hc, h⟩
  · replace h := Option.some.inj h; subst h
    refine y_callVX C (As := [.int x2]) (rest := []) (k := 40) (hu := nC_40_0) (hc := (rfl : gCl[6]? = some (RX7, TX7, 4))) (hcell := (obC_40 hp)) (lk_X7_36_X7x_l6 C hR (by decide)) (cx_C7_need_k40 hlt hc) rfl rfl (Nat.le_of_ble_eq_true rfl) ⟨hw.2.2.1, hw.2.2.2⟩ dX7_one_17 (fun q => ?_)
    exact y_outX C hT hQ ⟨hw.1, hw.2.1⟩
  refine y_callVv C (As := [.int x2]) (rest := []) (k := 40) (hu := nC_40_0) (hc := (rfl : gCl[6]? = some (RX7, TX7, 4))) (hcell := (obC_40 hp)) (lk_X7_36_X7_l6 C hR (by decide)) (ct_C7_need_k40 hlt hc) rfl rfl (Nat.le_of_ble_eq_true rfl) ⟨Nat.zero_le _, Nat.zero_le _⟩ dX7_one_17 ?_
  refine y_aload_n C dX7_one_20 0 rfl rfl ?_
  refine y_dup C dX7_one_21 rfl ?_
  obtain ⟨hp, h⟩ := g_gd h
  refine gf_C_X7_28_40 C nC_40_0 hp dX7_one_22 ?_
  refine y_iconst (v := (1 : Int32)) C dX7_one_25 (by decide) ?_
  refine y_iadd C dX7_one_26 ?_
  obtain ⟨hp, h⟩ := g_gd h
  obtain ⟨σ5, hσ5, h⟩ := g_lt h
  refine pf_C_X7_28_40 C nC_40_0 hp hσ5 dX7_one_27 ?_
  refine y_aload_n C dX7_one_30 0 rfl rfl ?_
  obtain ⟨hp, h⟩ := g_gd h
  refine gf_C_X7_9_40 C nC_40_0 hp dX7_one_31 ?_
  refine y_aload_n C dX7_one_34 0 rfl rfl ?_
  obtain ⟨hp, h⟩ := g_gd h
  refine gf_C_X7_28_40 C nC_40_0 hp dX7_one_35 ?_
  refine y_iconst (v := (1 : Int32)) C dX7_one_38 (by decide) ?_
  refine y_isub C dX7_one_39 ?_
  obtain ⟨hg, h⟩ := g_gd h
  refine al_C_12 C nC_12_0 hg dX7_one_40 ?_
  refine y_iload_n C dX7_one_41 1 rfl rfl ?_
  refine y_isub C dX7_one_42 ?_
  replace h := Option.some.inj h; subst h
  exact y_iret C hQ ⟨Nat.zero_le _, Nat.zero_le _⟩ dX7_one_43
theorem ct_C7_one_k40 {D : va_G} {dA : Nat → ClassId} {A : Nat → Prop} {s0 : State} {b0 : Nat} {l : Launch} {hid : Bool} (hlt : l.stackTraces = false) {ad : Nat → Nat → Nat} {σ : g_S} {v1 : Int32} {v2 : Int32}{r : Int32} {σ1 : g_S} (h : mF_C7_one_k40 σ v1 v2 = some (.inr (r, σ1))) : g_Met gCl D dA A s0 b0 l yX7_one cX7_one 3 (some .int) 7 (0, 0) (gC hid) ad σ [.ref (ad 40 0), .int v1, .int v2] (gC hid) ad σ1 (some (.int r)) :=
  g_Met.of2 pl_X7 (Nat.le_of_ble_eq_true rfl) (fun X C hQ hR _ _ hL hnm es eb el hT => mw_C7_one_k40 C hR hL (by rw [el]; exact hlt) hT h hQ trivial)
theorem cx_C7_one_k40 {D : va_G} {dA : Nat → ClassId} {A : Nat → Prop} {s0 : State} {b0 : Nat} {l : Launch} {hid : Bool} (hlt : l.stackTraces = false) {ad : Nat → Nat → Nat} {σ : g_S} {v1 : Int32} {v2 : Int32} {σ1 : g_S} (h : mF_C7_one_k40 σ v1 v2 = some (.inl σ1)) : g_MetX gCl D dA A s0 b0 l yX7_one cX7_one 3 (some .int) 7 (gC hid) ad σ [.ref (ad 40 0), .int v1, .int v2] (gC hid) ad σ1 :=
  g_MetX.of pl_X7 (Nat.le_of_ble_eq_true rfl) (fun X C hQ hR hmc hms hL hnm es eb el hT => mw_C7_one_k40 C hR hL (by rw [el]; exact hlt) hT h hQ ⟨Nat.le_of_eq hmc.symm, Nat.le_of_eq hms.symm, by rw [hR]; exact Nat.le_refl _, by rw [hR]; exact Nat.le_refl _⟩)
theorem mw_C7_passes_k40 {X : g_F} {hid : Bool} (C : g_M gCl X cX7_passes RX7 (some .boolean)) (hR : g_R X = g_rm 2 0 0) (hL : g_nL X = 2) {ad : Nat → Nat → Nat} {σ : g_S} {v1 : Int32} {o : (Int32 × g_S)} (h : mF_C7_passes_k40 σ v1 = some o) (hQ : g_MQ gCl X (gC hid) ad o.2 (some (.int o.1)) = g_Q X) : g_Y gCl X (gC hid) ad σ (0, 0) 0 [(0, .ref (ad 40 0)), (1, .int v1)] [] := by
  unfold mF_C7_passes_k40 at h
  refine y_aload_n C dX7_passes_0 0 rfl rfl ?_
  obtain ⟨hp, h⟩ := g_gd h
  obtain ⟨x1, hc, h⟩ := g_bd h
  refine y_callV C (As := []) (rest := []) (k := 40) (hu := nC_40_0) (hc := (rfl : gCl[6]? = some (RX7, TX7, 4))) (hcell := (obC_40 hp)) (lk_X7_40_X7_l1 C hR (by decide)) (ct_C7_here_k40 hc) rfl rfl (Nat.le_of_ble_eq_true rfl) ⟨Nat.zero_le _, Nat.zero_le _⟩ dX7_passes_1 ?_
  refine y_iload_n C dX7_passes_4 1 rfl rfl ?_
  refine y_icmp_eq (tgt := 10) C dX7_passes_5 rfl (fun hc => ?_) (fun hc => ?_)
  · replace h := g_it h hc
    refine y_aload_n C dX7_passes_10 0 rfl rfl ?_
    refine y_dup C dX7_passes_11 rfl ?_
    obtain ⟨hp, h⟩ := g_gd h
    refine gf_C_X7_28_40 C nC_40_0 hp dX7_passes_12 ?_
    refine y_iconst (v := (1 : Int32)) C dX7_passes_15 (by decide) ?_
    refine y_iadd C dX7_passes_16 ?_
    obtain ⟨hp, h⟩ := g_gd h
    obtain ⟨σ2, hσ2, h⟩ := g_lt h
    refine pf_C_X7_28_40 C nC_40_0 hp hσ2 dX7_passes_17 ?_
    refine y_iconst (v := (1 : Int32)) C dX7_passes_20 (by decide) ?_
    replace h := Option.some.inj h; subst h
    exact y_zret C (by decide) hQ ⟨Nat.zero_le _, Nat.zero_le _⟩ dX7_passes_21
  · replace h := g_if h hc
    refine y_iconst (v := (0 : Int32)) C dX7_passes_8 (by decide) ?_
    replace h := Option.some.inj h; subst h
    exact y_zret C (by decide) hQ ⟨Nat.zero_le _, Nat.zero_le _⟩ dX7_passes_9
theorem ct_C7_passes_k40 {D : va_G} {dA : Nat → ClassId} {A : Nat → Prop} {s0 : State} {b0 : Nat} {l : Launch} {hid : Bool} {ad : Nat → Nat → Nat} {σ : g_S} {v1 : Int32} {r : Int32} {σ1 : g_S} (h : mF_C7_passes_k40 σ v1 = some (r, σ1)) : g_Met gCl D dA A s0 b0 l yX7_passes cX7_passes 2 (some .boolean) 2 (0, 0) (gC hid) ad σ [.ref (ad 40 0), .int v1] (gC hid) ad σ1 (some (.int r)) :=
  g_Met.of pl_X7 (Nat.le_of_ble_eq_true rfl) (fun X C hQ hR _ _ hL _ es eb => mw_C7_passes_k40 C hR hL h hQ)
theorem mj_C7_needEnd_k40_17 {X : g_F} {ck sk : Nat} {hid : Bool} (C : g_M gCl X cX7_needEnd RX7 none) (hR : g_R X = g_rm 7 ck sk) (hL : g_nL X = 1) (hlt : (g_l X).stackTraces = false) (hT : (g_c X).exceptionTable.toList = []) {ad : Nat → Nat → Nat} {σ : g_S} {s1 : Int32} {o : (g_S ⊕ g_S)} (h : mJ_C7_needEnd_k40_17 σ s1 = some o) (hQ : Sum.elim (fun z => g_MQX gCl X (gC hid) ad z) (fun z => g_MQ gCl X (gC hid) ad z none) o = g_Q X) (hw : Sum.elim (fun _ => 1 ≤ g_mc X ∧ 7 ≤ g_ms X ∧ 1 ≤ (g_R X).cells ∧ 7 ≤ (g_R X).slots) (fun _ => True) o) : g_Y gCl X (gC hid) ad σ (0, 0) 17 [] [.int s1, .ref (ad 40 0)] := by
  unfold mJ_C7_needEnd_k40_17 at h
  obtain ⟨hp, h⟩ := g_gd h
  rcases g_txE h with ⟨z2, hc, h⟩ | ⟨σ1, hc, h⟩
  · replace h := Option.some.inj h; subst h
    refine y_callVX C (As := [.int s1]) (rest := []) (k := 40) (hu := nC_40_0) (hc := (rfl : gCl[6]? = some (RX7, TX7, 4))) (hcell := (obC_40 hp)) (lk_X7_36_X7x_l6 C hR (by decide)) (cx_C7_need_k40 hlt hc) rfl rfl (Nat.le_of_ble_eq_true rfl) ⟨hw.2.2.1, hw.2.2.2⟩ dX7_needEnd_17 (fun q => ?_)
    exact y_outX C hT hQ ⟨hw.1, hw.2.1⟩
  refine y_callVv C (As := [.int s1]) (rest := []) (k := 40) (hu := nC_40_0) (hc := (rfl : gCl[6]? = some (RX7, TX7, 4))) (hcell := (obC_40 hp)) (lk_X7_36_X7_l6 C hR (by decide)) (ct_C7_need_k40 hlt hc) rfl rfl (Nat.le_of_ble_eq_true rfl) ⟨Nat.zero_le _, Nat.zero_le _⟩ dX7_needEnd_17 ?_
  replace h := Option.some.inj h; subst h
  exact y_vret C hQ ⟨Nat.zero_le _, Nat.zero_le _⟩ dX7_needEnd_20
theorem mw_C7_needEnd_k40 {X : g_F} {ck sk : Nat} {hid : Bool} (C : g_M gCl X cX7_needEnd RX7 none) (hR : g_R X = g_rm 7 ck sk) (hL : g_nL X = 1) (hlt : (g_l X).stackTraces = false) (hT : (g_c X).exceptionTable.toList = []) {ad : Nat → Nat → Nat} {σ : g_S} {o : (g_S ⊕ g_S)} (h : mF_C7_needEnd_k40 σ = some o) (hQ : Sum.elim (fun z => g_MQX gCl X (gC hid) ad z) (fun z => g_MQ gCl X (gC hid) ad z none) o = g_Q X) (hw : Sum.elim (fun _ => 1 ≤ g_mc X ∧ 7 ≤ g_ms X ∧ 1 ≤ (g_R X).cells ∧ 7 ≤ (g_R X).slots) (fun _ => True) o) : g_Y gCl X (gC hid) ad σ (0, 0) 0 [(0, .ref (ad 40 0))] [] := by
  unfold mF_C7_needEnd_k40 at h
  refine y_aload_n C dX7_needEnd_0 0 rfl rfl ?_
  refine y_aload_n C dX7_needEnd_1 0 rfl rfl ?_
  obtain ⟨hp, h⟩ := g_gd h
  refine gf_C_X7_28_40 C nC_40_0 hp dX7_needEnd_2 ?_
  refine y_aload_n C dX7_needEnd_5 0 rfl rfl ?_
  obtain ⟨hp, h⟩ := g_gd h
  refine gf_C_X7_15_40 C nC_40_0 hp dX7_needEnd_6 ?_
  refine y_icmp_ne (tgt := 16) C dX7_needEnd_9 rfl (fun hc => ?_) (fun hc => ?_)
  · replace h := g_if h hc
    refine y_iconst (v := (0 : Int32)) C dX7_needEnd_16 (by decide) ?_
    refine y_sub (vs2 := []) [] rfl ?_
    exact mj_C7_needEnd_k40_17 C hR hL hlt hT h hQ hw
  · replace h := g_it h hc
    refine y_iconst (v := (1 : Int32)) C dX7_needEnd_12 (by decide) ?_
    refine y_goto (tgt := 17) C dX7_needEnd_13 rfl ?_
    refine y_sub (vs2 := []) [] rfl ?_
    exact mj_C7_needEnd_k40_17 C hR hL hlt hT h hQ hw
theorem ct_C7_needEnd_k40 {D : va_G} {dA : Nat → ClassId} {A : Nat → Prop} {s0 : State} {b0 : Nat} {l : Launch} {hid : Bool} (hlt : l.stackTraces = false) {ad : Nat → Nat → Nat} {σ : g_S}{σ1 : g_S} (h : mF_C7_needEnd_k40 σ = some (.inr σ1)) : g_Met gCl D dA A s0 b0 l yX7_needEnd cX7_needEnd 1 none 7 (0, 0) (gC hid) ad σ [.ref (ad 40 0)] (gC hid) ad σ1 none :=
  g_Met.of2 pl_X7 (Nat.le_of_ble_eq_true rfl) (fun X C hQ hR _ _ hL hnm es eb el hT => mw_C7_needEnd_k40 C hR hL (by rw [el]; exact hlt) hT h hQ trivial)
theorem cx_C7_needEnd_k40 {D : va_G} {dA : Nat → ClassId} {A : Nat → Prop} {s0 : State} {b0 : Nat} {l : Launch} {hid : Bool} (hlt : l.stackTraces = false) {ad : Nat → Nat → Nat} {σ : g_S} {σ1 : g_S} (h : mF_C7_needEnd_k40 σ = some (.inl σ1)) : g_MetX gCl D dA A s0 b0 l yX7_needEnd cX7_needEnd 1 none 7 (gC hid) ad σ [.ref (ad 40 0)] (gC hid) ad σ1 :=
  g_MetX.of pl_X7 (Nat.le_of_ble_eq_true rfl) (fun X C hQ hR hmc hms hL hnm es eb el hT => mw_C7_needEnd_k40 C hR hL (by rw [el]; exact hlt) hT h hQ ⟨Nat.le_of_eq hmc.symm, Nat.le_of_eq hms.symm, by rw [hR]; exact Nat.le_refl _, by rw [hR]; exact Nat.le_refl _⟩)
theorem mw_C1_comes {X : g_F} {hid : Bool} (C : g_M gCl X cX1_comes RX1 none) (hR : g_R X = g_rm 1 0 0) (hL : g_nL X = 1) {ad : Nat → Nat → Nat} {σ : g_S} {o : g_S} (h : mF_C1_comes σ = some o) (hQ : g_MQ gCl X (gC hid) ad o none = g_Q X) : g_Y gCl X (gC hid) ad σ (0, 0) 0 [(0, .ref (ad 0 0))] [] := by
  unfold mF_C1_comes at h
  refine y_aload_n C dX1_comes_0 0 rfl rfl ?_
  refine y_iconst (v := (0 : Int32)) C dX1_comes_1 (by decide) ?_
  obtain ⟨σ1, hσ1, h⟩ := g_lt h
  refine pf_C_X1_196_0 C nC_0_0 hσ1 dX1_comes_2 ?_
  refine y_aload_n C dX1_comes_5 0 rfl rfl ?_
  refine y_dup C dX1_comes_6 rfl ?_
  refine gf_C_X1_199_0 C nC_0_0 dX1_comes_7 ?_
  refine y_iconst (v := (1 : Int32)) C dX1_comes_10 (by decide) ?_
  refine y_iadd C dX1_comes_11 ?_
  obtain ⟨σ2, hσ2, h⟩ := g_lt h
  refine pf_C_X1_199_0 C nC_0_0 hσ2 dX1_comes_12 ?_
  replace h := Option.some.inj h; subst h
  exact y_vret C hQ ⟨Nat.zero_le _, Nat.zero_le _⟩ dX1_comes_15
theorem ct_C1_comes {D : va_G} {dA : Nat → ClassId} {A : Nat → Prop} {s0 : State} {b0 : Nat} {l : Launch} {hid : Bool} {ad : Nat → Nat → Nat} {σ : g_S} {σ1 : g_S} (h : mF_C1_comes σ = some σ1) : g_Met gCl D dA A s0 b0 l yX1_comes cX1_comes 1 none 1 (0, 0) (gC hid) ad σ [.ref (ad 0 0)] (gC hid) ad σ1 none :=
  g_Met.of pl_X1 (Nat.le_of_ble_eq_true rfl) (fun X C hQ hR _ _ hL _ es eb => mw_C1_comes C hR hL h hQ)
theorem mj_C1_valley_85 {X : g_F} {hid : Bool} (C : g_M gCl X cX1_valley RX1 (some .int)) (hR : g_R X = g_rm 8 2 11) (hL : g_nL X = 7) (hlt : (g_l X).stackTraces = false) (hT : (g_c X).exceptionTable.toList = tableOf [((10 : Nat), (82 : Nat), (85 : Nat), (185 : Nat))]) (hmc : g_mc X = 2 ∧ g_ms X = 11) {ad : Nat → Nat → Nat} {σ : g_S} {a0 : Nat} (ha0 : ad 0 0 = a0) {o : (Int32 × g_S)} (h : mJ_C1_valley_85 σ = some o) (hQ : g_MQG gCl X (gC hid) (fun v ad2 s2 => v = some (.int o.1) ∧ s2 = o.2 ∧ ad2 0 0 = a0) (fun _ _ _ _ => False) = g_Q X) : g_Y gCl X (gC hid) ad σ (2, 11) 85 [] [.ref (ad 52 0)] := by
  unfold mJ_C1_valley_85 at h
  refine y_astore (vs1 := [(6, .ref (ad 52 0))]) C rfl dX1_valley_85 (g_lL hL rfl) rfl ?_
  refine y_iconst (v := (-1 : Int32)) C dX1_valley_87 (by decide) ?_
  refine y_aload C dX1_valley_88 0 rfl ?_
  obtain ⟨hp, h⟩ := g_gd h
  refine gf_C_X1_187_52 C nC_52_0 hp dX1_valley_90 ?_
  refine y_isub C dX1_valley_93 ?_
  replace h := Option.some.inj h; subst h
  exact y_iretG C hQ ⟨rfl, rfl, ha0⟩ (by rw [hmc.1, hmc.2]; exact ⟨Nat.le_of_ble_eq_true rfl, Nat.le_of_ble_eq_true rfl⟩) dX1_valley_94
theorem ml_C1_valley_33 {X : g_F} {hid : Bool} (C : g_M gCl X cX1_valley RX1 (some .int)) (hR : g_R X = g_rm 8 2 11) (hL : g_nL X = 7) (hlt : (g_l X).stackTraces = false) (hT : (g_c X).exceptionTable.toList = tableOf [((10 : Nat), (82 : Nat), (85 : Nat), (185 : Nat))]) (hmc : g_mc X = 2 ∧ g_ms X = 11) {ad : Nat → Nat → Nat} {σ : g_S} {a0 : Nat} (ha0 : ad 0 0 = a0) {v2 : Int32} {v3 : Int32} (n : Nat) (v : (Int64 × Int32 × g_S)) (e : ((Int64 × g_S) ⊕ g_S)) (h : g_lp (fun v => mB_C1_valley_33 v.2.2 v2 v3 v.1 v.2.1) n v = some e) (kx : (∀ y, e = .inl y → g_Y gCl X (gC hid) ad y.2 (1, 4) 78 [(0, .ref (ad 0 0)), (1, .ref (ad 40 0)), (2, .int v2), (3, .int v3), (4, .long y.1)] []) ∧ (∀ y, e = .inr y → (∀ q, g_Y gCl X (gC hid) (g_ua ad 52 0 q) y (2, 11) 85 [] [.ref ((g_ua ad 52 0 q) 52 0)]))) : g_Y gCl X (gC hid) ad v.2.2 (1, 4) 33 [(0, .ref (ad 0 0)), (1, .ref (ad 40 0)), (2, .int v2), (3, .int v3), (4, .long v.1), (6, .int v.2.1)] [] := by
  refine g_loop (P := fun v => g_Y gCl X (gC hid) ad v.2.2 (1, 4) 33 [(0, .ref (ad 0 0)), (1, .ref (ad 40 0)), (2, .int v2), (3, .int v3), (4, .long v.1), (6, .int v.2.1)] []) (T := fun e => (∀ y, e = .inl y → g_Y gCl X (gC hid) ad y.2 (1, 4) 78 [(0, .ref (ad 0 0)), (1, .ref (ad 40 0)), (2, .int v2), (3, .int v3), (4, .long y.1)] []) ∧ (∀ y, e = .inr y → (∀ q, g_Y gCl X (gC hid) (g_ua ad 52 0 q) y (2, 11) 85 [] [.ref ((g_ua ad 52 0 q) 52 0)]))) ?_ n v e h kx
  clear h kx
  clear n v e
  intro v o h kl kx
  obtain ⟨v4, v6, σ⟩ := v
  have h : mB_C1_valley_33 σ v2 v3 v4 v6 = some o := h
  unfold mB_C1_valley_33 at h
  show g_Y gCl X (gC hid) ad σ (1, 4) 33 [(0, .ref (ad 0 0)), (1, .ref (ad 40 0)), (2, .int v2), (3, .int v3), (4, .long v4), (6, .int v6)] []
  refine y_iload C dX1_valley_33 5 rfl ?_
  refine y_iload_n C dX1_valley_35 2 rfl rfl ?_
  refine y_iload_n C dX1_valley_36 3 rfl rfl ?_
  refine y_imul C dX1_valley_37 ?_
  refine y_icmp_ge (tgt := 78) C dX1_valley_38 rfl (fun hc => ?_) (fun hc => ?_)
  · replace h := g_it h hc
    refine y_sub (vs2 := [(0, .ref (ad 0 0)), (1, .ref (ad 40 0)), (2, .int v2), (3, .int v3), (4, .long v4)]) [0, 1, 2, 3, 4] rfl ?_
    exact (kx _ (Option.some.inj h).symm).1 _ rfl
  · replace h := g_if h hc
    refine y_aload_n C dX1_valley_41 1 rfl rfl ?_
    refine y_bipush (v := (35 : Int32)) C dX1_valley_42 (by decide) ?_
    obtain ⟨hp, h⟩ := g_gd h
    obtain ⟨x12, σ11, hc, h⟩ := g_bp h
    refine y_callV C (As := [.int (35 : Int32)]) (rest := []) (k := 40) (hu := nC_40_0) (hc := (rfl : gCl[6]? = some (RX7, TX7, 4))) (hcell := (obC_40 hp)) (lk_X1_174_X7_l2 C hR (by decide)) (ct_C7_passes_k40 hc) rfl rfl (Nat.le_of_ble_eq_true rfl) (by rw [hR]; exact ⟨Nat.le_of_ble_eq_true rfl, Nat.le_of_ble_eq_true rfl⟩) dX1_valley_44 ?_
    refine y_if_eq (tgt := 62) C dX1_valley_47 rfl (fun hc => ?_) (fun hc => ?_)
    · replace h := g_it h hc
      refine y_aload_n C dX1_valley_62 1 rfl rfl ?_
      refine y_aload_n C dX1_valley_63 1 rfl rfl ?_
      refine y_bipush (v := (46 : Int32)) C dX1_valley_64 (by decide) ?_
      obtain ⟨hp, h⟩ := g_gd h
      obtain ⟨x14, σ13, hc, h⟩ := g_bp h
      refine y_callV C (As := [.int (46 : Int32)]) (rest := [.ref (ad 40 0)]) (k := 40) (hu := nC_40_0) (hc := (rfl : gCl[6]? = some (RX7, TX7, 4))) (hcell := (obC_40 hp)) (lk_X1_174_X7_l2 C hR (by decide)) (ct_C7_passes_k40 hc) rfl rfl (Nat.le_of_ble_eq_true rfl) (by rw [hR]; exact ⟨Nat.le_of_ble_eq_true rfl, Nat.le_of_ble_eq_true rfl⟩) dX1_valley_66 ?_
      obtain ⟨hp, h⟩ := g_gd h
      rcases g_txE h with ⟨z16, hc, h⟩ | ⟨σ15, hc, h⟩
      · refine y_callVX C (As := [.int x14]) (rest := []) (k := 40) (hu := nC_40_0) (hc := (rfl : gCl[6]? = some (RX7, TX7, 4))) (hcell := (obC_40 hp)) (lk_X1_178_X7x_l6 C hR (by decide)) (cx_C7_need_k40 hlt hc) rfl rfl (Nat.le_of_ble_eq_true rfl) (by rw [hR]; exact ⟨Nat.le_of_ble_eq_true rfl, Nat.le_of_ble_eq_true rfl⟩) dX1_valley_69 (fun q => ?_)
        refine y_catchX C hT rfl (by decide) (by decide) q346 q405 ?_
        show g_Y gCl X (gC hid) (g_ua ad 52 0 q) z16 (2, 11) 85 [(0, .ref ((g_ua ad 52 0 q) 0 0)), (1, .ref ((g_ua ad 52 0 q) 40 0)), (2, .int v2), (3, .int v3), (4, .long v4), (6, .int v6)] [.ref ((g_ua ad 52 0 q) 52 0)]
        refine y_sub (vs2 := []) [] rfl ?_
        exact (kx _ (Option.some.inj h).symm).2 _ rfl q
      refine y_callVv C (As := [.int x14]) (rest := []) (k := 40) (hu := nC_40_0) (hc := (rfl : gCl[6]? = some (RX7, TX7, 4))) (hcell := (obC_40 hp)) (lk_X1_178_X7_l6 C hR (by decide)) (ct_C7_need_k40 hlt hc) rfl rfl (Nat.le_of_ble_eq_true rfl) (by rw [hR]; exact ⟨Nat.le_of_ble_eq_true rfl, Nat.le_of_ble_eq_true rfl⟩) dX1_valley_69 ?_
      obtain ⟨x17, hx17, h⟩ := g_lt h
      refine y_iinc (c := (1 : Int32)) (vs1 := [(6, .int x17), (0, .ref (ad 0 0)), (1, .ref (ad 40 0)), (2, .int v2), (3, .int v3), (4, .long v4)]) C hx17 (by decide) dX1_valley_72 5 rfl (g_lL hL rfl) rfl ?_
      refine y_goto (tgt := 33) C dX1_valley_75 rfl ?_
      refine y_sub (vs2 := [(0, .ref (ad 0 0)), (1, .ref (ad 40 0)), (2, .int v2), (3, .int v3), (4, .long v4), (6, .int x17)]) [1, 2, 3, 4, 5, 0] rfl ?_
      exact kl _ (Option.some.inj h).symm
    · replace h := g_if h hc
      refine y_lload C dX1_valley_50 4 rfl ?_
      refine y_lconst (v := (1 : Int64)) C dX1_valley_52 (by decide) ?_
      refine y_iload C dX1_valley_53 5 rfl ?_
      refine y_lshl C dX1_valley_55 rfl ?_
      refine y_lor C dX1_valley_56 ?_
      obtain ⟨x18, hx18, h⟩ := g_lt h
      refine y_lstore (vs1 := [(4, .long x18), (0, .ref (ad 0 0)), (1, .ref (ad 40 0)), (2, .int v2), (3, .int v3), (6, .int v6)]) C hx18 dX1_valley_57 (g_lL hL rfl) rfl ?_
      refine y_goto (tgt := 72) C dX1_valley_59 rfl ?_
      obtain ⟨x19, hx19, h⟩ := g_lt h
      refine y_iinc (c := (1 : Int32)) (vs1 := [(6, .int x19), (4, .long x18), (0, .ref (ad 0 0)), (1, .ref (ad 40 0)), (2, .int v2), (3, .int v3)]) C hx19 (by decide) dX1_valley_72 5 rfl (g_lL hL rfl) rfl ?_
      refine y_goto (tgt := 33) C dX1_valley_75 rfl ?_
      refine y_sub (vs2 := [(0, .ref (ad 0 0)), (1, .ref (ad 40 0)), (2, .int v2), (3, .int v3), (4, .long x18), (6, .int x19)]) [2, 3, 4, 5, 1, 0] rfl ?_
      exact kl _ (Option.some.inj h).symm
theorem mw_C1_valley {X : g_F} {hid : Bool} (C : g_M gCl X cX1_valley RX1 (some .int)) (hR : g_R X = g_rm 8 2 11) (hL : g_nL X = 7) (hlt : (g_l X).stackTraces = false) (hT : (g_c X).exceptionTable.toList = tableOf [((10 : Nat), (82 : Nat), (85 : Nat), (185 : Nat))]) (hmc : g_mc X = 2 ∧ g_ms X = 11) {ad : Nat → Nat → Nat} {σ : g_S} {a0 : Nat} (ha0 : ad 0 0 = a0) {o : (Int32 × g_S)} (h : mF_C1_valley σ = some o) (hQ : g_MQG gCl X (gC hid) (fun v ad2 s2 => v = some (.int o.1) ∧ s2 = o.2 ∧ ad2 0 0 = a0) (fun _ _ _ _ => False) = g_Q X) : g_Y gCl X (gC hid) ad σ (0, 0) 0 [(0, .ref (ad 0 0))] [] := by
  unfold mF_C1_valley at h
  refine y_aload_n C dX1_valley_0 0 rfl rfl ?_
  refine y_bipush (v := (51 : Int32)) C dX1_valley_1 (by decide) ?_
  obtain ⟨σ1, hc, h⟩ := g_bd h
  refine y_callVG C (As := [.int (51 : Int32)]) (rest := []) (k := 0) (hu := nC_0_0) (hc := (rfl : gCl[0]? = some (RX1, TX1, 31))) (hcell := obC_0) (lk_X1_166_X1_l2 C hR (by decide)) (ct_C1_words hc) rfl rfl (Nat.le_of_ble_eq_true rfl) (by rw [hR]; exact ⟨Nat.le_of_ble_eq_true rfl, Nat.le_of_ble_eq_true rfl⟩) dX1_valley_3 (fun v ad9 σ9 hz => ?_) (fun E q ad9 σ9 hz => hz.elim)
  obtain ⟨e1, e2, q2, e3⟩ := hz
  subst e1
  rw [e2, e3]
  clear e2 e3
  show g_Y gCl X (gC hid) (g_ua ad 40 0 q2) σ1 (1, 4) 6 [(0, .ref ((g_ua ad 40 0 q2) 0 0))] [.ref ((g_ua ad 40 0 q2) 40 0)]
  refine y_astore_n (vs1 := [(1, .ref ((g_ua ad 40 0 q2) 40 0)), (0, .ref ((g_ua ad 40 0 q2) 0 0))]) C rfl dX1_valley_6 rfl (g_lL hL rfl) rfl ?_
  refine y_lconst (v := (0 : Int64)) C dX1_valley_7 (by decide) ?_
  refine y_lstore (vs1 := [(4, .long (0 : Int64)), (1, .ref ((g_ua ad 40 0 q2) 40 0)), (0, .ref ((g_ua ad 40 0 q2) 0 0))]) C rfl dX1_valley_8 (g_lL hL rfl) rfl ?_
  refine y_aload_n C dX1_valley_10 1 rfl rfl ?_
  refine y_bipush (v := (51 : Int32)) C dX1_valley_11 (by decide) ?_
  refine y_iconst (v := (5 : Int32)) C dX1_valley_13 (by decide) ?_
  obtain ⟨hp, h⟩ := g_gd h
  rcases g_t2E h with ⟨z5, hc, h⟩ | ⟨x4, σ3, hc, h⟩
  · refine y_callVX C (As := [.int (51 : Int32), .int (5 : Int32)]) (rest := []) (k := 40) (hu := nC_40_0) (hc := (rfl : gCl[6]? = some (RX7, TX7, 4))) (hcell := (obC_40 hp)) (lk_X1_170_X7x_l7 C hR (by decide)) (cx_C7_one_k40 hlt hc) rfl rfl (Nat.le_of_ble_eq_true rfl) (by rw [hR]; exact ⟨Nat.le_of_ble_eq_true rfl, Nat.le_of_ble_eq_true rfl⟩) dX1_valley_14 (fun q => ?_)
    refine y_catchX C hT rfl (by decide) (by decide) q346 q405 ?_
    show g_Y gCl X (gC hid) (g_ua (g_ua ad 40 0 q2) 52 0 q) z5 (2, 11) 85 [(4, .long (0 : Int64)), (1, .ref ((g_ua (g_ua ad 40 0 q2) 52 0 q) 40 0)), (0, .ref ((g_ua (g_ua ad 40 0 q2) 52 0 q) 0 0))] [.ref ((g_ua (g_ua ad 40 0 q2) 52 0 q) 52 0)]
    refine y_sub (vs2 := []) [] rfl ?_
    exact mj_C1_valley_85 C hR hL hlt hT hmc (show (g_ua (g_ua ad 40 0 q2) 52 0 q) 0 0 = a0 from ha0) h hQ
  refine y_callV C (As := [.int (51 : Int32), .int (5 : Int32)]) (rest := []) (k := 40) (hu := nC_40_0) (hc := (rfl : gCl[6]? = some (RX7, TX7, 4))) (hcell := (obC_40 hp)) (lk_X1_170_X7_l7 C hR (by decide)) (ct_C7_one_k40 hlt hc) rfl rfl (Nat.le_of_ble_eq_true rfl) (by rw [hR]; exact ⟨Nat.le_of_ble_eq_true rfl, Nat.le_of_ble_eq_true rfl⟩) dX1_valley_14 ?_
  refine y_iconst (v := (3 : Int32)) C dX1_valley_17 (by decide) ?_
  refine y_iadd C dX1_valley_18 ?_
  obtain ⟨x6, hx6, h⟩ := g_lt h
  refine y_istore_n (vs1 := [(2, .int x6), (4, .long (0 : Int64)), (1, .ref ((g_ua ad 40 0 q2) 40 0)), (0, .ref ((g_ua ad 40 0 q2) 0 0))]) C hx6 dX1_valley_19 rfl (g_lL hL rfl) rfl ?_
  refine y_aload_n C dX1_valley_20 2 rfl rfl ?_
  refine y_bipush (v := (51 : Int32)) C dX1_valley_21 (by decide) ?_
  refine y_iconst (v := (5 : Int32)) C dX1_valley_23 (by decide) ?_
  obtain ⟨hp, h⟩ := g_gd h
  rcases g_t2E h with ⟨z9, hc, h⟩ | ⟨x8, σ7, hc, h⟩
  · refine y_callVX C (As := [.int (51 : Int32), .int (5 : Int32)]) (rest := []) (k := 40) (hu := nC_40_0) (hc := (rfl : gCl[6]? = some (RX7, TX7, 4))) (hcell := (obC_40 hp)) (lk_X1_170_X7x_l7 C hR (by decide)) (cx_C7_one_k40 hlt hc) rfl rfl (Nat.le_of_ble_eq_true rfl) (by rw [hR]; exact ⟨Nat.le_of_ble_eq_true rfl, Nat.le_of_ble_eq_true rfl⟩) dX1_valley_24 (fun q => ?_)
    refine y_catchX C hT rfl (by decide) (by decide) q346 q405 ?_
    show g_Y gCl X (gC hid) (g_ua (g_ua ad 40 0 q2) 52 0 q) z9 (2, 11) 85 [(2, .int x6), (4, .long (0 : Int64)), (1, .ref ((g_ua (g_ua ad 40 0 q2) 52 0 q) 40 0)), (0, .ref ((g_ua (g_ua ad 40 0 q2) 52 0 q) 0 0))] [.ref ((g_ua (g_ua ad 40 0 q2) 52 0 q) 52 0)]
    refine y_sub (vs2 := []) [] rfl ?_
    exact mj_C1_valley_85 C hR hL hlt hT hmc (show (g_ua (g_ua ad 40 0 q2) 52 0 q) 0 0 = a0 from ha0) h hQ
  refine y_callV C (As := [.int (51 : Int32), .int (5 : Int32)]) (rest := []) (k := 40) (hu := nC_40_0) (hc := (rfl : gCl[6]? = some (RX7, TX7, 4))) (hcell := (obC_40 hp)) (lk_X1_170_X7_l7 C hR (by decide)) (ct_C7_one_k40 hlt hc) rfl rfl (Nat.le_of_ble_eq_true rfl) (by rw [hR]; exact ⟨Nat.le_of_ble_eq_true rfl, Nat.le_of_ble_eq_true rfl⟩) dX1_valley_24 ?_
  refine y_iconst (v := (3 : Int32)) C dX1_valley_27 (by decide) ?_
  refine y_iadd C dX1_valley_28 ?_
  obtain ⟨x10, hx10, h⟩ := g_lt h
  refine y_istore_n (vs1 := [(3, .int x10), (2, .int x6), (4, .long (0 : Int64)), (1, .ref ((g_ua ad 40 0 q2) 40 0)), (0, .ref ((g_ua ad 40 0 q2) 0 0))]) C hx10 dX1_valley_29 rfl (g_lL hL rfl) rfl ?_
  refine y_iconst (v := (0 : Int32)) C dX1_valley_30 (by decide) ?_
  refine y_istore (vs1 := [(6, .int (0 : Int32)), (3, .int x10), (2, .int x6), (4, .long (0 : Int64)), (1, .ref ((g_ua ad 40 0 q2) 40 0)), (0, .ref ((g_ua ad 40 0 q2) 0 0))]) C rfl dX1_valley_31 (g_lL hL rfl) rfl ?_
  refine y_sub (vs2 := [(0, .ref ((g_ua ad 40 0 q2) 0 0)), (1, .ref ((g_ua ad 40 0 q2) 40 0)), (2, .int x6), (3, .int x10), (4, .long (0 : Int64)), (6, .int (0 : Int32))]) [5, 4, 2, 1, 3, 0] rfl ?_
  obtain ⟨e20, he20, h⟩ := g_bd h
  refine ml_C1_valley_33 C hR hL hlt hT hmc (show (g_ua ad 40 0 q2) 0 0 = a0 from ha0) (σ := σ7) _ _ _ he20 ⟨fun y he => ?_, fun y he q => ?_⟩
  · obtain ⟨y21, rfl⟩ : ∃ z, z = y := ⟨_, rfl⟩
    subst he
    dsimp only at h
    refine y_aload_n C dX1_valley_78 1 rfl rfl ?_
    obtain ⟨hp, h⟩ := g_gd h
    rcases g_txE h with ⟨z23, hc, h⟩ | ⟨σ22, hc, h⟩
    · refine y_callVX C (As := []) (rest := []) (k := 40) (hu := nC_40_0) (hc := (rfl : gCl[6]? = some (RX7, TX7, 4))) (hcell := (obC_40 hp)) (lk_X1_182_X7x_l7 C hR (by decide)) (cx_C7_needEnd_k40 hlt hc) rfl rfl (Nat.le_of_ble_eq_true rfl) (by rw [hR]; exact ⟨Nat.le_of_ble_eq_true rfl, Nat.le_of_ble_eq_true rfl⟩) dX1_valley_79 (fun q => ?_)
      refine y_catchX C hT rfl (by decide) (by decide) q346 q405 ?_
      show g_Y gCl X (gC hid) (g_ua (g_ua ad 40 0 q2) 52 0 q) z23 (2, 11) 85 [(0, .ref ((g_ua (g_ua ad 40 0 q2) 52 0 q) 0 0)), (1, .ref ((g_ua (g_ua ad 40 0 q2) 52 0 q) 40 0)), (2, .int x6), (3, .int x10), (4, .long y21.1)] [.ref ((g_ua (g_ua ad 40 0 q2) 52 0 q) 52 0)]
      refine y_sub (vs2 := []) [] rfl ?_
      exact mj_C1_valley_85 C hR hL hlt hT hmc (show (g_ua (g_ua ad 40 0 q2) 52 0 q) 0 0 = a0 from ha0) h hQ
    refine y_callVv C (As := []) (rest := []) (k := 40) (hu := nC_40_0) (hc := (rfl : gCl[6]? = some (RX7, TX7, 4))) (hcell := (obC_40 hp)) (lk_X1_182_X7_l7 C hR (by decide)) (ct_C7_needEnd_k40 hlt hc) rfl rfl (Nat.le_of_ble_eq_true rfl) (by rw [hR]; exact ⟨Nat.le_of_ble_eq_true rfl, Nat.le_of_ble_eq_true rfl⟩) dX1_valley_79 ?_
    refine y_goto (tgt := 95) C dX1_valley_82 rfl ?_
    refine y_aload_n C dX1_valley_95 0 rfl rfl ?_
    refine y_iload_n C dX1_valley_96 2 rfl rfl ?_
    obtain ⟨σ24, hσ24, h⟩ := g_lt h
    refine pf_C_X1_80_0 C nC_0_0 hσ24 dX1_valley_97 ?_
    refine y_aload_n C dX1_valley_100 0 rfl rfl ?_
    refine y_iload_n C dX1_valley_101 3 rfl rfl ?_
    obtain ⟨σ25, hσ25, h⟩ := g_lt h
    refine pf_C_X1_13_0 C nC_0_0 hσ25 dX1_valley_102 ?_
    refine y_aload_n C dX1_valley_105 0 rfl rfl ?_
    refine y_lload C dX1_valley_106 4 rfl ?_
    obtain ⟨σ26, hσ26, h⟩ := g_lt h
    refine pf_C_X1_22_0 C nC_0_0 hσ26 dX1_valley_108 ?_
    refine y_aload_n C dX1_valley_111 0 rfl rfl ?_
    refine y_iconst (v := (0 : Int32)) C dX1_valley_112 (by decide) ?_
    obtain ⟨σ27, hσ27, h⟩ := g_lt h
    refine pf_C_X1_150_0 C nC_0_0 hσ27 dX1_valley_113 ?_
    refine y_aload_n C dX1_valley_116 0 rfl rfl ?_
    refine y_iconst (v := (0 : Int32)) C dX1_valley_117 (by decide) ?_
    obtain ⟨σ28, hσ28, h⟩ := g_lt h
    refine pf_C_X1_153_0 C nC_0_0 hσ28 dX1_valley_118 ?_
    refine y_aload_n C dX1_valley_121 0 rfl rfl ?_
    refine y_iconst (v := (0 : Int32)) C dX1_valley_122 (by decide) ?_
    obtain ⟨σ29, hσ29, h⟩ := g_lt h
    refine pf_C_X1_190_0 C nC_0_0 hσ29 dX1_valley_123 ?_
    refine y_aload_n C dX1_valley_126 0 rfl rfl ?_
    refine gf_C_X1_84_0 C nC_0_0 dX1_valley_127 ?_
    refine y_iconst (v := (0 : Int32)) C dX1_valley_130 (by decide) ?_
    obtain ⟨σ30, hσ30, h⟩ := g_lt h
    refine pf_C_X1_34_4 C nC_4_0 hσ30 dX1_valley_131 ?_
    refine y_aload_n C dX1_valley_134 0 rfl rfl ?_
    obtain ⟨σ31, hc, h⟩ := g_bd h
    refine y_callVv C (As := []) (rest := []) (k := 0) (hu := nC_0_0) (hc := (rfl : gCl[0]? = some (RX1, TX1, 31))) (hcell := obC_0) (lk_X1_193_X1_l1 C hR (by decide)) (ct_C1_comes hc) rfl rfl (Nat.le_of_ble_eq_true rfl) (by rw [hR]; exact ⟨Nat.le_of_ble_eq_true rfl, Nat.le_of_ble_eq_true rfl⟩) dX1_valley_135 ?_
    refine y_iload_n C dX1_valley_138 2 rfl rfl ?_
    refine y_iload_n C dX1_valley_139 3 rfl rfl ?_
    refine y_imul C dX1_valley_140 ?_
    replace h := Option.some.inj h; subst h
    exact y_iretG C hQ ⟨rfl, rfl, ha0⟩ (by rw [hmc.1, hmc.2]; exact ⟨Nat.le_of_ble_eq_true rfl, Nat.le_of_ble_eq_true rfl⟩) dX1_valley_141
  · obtain ⟨y32, rfl⟩ : ∃ z, z = y := ⟨_, rfl⟩
    subst he
    dsimp only at h
    show g_Y gCl X (gC hid) (g_ua (g_ua ad 40 0 q2) 52 0 q) y32 (2, 11) 85 [] [.ref ((g_ua (g_ua ad 40 0 q2) 52 0 q) 52 0)]
    exact mj_C1_valley_85 C hR hL hlt hT hmc (show (g_ua (g_ua ad 40 0 q2) 52 0 q) 0 0 = a0 from ha0) h hQ
theorem ct_C1_valley {D : va_G} {dA : Nat → ClassId} {A : Nat → Prop} {s0 : State} {b0 : Nat} {l : Launch} {hid : Bool} (hlt : l.stackTraces = false) {ad : Nat → Nat → Nat} {σ : g_S}{r : Int32} {σ1 : g_S} (h : mF_C1_valley σ = some (r, σ1)) : g_MetG gCl D dA A s0 b0 l yX1_valley (wsW_ yX1_valley cX1_valley 7 (some .int)  [((10 : Nat), (82 : Nat), (85 : Nat), (185 : Nat))]) 8 (2, 11) (gC hid) ad σ [.ref (ad 0 0)] (gC hid) (fun v ad2 s2 => v = some (.int r) ∧ s2 = σ1 ∧ ad2 0 0 = (ad 0 0)) (fun _ _ _ _ => False) :=
  g_MetG.ofH pl_X1 (Nat.le_of_ble_eq_true rfl) (fun X C hQ hR hmc hms hL hnm es eb el hT => mw_C1_valley C hR hL (by rw [el]; exact hlt) hT ⟨hmc, hms⟩ rfl h hQ)
theorem mw_C1_field {X : g_F} {ck sk : Nat} {hid : Bool} (C : g_M gCl X cX1_field RX1 (some .int)) (hR : g_R X = g_rm 8 ck sk) (hL : g_nL X = 3) (hlt : (g_l X).stackTraces = false) (hT : (g_c X).exceptionTable.toList = []) {ad : Nat → Nat → Nat} {σ : g_S} {o : (g_S ⊕ (Int32 × g_S))} (h : mF_C1_field σ = some o) (hQ : Sum.elim (fun z => g_MQX gCl X (gC hid) ad z) (fun z => g_MQ gCl X (gC hid) ad z.2 (some (.int z.1))) o = g_Q X) (hw : Sum.elim (fun _ => 1 ≤ g_mc X ∧ 7 ≤ g_ms X ∧ 1 ≤ (g_R X).cells ∧ 7 ≤ (g_R X).slots) (fun _ => True) o) : g_Y gCl X (gC hid) ad σ (0, 0) 0 [(0, .ref (ad 0 0)), (1, .ref (ad 40 0))] [] := by
  unfold mF_C1_field at h
  refine y_aload_n C dX1_field_0 1 rfl rfl ?_
  refine y_bipush (v := (48 : Int32)) C dX1_field_1 (by decide) ?_
  refine y_aload_n C dX1_field_3 0 rfl rfl ?_
  refine gf_C_X1_80_0 C nC_0_0 dX1_field_4 ?_
  obtain ⟨hp, h⟩ := g_gd h
  rcases g_t2E h with ⟨z3, hc, h⟩ | ⟨x2, σ1, hc, h⟩
  · replace h := Option.some.inj h; subst h
    refine y_callVX C (As := [.int (48 : Int32), .int (σ.1 0 0 3)]) (rest := []) (k := 40) (hu := nC_40_0) (hc := (rfl : gCl[6]? = some (RX7, TX7, 4))) (hcell := (obC_40 hp)) (lk_X1_170_X7x_l7 C hR (by decide)) (cx_C7_one_k40 hlt hc) rfl rfl (Nat.le_of_ble_eq_true rfl) ⟨hw.2.2.1, hw.2.2.2⟩ dX1_field_7 (fun q => ?_)
    exact y_outX C hT hQ ⟨hw.1, hw.2.1⟩
  refine y_callV C (As := [.int (48 : Int32), .int (σ.1 0 0 3)]) (rest := []) (k := 40) (hu := nC_40_0) (hc := (rfl : gCl[6]? = some (RX7, TX7, 4))) (hcell := (obC_40 hp)) (lk_X1_170_X7_l7 C hR (by decide)) (ct_C7_one_k40 hlt hc) rfl rfl (Nat.le_of_ble_eq_true rfl) ⟨Nat.zero_le _, Nat.zero_le _⟩ dX1_field_7 ?_
  refine y_istore_n (vs1 := [(2, .int x2), (0, .ref (ad 0 0)), (1, .ref (ad 40 0))]) C rfl dX1_field_10 rfl (g_lL hL rfl) rfl ?_
  refine y_aload_n C dX1_field_11 1 rfl rfl ?_
  refine gf_C_X1_13_0 C nC_0_0 dX1_field_12 ?_
  refine y_iload_n C dX1_field_15 0 rfl rfl ?_
  refine y_imul C dX1_field_16 ?_
  refine y_aload_n C dX1_field_17 2 rfl rfl ?_
  refine y_bipush (v := (48 : Int32)) C dX1_field_18 (by decide) ?_
  refine y_aload_n C dX1_field_20 1 rfl rfl ?_
  refine gf_C_X1_13_0 C nC_0_0 dX1_field_21 ?_
  obtain ⟨hp, h⟩ := g_gd h
  rcases g_t2E h with ⟨z6, hc, h⟩ | ⟨x5, σ4, hc, h⟩
  · replace h := Option.some.inj h; subst h
    refine y_callVX C (As := [.int (48 : Int32), .int (σ1.1 0 0 4)]) (rest := [.int ((σ1.1 0 0 4) * x2)]) (k := 40) (hu := nC_40_0) (hc := (rfl : gCl[6]? = some (RX7, TX7, 4))) (hcell := (obC_40 hp)) (lk_X1_170_X7x_l7 C hR (by decide)) (cx_C7_one_k40 hlt hc) rfl rfl (Nat.le_of_ble_eq_true rfl) ⟨hw.2.2.1, hw.2.2.2⟩ dX1_field_24 (fun q => ?_)
    exact y_outX C hT hQ ⟨hw.1, hw.2.1⟩
  refine y_callV C (As := [.int (48 : Int32), .int (σ1.1 0 0 4)]) (rest := [.int ((σ1.1 0 0 4) * x2)]) (k := 40) (hu := nC_40_0) (hc := (rfl : gCl[6]? = some (RX7, TX7, 4))) (hcell := (obC_40 hp)) (lk_X1_170_X7_l7 C hR (by decide)) (ct_C7_one_k40 hlt hc) rfl rfl (Nat.le_of_ble_eq_true rfl) ⟨Nat.zero_le _, Nat.zero_le _⟩ dX1_field_24 ?_
  refine y_iadd C dX1_field_27 ?_
  replace h := Option.some.inj h; subst h
  exact y_iret C hQ ⟨Nat.zero_le _, Nat.zero_le _⟩ dX1_field_28
theorem ct_C1_field {D : va_G} {dA : Nat → ClassId} {A : Nat → Prop} {s0 : State} {b0 : Nat} {l : Launch} {hid : Bool} (hlt : l.stackTraces = false) {ad : Nat → Nat → Nat} {σ : g_S}{r : Int32} {σ1 : g_S} (h : mF_C1_field σ = some (.inr (r, σ1))) : g_Met gCl D dA A s0 b0 l yX1_field cX1_field 3 (some .int) 8 (0, 0) (gC hid) ad σ [.ref (ad 0 0), .ref (ad 40 0)] (gC hid) ad σ1 (some (.int r)) :=
  g_Met.of2 pl_X1 (Nat.le_of_ble_eq_true rfl) (fun X C hQ hR _ _ hL hnm es eb el hT => mw_C1_field C hR hL (by rw [el]; exact hlt) hT h hQ trivial)
theorem cx_C1_field {D : va_G} {dA : Nat → ClassId} {A : Nat → Prop} {s0 : State} {b0 : Nat} {l : Launch} {hid : Bool} (hlt : l.stackTraces = false) {ad : Nat → Nat → Nat} {σ : g_S} {σ1 : g_S} (h : mF_C1_field σ = some (.inl σ1)) : g_MetX gCl D dA A s0 b0 l yX1_field cX1_field 3 (some .int) 8 (gC hid) ad σ [.ref (ad 0 0), .ref (ad 40 0)] (gC hid) ad σ1 :=
  g_MetX.of pl_X1 (Nat.le_of_ble_eq_true rfl) (fun X C hQ hR hmc hms hL hnm es eb el hT => mw_C1_field C hR hL (by rw [el]; exact hlt) hT h hQ ⟨Nat.le_of_eq hmc.symm, Nat.le_of_eq hms.symm, by rw [hR]; exact Nat.le_refl _, by rw [hR]; exact Nat.le_refl _⟩)
theorem mw_C1_isRock {X : g_F} {hid : Bool} (C : g_M gCl X cX1_isRock RX1 (some .boolean)) (hR : g_R X = g_rm 2 0 0) (hL : g_nL X = 2) {ad : Nat → Nat → Nat} {σ : g_S} {v1 : Int32} {o : Int32} (h : mF_C1_isRock σ v1 = some o) (hQ : g_MQ gCl X (gC hid) ad σ (some (.int o)) = g_Q X) : g_Y gCl X (gC hid) ad σ (0, 0) 0 [(0, .ref (ad 0 0)), (1, .int v1)] [] := by
  unfold mF_C1_isRock at h
  refine y_aload_n C dX1_isRock_0 0 rfl rfl ?_
  refine gf_C_X1_22_0 C nC_0_0 dX1_isRock_1 ?_
  refine y_iload_n C dX1_isRock_4 1 rfl rfl ?_
  obtain ⟨x1, hc, h⟩ := g_bd h
  refine y_callS C (As := [.long (σ.2.1 0 0 9), .int v1]) (rest := []) (lk_X1_26_l1 C hR (by decide)) (ct_C1_has hc) rfl rfl (Nat.le_of_ble_eq_true rfl) ⟨Nat.zero_le _, Nat.zero_le _⟩ dX1_isRock_5 ?_
  obtain ⟨hg, h⟩ := g_gd h
  replace h := Option.some.inj h; subst h
  exact y_zret C (g_nz hg) hQ ⟨Nat.zero_le _, Nat.zero_le _⟩ dX1_isRock_8
theorem ct_C1_isRock {D : va_G} {dA : Nat → ClassId} {A : Nat → Prop} {s0 : State} {b0 : Nat} {l : Launch} {hid : Bool} {ad : Nat → Nat → Nat} {σ : g_S} {v1 : Int32} {r : Int32} (h : mF_C1_isRock σ v1 = some r) : g_Met gCl D dA A s0 b0 l yX1_isRock cX1_isRock 2 (some .boolean) 2 (0, 0) (gC hid) ad σ [.ref (ad 0 0), .int v1] (gC hid) ad σ (some (.int r)) :=
  g_Met.of pl_X1 (Nat.le_of_ble_eq_true rfl) (fun X C hQ hR _ _ hL _ es eb => mw_C1_isRock C hR hL h hQ)
theorem mj_C1_people_43 {X : g_F} {hid : Bool} (C : g_M gCl X cX1_people RX1 (some .int)) (hR : g_R X = g_rm 9 11 43) (hL : g_nL X = 5) (hlt : (g_l X).stackTraces = false) (hT : (g_c X).exceptionTable.toList = tableOf [((26 : Nat), (123 : Nat), (126 : Nat), (185 : Nat))]) (hmc : g_mc X = 11 ∧ g_ms X = 43) {ad : Nat → Nat → Nat} {σ : g_S} {a0 : Nat} (ha0 : ad 0 0 = a0) {v3 : Int32} {s1 : Int32} {o : ((Int32 × g_S) ⊕ (g_S ⊕ ((Int32 × g_S) ⊕ g_S)))} (h : mJ_C1_people_43 σ v3 s1 = some o) (kl : ∀ z, o = .inl z → g_Y gCl X (gC hid) ad z.2 (10, 36) 26 [(0, .ref (ad 0 0)), (1, .ref (ad 40 0)), (2, .ref (ad 41 0)), (3, .int z.1)] []) (kx : ∀ z, o = .inr z → (∀ y, z = .inl y → g_Y gCl X (gC hid) ad y (10, 36) 68 [(1, .ref (ad 40 0))] []) ∧ (∀ y, z = .inr (.inl y) → g_Y gCl X (gC hid) ad y.2 (10, 36) 119 [(0, .ref (ad 0 0)), (1, .ref (ad 40 0)), (2, .ref (ad 41 0)), (3, .int y.1)] []) ∧ (∀ y, z = .inr (.inr y) → (∀ q, g_Y gCl X (gC hid) (g_ua ad 52 0 q) y (11, 43) 126 [] [.ref ((g_ua ad 52 0 q) 52 0)]))) : g_Y gCl X (gC hid) ad σ (10, 36) 43 [(0, .ref (ad 0 0)), (1, .ref (ad 40 0)), (2, .ref (ad 41 0)), (3, .int v3)] [.int s1, .ref (ad 40 0)] := by
  unfold mJ_C1_people_43 at h
  obtain ⟨hp, h⟩ := g_gd h
  rcases g_txE h with ⟨z6, hc, h⟩ | ⟨σ5, hc, h⟩
  · refine y_callVX C (As := [.int s1]) (rest := []) (k := 40) (hu := nC_40_0) (hc := (rfl : gCl[6]? = some (RX7, TX7, 4))) (hcell := (obC_40 hp)) (lk_X1_178_X7x_l6 C hR (by decide)) (cx_C7_need_k40 hlt hc) rfl rfl (Nat.le_of_ble_eq_true rfl) (by rw [hR]; exact ⟨Nat.le_of_ble_eq_true rfl, Nat.le_of_ble_eq_true rfl⟩) dX1_people_43 (fun q => ?_)
    refine y_catchX C hT rfl (by decide) (by decide) q346 q405 ?_
    show g_Y gCl X (gC hid) (g_ua ad 52 0 q) z6 (11, 43) 126 [(0, .ref ((g_ua ad 52 0 q) 0 0)), (1, .ref ((g_ua ad 52 0 q) 40 0)), (2, .ref ((g_ua ad 52 0 q) 41 0)), (3, .int v3)] [.ref ((g_ua ad 52 0 q) 52 0)]
    refine y_sub (vs2 := []) [] rfl ?_
    exact (kx _ (Option.some.inj h).symm).2.2 _ rfl q
  refine y_callVv C (As := [.int s1]) (rest := []) (k := 40) (hu := nC_40_0) (hc := (rfl : gCl[6]? = some (RX7, TX7, 4))) (hcell := (obC_40 hp)) (lk_X1_178_X7_l6 C hR (by decide)) (ct_C7_need_k40 hlt hc) rfl rfl (Nat.le_of_ble_eq_true rfl) (by rw [hR]; exact ⟨Nat.le_of_ble_eq_true rfl, Nat.le_of_ble_eq_true rfl⟩) dX1_people_43 ?_
  refine y_aload_n C dX1_people_46 2 rfl rfl ?_
  refine y_iload_n C dX1_people_47 3 rfl rfl ?_
  obtain ⟨hg7, h⟩ := g_gd h
  refine aa_C_41 C hg7 dX1_people_48 ?_
  refine y_iconst (v := (0 : Int32)) C dX1_people_49 (by decide) ?_
  refine y_aload_n C dX1_people_50 0 rfl rfl ?_
  refine y_aload_n C dX1_people_51 1 rfl rfl ?_
  rcases g_t2E h with ⟨z10, hc, h⟩ | ⟨x9, σ8, hc, h⟩
  · refine y_callVX C (As := [.ref (ad 40 0)]) (rest := [.int (0 : Int32), .ref (ad 42 v3.toNatClampNeg)]) (k := 0) (hu := nC_0_0) (hc := (rfl : gCl[0]? = some (RX1, TX1, 31))) (hcell := obC_0) (lk_X1_205_X1x_l8 C hR (by decide)) (cx_C1_field hlt hc) rfl rfl (Nat.le_of_ble_eq_true rfl) (by rw [hR]; exact ⟨Nat.le_of_ble_eq_true rfl, Nat.le_of_ble_eq_true rfl⟩) dX1_people_52 (fun q => ?_)
    refine y_catchX C hT rfl (by decide) (by decide) q346 q405 ?_
    show g_Y gCl X (gC hid) (g_ua ad 52 0 q) z10 (11, 43) 126 [(0, .ref ((g_ua ad 52 0 q) 0 0)), (1, .ref ((g_ua ad 52 0 q) 40 0)), (2, .ref ((g_ua ad 52 0 q) 41 0)), (3, .int v3)] [.ref ((g_ua ad 52 0 q) 52 0)]
    refine y_sub (vs2 := []) [] rfl ?_
    exact (kx _ (Option.some.inj h).symm).2.2 _ rfl q
  refine y_callV C (As := [.ref (ad 40 0)]) (rest := [.int (0 : Int32), .ref (ad 42 v3.toNatClampNeg)]) (k := 0) (hu := nC_0_0) (hc := (rfl : gCl[0]? = some (RX1, TX1, 31))) (hcell := obC_0) (lk_X1_205_X1_l8 C hR (by decide)) (ct_C1_field hlt hc) rfl rfl (Nat.le_of_ble_eq_true rfl) (by rw [hR]; exact ⟨Nat.le_of_ble_eq_true rfl, Nat.le_of_ble_eq_true rfl⟩) dX1_people_52 ?_
  obtain ⟨hg, h⟩ := g_gd h
  obtain ⟨σ11, hσ11, h⟩ := g_lt h
  refine as_C_42 C (ux_C_41 hg7) hσ11 hg dX1_people_55 ?_
  refine y_aload_n C dX1_people_56 0 rfl rfl ?_
  refine y_aload_n C dX1_people_57 2 rfl rfl ?_
  refine y_iload_n C dX1_people_58 3 rfl rfl ?_
  obtain ⟨hg12, h⟩ := g_gd h
  refine aa_C_41 C hg12 dX1_people_59 ?_
  refine y_iconst (v := (0 : Int32)) C dX1_people_60 (by decide) ?_
  obtain ⟨hg, h⟩ := g_gd h
  refine al_C_42 C (ux_C_41 hg12) hg dX1_people_61 ?_
  obtain ⟨x13, hc, h⟩ := g_bd h
  refine y_callV C (As := [.int (σ11.1 42 v3.toNatClampNeg (0 : Int32).toNatClampNeg)]) (rest := []) (k := 0) (hu := nC_0_0) (hc := (rfl : gCl[0]? = some (RX1, TX1, 31))) (hcell := obC_0) (lk_X1_209_X1_l2 C hR (by decide)) (ct_C1_isRock hc) rfl rfl (Nat.le_of_ble_eq_true rfl) (by rw [hR]; exact ⟨Nat.le_of_ble_eq_true rfl, Nat.le_of_ble_eq_true rfl⟩) dX1_people_62 ?_
  refine y_if_eq (tgt := 82) C dX1_people_65 rfl (fun hc => ?_) (fun hc => ?_)
  · replace h := g_it h hc
    refine y_aload_n C dX1_people_82 2 rfl rfl ?_
    refine y_iload_n C dX1_people_83 3 rfl rfl ?_
    obtain ⟨hg14, h⟩ := g_gd h
    refine aa_C_41 C hg14 dX1_people_84 ?_
    refine y_iconst (v := (1 : Int32)) C dX1_people_85 (by decide) ?_
    refine y_aload_n C dX1_people_86 1 rfl rfl ?_
    refine y_bipush (v := (48 : Int32)) C dX1_people_87 (by decide) ?_
    refine y_bipush (v := (8 : Int32)) C dX1_people_89 (by decide) ?_
    obtain ⟨hp, h⟩ := g_gd h
    rcases g_t2E h with ⟨z17, hc, h⟩ | ⟨x16, σ15, hc, h⟩
    · refine y_callVX C (As := [.int (48 : Int32), .int (8 : Int32)]) (rest := [.int (1 : Int32), .ref (ad 42 v3.toNatClampNeg)]) (k := 40) (hu := nC_40_0) (hc := (rfl : gCl[6]? = some (RX7, TX7, 4))) (hcell := (obC_40 hp)) (lk_X1_170_X7x_l7 C hR (by decide)) (cx_C7_one_k40 hlt hc) rfl rfl (Nat.le_of_ble_eq_true rfl) (by rw [hR]; exact ⟨Nat.le_of_ble_eq_true rfl, Nat.le_of_ble_eq_true rfl⟩) dX1_people_91 (fun q => ?_)
      refine y_catchX C hT rfl (by decide) (by decide) q346 q405 ?_
      show g_Y gCl X (gC hid) (g_ua ad 52 0 q) z17 (11, 43) 126 [(0, .ref ((g_ua ad 52 0 q) 0 0)), (1, .ref ((g_ua ad 52 0 q) 40 0)), (2, .ref ((g_ua ad 52 0 q) 41 0)), (3, .int v3)] [.ref ((g_ua ad 52 0 q) 52 0)]
      refine y_sub (vs2 := []) [] rfl ?_
      exact (kx _ (Option.some.inj h).symm).2.2 _ rfl q
    refine y_callV C (As := [.int (48 : Int32), .int (8 : Int32)]) (rest := [.int (1 : Int32), .ref (ad 42 v3.toNatClampNeg)]) (k := 40) (hu := nC_40_0) (hc := (rfl : gCl[6]? = some (RX7, TX7, 4))) (hcell := (obC_40 hp)) (lk_X1_170_X7_l7 C hR (by decide)) (ct_C7_one_k40 hlt hc) rfl rfl (Nat.le_of_ble_eq_true rfl) (by rw [hR]; exact ⟨Nat.le_of_ble_eq_true rfl, Nat.le_of_ble_eq_true rfl⟩) dX1_people_91 ?_
    obtain ⟨hg, h⟩ := g_gd h
    obtain ⟨σ18, hσ18, h⟩ := g_lt h
    refine as_C_42 C (ux_C_41 hg14) hσ18 hg dX1_people_94 ?_
    refine y_aload_n C dX1_people_95 2 rfl rfl ?_
    refine y_iload_n C dX1_people_96 3 rfl rfl ?_
    obtain ⟨hg19, h⟩ := g_gd h
    refine aa_C_41 C hg19 dX1_people_97 ?_
    refine y_iconst (v := (2 : Int32)) C dX1_people_98 (by decide) ?_
    refine y_aload_n C dX1_people_99 1 rfl rfl ?_
    refine y_bipush (v := (48 : Int32)) C dX1_people_100 (by decide) ?_
    refine y_iconst (v := (5 : Int32)) C dX1_people_102 (by decide) ?_
    obtain ⟨hp, h⟩ := g_gd h
    rcases g_t2E h with ⟨z22, hc, h⟩ | ⟨x21, σ20, hc, h⟩
    · refine y_callVX C (As := [.int (48 : Int32), .int (5 : Int32)]) (rest := [.int (2 : Int32), .ref (ad 42 v3.toNatClampNeg)]) (k := 40) (hu := nC_40_0) (hc := (rfl : gCl[6]? = some (RX7, TX7, 4))) (hcell := (obC_40 hp)) (lk_X1_170_X7x_l7 C hR (by decide)) (cx_C7_one_k40 hlt hc) rfl rfl (Nat.le_of_ble_eq_true rfl) (by rw [hR]; exact ⟨Nat.le_of_ble_eq_true rfl, Nat.le_of_ble_eq_true rfl⟩) dX1_people_103 (fun q => ?_)
      refine y_catchX C hT rfl (by decide) (by decide) q346 q405 ?_
      show g_Y gCl X (gC hid) (g_ua ad 52 0 q) z22 (11, 43) 126 [(0, .ref ((g_ua ad 52 0 q) 0 0)), (1, .ref ((g_ua ad 52 0 q) 40 0)), (2, .ref ((g_ua ad 52 0 q) 41 0)), (3, .int v3)] [.ref ((g_ua ad 52 0 q) 52 0)]
      refine y_sub (vs2 := []) [] rfl ?_
      exact (kx _ (Option.some.inj h).symm).2.2 _ rfl q
    refine y_callV C (As := [.int (48 : Int32), .int (5 : Int32)]) (rest := [.int (2 : Int32), .ref (ad 42 v3.toNatClampNeg)]) (k := 40) (hu := nC_40_0) (hc := (rfl : gCl[6]? = some (RX7, TX7, 4))) (hcell := (obC_40 hp)) (lk_X1_170_X7_l7 C hR (by decide)) (ct_C7_one_k40 hlt hc) rfl rfl (Nat.le_of_ble_eq_true rfl) (by rw [hR]; exact ⟨Nat.le_of_ble_eq_true rfl, Nat.le_of_ble_eq_true rfl⟩) dX1_people_103 ?_
    obtain ⟨hg, h⟩ := g_gd h
    obtain ⟨σ23, hσ23, h⟩ := g_lt h
    refine as_C_42 C (ux_C_41 hg19) hσ23 hg dX1_people_106 ?_
    obtain ⟨x24, hx24, h⟩ := g_lt h
    refine y_iinc (c := (1 : Int32)) (vs1 := [(3, .int x24), (0, .ref (ad 0 0)), (1, .ref (ad 40 0)), (2, .ref (ad 41 0))]) C hx24 (by decide) dX1_people_107 3 rfl (g_lL hL rfl) rfl ?_
    refine y_aload_n C dX1_people_110 2 rfl rfl ?_
    refine y_bipush (v := (59 : Int32)) C dX1_people_111 (by decide) ?_
    obtain ⟨hp, h⟩ := g_gd h
    obtain ⟨x26, σ25, hc, h⟩ := g_bp h
    refine y_callV C (As := [.int (59 : Int32)]) (rest := []) (k := 40) (hu := nC_40_0) (hc := (rfl : gCl[6]? = some (RX7, TX7, 4))) (hcell := (obC_40 hp)) (lk_X1_174_X7_l2 C hR (by decide)) (ct_C7_passes_k40 hc) rfl rfl (Nat.le_of_ble_eq_true rfl) (by rw [hR]; exact ⟨Nat.le_of_ble_eq_true rfl, Nat.le_of_ble_eq_true rfl⟩) dX1_people_113 ?_
    refine y_if_ne (tgt := 26) C dX1_people_116 rfl (fun hc => ?_) (fun hc => ?_)
    · replace h := g_if h hc
      refine y_sub (vs2 := [(0, .ref (ad 0 0)), (1, .ref (ad 40 0)), (2, .ref (ad 41 0)), (3, .int x24)]) [1, 2, 3, 0] rfl ?_
      exact kl _ (Option.some.inj h).symm
    · replace h := g_it h hc
      refine y_sub (vs2 := [(0, .ref (ad 0 0)), (1, .ref (ad 40 0)), (2, .ref (ad 41 0)), (3, .int x24)]) [1, 2, 3, 0] rfl ?_
      exact (kx _ (Option.some.inj h).symm).2.1 _ rfl
  · replace h := g_if h hc
    refine y_sub (vs2 := [(1, .ref (ad 40 0))]) [1] rfl ?_
    exact (kx _ (Option.some.inj h).symm).1 _ rfl
theorem ml_C1_people_26 {X : g_F} {hid : Bool} (C : g_M gCl X cX1_people RX1 (some .int)) (hR : g_R X = g_rm 9 11 43) (hL : g_nL X = 5) (hlt : (g_l X).stackTraces = false) (hT : (g_c X).exceptionTable.toList = tableOf [((26 : Nat), (123 : Nat), (126 : Nat), (185 : Nat))]) (hmc : g_mc X = 11 ∧ g_ms X = 43) {ad : Nat → Nat → Nat} {σ : g_S} {a0 : Nat} (ha0 : ad 0 0 = a0) (n : Nat) (v : (Int32 × g_S)) (e : (g_S ⊕ ((Int32 × g_S) ⊕ g_S))) (h : g_lp (fun v => mB_C1_people_26 v.2 v.1) n v = some e) (kx : (∀ y, e = .inl y → g_Y gCl X (gC hid) ad y (10, 36) 68 [(1, .ref (ad 40 0))] []) ∧ (∀ y, e = .inr (.inl y) → g_Y gCl X (gC hid) ad y.2 (10, 36) 119 [(0, .ref (ad 0 0)), (1, .ref (ad 40 0)), (2, .ref (ad 41 0)), (3, .int y.1)] []) ∧ (∀ y, e = .inr (.inr y) → (∀ q, g_Y gCl X (gC hid) (g_ua ad 52 0 q) y (11, 43) 126 [] [.ref ((g_ua ad 52 0 q) 52 0)]))) : g_Y gCl X (gC hid) ad v.2 (10, 36) 26 [(0, .ref (ad 0 0)), (1, .ref (ad 40 0)), (2, .ref (ad 41 0)), (3, .int v.1)] [] := by
  refine g_loop (P := fun v => g_Y gCl X (gC hid) ad v.2 (10, 36) 26 [(0, .ref (ad 0 0)), (1, .ref (ad 40 0)), (2, .ref (ad 41 0)), (3, .int v.1)] []) (T := fun e => (∀ y, e = .inl y → g_Y gCl X (gC hid) ad y (10, 36) 68 [(1, .ref (ad 40 0))] []) ∧ (∀ y, e = .inr (.inl y) → g_Y gCl X (gC hid) ad y.2 (10, 36) 119 [(0, .ref (ad 0 0)), (1, .ref (ad 40 0)), (2, .ref (ad 41 0)), (3, .int y.1)] []) ∧ (∀ y, e = .inr (.inr y) → (∀ q, g_Y gCl X (gC hid) (g_ua ad 52 0 q) y (11, 43) 126 [] [.ref ((g_ua ad 52 0 q) 52 0)]))) ?_ n v e h kx
  clear h kx
  clear n v e
  intro v o h kl kx
  obtain ⟨v3, σ⟩ := v
  have h : mB_C1_people_26 σ v3 = some o := h
  unfold mB_C1_people_26 at h
  show g_Y gCl X (gC hid) ad σ (10, 36) 26 [(0, .ref (ad 0 0)), (1, .ref (ad 40 0)), (2, .ref (ad 41 0)), (3, .int v3)] []
  refine y_aload_n C dX1_people_26 1 rfl rfl ?_
  refine y_aload_n C dX1_people_27 0 rfl rfl ?_
  refine gf_C_X1_150_0 C nC_0_0 dX1_people_28 ?_
  refine y_iload_n C dX1_people_31 3 rfl rfl ?_
  refine y_iadd C dX1_people_32 ?_
  refine y_bipush (v := (8 : Int32)) C dX1_people_33 (by decide) ?_
  refine y_icmp_ge (tgt := 42) C dX1_people_35 rfl (fun hc => ?_) (fun hc => ?_)
  · replace h := g_it h hc
    refine y_iconst (v := (0 : Int32)) C dX1_people_42 (by decide) ?_
    exact mj_C1_people_43 C hR hL hlt hT hmc ha0 h kl kx
  · replace h := g_if h hc
    refine y_iconst (v := (1 : Int32)) C dX1_people_38 (by decide) ?_
    refine y_goto (tgt := 43) C dX1_people_39 rfl ?_
    exact mj_C1_people_43 C hR hL hlt hT hmc ha0 h kl kx
theorem mj_C1_people_126 {X : g_F} {hid : Bool} (C : g_M gCl X cX1_people RX1 (some .int)) (hR : g_R X = g_rm 9 11 43) (hL : g_nL X = 5) (hlt : (g_l X).stackTraces = false) (hT : (g_c X).exceptionTable.toList = tableOf [((26 : Nat), (123 : Nat), (126 : Nat), (185 : Nat))]) (hmc : g_mc X = 11 ∧ g_ms X = 43) {ad : Nat → Nat → Nat} {σ : g_S} {a0 : Nat} (ha0 : ad 0 0 = a0) {o : (Int32 × g_S)} (h : mJ_C1_people_126 σ = some o) (hQ : g_MQG gCl X (gC hid) (fun v ad2 s2 => v = some (.int o.1) ∧ s2 = o.2 ∧ ad2 0 0 = a0) (fun _ _ _ _ => False) = g_Q X) : g_Y gCl X (gC hid) ad σ (11, 43) 126 [] [.ref (ad 52 0)] := by
  unfold mJ_C1_people_126 at h
  refine y_astore (vs1 := [(4, .ref (ad 52 0))]) C rfl dX1_people_126 (g_lL hL rfl) rfl ?_
  refine y_iconst (v := (-1 : Int32)) C dX1_people_128 (by decide) ?_
  refine y_aload C dX1_people_129 0 rfl ?_
  obtain ⟨hp, h⟩ := g_gd h
  refine gf_C_X1_187_52 C nC_52_0 hp dX1_people_131 ?_
  refine y_isub C dX1_people_134 ?_
  replace h := Option.some.inj h; subst h
  exact y_iretG C hQ ⟨rfl, rfl, ha0⟩ (by rw [hmc.1, hmc.2]; exact ⟨Nat.le_of_ble_eq_true rfl, Nat.le_of_ble_eq_true rfl⟩) dX1_people_135
theorem ml_C1_people_139 {X : g_F} {hid : Bool} (C : g_M gCl X cX1_people RX1 (some .int)) (hR : g_R X = g_rm 9 11 43) (hL : g_nL X = 5) (hlt : (g_l X).stackTraces = false) (hT : (g_c X).exceptionTable.toList = tableOf [((26 : Nat), (123 : Nat), (126 : Nat), (185 : Nat))]) (hmc : g_mc X = 11 ∧ g_ms X = 43) {ad : Nat → Nat → Nat} {σ : g_S} {a0 : Nat} (ha0 : ad 0 0 = a0) {v3 : Int32} (n : Nat) (v : (Int32 × g_S)) (e : g_S) (h : g_lp (fun v => mB_C1_people_139 v.2 v3 v.1) n v = some e) (kx : g_Y gCl X (gC hid) ad e (10, 36) 228 [(0, .ref (ad 0 0)), (3, .int v3)] []) : g_Y gCl X (gC hid) ad v.2 (10, 36) 139 [(0, .ref (ad 0 0)), (2, .ref (ad 41 0)), (3, .int v3), (4, .int v.1)] [] := by
  refine g_loop (P := fun v => g_Y gCl X (gC hid) ad v.2 (10, 36) 139 [(0, .ref (ad 0 0)), (2, .ref (ad 41 0)), (3, .int v3), (4, .int v.1)] []) (T := fun e => g_Y gCl X (gC hid) ad e (10, 36) 228 [(0, .ref (ad 0 0)), (3, .int v3)] []) ?_ n v e h kx
  clear h kx
  clear n v e
  intro v o h kl kx
  obtain ⟨v4, σ⟩ := v
  have h : mB_C1_people_139 σ v3 v4 = some o := h
  unfold mB_C1_people_139 at h
  show g_Y gCl X (gC hid) ad σ (10, 36) 139 [(0, .ref (ad 0 0)), (2, .ref (ad 41 0)), (3, .int v3), (4, .int v4)] []
  refine y_iload C dX1_people_139 3 rfl ?_
  refine y_iload_n C dX1_people_141 2 rfl rfl ?_
  refine y_icmp_ge (tgt := 228) C dX1_people_142 rfl (fun hc => ?_) (fun hc => ?_)
  · replace h := g_it h hc
    refine y_sub (vs2 := [(0, .ref (ad 0 0)), (3, .int v3)]) [0, 2] rfl ?_
    exact kx _ (Option.some.inj h).symm
  · replace h := g_if h hc
    refine y_aload_n C dX1_people_145 0 rfl rfl ?_
    refine gf_C_X1_84_0 C nC_0_0 dX1_people_146 ?_
    refine gf_C_X1_217_4 C nC_4_0 dX1_people_149 ?_
    refine y_aload_n C dX1_people_152 0 rfl rfl ?_
    refine gf_C_X1_150_0 C nC_0_0 dX1_people_153 ?_
    refine y_aload_n C dX1_people_156 1 rfl rfl ?_
    refine y_iload C dX1_people_157 3 rfl ?_
    obtain ⟨hg34, h⟩ := g_gd h
    refine aa_C_41 C hg34 dX1_people_159 ?_
    refine y_iconst (v := (0 : Int32)) C dX1_people_160 (by decide) ?_
    obtain ⟨hg, h⟩ := g_gd h
    refine al_C_42 C (ux_C_41 hg34) hg dX1_people_161 ?_
    obtain ⟨hg, h⟩ := g_gd h
    obtain ⟨σ35, hσ35, h⟩ := g_lt h
    refine as_C_5 C nC_5_0 hσ35 hg dX1_people_162 ?_
    refine y_aload_n C dX1_people_163 0 rfl rfl ?_
    refine gf_C_X1_84_0 C nC_0_0 dX1_people_164 ?_
    refine gf_C_X1_219_4 C nC_4_0 dX1_people_167 ?_
    refine y_aload_n C dX1_people_170 0 rfl rfl ?_
    refine gf_C_X1_150_0 C nC_0_0 dX1_people_171 ?_
    refine y_aload_n C dX1_people_174 1 rfl rfl ?_
    refine y_iload C dX1_people_175 3 rfl ?_
    obtain ⟨hg36, h⟩ := g_gd h
    refine aa_C_41 C hg36 dX1_people_177 ?_
    refine y_iconst (v := (1 : Int32)) C dX1_people_178 (by decide) ?_
    obtain ⟨hg, h⟩ := g_gd h
    refine al_C_42 C (ux_C_41 hg36) hg dX1_people_179 ?_
    obtain ⟨hg, h⟩ := g_gd h
    obtain ⟨σ37, hσ37, h⟩ := g_lt h
    refine as_C_6 C nC_6_0 hσ37 hg dX1_people_180 ?_
    refine y_aload_n C dX1_people_181 0 rfl rfl ?_
    refine gf_C_X1_84_0 C nC_0_0 dX1_people_182 ?_
    refine gf_C_X1_222_4 C nC_4_0 dX1_people_185 ?_
    refine y_aload_n C dX1_people_188 0 rfl rfl ?_
    refine gf_C_X1_150_0 C nC_0_0 dX1_people_189 ?_
    refine y_aload_n C dX1_people_192 1 rfl rfl ?_
    refine y_iload C dX1_people_193 3 rfl ?_
    obtain ⟨hg38, h⟩ := g_gd h
    refine aa_C_41 C hg38 dX1_people_195 ?_
    refine y_iconst (v := (2 : Int32)) C dX1_people_196 (by decide) ?_
    obtain ⟨hg, h⟩ := g_gd h
    refine al_C_42 C (ux_C_41 hg38) hg dX1_people_197 ?_
    obtain ⟨hg, h⟩ := g_gd h
    obtain ⟨σ39, hσ39, h⟩ := g_lt h
    refine as_C_7 C nC_7_0 hσ39 hg dX1_people_198 ?_
    refine y_aload_n C dX1_people_199 0 rfl rfl ?_
    refine gf_C_X1_84_0 C nC_0_0 dX1_people_200 ?_
    refine gf_C_X1_225_4 C nC_4_0 dX1_people_203 ?_
    refine y_aload_n C dX1_people_206 0 rfl rfl ?_
    refine gf_C_X1_150_0 C nC_0_0 dX1_people_207 ?_
    refine y_iconst (v := (0 : Int32)) C dX1_people_210 (by decide) ?_
    obtain ⟨hg, h⟩ := g_gd h
    obtain ⟨σ40, hσ40, h⟩ := g_lt h
    refine as_C_8 C nC_8_0 hσ40 hg dX1_people_211 ?_
    obtain ⟨x41, hx41, h⟩ := g_lt h
    refine y_iinc (c := (1 : Int32)) (vs1 := [(4, .int x41), (0, .ref (ad 0 0)), (2, .ref (ad 41 0)), (3, .int v3)]) C hx41 (by decide) dX1_people_212 3 rfl (g_lL hL rfl) rfl ?_
    refine y_aload_n C dX1_people_215 1 rfl rfl ?_
    refine y_dup C dX1_people_216 rfl ?_
    refine gf_C_X1_150_0 C nC_0_0 dX1_people_217 ?_
    refine y_iconst (v := (1 : Int32)) C dX1_people_220 (by decide) ?_
    refine y_iadd C dX1_people_221 ?_
    obtain ⟨σ42, hσ42, h⟩ := g_lt h
    refine pf_C_X1_150_0 C nC_0_0 hσ42 dX1_people_222 ?_
    refine y_goto (tgt := 139) C dX1_people_225 rfl ?_
    refine y_sub (vs2 := [(0, .ref (ad 0 0)), (2, .ref (ad 41 0)), (3, .int v3), (4, .int x41)]) [1, 2, 3, 0] rfl ?_
    exact kl _ (Option.some.inj h).symm
theorem mw_C1_people {X : g_F} {hid : Bool} (C : g_M gCl X cX1_people RX1 (some .int)) (hR : g_R X = g_rm 9 11 43) (hL : g_nL X = 5) (hlt : (g_l X).stackTraces = false) (hT : (g_c X).exceptionTable.toList = tableOf [((26 : Nat), (123 : Nat), (126 : Nat), (185 : Nat))]) (hmc : g_mc X = 11 ∧ g_ms X = 43) {ad : Nat → Nat → Nat} {σ : g_S} {a0 : Nat} (ha0 : ad 0 0 = a0) {o : (Int32 × g_S)} (h : mF_C1_people σ = some o) (hQ : g_MQG gCl X (gC hid) (fun v ad2 s2 => v = some (.int o.1) ∧ s2 = o.2 ∧ ad2 0 0 = a0) (fun _ _ _ _ => False) = g_Q X) : g_Y gCl X (gC hid) ad σ (0, 0) 0 [(0, .ref (ad 0 0))] [] := by
  unfold mF_C1_people at h
  refine y_aload_n C dX1_people_0 0 rfl rfl ?_
  refine y_bipush (v := (39 : Int32)) C dX1_people_1 (by decide) ?_
  obtain ⟨σ1, hc, h⟩ := g_bd h
  refine y_callVG C (As := [.int (39 : Int32)]) (rest := []) (k := 0) (hu := nC_0_0) (hc := (rfl : gCl[0]? = some (RX1, TX1, 31))) (hcell := obC_0) (lk_X1_166_X1_l2 C hR (by decide)) (ct_C1_words hc) rfl rfl (Nat.le_of_ble_eq_true rfl) (by rw [hR]; exact ⟨Nat.le_of_ble_eq_true rfl, Nat.le_of_ble_eq_true rfl⟩) dX1_people_3 (fun v ad9 σ9 hz => ?_) (fun E q ad9 σ9 hz => hz.elim)
  obtain ⟨e1, e2, q2, e3⟩ := hz
  subst e1
  rw [e2, e3]
  clear e2 e3
  show g_Y gCl X (gC hid) (g_ua ad 40 0 q2) σ1 (1, 4) 6 [(0, .ref ((g_ua ad 40 0 q2) 0 0))] [.ref ((g_ua ad 40 0 q2) 40 0)]
  refine y_astore_n (vs1 := [(1, .ref ((g_ua ad 40 0 q2) 40 0)), (0, .ref ((g_ua ad 40 0 q2) 0 0))]) C rfl dX1_people_6 rfl (g_lL hL rfl) rfl ?_
  refine y_aload_n C dX1_people_7 0 rfl rfl ?_
  obtain ⟨hp, h⟩ := g_gd h
  refine gf_C_X1_202_40 C nC_40_0 hp dX1_people_8 ?_
  refine y_if_ne (tgt := 16) C dX1_people_11 rfl (fun hc => ?_) (fun hc => ?_)
  · replace h := g_if h hc
    refine y_bipush (v := (8 : Int32)) C dX1_people_16 (by decide) ?_
    refine y_iconst (v := (3 : Int32)) C dX1_people_18 (by decide) ?_
    obtain ⟨σ3, hσ3, h⟩ := g_lt h
    refine y_mnew42 (σ1 := σ3) C hσ3 q223 (by rw [hR]; exact ⟨Nat.le_of_ble_eq_true rfl, Nat.le_of_ble_eq_true rfl⟩) dX1_people_19 (fun q4 => ?_)
    have hq4 : (g_um (g_ua ad 40 0 q2) 41 42 q4) 41 0 = q4 := if_pos ⟨rfl, rfl⟩
    suffices key : g_Y gCl X (gC hid) (g_um (g_ua ad 40 0 q2) 41 42 q4) σ3 (10, 36) 23 [(1, .ref ((g_um (g_ua ad 40 0 q2) 41 42 q4) 40 0)), (0, .ref ((g_um (g_ua ad 40 0 q2) 41 42 q4) 0 0))] [.ref ((g_um (g_ua ad 40 0 q2) 41 42 q4) 41 0)] by rw [hq4] at key; exact key
    refine y_astore_n (vs1 := [(2, .ref ((g_um (g_ua ad 40 0 q2) 41 42 q4) 41 0)), (1, .ref ((g_um (g_ua ad 40 0 q2) 41 42 q4) 40 0)), (0, .ref ((g_um (g_ua ad 40 0 q2) 41 42 q4) 0 0))]) C rfl dX1_people_23 rfl (g_lL hL rfl) rfl ?_
    refine y_iconst (v := (0 : Int32)) C dX1_people_24 (by decide) ?_
    refine y_istore_n (vs1 := [(3, .int (0 : Int32)), (2, .ref ((g_um (g_ua ad 40 0 q2) 41 42 q4) 41 0)), (1, .ref ((g_um (g_ua ad 40 0 q2) 41 42 q4) 40 0)), (0, .ref ((g_um (g_ua ad 40 0 q2) 41 42 q4) 0 0))]) C rfl dX1_people_25 rfl (g_lL hL rfl) rfl ?_
    refine y_sub (vs2 := [(0, .ref ((g_um (g_ua ad 40 0 q2) 41 42 q4) 0 0)), (1, .ref ((g_um (g_ua ad 40 0 q2) 41 42 q4) 40 0)), (2, .ref ((g_um (g_ua ad 40 0 q2) 41 42 q4) 41 0)), (3, .int (0 : Int32))]) [3, 2, 1, 0] rfl ?_
    obtain ⟨e27, he27, h⟩ := g_bd h
    refine ml_C1_people_26 C hR hL hlt hT hmc (show (g_um (g_ua ad 40 0 q2) 41 42 q4) 0 0 = a0 from ha0) (σ := σ3) _ _ _ he27 ⟨fun y he => ?_, fun y he => ?_, fun y he q => ?_⟩
    · obtain ⟨y28, rfl⟩ : ∃ z, z = y := ⟨_, rfl⟩
      subst he
      dsimp only at h
      obtain ⟨hp, h⟩ := g_gd h
      obtain ⟨x30, hx30, h⟩ := g_lt h
      obtain ⟨σ29, hσ29, h⟩ := g_lt h
      refine y_newFault (v := x30) (σ1 := σ29) C hlt (rfl : gCl[10]? = _) nC_52_0 q346 (lkf_X1_214 C hR (by decide)) (Nat.le_of_ble_eq_true rfl) (by rw [hR]; exact ⟨Nat.le_of_ble_eq_true rfl, Nat.le_of_ble_eq_true rfl⟩) dX1_people_68 dX1_people_71 dX1_people_78 fr_52 (fun q => me_52) (fun q => by rw [hσ29]; exact me1_52) (by rw [hσ29]; exact ho_52) (fun H locs ls q c s hW hS hl k => by rw [hx30] at k; exact lv_aload_n C.1 C.2.1 dX1_people_72 rfl (lv_at hl 0 rfl) (va_get C.1 C.2.1 C.2.2.2.2.1 in_X7 C.2.2.2.1 C.2.2.2.2.2.2.2.2.1 (hW.at nC_40_0 (if_neg hp)) 0 rfl (rfl : gCl[6]? = _) 3 (by decide) (C.2.2.2.2.1 _ q371) (fun x h => h) rfl dX1_people_73 (lv_iconst C.1 C.2.1 dX1_people_76 (by decide) (lv_isub C.1 C.2.1 dX1_people_77 (k))))) (fun q => ?_)
      have hq : g_ua (g_um (g_ua ad 40 0 q2) 41 42 q4) 52 0 q 52 0 = q := g_ua_s
      suffices key : g_Y gCl X (gC hid) (g_ua (g_um (g_ua ad 40 0 q2) 41 42 q4) 52 0 q) σ29 (11, 43) 81 [(1, .ref ((g_ua (g_um (g_ua ad 40 0 q2) 41 42 q4) 52 0 q) 40 0))] [.ref ((g_ua (g_um (g_ua ad 40 0 q2) 41 42 q4) 52 0 q) 52 0)] by rw [hq] at key; exact key
      refine y_athrow C nC_52_0 (rfl : gCl[10]? = _) (by rw [hσ29]; exact me1_52) dX1_people_81 ?_
      refine y_catchX C hT rfl (by decide) (by decide) q346 q405 ?_
      show g_Y gCl X (gC hid) (g_ua (g_um (g_ua ad 40 0 q2) 41 42 q4) 52 0 q) σ29 (11, 43) 126 [(1, .ref ((g_ua (g_um (g_ua ad 40 0 q2) 41 42 q4) 52 0 q) 40 0))] [.ref ((g_ua (g_um (g_ua ad 40 0 q2) 41 42 q4) 52 0 q) 52 0)]
      refine y_sub (vs2 := []) [] rfl ?_
      exact mj_C1_people_126 C hR hL hlt hT hmc (show (g_ua (g_um (g_ua ad 40 0 q2) 41 42 q4) 52 0 q) 0 0 = a0 from ha0) h hQ
    · obtain ⟨y31, rfl⟩ : ∃ z, z = y := ⟨_, rfl⟩
      subst he
      dsimp only at h
      refine y_aload_n C dX1_people_119 1 rfl rfl ?_
      obtain ⟨hp, h⟩ := g_gd h
      rcases g_txE h with ⟨z33, hc, h⟩ | ⟨σ32, hc, h⟩
      · refine y_callVX C (As := []) (rest := []) (k := 40) (hu := nC_40_0) (hc := (rfl : gCl[6]? = some (RX7, TX7, 4))) (hcell := (obC_40 hp)) (lk_X1_182_X7x_l7 C hR (by decide)) (cx_C7_needEnd_k40 hlt hc) rfl rfl (Nat.le_of_ble_eq_true rfl) (by rw [hR]; exact ⟨Nat.le_of_ble_eq_true rfl, Nat.le_of_ble_eq_true rfl⟩) dX1_people_120 (fun q => ?_)
        refine y_catchX C hT rfl (by decide) (by decide) q346 q405 ?_
        show g_Y gCl X (gC hid) (g_ua (g_um (g_ua ad 40 0 q2) 41 42 q4) 52 0 q) z33 (11, 43) 126 [(0, .ref ((g_ua (g_um (g_ua ad 40 0 q2) 41 42 q4) 52 0 q) 0 0)), (1, .ref ((g_ua (g_um (g_ua ad 40 0 q2) 41 42 q4) 52 0 q) 40 0)), (2, .ref ((g_ua (g_um (g_ua ad 40 0 q2) 41 42 q4) 52 0 q) 41 0)), (3, .int y31.1)] [.ref ((g_ua (g_um (g_ua ad 40 0 q2) 41 42 q4) 52 0 q) 52 0)]
        refine y_sub (vs2 := []) [] rfl ?_
        exact mj_C1_people_126 C hR hL hlt hT hmc (show (g_ua (g_um (g_ua ad 40 0 q2) 41 42 q4) 52 0 q) 0 0 = a0 from ha0) h hQ
      refine y_callVv C (As := []) (rest := []) (k := 40) (hu := nC_40_0) (hc := (rfl : gCl[6]? = some (RX7, TX7, 4))) (hcell := (obC_40 hp)) (lk_X1_182_X7_l7 C hR (by decide)) (ct_C7_needEnd_k40 hlt hc) rfl rfl (Nat.le_of_ble_eq_true rfl) (by rw [hR]; exact ⟨Nat.le_of_ble_eq_true rfl, Nat.le_of_ble_eq_true rfl⟩) dX1_people_120 ?_
      refine y_goto (tgt := 136) C dX1_people_123 rfl ?_
      refine y_iconst (v := (0 : Int32)) C dX1_people_136 (by decide) ?_
      refine y_istore (vs1 := [(4, .int (0 : Int32)), (0, .ref ((g_um (g_ua ad 40 0 q2) 41 42 q4) 0 0)), (1, .ref ((g_um (g_ua ad 40 0 q2) 41 42 q4) 40 0)), (2, .ref ((g_um (g_ua ad 40 0 q2) 41 42 q4) 41 0)), (3, .int y31.1)]) C rfl dX1_people_137 (g_lL hL rfl) rfl ?_
      refine y_sub (vs2 := [(0, .ref ((g_um (g_ua ad 40 0 q2) 41 42 q4) 0 0)), (2, .ref ((g_um (g_ua ad 40 0 q2) 41 42 q4) 41 0)), (3, .int y31.1), (4, .int (0 : Int32))]) [1, 3, 4, 0] rfl ?_
      obtain ⟨e43, he43, h⟩ := g_bd h
      refine ml_C1_people_139 C hR hL hlt hT hmc (show (g_um (g_ua ad 40 0 q2) 41 42 q4) 0 0 = a0 from ha0) (σ := σ32) _ _ _ he43 ?_
      refine y_aload_n C dX1_people_228 0 rfl rfl ?_
      obtain ⟨σ44, hc, h⟩ := g_bd h
      refine y_callVv C (As := []) (rest := []) (k := 0) (hu := nC_0_0) (hc := (rfl : gCl[0]? = some (RX1, TX1, 31))) (hcell := obC_0) (lk_X1_193_X1_l1 C hR (by decide)) (ct_C1_comes hc) rfl rfl (Nat.le_of_ble_eq_true rfl) (by rw [hR]; exact ⟨Nat.le_of_ble_eq_true rfl, Nat.le_of_ble_eq_true rfl⟩) dX1_people_229 ?_
      refine y_iload_n C dX1_people_232 1 rfl rfl ?_
      replace h := Option.some.inj h; subst h
      exact y_iretG C hQ ⟨rfl, rfl, ha0⟩ (by rw [hmc.1, hmc.2]; exact ⟨Nat.le_of_ble_eq_true rfl, Nat.le_of_ble_eq_true rfl⟩) dX1_people_233
    · obtain ⟨y45, rfl⟩ : ∃ z, z = y := ⟨_, rfl⟩
      subst he
      dsimp only at h
      show g_Y gCl X (gC hid) (g_ua (g_um (g_ua ad 40 0 q2) 41 42 q4) 52 0 q) y45 (11, 43) 126 [] [.ref ((g_ua (g_um (g_ua ad 40 0 q2) 41 42 q4) 52 0 q) 52 0)]
      exact mj_C1_people_126 C hR hL hlt hT hmc (show (g_ua (g_um (g_ua ad 40 0 q2) 41 42 q4) 52 0 q) 0 0 = a0 from ha0) h hQ
  · replace h := g_it h hc
    refine y_iconst (v := (0 : Int32)) C dX1_people_14 (by decide) ?_
    replace h := Option.some.inj h; subst h
    exact y_iretG C hQ ⟨rfl, rfl, ha0⟩ (by rw [hmc.1, hmc.2]; exact ⟨Nat.le_of_ble_eq_true rfl, Nat.le_of_ble_eq_true rfl⟩) dX1_people_15
theorem ct_C1_people {D : va_G} {dA : Nat → ClassId} {A : Nat → Prop} {s0 : State} {b0 : Nat} {l : Launch} {hid : Bool} (hlt : l.stackTraces = false) {ad : Nat → Nat → Nat} {σ : g_S}{r : Int32} {σ1 : g_S} (h : mF_C1_people σ = some (r, σ1)) : g_MetG gCl D dA A s0 b0 l yX1_people (wsW_ yX1_people cX1_people 5 (some .int)  [((26 : Nat), (123 : Nat), (126 : Nat), (185 : Nat))]) 9 (11, 43) (gC hid) ad σ [.ref (ad 0 0)] (gC hid) (fun v ad2 s2 => v = some (.int r) ∧ s2 = σ1 ∧ ad2 0 0 = (ad 0 0)) (fun _ _ _ _ => False) :=
  g_MetG.ofH pl_X1 (Nat.le_of_ble_eq_true rfl) (fun X C hQ hR hmc hms hL hnm es eb el hT => mw_C1_people C hR hL (by rw [el]; exact hlt) hT ⟨hmc, hms⟩ rfl h hQ)
theorem mj_C1_things_40 {X : g_F} {hid : Bool} (C : g_M gCl X cX1_things RX1 (some .int)) (hR : g_R X = g_rm 9 3 19) (hL : g_nL X = 5) (hlt : (g_l X).stackTraces = false) (hT : (g_c X).exceptionTable.toList = tableOf [((23 : Nat), (67 : Nat), (70 : Nat), (185 : Nat))]) (hmc : g_mc X = 3 ∧ g_ms X = 19) {ad : Nat → Nat → Nat} {σ : g_S} {a0 : Nat} (ha0 : ad 0 0 = a0) {v3 : Int32} {s1 : Int32} {o : ((Int32 × g_S) ⊕ ((Int32 × g_S) ⊕ g_S))} (h : mJ_C1_things_40 σ v3 s1 = some o) (kl : ∀ z, o = .inl z → g_Y gCl X (gC hid) ad z.2 (2, 12) 23 [(0, .ref (ad 0 0)), (1, .ref (ad 40 0)), (2, .ref (ad 43 0)), (3, .int z.1)] []) (kx : ∀ z, o = .inr z → (∀ y, z = .inl y → g_Y gCl X (gC hid) ad y.2 (2, 12) 63 [(0, .ref (ad 0 0)), (1, .ref (ad 40 0)), (2, .ref (ad 43 0)), (3, .int y.1)] []) ∧ (∀ y, z = .inr y → (∀ q, g_Y gCl X (gC hid) (g_ua ad 52 0 q) y (3, 19) 70 [] [.ref ((g_ua ad 52 0 q) 52 0)]))) : g_Y gCl X (gC hid) ad σ (2, 12) 40 [(0, .ref (ad 0 0)), (1, .ref (ad 40 0)), (2, .ref (ad 43 0)), (3, .int v3)] [.int s1, .ref (ad 40 0)] := by
  unfold mJ_C1_things_40 at h
  obtain ⟨hp, h⟩ := g_gd h
  rcases g_txE h with ⟨z6, hc, h⟩ | ⟨σ5, hc, h⟩
  · refine y_callVX C (As := [.int s1]) (rest := []) (k := 40) (hu := nC_40_0) (hc := (rfl : gCl[6]? = some (RX7, TX7, 4))) (hcell := (obC_40 hp)) (lk_X1_178_X7x_l6 C hR (by decide)) (cx_C7_need_k40 hlt hc) rfl rfl (Nat.le_of_ble_eq_true rfl) (by rw [hR]; exact ⟨Nat.le_of_ble_eq_true rfl, Nat.le_of_ble_eq_true rfl⟩) dX1_things_40 (fun q => ?_)
    refine y_catchX C hT rfl (by decide) (by decide) q346 q405 ?_
    show g_Y gCl X (gC hid) (g_ua ad 52 0 q) z6 (3, 19) 70 [(0, .ref ((g_ua ad 52 0 q) 0 0)), (1, .ref ((g_ua ad 52 0 q) 40 0)), (2, .ref ((g_ua ad 52 0 q) 43 0)), (3, .int v3)] [.ref ((g_ua ad 52 0 q) 52 0)]
    refine y_sub (vs2 := []) [] rfl ?_
    exact (kx _ (Option.some.inj h).symm).2 _ rfl q
  refine y_callVv C (As := [.int s1]) (rest := []) (k := 40) (hu := nC_40_0) (hc := (rfl : gCl[6]? = some (RX7, TX7, 4))) (hcell := (obC_40 hp)) (lk_X1_178_X7_l6 C hR (by decide)) (ct_C7_need_k40 hlt hc) rfl rfl (Nat.le_of_ble_eq_true rfl) (by rw [hR]; exact ⟨Nat.le_of_ble_eq_true rfl, Nat.le_of_ble_eq_true rfl⟩) dX1_things_40 ?_
  refine y_aload_n C dX1_things_43 2 rfl rfl ?_
  refine y_iload_n C dX1_things_44 3 rfl rfl ?_
  refine y_aload_n C dX1_things_45 0 rfl rfl ?_
  refine y_aload_n C dX1_things_46 1 rfl rfl ?_
  rcases g_t2E h with ⟨z9, hc, h⟩ | ⟨x8, σ7, hc, h⟩
  · refine y_callVX C (As := [.ref (ad 40 0)]) (rest := [.int v3, .ref (ad 43 0)]) (k := 0) (hu := nC_0_0) (hc := (rfl : gCl[0]? = some (RX1, TX1, 31))) (hcell := obC_0) (lk_X1_205_X1x_l8 C hR (by decide)) (cx_C1_field hlt hc) rfl rfl (Nat.le_of_ble_eq_true rfl) (by rw [hR]; exact ⟨Nat.le_of_ble_eq_true rfl, Nat.le_of_ble_eq_true rfl⟩) dX1_things_47 (fun q => ?_)
    refine y_catchX C hT rfl (by decide) (by decide) q346 q405 ?_
    show g_Y gCl X (gC hid) (g_ua ad 52 0 q) z9 (3, 19) 70 [(0, .ref ((g_ua ad 52 0 q) 0 0)), (1, .ref ((g_ua ad 52 0 q) 40 0)), (2, .ref ((g_ua ad 52 0 q) 43 0)), (3, .int v3)] [.ref ((g_ua ad 52 0 q) 52 0)]
    refine y_sub (vs2 := []) [] rfl ?_
    exact (kx _ (Option.some.inj h).symm).2 _ rfl q
  refine y_callV C (As := [.ref (ad 40 0)]) (rest := [.int v3, .ref (ad 43 0)]) (k := 0) (hu := nC_0_0) (hc := (rfl : gCl[0]? = some (RX1, TX1, 31))) (hcell := obC_0) (lk_X1_205_X1_l8 C hR (by decide)) (ct_C1_field hlt hc) rfl rfl (Nat.le_of_ble_eq_true rfl) (by rw [hR]; exact ⟨Nat.le_of_ble_eq_true rfl, Nat.le_of_ble_eq_true rfl⟩) dX1_things_47 ?_
  obtain ⟨hg, h⟩ := g_gd h
  obtain ⟨σ10, hσ10, h⟩ := g_lt h
  refine as_C_43 C nC_43_0 hσ10 hg dX1_things_50 ?_
  obtain ⟨x11, hx11, h⟩ := g_lt h
  refine y_iinc (c := (1 : Int32)) (vs1 := [(3, .int x11), (0, .ref (ad 0 0)), (1, .ref (ad 40 0)), (2, .ref (ad 43 0))]) C hx11 (by decide) dX1_things_51 3 rfl (g_lL hL rfl) rfl ?_
  refine y_aload_n C dX1_things_54 2 rfl rfl ?_
  refine y_bipush (v := (59 : Int32)) C dX1_things_55 (by decide) ?_
  obtain ⟨hp, h⟩ := g_gd h
  obtain ⟨x13, σ12, hc, h⟩ := g_bp h
  refine y_callV C (As := [.int (59 : Int32)]) (rest := []) (k := 40) (hu := nC_40_0) (hc := (rfl : gCl[6]? = some (RX7, TX7, 4))) (hcell := (obC_40 hp)) (lk_X1_174_X7_l2 C hR (by decide)) (ct_C7_passes_k40 hc) rfl rfl (Nat.le_of_ble_eq_true rfl) (by rw [hR]; exact ⟨Nat.le_of_ble_eq_true rfl, Nat.le_of_ble_eq_true rfl⟩) dX1_things_57 ?_
  refine y_if_ne (tgt := 23) C dX1_things_60 rfl (fun hc => ?_) (fun hc => ?_)
  · replace h := g_if h hc
    refine y_sub (vs2 := [(0, .ref (ad 0 0)), (1, .ref (ad 40 0)), (2, .ref (ad 43 0)), (3, .int x11)]) [1, 2, 3, 0] rfl ?_
    exact kl _ (Option.some.inj h).symm
  · replace h := g_it h hc
    refine y_sub (vs2 := [(0, .ref (ad 0 0)), (1, .ref (ad 40 0)), (2, .ref (ad 43 0)), (3, .int x11)]) [1, 2, 3, 0] rfl ?_
    exact (kx _ (Option.some.inj h).symm).1 _ rfl
theorem ml_C1_things_23 {X : g_F} {hid : Bool} (C : g_M gCl X cX1_things RX1 (some .int)) (hR : g_R X = g_rm 9 3 19) (hL : g_nL X = 5) (hlt : (g_l X).stackTraces = false) (hT : (g_c X).exceptionTable.toList = tableOf [((23 : Nat), (67 : Nat), (70 : Nat), (185 : Nat))]) (hmc : g_mc X = 3 ∧ g_ms X = 19) {ad : Nat → Nat → Nat} {σ : g_S} {a0 : Nat} (ha0 : ad 0 0 = a0) (n : Nat) (v : (Int32 × g_S)) (e : ((Int32 × g_S) ⊕ g_S)) (h : g_lp (fun v => mB_C1_things_23 v.2 v.1) n v = some e) (kx : (∀ y, e = .inl y → g_Y gCl X (gC hid) ad y.2 (2, 12) 63 [(0, .ref (ad 0 0)), (1, .ref (ad 40 0)), (2, .ref (ad 43 0)), (3, .int y.1)] []) ∧ (∀ y, e = .inr y → (∀ q, g_Y gCl X (gC hid) (g_ua ad 52 0 q) y (3, 19) 70 [] [.ref ((g_ua ad 52 0 q) 52 0)]))) : g_Y gCl X (gC hid) ad v.2 (2, 12) 23 [(0, .ref (ad 0 0)), (1, .ref (ad 40 0)), (2, .ref (ad 43 0)), (3, .int v.1)] [] := by
  refine g_loop (P := fun v => g_Y gCl X (gC hid) ad v.2 (2, 12) 23 [(0, .ref (ad 0 0)), (1, .ref (ad 40 0)), (2, .ref (ad 43 0)), (3, .int v.1)] []) (T := fun e => (∀ y, e = .inl y → g_Y gCl X (gC hid) ad y.2 (2, 12) 63 [(0, .ref (ad 0 0)), (1, .ref (ad 40 0)), (2, .ref (ad 43 0)), (3, .int y.1)] []) ∧ (∀ y, e = .inr y → (∀ q, g_Y gCl X (gC hid) (g_ua ad 52 0 q) y (3, 19) 70 [] [.ref ((g_ua ad 52 0 q) 52 0)]))) ?_ n v e h kx
  clear h kx
  clear n v e
  intro v o h kl kx
  obtain ⟨v3, σ⟩ := v
  have h : mB_C1_things_23 σ v3 = some o := h
  unfold mB_C1_things_23 at h
  show g_Y gCl X (gC hid) ad σ (2, 12) 23 [(0, .ref (ad 0 0)), (1, .ref (ad 40 0)), (2, .ref (ad 43 0)), (3, .int v3)] []
  refine y_aload_n C dX1_things_23 1 rfl rfl ?_
  refine y_aload_n C dX1_things_24 0 rfl rfl ?_
  refine gf_C_X1_153_0 C nC_0_0 dX1_things_25 ?_
  refine y_iload_n C dX1_things_28 3 rfl rfl ?_
  refine y_iadd C dX1_things_29 ?_
  refine y_bipush (v := (8 : Int32)) C dX1_things_30 (by decide) ?_
  refine y_icmp_ge (tgt := 39) C dX1_things_32 rfl (fun hc => ?_) (fun hc => ?_)
  · replace h := g_it h hc
    refine y_iconst (v := (0 : Int32)) C dX1_things_39 (by decide) ?_
    exact mj_C1_things_40 C hR hL hlt hT hmc ha0 h kl kx
  · replace h := g_if h hc
    refine y_iconst (v := (1 : Int32)) C dX1_things_35 (by decide) ?_
    refine y_goto (tgt := 40) C dX1_things_36 rfl ?_
    exact mj_C1_things_40 C hR hL hlt hT hmc ha0 h kl kx
theorem mj_C1_things_70 {X : g_F} {hid : Bool} (C : g_M gCl X cX1_things RX1 (some .int)) (hR : g_R X = g_rm 9 3 19) (hL : g_nL X = 5) (hlt : (g_l X).stackTraces = false) (hT : (g_c X).exceptionTable.toList = tableOf [((23 : Nat), (67 : Nat), (70 : Nat), (185 : Nat))]) (hmc : g_mc X = 3 ∧ g_ms X = 19) {ad : Nat → Nat → Nat} {σ : g_S} {a0 : Nat} (ha0 : ad 0 0 = a0) {o : (Int32 × g_S)} (h : mJ_C1_things_70 σ = some o) (hQ : g_MQG gCl X (gC hid) (fun v ad2 s2 => v = some (.int o.1) ∧ s2 = o.2 ∧ ad2 0 0 = a0) (fun _ _ _ _ => False) = g_Q X) : g_Y gCl X (gC hid) ad σ (3, 19) 70 [] [.ref (ad 52 0)] := by
  unfold mJ_C1_things_70 at h
  refine y_astore (vs1 := [(4, .ref (ad 52 0))]) C rfl dX1_things_70 (g_lL hL rfl) rfl ?_
  refine y_iconst (v := (-1 : Int32)) C dX1_things_72 (by decide) ?_
  refine y_aload C dX1_things_73 0 rfl ?_
  obtain ⟨hp, h⟩ := g_gd h
  refine gf_C_X1_187_52 C nC_52_0 hp dX1_things_75 ?_
  refine y_isub C dX1_things_78 ?_
  replace h := Option.some.inj h; subst h
  exact y_iretG C hQ ⟨rfl, rfl, ha0⟩ (by rw [hmc.1, hmc.2]; exact ⟨Nat.le_of_ble_eq_true rfl, Nat.le_of_ble_eq_true rfl⟩) dX1_things_79
