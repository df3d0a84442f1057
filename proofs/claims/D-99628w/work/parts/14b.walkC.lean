set_option maxRecDepth 100000
theorem ml_C1_things_83 {X : g_F} {hid : Bool} (C : g_M gCl X cX1_things RX1 (some .int)) (hR : g_R X = g_rm 9 3 19) (hL : g_nL X = 5) (hlt : (g_l X).stackTraces = false) (hT : (g_c X).exceptionTable.toList = tableOf [((23 : Nat), (67 : Nat), (70 : Nat), (185 : Nat))]) (hmc : g_mc X = 3 ∧ g_ms X = 19) {ad : Nat → Nat → Nat} {σ : g_S} {a0 : Nat} (ha0 : ad 0 0 = a0) {v3 : Int32} (n : Nat) (v : (Int32 × g_S)) (e : g_S) (h : g_lp (fun v => mB_C1_things_83 v.2 v3 v.1) n v = some e) (kx : g_Y gCl X (gC hid) ad e (2, 12) 121 [(0, .ref (ad 0 0)), (3, .int v3)] []) : g_Y gCl X (gC hid) ad v.2 (2, 12) 83 [(0, .ref (ad 0 0)), (2, .ref (ad 43 0)), (3, .int v3), (4, .int v.1)] [] := by
  refine g_loop (P := fun v => g_Y gCl X (gC hid) ad v.2 (2, 12) 83 [(0, .ref (ad 0 0)), (2, .ref (ad 43 0)), (3, .int v3), (4, .int v.1)] []) (T := fun e => g_Y gCl X (gC hid) ad e (2, 12) 121 [(0, .ref (ad 0 0)), (3, .int v3)] []) ?_ n v e h kx
  clear h kx
  clear n v e
  intro v o h kl kx
  obtain ⟨v4, σ⟩ := v
  have h : mB_C1_things_83 σ v3 v4 = some o := h
  unfold mB_C1_things_83 at h
  show g_Y gCl X (gC hid) ad σ (2, 12) 83 [(0, .ref (ad 0 0)), (2, .ref (ad 43 0)), (3, .int v3), (4, .int v4)] []
  refine y_iload C dX1_things_83 3 rfl ?_
  refine y_iload_n C dX1_things_85 2 rfl rfl ?_
  refine y_icmp_ge (tgt := 121) C dX1_things_86 rfl (fun hc => ?_) (fun hc => ?_)
  · replace h := g_it h hc
    refine y_sub (vs2 := [(0, .ref (ad 0 0)), (3, .int v3)]) [0, 2] rfl ?_
    exact kx _ (Option.some.inj h).symm
  · replace h := g_if h hc
    refine y_aload_n C dX1_things_89 0 rfl rfl ?_
    refine gf_C_X1_84_0 C nC_0_0 dX1_things_90 ?_
    refine gf_C_X1_228_4 C nC_4_0 dX1_things_93 ?_
    refine y_aload_n C dX1_things_96 0 rfl rfl ?_
    refine gf_C_X1_153_0 C nC_0_0 dX1_things_97 ?_
    refine y_aload_n C dX1_things_100 1 rfl rfl ?_
    refine y_iload C dX1_things_101 3 rfl ?_
    obtain ⟨hg, h⟩ := g_gd h
    refine al_C_43 C nC_43_0 hg dX1_things_103 ?_
    obtain ⟨hg, h⟩ := g_gd h
    obtain ⟨σ18, hσ18, h⟩ := g_lt h
    refine as_C_9 C nC_9_0 hσ18 hg dX1_things_104 ?_
    obtain ⟨x19, hx19, h⟩ := g_lt h
    refine y_iinc (c := (1 : Int32)) (vs1 := [(4, .int x19), (0, .ref (ad 0 0)), (2, .ref (ad 43 0)), (3, .int v3)]) C hx19 (by decide) dX1_things_105 3 rfl (g_lL hL rfl) rfl ?_
    refine y_aload_n C dX1_things_108 1 rfl rfl ?_
    refine y_dup C dX1_things_109 rfl ?_
    refine gf_C_X1_153_0 C nC_0_0 dX1_things_110 ?_
    refine y_iconst (v := (1 : Int32)) C dX1_things_113 (by decide) ?_
    refine y_iadd C dX1_things_114 ?_
    obtain ⟨σ20, hσ20, h⟩ := g_lt h
    refine pf_C_X1_153_0 C nC_0_0 hσ20 dX1_things_115 ?_
    refine y_goto (tgt := 83) C dX1_things_118 rfl ?_
    refine y_sub (vs2 := [(0, .ref (ad 0 0)), (2, .ref (ad 43 0)), (3, .int v3), (4, .int x19)]) [1, 2, 3, 0] rfl ?_
    exact kl _ (Option.some.inj h).symm
theorem mw_C1_things {X : g_F} {hid : Bool} (C : g_M gCl X cX1_things RX1 (some .int)) (hR : g_R X = g_rm 9 3 19) (hL : g_nL X = 5) (hlt : (g_l X).stackTraces = false) (hT : (g_c X).exceptionTable.toList = tableOf [((23 : Nat), (67 : Nat), (70 : Nat), (185 : Nat))]) (hmc : g_mc X = 3 ∧ g_ms X = 19) {ad : Nat → Nat → Nat} {σ : g_S} {a0 : Nat} (ha0 : ad 0 0 = a0) {o : (Int32 × g_S)} (h : mF_C1_things σ = some o) (hQ : g_MQG gCl X (gC hid) (fun v ad2 s2 => v = some (.int o.1) ∧ s2 = o.2 ∧ ad2 0 0 = a0) (fun _ _ _ _ => False) = g_Q X) : g_Y gCl X (gC hid) ad σ (0, 0) 0 [(0, .ref (ad 0 0))] [] := by
  unfold mF_C1_things at h
  refine y_aload_n C dX1_things_0 0 rfl rfl ?_
  refine y_bipush (v := (23 : Int32)) C dX1_things_1 (by decide) ?_
  obtain ⟨σ1, hc, h⟩ := g_bd h
  refine y_callVG C (As := [.int (23 : Int32)]) (rest := []) (k := 0) (hu := nC_0_0) (hc := (rfl : gCl[0]? = some (RX1, TX1, 31))) (hcell := obC_0) (lk_X1_166_X1_l2 C hR (by decide)) (ct_C1_words hc) rfl rfl (Nat.le_of_ble_eq_true rfl) (by rw [hR]; exact ⟨Nat.le_of_ble_eq_true rfl, Nat.le_of_ble_eq_true rfl⟩) dX1_things_3 (fun v ad9 σ9 hz => ?_) (fun E q ad9 σ9 hz => hz.elim)
  obtain ⟨e1, e2, q2, e3⟩ := hz
  subst e1
  rw [e2, e3]
  clear e2 e3
  show g_Y gCl X (gC hid) (g_ua ad 40 0 q2) σ1 (1, 4) 6 [(0, .ref ((g_ua ad 40 0 q2) 0 0))] [.ref ((g_ua ad 40 0 q2) 40 0)]
  refine y_astore_n (vs1 := [(1, .ref ((g_ua ad 40 0 q2) 40 0)), (0, .ref ((g_ua ad 40 0 q2) 0 0))]) C rfl dX1_things_6 rfl (g_lL hL rfl) rfl ?_
  refine y_aload_n C dX1_things_7 0 rfl rfl ?_
  obtain ⟨hp, h⟩ := g_gd h
  refine gf_C_X1_202_40 C nC_40_0 hp dX1_things_8 ?_
  refine y_if_ne (tgt := 16) C dX1_things_11 rfl (fun hc => ?_) (fun hc => ?_)
  · replace h := g_if h hc
    refine y_bipush (v := (8 : Int32)) C dX1_things_16 (by decide) ?_
    obtain ⟨σ3, hσ3, h⟩ := g_lt h
    refine y_newa (atype := .int) (ty := .int) (σ1 := σ3) (a0 := (8, .inl fun _ => 0)) (t0 := 0) C 43 0 rfl rfl q221 (fun _ => rfl) (by decide) rfl (by decide) (by rw [hR]; exact ⟨Nat.le_of_ble_eq_true rfl, Nat.le_of_ble_eq_true rfl⟩) dX1_things_18 (by rw [hσ3]; exact fr_43) (fun q => by rw [hσ3]; exact me_43) (fun q4 => ?_)
    have hq4 : (g_ua (g_ua ad 40 0 q2) 43 0 q4) 43 0 = q4 := g_ua_s
    suffices key : g_Y gCl X (gC hid) (g_ua (g_ua ad 40 0 q2) 43 0 q4) σ3 (2, 12) 20 [(1, .ref ((g_ua (g_ua ad 40 0 q2) 43 0 q4) 40 0)), (0, .ref ((g_ua (g_ua ad 40 0 q2) 43 0 q4) 0 0))] [.ref ((g_ua (g_ua ad 40 0 q2) 43 0 q4) 43 0)] by rw [hq4] at key; exact key
    refine y_astore_n (vs1 := [(2, .ref ((g_ua (g_ua ad 40 0 q2) 43 0 q4) 43 0)), (1, .ref ((g_ua (g_ua ad 40 0 q2) 43 0 q4) 40 0)), (0, .ref ((g_ua (g_ua ad 40 0 q2) 43 0 q4) 0 0))]) C rfl dX1_things_20 rfl (g_lL hL rfl) rfl ?_
    refine y_iconst (v := (0 : Int32)) C dX1_things_21 (by decide) ?_
    refine y_istore_n (vs1 := [(3, .int (0 : Int32)), (2, .ref ((g_ua (g_ua ad 40 0 q2) 43 0 q4) 43 0)), (1, .ref ((g_ua (g_ua ad 40 0 q2) 43 0 q4) 40 0)), (0, .ref ((g_ua (g_ua ad 40 0 q2) 43 0 q4) 0 0))]) C rfl dX1_things_22 rfl (g_lL hL rfl) rfl ?_
    refine y_sub (vs2 := [(0, .ref ((g_ua (g_ua ad 40 0 q2) 43 0 q4) 0 0)), (1, .ref ((g_ua (g_ua ad 40 0 q2) 43 0 q4) 40 0)), (2, .ref ((g_ua (g_ua ad 40 0 q2) 43 0 q4) 43 0)), (3, .int (0 : Int32))]) [3, 2, 1, 0] rfl ?_
    obtain ⟨e14, he14, h⟩ := g_bd h
    refine ml_C1_things_23 C hR hL hlt hT hmc (show (g_ua (g_ua ad 40 0 q2) 43 0 q4) 0 0 = a0 from ha0) (σ := σ3) _ _ _ he14 ⟨fun y he => ?_, fun y he q => ?_⟩
    · obtain ⟨y15, rfl⟩ : ∃ z, z = y := ⟨_, rfl⟩
      subst he
      dsimp only at h
      refine y_aload_n C dX1_things_63 1 rfl rfl ?_
      obtain ⟨hp, h⟩ := g_gd h
      rcases g_txE h with ⟨z17, hc, h⟩ | ⟨σ16, hc, h⟩
      · refine y_callVX C (As := []) (rest := []) (k := 40) (hu := nC_40_0) (hc := (rfl : gCl[6]? = some (RX7, TX7, 4))) (hcell := (obC_40 hp)) (lk_X1_182_X7x_l7 C hR (by decide)) (cx_C7_needEnd_k40 hlt hc) rfl rfl (Nat.le_of_ble_eq_true rfl) (by rw [hR]; exact ⟨Nat.le_of_ble_eq_true rfl, Nat.le_of_ble_eq_true rfl⟩) dX1_things_64 (fun q => ?_)
        refine y_catchX C hT rfl (by decide) (by decide) q346 q405 ?_
        show g_Y gCl X (gC hid) (g_ua (g_ua (g_ua ad 40 0 q2) 43 0 q4) 52 0 q) z17 (3, 19) 70 [(0, .ref ((g_ua (g_ua (g_ua ad 40 0 q2) 43 0 q4) 52 0 q) 0 0)), (1, .ref ((g_ua (g_ua (g_ua ad 40 0 q2) 43 0 q4) 52 0 q) 40 0)), (2, .ref ((g_ua (g_ua (g_ua ad 40 0 q2) 43 0 q4) 52 0 q) 43 0)), (3, .int y15.1)] [.ref ((g_ua (g_ua (g_ua ad 40 0 q2) 43 0 q4) 52 0 q) 52 0)]
        refine y_sub (vs2 := []) [] rfl ?_
        exact mj_C1_things_70 C hR hL hlt hT hmc (show (g_ua (g_ua (g_ua ad 40 0 q2) 43 0 q4) 52 0 q) 0 0 = a0 from ha0) h hQ
      refine y_callVv C (As := []) (rest := []) (k := 40) (hu := nC_40_0) (hc := (rfl : gCl[6]? = some (RX7, TX7, 4))) (hcell := (obC_40 hp)) (lk_X1_182_X7_l7 C hR (by decide)) (ct_C7_needEnd_k40 hlt hc) rfl rfl (Nat.le_of_ble_eq_true rfl) (by rw [hR]; exact ⟨Nat.le_of_ble_eq_true rfl, Nat.le_of_ble_eq_true rfl⟩) dX1_things_64 ?_
      refine y_goto (tgt := 80) C dX1_things_67 rfl ?_
      refine y_iconst (v := (0 : Int32)) C dX1_things_80 (by decide) ?_
      refine y_istore (vs1 := [(4, .int (0 : Int32)), (0, .ref ((g_ua (g_ua ad 40 0 q2) 43 0 q4) 0 0)), (1, .ref ((g_ua (g_ua ad 40 0 q2) 43 0 q4) 40 0)), (2, .ref ((g_ua (g_ua ad 40 0 q2) 43 0 q4) 43 0)), (3, .int y15.1)]) C rfl dX1_things_81 (g_lL hL rfl) rfl ?_
      refine y_sub (vs2 := [(0, .ref ((g_ua (g_ua ad 40 0 q2) 43 0 q4) 0 0)), (2, .ref ((g_ua (g_ua ad 40 0 q2) 43 0 q4) 43 0)), (3, .int y15.1), (4, .int (0 : Int32))]) [1, 3, 4, 0] rfl ?_
      obtain ⟨e21, he21, h⟩ := g_bd h
      refine ml_C1_things_83 C hR hL hlt hT hmc (show (g_ua (g_ua ad 40 0 q2) 43 0 q4) 0 0 = a0 from ha0) (σ := σ16) _ _ _ he21 ?_
      refine y_aload_n C dX1_things_121 0 rfl rfl ?_
      obtain ⟨σ22, hc, h⟩ := g_bd h
      refine y_callVv C (As := []) (rest := []) (k := 0) (hu := nC_0_0) (hc := (rfl : gCl[0]? = some (RX1, TX1, 31))) (hcell := obC_0) (lk_X1_193_X1_l1 C hR (by decide)) (ct_C1_comes hc) rfl rfl (Nat.le_of_ble_eq_true rfl) (by rw [hR]; exact ⟨Nat.le_of_ble_eq_true rfl, Nat.le_of_ble_eq_true rfl⟩) dX1_things_122 ?_
      refine y_iload_n C dX1_things_125 1 rfl rfl ?_
      replace h := Option.some.inj h; subst h
      exact y_iretG C hQ ⟨rfl, rfl, ha0⟩ (by rw [hmc.1, hmc.2]; exact ⟨Nat.le_of_ble_eq_true rfl, Nat.le_of_ble_eq_true rfl⟩) dX1_things_126
    · obtain ⟨y23, rfl⟩ : ∃ z, z = y := ⟨_, rfl⟩
      subst he
      dsimp only at h
      show g_Y gCl X (gC hid) (g_ua (g_ua (g_ua ad 40 0 q2) 43 0 q4) 52 0 q) y23 (3, 19) 70 [] [.ref ((g_ua (g_ua (g_ua ad 40 0 q2) 43 0 q4) 52 0 q) 52 0)]
      exact mj_C1_things_70 C hR hL hlt hT hmc (show (g_ua (g_ua (g_ua ad 40 0 q2) 43 0 q4) 52 0 q) 0 0 = a0 from ha0) h hQ
  · replace h := g_it h hc
    refine y_iconst (v := (0 : Int32)) C dX1_things_14 (by decide) ?_
    replace h := Option.some.inj h; subst h
    exact y_iretG C hQ ⟨rfl, rfl, ha0⟩ (by rw [hmc.1, hmc.2]; exact ⟨Nat.le_of_ble_eq_true rfl, Nat.le_of_ble_eq_true rfl⟩) dX1_things_15
theorem ct_C1_things {D : va_G} {dA : Nat → ClassId} {A : Nat → Prop} {s0 : State} {b0 : Nat} {l : Launch} {hid : Bool} (hlt : l.stackTraces = false) {ad : Nat → Nat → Nat} {σ : g_S}{r : Int32} {σ1 : g_S} (h : mF_C1_things σ = some (r, σ1)) : g_MetG gCl D dA A s0 b0 l yX1_things (wsW_ yX1_things cX1_things 5 (some .int)  [((23 : Nat), (67 : Nat), (70 : Nat), (185 : Nat))]) 9 (3, 19) (gC hid) ad σ [.ref (ad 0 0)] (gC hid) (fun v ad2 s2 => v = some (.int r) ∧ s2 = σ1 ∧ ad2 0 0 = (ad 0 0)) (fun _ _ _ _ => False) :=
  g_MetG.ofH pl_X1 (Nat.le_of_ble_eq_true rfl) (fun X C hQ hR hmc hms hL hnm es eb el hT => mw_C1_things C hR hL (by rw [el]; exact hlt) hT ⟨hmc, hms⟩ rfl h hQ)
theorem ml_C1_light_23 {X : g_F} {hid : Bool} (C : g_M gCl X cX1_light RX1 (some .int)) (hR : g_R X = g_rm 8 3 31) (hL : g_nL X = 4) {s1 : Nat} (hu_s1 : s1 < g_n (gC hid) 11) (hlt : (g_l X).stackTraces = false) (hT : (g_c X).exceptionTable.toList = tableOf [((23 : Nat), (50 : Nat), (53 : Nat), (185 : Nat))]) (hmc : g_mc X = 3 ∧ g_ms X = 31) {ad : Nat → Nat → Nat} {σ : g_S} {a0 : Nat} (ha0 : ad 0 0 = a0) (n : Nat) (v : g_S) (e : (g_S ⊕ g_S)) (h : g_lp (fun v => mB_C1_light_23 v s1) n v = some e) (kx : (∀ y, e = .inl y → g_Y gCl X (gC hid) ad y (2, 24) 46 [(0, .ref (ad 0 0)), (1, .ref (ad 40 0)), (2, .ref (ad 11 s1))] []) ∧ (∀ y, e = .inr y → (∀ q, g_Y gCl X (gC hid) (g_ua ad 52 0 q) y (3, 31) 53 [] [.ref ((g_ua ad 52 0 q) 52 0)]))) : g_Y gCl X (gC hid) ad v (2, 24) 23 [(0, .ref (ad 0 0)), (1, .ref (ad 40 0)), (2, .ref (ad 11 s1))] [] := by
  refine g_loop (P := fun v => g_Y gCl X (gC hid) ad v (2, 24) 23 [(0, .ref (ad 0 0)), (1, .ref (ad 40 0)), (2, .ref (ad 11 s1))] []) (T := fun e => (∀ y, e = .inl y → g_Y gCl X (gC hid) ad y (2, 24) 46 [(0, .ref (ad 0 0)), (1, .ref (ad 40 0)), (2, .ref (ad 11 s1))] []) ∧ (∀ y, e = .inr y → (∀ q, g_Y gCl X (gC hid) (g_ua ad 52 0 q) y (3, 31) 53 [] [.ref ((g_ua ad 52 0 q) 52 0)]))) ?_ n v e h kx
  clear h kx
  clear n v e
  intro v o h kl kx
  obtain ⟨σ, rfl⟩ : ∃ z, z = v := ⟨_, rfl⟩
  have h : mB_C1_light_23 σ s1 = some o := h
  unfold mB_C1_light_23 at h
  show g_Y gCl X (gC hid) ad σ (2, 24) 23 [(0, .ref (ad 0 0)), (1, .ref (ad 40 0)), (2, .ref (ad 11 s1))] []
  refine y_aload_n C dX1_light_23 2 rfl rfl ?_
  refine y_aload_n C dX1_light_24 1 rfl rfl ?_
  obtain ⟨hp, h⟩ := g_gd h
  refine gf_C_X1_213_40 C nC_40_0 hp dX1_light_25 ?_
  refine y_aload_n C dX1_light_28 1 rfl rfl ?_
  refine y_bipush (v := (48 : Int32)) C dX1_light_29 (by decide) ?_
  refine y_bipush (v := (10 : Int32)) C dX1_light_31 (by decide) ?_
  obtain ⟨hp, h⟩ := g_gd h
  rcases g_t2E h with ⟨z7, hc, h⟩ | ⟨x6, σ5, hc, h⟩
  · refine y_callVX C (As := [.int (48 : Int32), .int (10 : Int32)]) (rest := [.int (σ.1 40 0 3), .ref (ad 11 s1)]) (k := 40) (hu := nC_40_0) (hc := (rfl : gCl[6]? = some (RX7, TX7, 4))) (hcell := (obC_40 hp)) (lk_X1_170_X7x_l7 C hR (by decide)) (cx_C7_one_k40 hlt hc) rfl rfl (Nat.le_of_ble_eq_true rfl) (by rw [hR]; exact ⟨Nat.le_of_ble_eq_true rfl, Nat.le_of_ble_eq_true rfl⟩) dX1_light_33 (fun q => ?_)
    refine y_catchX C hT rfl (by decide) (by decide) q346 q405 ?_
    show g_Y gCl X (gC hid) (g_ua ad 52 0 q) z7 (3, 31) 53 [(0, .ref ((g_ua ad 52 0 q) 0 0)), (1, .ref ((g_ua ad 52 0 q) 40 0)), (2, .ref ((g_ua ad 52 0 q) 11 s1))] [.ref ((g_ua ad 52 0 q) 52 0)]
    refine y_sub (vs2 := []) [] rfl ?_
    exact (kx _ (Option.some.inj h).symm).2 _ rfl q
  refine y_callV C (As := [.int (48 : Int32), .int (10 : Int32)]) (rest := [.int (σ.1 40 0 3), .ref (ad 11 s1)]) (k := 40) (hu := nC_40_0) (hc := (rfl : gCl[6]? = some (RX7, TX7, 4))) (hcell := (obC_40 hp)) (lk_X1_170_X7_l7 C hR (by decide)) (ct_C7_one_k40 hlt hc) rfl rfl (Nat.le_of_ble_eq_true rfl) (by rw [hR]; exact ⟨Nat.le_of_ble_eq_true rfl, Nat.le_of_ble_eq_true rfl⟩) dX1_light_33 ?_
  refine y_i2b C dX1_light_36 ?_
  obtain ⟨hg, h⟩ := g_gd h
  obtain ⟨σ8, hσ8, h⟩ := g_lt h
  refine as_C_11 C hu_s1 hσ8 hg dX1_light_37 ?_
  refine y_aload_n C dX1_light_38 1 rfl rfl ?_
  obtain ⟨hp, h⟩ := g_gd h
  obtain ⟨x9, hc, h⟩ := g_bd h
  refine y_callV C (As := []) (rest := []) (k := 40) (hu := nC_40_0) (hc := (rfl : gCl[6]? = some (RX7, TX7, 4))) (hcell := (obC_40 hp)) (lk_X1_231_X7_l1 C hR (by decide)) (ct_C7_here_k40 hc) rfl rfl (Nat.le_of_ble_eq_true rfl) (by rw [hR]; exact ⟨Nat.le_of_ble_eq_true rfl, Nat.le_of_ble_eq_true rfl⟩) dX1_light_39 ?_
  refine y_iconst (v := (-1 : Int32)) C dX1_light_42 (by decide) ?_
  refine y_icmp_ne (tgt := 23) C dX1_light_43 rfl (fun hc => ?_) (fun hc => ?_)
  · replace h := g_if h hc
    exact kl _ (Option.some.inj h).symm
  · replace h := g_it h hc
    exact (kx _ (Option.some.inj h).symm).1 _ rfl
theorem mj_C1_light_53 {X : g_F} {hid : Bool} (C : g_M gCl X cX1_light RX1 (some .int)) (hR : g_R X = g_rm 8 3 31) (hL : g_nL X = 4) {s1 : Nat} (hu_s1 : s1 < g_n (gC hid) 11) (hlt : (g_l X).stackTraces = false) (hT : (g_c X).exceptionTable.toList = tableOf [((23 : Nat), (50 : Nat), (53 : Nat), (185 : Nat))]) (hmc : g_mc X = 3 ∧ g_ms X = 31) {ad : Nat → Nat → Nat} {σ : g_S} {a0 : Nat} (ha0 : ad 0 0 = a0) {o : (Int32 × g_S)} (h : mJ_C1_light_53 σ s1 = some o) (hQ : g_MQG gCl X (gC hid) (fun v ad2 s2 => v = some (.int o.1) ∧ s2 = o.2 ∧ ad2 0 0 = a0) (fun _ _ _ _ => False) = g_Q X) : g_Y gCl X (gC hid) ad σ (3, 31) 53 [] [.ref (ad 52 0)] := by
  unfold mJ_C1_light_53 at h
  refine y_astore_n (vs1 := [(3, .ref (ad 52 0))]) C rfl dX1_light_53 rfl (g_lL hL rfl) rfl ?_
  refine y_iconst (v := (-1 : Int32)) C dX1_light_54 (by decide) ?_
  refine y_aload_n C dX1_light_55 0 rfl rfl ?_
  obtain ⟨hp, h⟩ := g_gd h
  refine gf_C_X1_187_52 C nC_52_0 hp dX1_light_56 ?_
  refine y_isub C dX1_light_59 ?_
  replace h := Option.some.inj h; subst h
  exact y_iretG C hQ ⟨rfl, rfl, ha0⟩ (by rw [hmc.1, hmc.2]; exact ⟨Nat.le_of_ble_eq_true rfl, Nat.le_of_ble_eq_true rfl⟩) dX1_light_60
theorem mw_C1_light {X : g_F} {hid : Bool} (C : g_M gCl X cX1_light RX1 (some .int)) (hR : g_R X = g_rm 8 3 31) (hL : g_nL X = 4) {s1 : Nat} (hu_s1 : s1 < g_n (gC hid) 11) (hlt : (g_l X).stackTraces = false) (hT : (g_c X).exceptionTable.toList = tableOf [((23 : Nat), (50 : Nat), (53 : Nat), (185 : Nat))]) (hmc : g_mc X = 3 ∧ g_ms X = 31) {ad : Nat → Nat → Nat} {σ : g_S} {a0 : Nat} (ha0 : ad 0 0 = a0) {o : (Int32 × g_S)} (h : mF_C1_light σ s1 = some o) (hQ : g_MQG gCl X (gC hid) (fun v ad2 s2 => v = some (.int o.1) ∧ s2 = o.2 ∧ ad2 0 0 = a0) (fun _ _ _ _ => False) = g_Q X) : g_Y gCl X (gC hid) ad σ (0, 0) 0 [(0, .ref (ad 0 0))] [] := by
  unfold mF_C1_light at h
  refine y_aload_n C dX1_light_0 0 rfl rfl ?_
  refine y_bipush (v := (20 : Int32)) C dX1_light_1 (by decide) ?_
  obtain ⟨σ1, hc, h⟩ := g_bd h
  refine y_callVG C (As := [.int (20 : Int32)]) (rest := []) (k := 0) (hu := nC_0_0) (hc := (rfl : gCl[0]? = some (RX1, TX1, 31))) (hcell := obC_0) (lk_X1_166_X1_l2 C hR (by decide)) (ct_C1_words hc) rfl rfl (Nat.le_of_ble_eq_true rfl) (by rw [hR]; exact ⟨Nat.le_of_ble_eq_true rfl, Nat.le_of_ble_eq_true rfl⟩) dX1_light_3 (fun v ad9 σ9 hz => ?_) (fun E q ad9 σ9 hz => hz.elim)
  obtain ⟨e1, e2, q2, e3⟩ := hz
  subst e1
  rw [e2, e3]
  clear e2 e3
  show g_Y gCl X (gC hid) (g_ua ad 40 0 q2) σ1 (1, 4) 6 [(0, .ref ((g_ua ad 40 0 q2) 0 0))] [.ref ((g_ua ad 40 0 q2) 40 0)]
  refine y_astore_n (vs1 := [(1, .ref ((g_ua ad 40 0 q2) 40 0)), (0, .ref ((g_ua ad 40 0 q2) 0 0))]) C rfl dX1_light_6 rfl (g_lL hL rfl) rfl ?_
  refine y_iconst (v := (1 : Int32)) C dX1_light_7 (by decide) ?_
  refine y_bipush (v := (20 : Int32)) C dX1_light_8 (by decide) ?_
  refine y_aload_n C dX1_light_10 0 rfl rfl ?_
  obtain ⟨hp, h⟩ := g_gd h
  refine gf_C_X1_202_40 C nC_40_0 hp dX1_light_11 ?_
  refine y_mmin C q509 (g_rmM hR (by decide)) (Nat.le_of_ble_eq_true rfl) (by rw [hR]; exact ⟨Nat.le_of_ble_eq_true rfl, Nat.le_of_ble_eq_true rfl⟩) dX1_light_14 ?_
  refine y_mmax C q510 (g_rmM hR (by decide)) (Nat.le_of_ble_eq_true rfl) (by rw [hR]; exact ⟨Nat.le_of_ble_eq_true rfl, Nat.le_of_ble_eq_true rfl⟩) dX1_light_17 ?_
  obtain ⟨hp, h⟩ := g_gd h
  obtain ⟨σ3, hσ3, h⟩ := g_lt h
  refine y_newa (atype := .byte) (ty := .byte) (σ1 := σ3) (a0 := ((g_max (1 : Int32) (g_min (20 : Int32) (σ1.1 40 0 1))).toNatClampNeg, .inl fun _ => 0)) (t0 := 3) C 11 s1 rfl rfl q329 (fun _ => rfl) hp.1 rfl (Nat.le_trans (Nat.mul_le_mul_right _ hp.2.2.1) (by decide)) (have h20 := hp.2.2.1; have hff : 1 + 1 ≤ (g_R X).cells ∧ 4 + 20 ≤ (g_R X).slots := (by rw [hR]; exact ⟨Nat.le_of_ble_eq_true rfl, Nat.le_of_ble_eq_true rfl⟩); ⟨hff.1, Nat.le_trans (Nat.add_le_add_left h20 _) hff.2⟩) dX1_light_20 (by rw [hσ3]; exact fr_11 hp.2.2.2) (fun q => by rw [hσ3]; exact me_11 hp.2.1) (fun q4 => ?_)
  refine y_widen (w2 := (2, 24)) ⟨Nat.le_refl _, Nat.add_le_add_left hp.2.2.1 _⟩ ?_
  have hq4 : (g_ua (g_ua ad 40 0 q2) 11 s1 q4) 11 s1 = q4 := g_ua_s
  suffices key : g_Y gCl X (gC hid) (g_ua (g_ua ad 40 0 q2) 11 s1 q4) σ3 (2, 24) 22 [(1, .ref ((g_ua (g_ua ad 40 0 q2) 11 s1 q4) 40 0)), (0, .ref ((g_ua (g_ua ad 40 0 q2) 11 s1 q4) 0 0))] [.ref ((g_ua (g_ua ad 40 0 q2) 11 s1 q4) 11 s1)] by rw [hq4] at key; exact key
  refine y_astore_n (vs1 := [(2, .ref ((g_ua (g_ua ad 40 0 q2) 11 s1 q4) 11 s1)), (1, .ref ((g_ua (g_ua ad 40 0 q2) 11 s1 q4) 40 0)), (0, .ref ((g_ua (g_ua ad 40 0 q2) 11 s1 q4) 0 0))]) C rfl dX1_light_22 rfl (g_lL hL rfl) rfl ?_
  refine y_sub (vs2 := [(0, .ref ((g_ua (g_ua ad 40 0 q2) 11 s1 q4) 0 0)), (1, .ref ((g_ua (g_ua ad 40 0 q2) 11 s1 q4) 40 0)), (2, .ref ((g_ua (g_ua ad 40 0 q2) 11 s1 q4) 11 s1))]) [2, 1, 0] rfl ?_
  obtain ⟨e10, he10, h⟩ := g_bd h
  refine ml_C1_light_23 C hR hL hu_s1 hlt hT hmc (show (g_ua (g_ua ad 40 0 q2) 11 s1 q4) 0 0 = a0 from ha0) (σ := σ3) _ _ _ he10 ⟨fun y he => ?_, fun y he q => ?_⟩
  · obtain ⟨y11, rfl⟩ : ∃ z, z = y := ⟨_, rfl⟩
    subst he
    dsimp only at h
    refine y_aload_n C dX1_light_46 1 rfl rfl ?_
    obtain ⟨hp, h⟩ := g_gd h
    rcases g_txE h with ⟨z13, hc, h⟩ | ⟨σ12, hc, h⟩
    · refine y_callVX C (As := []) (rest := []) (k := 40) (hu := nC_40_0) (hc := (rfl : gCl[6]? = some (RX7, TX7, 4))) (hcell := (obC_40 hp)) (lk_X1_182_X7x_l7 C hR (by decide)) (cx_C7_needEnd_k40 hlt hc) rfl rfl (Nat.le_of_ble_eq_true rfl) (by rw [hR]; exact ⟨Nat.le_of_ble_eq_true rfl, Nat.le_of_ble_eq_true rfl⟩) dX1_light_47 (fun q => ?_)
      refine y_catchX C hT rfl (by decide) (by decide) q346 q405 ?_
      show g_Y gCl X (gC hid) (g_ua (g_ua (g_ua ad 40 0 q2) 11 s1 q4) 52 0 q) z13 (3, 31) 53 [(0, .ref ((g_ua (g_ua (g_ua ad 40 0 q2) 11 s1 q4) 52 0 q) 0 0)), (1, .ref ((g_ua (g_ua (g_ua ad 40 0 q2) 11 s1 q4) 52 0 q) 40 0)), (2, .ref ((g_ua (g_ua (g_ua ad 40 0 q2) 11 s1 q4) 52 0 q) 11 s1))] [.ref ((g_ua (g_ua (g_ua ad 40 0 q2) 11 s1 q4) 52 0 q) 52 0)]
      refine y_sub (vs2 := []) [] rfl ?_
      exact mj_C1_light_53 C hR hL hu_s1 hlt hT hmc (show (g_ua (g_ua (g_ua ad 40 0 q2) 11 s1 q4) 52 0 q) 0 0 = a0 from ha0) h hQ
    refine y_callVv C (As := []) (rest := []) (k := 40) (hu := nC_40_0) (hc := (rfl : gCl[6]? = some (RX7, TX7, 4))) (hcell := (obC_40 hp)) (lk_X1_182_X7_l7 C hR (by decide)) (ct_C7_needEnd_k40 hlt hc) rfl rfl (Nat.le_of_ble_eq_true rfl) (by rw [hR]; exact ⟨Nat.le_of_ble_eq_true rfl, Nat.le_of_ble_eq_true rfl⟩) dX1_light_47 ?_
    refine y_goto (tgt := 61) C dX1_light_50 rfl ?_
    refine y_aload_n C dX1_light_61 0 rfl rfl ?_
    refine y_aload_n C dX1_light_62 2 rfl rfl ?_
    obtain ⟨σ14, hσ14, h⟩ := g_lt h
    refine pf_C_X1_98_0_r C nC_0_0 hσ14 dX1_light_63 ?_
    refine y_aload_n C dX1_light_66 0 rfl rfl ?_
    refine gf_C_X1_98_0 C nC_0_0 dX1_light_67 ?_
    obtain ⟨hu15, h⟩ := g_gd h
    obtain ⟨hg, h⟩ := g_gd h
    refine ln_C_11 C hu15 hg dX1_light_70 ?_
    replace h := Option.some.inj h; subst h
    exact y_iretG C hQ ⟨rfl, rfl, ha0⟩ (by rw [hmc.1, hmc.2]; exact ⟨Nat.le_of_ble_eq_true rfl, Nat.le_of_ble_eq_true rfl⟩) dX1_light_71
  · obtain ⟨y16, rfl⟩ : ∃ z, z = y := ⟨_, rfl⟩
    subst he
    dsimp only at h
    show g_Y gCl X (gC hid) (g_ua (g_ua (g_ua ad 40 0 q2) 11 s1 q4) 52 0 q) y16 (3, 31) 53 [] [.ref ((g_ua (g_ua (g_ua ad 40 0 q2) 11 s1 q4) 52 0 q) 52 0)]
    exact mj_C1_light_53 C hR hL hu_s1 hlt hT hmc (show (g_ua (g_ua (g_ua ad 40 0 q2) 11 s1 q4) 52 0 q) 0 0 = a0 from ha0) h hQ
theorem ct_C1_light {D : va_G} {dA : Nat → ClassId} {A : Nat → Prop} {s0 : State} {b0 : Nat} {l : Launch} {hid : Bool} (hlt : l.stackTraces = false) {s1 : Nat} (hu_s1 : s1 < g_n (gC hid) 11) {ad : Nat → Nat → Nat} {σ : g_S}{r : Int32} {σ1 : g_S} (h : mF_C1_light σ s1 = some (r, σ1)) : g_MetG gCl D dA A s0 b0 l yX1_light (wsW_ yX1_light cX1_light 4 (some .int)  [((23 : Nat), (50 : Nat), (53 : Nat), (185 : Nat))]) 8 (3, 31) (gC hid) ad σ [.ref (ad 0 0)] (gC hid) (fun v ad2 s2 => v = some (.int r) ∧ s2 = σ1 ∧ ad2 0 0 = (ad 0 0)) (fun _ _ _ _ => False) :=
  g_MetG.ofH pl_X1 (Nat.le_of_ble_eq_true rfl) (fun X C hQ hR hmc hms hL hnm es eb el hT => mw_C1_light C hR hL hu_s1 (by rw [el]; exact hlt) hT ⟨hmc, hms⟩ rfl h hQ)
theorem mw_C7_init_k53_27 {X : g_F} {hid : Bool} (C : g_M gCl X cX7_init RX7 none) (hR : g_R X = g_rm 1 0 0) (hL : g_nL X = 4) {u0 : Nat} (hu_u0 : u0 < g_n (gC hid) 27) (hnm : (g_me X).name = "<init>") {ad : Nat → Nat → Nat} {σ : g_S} {v2 : Int32} {v3 : Int32} {o : g_S} (h : mF_C7_init_k53_27 σ u0 v2 v3 = some o) (hQ : g_MQ gCl X (gC hid) ad o none = g_Q X) : g_Y gCl X (gC hid) ad σ (0, 0) 0 [(0, .ref (ad 53 0)), (1, .ref (ad 27 u0)), (2, .int v2), (3, .int v3)] [] := by
  unfold mF_C7_init_k53_27 at h
  refine y_aload_n C dX7_init_0 0 rfl rfl ?_
  refine y_objInit C q356 q142 q143 dX7_init_1 (g_rmM hR (Nat.le_of_ble_eq_true rfl)).1 (Nat.le_trans (by decide) (g_rmM hR (Nat.le_of_ble_eq_true rfl)).2) (by decide) ?_
  refine y_aload_n C dX7_init_4 0 rfl rfl ?_
  refine y_aload_n C dX7_init_5 1 rfl rfl ?_
  obtain ⟨hp, h⟩ := g_gd h
  obtain ⟨σ1, hσ1, h⟩ := g_lt h
  refine pf_C_X7_9_53 C nC_53_0 hp hnm hσ1 dX7_init_6 ?_
  refine y_aload_n C dX7_init_9 0 rfl rfl ?_
  refine y_iload_n C dX7_init_10 2 rfl rfl ?_
  obtain ⟨hp, h⟩ := g_gd h
  obtain ⟨σ2, hσ2, h⟩ := g_lt h
  refine pf_C_X7_15_53 C nC_53_0 hp hnm hσ2 dX7_init_11 ?_
  refine y_aload_n C dX7_init_14 0 rfl rfl ?_
  refine y_iload_n C dX7_init_15 2 rfl rfl ?_
  refine y_iload_n C dX7_init_16 3 rfl rfl ?_
  refine y_mmin C q357 (g_rmM hR (by decide)) (Nat.le_of_ble_eq_true rfl) ⟨Nat.zero_le _, Nat.zero_le _⟩ dX7_init_17 ?_
  obtain ⟨hp, h⟩ := g_gd h
  obtain ⟨σ3, hσ3, h⟩ := g_lt h
  refine pf_C_X7_25_53 C nC_53_0 hp hnm hσ3 dX7_init_20 ?_
  replace h := Option.some.inj h; subst h
  exact y_vret C hQ ⟨Nat.zero_le _, Nat.zero_le _⟩ dX7_init_23
theorem ct_C7_init_k53_27 {D : va_G} {dA : Nat → ClassId} {A : Nat → Prop} {s0 : State} {b0 : Nat} {l : Launch} {hid : Bool} {u0 : Nat} (hu_u0 : u0 < g_n (gC hid) 27) {ad : Nat → Nat → Nat} {σ : g_S} {v2 : Int32} {v3 : Int32} {σ1 : g_S} (h : mF_C7_init_k53_27 σ u0 v2 v3 = some σ1) : g_Met gCl D dA A s0 b0 l yX7_init cX7_init 4 none 1 (0, 0) (gC hid) ad σ [.ref (ad 53 0), .ref (ad 27 u0), .int v2, .int v3] (gC hid) ad σ1 none :=
  g_Met.of pl_X7 (Nat.le_of_ble_eq_true rfl) (fun X C hQ hR _ _ hL hnm es eb => mw_C7_init_k53_27 C hR hL hu_u0 hnm h hQ)
theorem mw_C9_init_k53_0_27 {X : g_F} {hid : Bool} (C : g_M gCl X cX9_init RX9 none) (hR : g_R X = g_rm 2 0 0) (hL : g_nL X = 4) {u1 : Nat} (hu_u1 : u1 < g_n (gC hid) 27) (hnm : (g_me X).name = "<init>") {ad : Nat → Nat → Nat} {σ : g_S} {v3 : Int32} {o : g_S} (h : mF_C9_init_k53_0_27 σ u1 v3 = some o) (hQ : g_MQ gCl X (gC hid) ad o none = g_Q X) : g_Y gCl X (gC hid) ad σ (0, 0) 0 [(0, .ref (ad 53 0)), (1, .ref (ad 0 0)), (2, .ref (ad 27 u1)), (3, .int v3)] [] := by
  unfold mF_C9_init_k53_0_27 at h
  refine y_aload_n C dX9_init_0 0 rfl rfl ?_
  refine y_aload_n C dX9_init_1 1 rfl rfl ?_
  obtain ⟨hp, h⟩ := g_gd h
  obtain ⟨σ1, hσ1, h⟩ := g_lt h
  refine pf_C_X9_3_53 C nC_53_0 hp hnm hσ1 dX9_init_2 ?_
  refine y_aload_n C dX9_init_5 0 rfl rfl ?_
  refine y_aload_n C dX9_init_6 2 rfl rfl ?_
  refine y_iload_n C dX9_init_7 3 rfl rfl ?_
  refine y_bipush (v := (40 : Int32)) C dX9_init_8 (by decide) ?_
  obtain ⟨σ2, hc, h⟩ := g_bd h
  refine y_callIv C (As := [.ref (ad 27 u1), .int v3, .int (40 : Int32)]) (rest := []) (lk_X9_9_X9_l1 C hR (by decide)) (ct_C7_init_k53_27 hu_u1 hc) rfl rfl (Nat.le_of_ble_eq_true rfl) ⟨Nat.zero_le _, Nat.zero_le _⟩ dX9_init_10 ?_
  replace h := Option.some.inj h; subst h
  exact y_vret C hQ ⟨Nat.zero_le _, Nat.zero_le _⟩ dX9_init_13
theorem ct_C9_init_k53_0_27 {D : va_G} {dA : Nat → ClassId} {A : Nat → Prop} {s0 : State} {b0 : Nat} {l : Launch} {hid : Bool} {u1 : Nat} (hu_u1 : u1 < g_n (gC hid) 27) {ad : Nat → Nat → Nat} {σ : g_S} {v3 : Int32} {σ1 : g_S} (h : mF_C9_init_k53_0_27 σ u1 v3 = some σ1) : g_Met gCl D dA A s0 b0 l yX9_init cX9_init 4 none 2 (0, 0) (gC hid) ad σ [.ref (ad 53 0), .ref (ad 0 0), .ref (ad 27 u1), .int v3] (gC hid) ad σ1 none :=
  g_Met.of pl_X9 (Nat.le_of_ble_eq_true rfl) (fun X C hQ hR _ _ hL hnm es eb => mw_C9_init_k53_0_27 C hR hL hu_u1 hnm h hQ)
theorem mj_C7_needEnd_k53_17 {X : g_F} {ck sk : Nat} {hid : Bool} (C : g_M gCl X cX7_needEnd RX7 none) (hR : g_R X = g_rm 7 ck sk) (hL : g_nL X = 1) (hlt : (g_l X).stackTraces = false) (hT : (g_c X).exceptionTable.toList = []) {ad : Nat → Nat → Nat} {σ : g_S} {s1 : Int32} {o : (g_S ⊕ g_S)} (h : mJ_C7_needEnd_k53_17 σ s1 = some o) (hQ : Sum.elim (fun z => g_MQX gCl X (gC hid) ad z) (fun z => g_MQ gCl X (gC hid) ad z none) o = g_Q X) (hw : Sum.elim (fun _ => 1 ≤ g_mc X ∧ 7 ≤ g_ms X ∧ 1 ≤ (g_R X).cells ∧ 7 ≤ (g_R X).slots) (fun _ => True) o) : g_Y gCl X (gC hid) ad σ (0, 0) 17 [] [.int s1, .ref (ad 53 0)] := by
  unfold mJ_C7_needEnd_k53_17 at h
  obtain ⟨hp, h⟩ := g_gd h
  rcases g_txE h with ⟨z2, hc, h⟩ | ⟨σ1, hc, h⟩
  · replace h := Option.some.inj h; subst h
    refine y_callUX C (As := [.int s1]) (rest := []) (k := 53) (hu := nC_53_0) (hc := (rfl : gCl[7]? = some (RX9, TX9, 8))) (hcell := (obC_53 hp)) (lk_X7_36_X9_X7x_l6 C hR (by decide)) (cx_C7_need_k53 hlt hc) rfl rfl (Nat.le_of_ble_eq_true rfl) ⟨hw.2.2.1, hw.2.2.2⟩ dX7_needEnd_17 (fun q => ?_)
    exact y_outX C hT hQ ⟨hw.1, hw.2.1⟩
  refine y_callUv C (As := [.int s1]) (rest := []) (k := 53) (hu := nC_53_0) (hc := (rfl : gCl[7]? = some (RX9, TX9, 8))) (hcell := (obC_53 hp)) (lk_X7_36_X9_X7_l6 C hR (by decide)) (ct_C7_need_k53 hlt hc) rfl rfl (Nat.le_of_ble_eq_true rfl) ⟨Nat.zero_le _, Nat.zero_le _⟩ dX7_needEnd_17 ?_
  replace h := Option.some.inj h; subst h
  exact y_vret C hQ ⟨Nat.zero_le _, Nat.zero_le _⟩ dX7_needEnd_20
theorem mw_C7_needEnd_k53 {X : g_F} {ck sk : Nat} {hid : Bool} (C : g_M gCl X cX7_needEnd RX7 none) (hR : g_R X = g_rm 7 ck sk) (hL : g_nL X = 1) (hlt : (g_l X).stackTraces = false) (hT : (g_c X).exceptionTable.toList = []) {ad : Nat → Nat → Nat} {σ : g_S} {o : (g_S ⊕ g_S)} (h : mF_C7_needEnd_k53 σ = some o) (hQ : Sum.elim (fun z => g_MQX gCl X (gC hid) ad z) (fun z => g_MQ gCl X (gC hid) ad z none) o = g_Q X) (hw : Sum.elim (fun _ => 1 ≤ g_mc X ∧ 7 ≤ g_ms X ∧ 1 ≤ (g_R X).cells ∧ 7 ≤ (g_R X).slots) (fun _ => True) o) : g_Y gCl X (gC hid) ad σ (0, 0) 0 [(0, .ref (ad 53 0))] [] := by
  unfold mF_C7_needEnd_k53 at h
  refine y_aload_n C dX7_needEnd_0 0 rfl rfl ?_
  refine y_aload_n C dX7_needEnd_1 0 rfl rfl ?_
  obtain ⟨hp, h⟩ := g_gd h
  refine gf_C_X7_28_53 C nC_53_0 hp dX7_needEnd_2 ?_
  refine y_aload_n C dX7_needEnd_5 0 rfl rfl ?_
  obtain ⟨hp, h⟩ := g_gd h
  refine gf_C_X7_15_53 C nC_53_0 hp dX7_needEnd_6 ?_
  refine y_icmp_ne (tgt := 16) C dX7_needEnd_9 rfl (fun hc => ?_) (fun hc => ?_)
  · replace h := g_if h hc
    refine y_iconst (v := (0 : Int32)) C dX7_needEnd_16 (by decide) ?_
    refine y_sub (vs2 := []) [] rfl ?_
    exact mj_C7_needEnd_k53_17 C hR hL hlt hT h hQ hw
  · replace h := g_it h hc
    refine y_iconst (v := (1 : Int32)) C dX7_needEnd_12 (by decide) ?_
    refine y_goto (tgt := 17) C dX7_needEnd_13 rfl ?_
    refine y_sub (vs2 := []) [] rfl ?_
    exact mj_C7_needEnd_k53_17 C hR hL hlt hT h hQ hw
theorem ct_C7_needEnd_k53 {D : va_G} {dA : Nat → ClassId} {A : Nat → Prop} {s0 : State} {b0 : Nat} {l : Launch} {hid : Bool} (hlt : l.stackTraces = false) {ad : Nat → Nat → Nat} {σ : g_S}{σ1 : g_S} (h : mF_C7_needEnd_k53 σ = some (.inr σ1)) : g_Met gCl D dA A s0 b0 l yX7_needEnd cX7_needEnd 1 none 7 (0, 0) (gC hid) ad σ [.ref (ad 53 0)] (gC hid) ad σ1 none :=
  g_Met.of2 pl_X7 (Nat.le_of_ble_eq_true rfl) (fun X C hQ hR _ _ hL hnm es eb el hT => mw_C7_needEnd_k53 C hR hL (by rw [el]; exact hlt) hT h hQ trivial)
theorem cx_C7_needEnd_k53 {D : va_G} {dA : Nat → ClassId} {A : Nat → Prop} {s0 : State} {b0 : Nat} {l : Launch} {hid : Bool} (hlt : l.stackTraces = false) {ad : Nat → Nat → Nat} {σ : g_S} {σ1 : g_S} (h : mF_C7_needEnd_k53 σ = some (.inl σ1)) : g_MetX gCl D dA A s0 b0 l yX7_needEnd cX7_needEnd 1 none 7 (gC hid) ad σ [.ref (ad 53 0)] (gC hid) ad σ1 :=
  g_MetX.of pl_X7 (Nat.le_of_ble_eq_true rfl) (fun X C hQ hR hmc hms hL hnm es eb el hT => mw_C7_needEnd_k53 C hR hL (by rw [el]; exact hlt) hT h hQ ⟨Nat.le_of_eq hmc.symm, Nat.le_of_eq hms.symm, by rw [hR]; exact Nat.le_refl _, by rw [hR]; exact Nat.le_refl _⟩)
theorem mw_C9_read_k53 {X : g_F} {ck sk : Nat} {hid : Bool} (C : g_M gCl X cX9_read RX9 (some (.object "BonnetValley$Rule"))) (hR : g_R X = g_rm 301 ck sk) (hL : g_nL X = 1) (hlt : (g_l X).stackTraces = false) (hT : (g_c X).exceptionTable.toList = []) {ad : Nat → Nat → Nat} {σ : g_S} {o : (g_S ⊕ g_S)} (h : mF_C9_read_k53 σ = some o) (hQ : Sum.elim (fun z => g_MQX gCl X (gC hid) ad z) (fun z => g_MQ gCl X (gC hid) ad z (some (.ref (ad 53 0)))) o = g_Q X) (hw : Sum.elim (fun _ => 1 ≤ g_mc X ∧ 7 ≤ g_ms X ∧ 1 ≤ (g_R X).cells ∧ 7 ≤ (g_R X).slots) (fun _ => True) o) : g_Y gCl X (gC hid) ad σ (0, 0) 0 [(0, .ref (ad 53 0))] [] := by
  unfold mF_C9_read_k53 at h
  refine y_aload_n C dX9_read_0 0 rfl rfl ?_
  refine y_iconst (v := (0 : Int32)) C dX9_read_1 (by decide) ?_
  obtain ⟨hp, h⟩ := g_gd h
  rcases g_t2E h with ⟨z3, hc, h⟩ | ⟨x2, σ1, hc, h⟩
  · replace h := Option.some.inj h; subst h
    refine y_callVX C (As := [.int (0 : Int32)]) (rest := []) (k := 53) (hu := nC_53_0) (hc := (rfl : gCl[7]? = some (RX9, TX9, 8))) (hcell := (obC_53 hp)) (lk_X9_15_X9x_l300 C hR (by decide)) (cx_held_k53 hlt hc) rfl rfl (Nat.le_of_ble_eq_true rfl) ⟨hw.2.2.1, hw.2.2.2⟩ dX9_read_2 (fun q => ?_)
    exact y_outX C hT hQ ⟨hw.1, hw.2.1⟩
  refine y_callV C (As := [.int (0 : Int32)]) (rest := []) (k := 53) (hu := nC_53_0) (hc := (rfl : gCl[7]? = some (RX9, TX9, 8))) (hcell := (obC_53 hp)) (lk_X9_15_X9_l300 C hR (by decide)) (ct_held_k53 hlt hc) rfl rfl (Nat.le_of_ble_eq_true rfl) ⟨Nat.zero_le _, Nat.zero_le _⟩ dX9_read_2 ?_
  refine y_pop C dX9_read_5 rfl ?_
  refine y_aload_n C dX9_read_6 0 rfl rfl ?_
  obtain ⟨hp, h⟩ := g_gd h
  rcases g_txE h with ⟨z5, hc, h⟩ | ⟨σ4, hc, h⟩
  · replace h := Option.some.inj h; subst h
    refine y_callUX C (As := []) (rest := []) (k := 53) (hu := nC_53_0) (hc := (rfl : gCl[7]? = some (RX9, TX9, 8))) (hcell := (obC_53 hp)) (lk_X9_19_X9_X7x_l7 C hR (by decide)) (cx_C7_needEnd_k53 hlt hc) rfl rfl (Nat.le_of_ble_eq_true rfl) ⟨hw.2.2.1, hw.2.2.2⟩ dX9_read_7 (fun q => ?_)
    exact y_outX C hT hQ ⟨hw.1, hw.2.1⟩
  refine y_callUv C (As := []) (rest := []) (k := 53) (hu := nC_53_0) (hc := (rfl : gCl[7]? = some (RX9, TX9, 8))) (hcell := (obC_53 hp)) (lk_X9_19_X9_X7_l7 C hR (by decide)) (ct_C7_needEnd_k53 hlt hc) rfl rfl (Nat.le_of_ble_eq_true rfl) ⟨Nat.zero_le _, Nat.zero_le _⟩ dX9_read_7 ?_
  refine y_aload_n C dX9_read_10 0 rfl rfl ?_
  replace h := Option.some.inj h; subst h
  exact y_aret C (Or.inl ⟨_, rfl⟩) (Or.inr ⟨_, rfl⟩) hQ ⟨Nat.zero_le _, Nat.zero_le _⟩ dX9_read_11
theorem ct_C9_read_k53 {D : va_G} {dA : Nat → ClassId} {A : Nat → Prop} {s0 : State} {b0 : Nat} {l : Launch} {hid : Bool} (hlt : l.stackTraces = false) {ad : Nat → Nat → Nat} {σ : g_S}{σ1 : g_S} (h : mF_C9_read_k53 σ = some (.inr σ1)) : g_Met gCl D dA A s0 b0 l yX9_read cX9_read 1 (some (.object "BonnetValley$Rule")) 301 (0, 0) (gC hid) ad σ [.ref (ad 53 0)] (gC hid) ad σ1 (some (.ref (ad 53 0))) :=
  g_Met.of2 pl_X9 (Nat.le_of_ble_eq_true rfl) (fun X C hQ hR _ _ hL hnm es eb el hT => mw_C9_read_k53 C hR hL (by rw [el]; exact hlt) hT h hQ trivial)
theorem cx_C9_read_k53 {D : va_G} {dA : Nat → ClassId} {A : Nat → Prop} {s0 : State} {b0 : Nat} {l : Launch} {hid : Bool} (hlt : l.stackTraces = false) {ad : Nat → Nat → Nat} {σ : g_S} {σ1 : g_S} (h : mF_C9_read_k53 σ = some (.inl σ1)) : g_MetX gCl D dA A s0 b0 l yX9_read cX9_read 1 (some (.object "BonnetValley$Rule")) 301 (gC hid) ad σ [.ref (ad 53 0)] (gC hid) ad σ1 :=
  g_MetX.of pl_X9 (Nat.le_of_ble_eq_true rfl) (fun X C hQ hR hmc hms hL hnm es eb el hT => mw_C9_read_k53 C hR hL (by rw [el]; exact hlt) hT h hQ ⟨Nat.le_of_eq hmc.symm, Nat.le_of_eq hms.symm, by rw [hR]; exact Nat.le_refl _, by rw [hR]; exact Nat.le_refl _⟩)
theorem mw_C1_rule {X : g_F} {hid : Bool} (C : g_M gCl X cX1_rule RX1 (some .int)) (hR : g_R X = g_rm 302 3 95) (hL : g_nL X = 4) {s1 : Nat} (hu_s1 : s1 < g_n (gC hid) 26) (hlt : (g_l X).stackTraces = false) (hT : (g_c X).exceptionTable.toList = tableOf [((32 : Nat), (50 : Nat), (51 : Nat), (185 : Nat))]) (hmc : g_mc X = 3 ∧ g_ms X = 95) {ad : Nat → Nat → Nat} {σ : g_S} {a0 : Nat} (ha0 : ad 0 0 = a0) {o : (Int32 × g_S)} (h : mF_C1_rule σ s1 = some o) (hQ : g_MQG gCl X (gC hid) (fun v ad2 s2 => v = some (.int o.1) ∧ s2 = o.2 ∧ ad2 0 0 = a0) (fun _ _ _ _ => False) = g_Q X) : g_Y gCl X (gC hid) ad σ (0, 0) 0 [(0, .ref (ad 0 0))] [] := by
  unfold mF_C1_rule at h
  refine y_aload_n C dX1_rule_0 0 rfl rfl ?_
  refine gf_C_X1_102_0 C nC_0_0 dX1_rule_1 ?_
  obtain ⟨σ1, hσ1, h⟩ := g_lt h
  refine y_drop (σ1 := σ1) (by rw [hσ1]; exact dr_26) ?_
  obtain ⟨σ2, hσ2, h⟩ := g_lt h
  refine y_drop (σ1 := σ2) (by rw [hσ2]; exact dr_53) ?_
  obtain ⟨hp, h⟩ := g_gd h
  obtain ⟨σ3, hσ3, h⟩ := g_lt h
  refine y_cloneB (σ1 := σ3) C nC_12_0 rfl hp.2.2 27 s1 q518 q519 q520 q521 q522 q523 (g_rmM hR (Nat.le_of_ble_eq_true rfl)) (by decide) (by rw [hR]; exact ⟨Nat.le_of_ble_eq_true rfl, Nat.le_of_ble_eq_true rfl⟩) dX1_rule_4 (by rw [hσ3]; exact fr_27 ⟨hp.1, hp.2.1⟩) (fun q => by rw [hσ3]; exact me_27) (fun q4 => ?_)
  have hq4 : (g_ua ad 27 s1 q4) 27 s1 = q4 := g_ua_s
  suffices key : g_Y gCl X (gC hid) (g_ua ad 27 s1 q4) σ3 (1, 80) 7 [(0, .ref ((g_ua ad 27 s1 q4) 0 0))] [.ref ((g_ua ad 27 s1 q4) 27 s1)] by rw [hq4] at key; exact key
  obtain ⟨hp, h⟩ := g_gd h
  refine y_castB C hu_s1 (if_neg hp) q524 dX1_rule_7 ?_
  refine y_astore_n (vs1 := [(1, .ref ((g_ua ad 27 s1 q4) 27 s1)), (0, .ref ((g_ua ad 27 s1 q4) 0 0))]) C rfl dX1_rule_10 rfl (g_lL hL rfl) rfl ?_
  refine y_aload_n C dX1_rule_11 1 rfl rfl ?_
  refine gf_C_X1_160_0 C nC_0_0 dX1_rule_12 ?_
  obtain ⟨x5, hx5, h⟩ := g_lt h
  refine y_istore_n (vs1 := [(2, .int x5), (1, .ref ((g_ua ad 27 s1 q4) 27 s1)), (0, .ref ((g_ua ad 27 s1 q4) 0 0))]) C hx5 dX1_rule_15 rfl (g_lL hL rfl) rfl ?_
  refine y_aload_n C dX1_rule_16 2 rfl rfl ?_
  refine y_iconst (v := (0 : Int32)) C dX1_rule_17 (by decide) ?_
  obtain ⟨σ6, hσ6, h⟩ := g_lt h
  refine pf_C_X1_160_0 C nC_0_0 hσ6 dX1_rule_18 ?_
  refine y_iload_n C dX1_rule_21 0 rfl rfl ?_
  refine y_if_ne (tgt := 32) C dX1_rule_22 rfl (fun hc => ?_) (fun hc => ?_)
  · replace h := g_if h hc
    refine y_aload_n C dX1_rule_32 2 rfl rfl ?_
    obtain ⟨σ7, hσ7, h⟩ := g_lt h
    refine y_new (σ1 := σ7) (fs := [.null, .int 0, .int 0, .int 0, .null, .int 0, .int 0, .null]) C 53 0 in_X9 tyX9 tyX9_ok q525 q526 q125 (rfl : gCl[7]? = _) (fun j hj => by rcases (show j = 0 ∨ j = 1 ∨ j = 2 ∨ j = 3 ∨ j = 4 ∨ j = 5 ∨ j = 6 ∨ j = 7 by omega) with rfl | rfl | rfl | rfl | rfl | rfl | rfl | rfl <;> rfl) (by rw [hR]; exact ⟨Nat.le_of_ble_eq_true rfl, Nat.le_of_ble_eq_true rfl⟩) dX1_rule_33 (by rw [hσ7]; exact fr_53) (fun q => by rw [hσ7]; exact me_53) (fun q8 => ?_)
    have hq8 : (g_ua (g_ua ad 27 s1 q4) 53 0 q8) 53 0 = q8 := g_ua_s
    suffices key : g_Y gCl X (gC hid) (g_ua (g_ua ad 27 s1 q4) 53 0 q8) σ7 (2, 88) 36 [(2, .int x5), (1, .ref ((g_ua (g_ua ad 27 s1 q4) 53 0 q8) 27 s1)), (0, .ref ((g_ua (g_ua ad 27 s1 q4) 53 0 q8) 0 0))] [.ref ((g_ua (g_ua ad 27 s1 q4) 53 0 q8) 53 0), .ref ((g_ua (g_ua ad 27 s1 q4) 53 0 q8) 0 0)] by rw [hq8] at key; exact key
    refine y_dup C dX1_rule_36 rfl ?_
    refine y_aload_n C dX1_rule_37 2 rfl rfl ?_
    refine y_aload_n C dX1_rule_38 1 rfl rfl ?_
    refine y_iload_n C dX1_rule_39 0 rfl rfl ?_
    obtain ⟨σ9, hc, h⟩ := g_bd h
    refine y_callIv C (As := [.ref ((g_ua (g_ua ad 27 s1 q4) 53 0 q8) 0 0), .ref ((g_ua (g_ua ad 27 s1 q4) 53 0 q8) 27 s1), .int x5]) (rest := [.ref ((g_ua (g_ua ad 27 s1 q4) 53 0 q8) 53 0), .ref ((g_ua (g_ua ad 27 s1 q4) 53 0 q8) 0 0)]) (lk_X1_239_X9_l2 C hR (by decide)) (ct_C9_init_k53_0_27 hu_s1 hc) rfl rfl (Nat.le_of_ble_eq_true rfl) (by rw [hR]; exact ⟨Nat.le_of_ble_eq_true rfl, Nat.le_of_ble_eq_true rfl⟩) dX1_rule_40 ?_
    obtain ⟨hp, h⟩ := g_gd h
    rcases g_txE h with ⟨z11, hc, h⟩ | ⟨σ10, hc, h⟩
    · refine y_callVX C (As := []) (rest := [.ref ((g_ua (g_ua ad 27 s1 q4) 53 0 q8) 0 0)]) (k := 53) (hu := nC_53_0) (hc := (rfl : gCl[7]? = some (RX9, TX9, 8))) (hcell := (obC_53 hp)) (lk_X1_242_X9x_l301 C hR (by decide)) (cx_C9_read_k53 hlt hc) rfl rfl (Nat.le_of_ble_eq_true rfl) (by rw [hR]; exact ⟨Nat.le_of_ble_eq_true rfl, Nat.le_of_ble_eq_true rfl⟩) dX1_rule_43 (fun q => ?_)
      refine y_catchX C hT rfl (by decide) (by decide) q346 q405 ?_
      show g_Y gCl X (gC hid) (g_ua (g_ua (g_ua ad 27 s1 q4) 53 0 q8) 52 0 q) z11 (3, 95) 51 [(2, .int x5), (1, .ref ((g_ua (g_ua (g_ua ad 27 s1 q4) 53 0 q8) 52 0 q) 27 s1)), (0, .ref ((g_ua (g_ua (g_ua ad 27 s1 q4) 53 0 q8) 52 0 q) 0 0))] [.ref ((g_ua (g_ua (g_ua ad 27 s1 q4) 53 0 q8) 52 0 q) 52 0)]
      refine y_astore_n (vs1 := [(3, .ref ((g_ua (g_ua (g_ua ad 27 s1 q4) 53 0 q8) 52 0 q) 52 0)), (2, .int x5), (1, .ref ((g_ua (g_ua (g_ua ad 27 s1 q4) 53 0 q8) 52 0 q) 27 s1)), (0, .ref ((g_ua (g_ua (g_ua ad 27 s1 q4) 53 0 q8) 52 0 q) 0 0))]) C rfl dX1_rule_51 rfl (g_lL hL rfl) rfl ?_
      refine y_iconst (v := (-1 : Int32)) C dX1_rule_52 (by decide) ?_
      refine y_aload_n C dX1_rule_53 0 rfl rfl ?_
      obtain ⟨hp, h⟩ := g_gd h
      refine gf_C_X1_187_52 C nC_52_0 hp dX1_rule_54 ?_
      refine y_isub C dX1_rule_57 ?_
      replace h := Option.some.inj h; subst h
      exact y_iretG C hQ ⟨rfl, rfl, ha0⟩ (by rw [hmc.1, hmc.2]; exact ⟨Nat.le_of_ble_eq_true rfl, Nat.le_of_ble_eq_true rfl⟩) dX1_rule_58
    refine y_callV C (As := []) (rest := [.ref ((g_ua (g_ua ad 27 s1 q4) 53 0 q8) 0 0)]) (k := 53) (hu := nC_53_0) (hc := (rfl : gCl[7]? = some (RX9, TX9, 8))) (hcell := (obC_53 hp)) (lk_X1_242_X9_l301 C hR (by decide)) (ct_C9_read_k53 hlt hc) rfl rfl (Nat.le_of_ble_eq_true rfl) (by rw [hR]; exact ⟨Nat.le_of_ble_eq_true rfl, Nat.le_of_ble_eq_true rfl⟩) dX1_rule_43 ?_
    obtain ⟨hg_mv, h⟩ := g_gd h
    obtain ⟨σ12, hσ12, h⟩ := g_lt h
    refine y_mv53 (σ1 := σ12) C hσ12 hg_mv ?_
    have hmv : (g_ua (g_ua (g_ua ad 27 s1 q4) 53 0 q8) 26 s1 ((g_ua (g_ua ad 27 s1 q4) 53 0 q8) 53 0)) 26 s1 = (g_ua (g_ua ad 27 s1 q4) 53 0 q8) 53 0 := g_ua_s
    suffices key : g_Y gCl X (gC hid) (g_ua (g_ua (g_ua ad 27 s1 q4) 53 0 q8) 26 s1 ((g_ua (g_ua ad 27 s1 q4) 53 0 q8) 53 0)) σ12 (2, 88) 46 [(2, .int x5), (1, .ref ((g_ua (g_ua (g_ua ad 27 s1 q4) 53 0 q8) 26 s1 ((g_ua (g_ua ad 27 s1 q4) 53 0 q8) 53 0)) 27 s1)), (0, .ref ((g_ua (g_ua (g_ua ad 27 s1 q4) 53 0 q8) 26 s1 ((g_ua (g_ua ad 27 s1 q4) 53 0 q8) 53 0)) 0 0))] [.ref ((g_ua (g_ua (g_ua ad 27 s1 q4) 53 0 q8) 26 s1 ((g_ua (g_ua ad 27 s1 q4) 53 0 q8) 53 0)) 26 s1), .ref ((g_ua (g_ua (g_ua ad 27 s1 q4) 53 0 q8) 26 s1 ((g_ua (g_ua ad 27 s1 q4) 53 0 q8) 53 0)) 0 0)] by rw [hmv] at key; exact key
    obtain ⟨σ13, hσ13, h⟩ := g_lt h
    refine pf_C_X1_30_0_r C nC_0_0 hσ13 dX1_rule_46 ?_
    refine y_iconst (v := (0 : Int32)) C dX1_rule_49 (by decide) ?_
    replace h := Option.some.inj h; subst h
    exact y_iretG C hQ ⟨rfl, rfl, ha0⟩ (by rw [hmc.1, hmc.2]; exact ⟨Nat.le_of_ble_eq_true rfl, Nat.le_of_ble_eq_true rfl⟩) dX1_rule_50
  · replace h := g_it h hc
    refine y_aload_n C dX1_rule_25 2 rfl rfl ?_
    refine y_null C dX1_rule_26 ?_
    obtain ⟨σ14, hσ14, h⟩ := g_lt h
    refine pf_C_X1_30_0_n C nC_0_0 hσ14 dX1_rule_27 ?_
    refine y_iconst (v := (0 : Int32)) C dX1_rule_30 (by decide) ?_
    replace h := Option.some.inj h; subst h
    exact y_iretG C hQ ⟨rfl, rfl, ha0⟩ (by rw [hmc.1, hmc.2]; exact ⟨Nat.le_of_ble_eq_true rfl, Nat.le_of_ble_eq_true rfl⟩) dX1_rule_31
theorem ct_C1_rule {D : va_G} {dA : Nat → ClassId} {A : Nat → Prop} {s0 : State} {b0 : Nat} {l : Launch} {hid : Bool} (hlt : l.stackTraces = false) {s1 : Nat} (hu_s1 : s1 < g_n (gC hid) 26) {ad : Nat → Nat → Nat} {σ : g_S}{r : Int32} {σ1 : g_S} (h : mF_C1_rule σ s1 = some (r, σ1)) : g_MetG gCl D dA A s0 b0 l yX1_rule (wsW_ yX1_rule cX1_rule 4 (some .int)  [((32 : Nat), (50 : Nat), (51 : Nat), (185 : Nat))]) 302 (3, 95) (gC hid) ad σ [.ref (ad 0 0)] (gC hid) (fun v ad2 s2 => v = some (.int r) ∧ s2 = σ1 ∧ ad2 0 0 = (ad 0 0)) (fun _ _ _ _ => False) :=
  g_MetG.ofH pl_X1 (Nat.le_of_ble_eq_true rfl) (fun X C hQ hR hmc hms hL hnm es eb el hT => mw_C1_rule C hR hL hu_s1 (by rw [el]; exact hlt) hT ⟨hmc, hms⟩ rfl h hQ)
theorem mw_C5_be_k4_4 {X : g_F} {hid : Bool} (C : g_M gCl X cX5_be RX5 none) (hR : g_R X = g_rm 1 0 0) (hL : g_nL X = 2) {u9 : Nat} (hu_u9 : u9 < g_n (gC hid) 4) {u0 : Nat} (hu_u0 : u0 < g_n (gC hid) 4) {ad : Nat → Nat → Nat} {σ : g_S} {o : g_S} (h : mF_C5_be_k4_4 σ u9 u0 = some o) (hQ : g_MQ gCl X (gC hid) ad o none = g_Q X) : g_Y gCl X (gC hid) ad σ (0, 0) 0 [(0, .ref (ad 4 u9)), (1, .ref (ad 4 u0))] [] := by
  unfold mF_C5_be_k4_4 at h
  refine y_aload_n C dX5_be_0 1 rfl rfl ?_
  refine gf_C_X5_9_4 C hu_u0 dX5_be_1 ?_
  refine y_iconst (v := (0 : Int32)) C dX5_be_4 (by decide) ?_
  refine y_aload_n C dX5_be_5 0 rfl rfl ?_
  refine gf_C_X5_9_4 C hu_u9 dX5_be_6 ?_
  refine y_iconst (v := (0 : Int32)) C dX5_be_9 (by decide) ?_
  refine y_bipush (v := (8 : Int32)) C dX5_be_10 (by decide) ?_
  obtain ⟨hg, h⟩ := g_gd h
  obtain ⟨σ1, hσ1, h⟩ := g_lt h
  refine y_copyi (k0 := 5) (u0 := u0) (k := 5) (u := u9) C hu_u0 hu_u9 rfl rfl (fun g_ => by show Sum.inl (Sum.inl (_, _, Sum.inl _)) = _; rw [g_sA_s]) hσ1 hg q760 (g_rmM hR (by decide)) (Nat.le_of_ble_eq_true rfl) dX5_be_12 ?_
  refine y_aload_n C dX5_be_15 1 rfl rfl ?_
  refine gf_C_X5_15_4 C hu_u0 dX5_be_16 ?_
  refine y_iconst (v := (0 : Int32)) C dX5_be_19 (by decide) ?_
  refine y_aload_n C dX5_be_20 0 rfl rfl ?_
  refine gf_C_X5_15_4 C hu_u9 dX5_be_21 ?_
  refine y_iconst (v := (0 : Int32)) C dX5_be_24 (by decide) ?_
  refine y_bipush (v := (8 : Int32)) C dX5_be_25 (by decide) ?_
  obtain ⟨hg, h⟩ := g_gd h
  obtain ⟨σ2, hσ2, h⟩ := g_lt h
  refine y_copyi (k0 := 6) (u0 := u0) (k := 6) (u := u9) C hu_u0 hu_u9 rfl rfl (fun g_ => by show Sum.inl (Sum.inl (_, _, Sum.inl _)) = _; rw [g_sA_s]) hσ2 hg q760 (g_rmM hR (by decide)) (Nat.le_of_ble_eq_true rfl) dX5_be_27 ?_
  refine y_aload_n C dX5_be_30 1 rfl rfl ?_
  refine gf_C_X5_18_4 C hu_u0 dX5_be_31 ?_
  refine y_iconst (v := (0 : Int32)) C dX5_be_34 (by decide) ?_
  refine y_aload_n C dX5_be_35 0 rfl rfl ?_
  refine gf_C_X5_18_4 C hu_u9 dX5_be_36 ?_
  refine y_iconst (v := (0 : Int32)) C dX5_be_39 (by decide) ?_
  refine y_bipush (v := (8 : Int32)) C dX5_be_40 (by decide) ?_
  obtain ⟨hg, h⟩ := g_gd h
  obtain ⟨σ3, hσ3, h⟩ := g_lt h
  refine y_copyi (k0 := 7) (u0 := u0) (k := 7) (u := u9) C hu_u0 hu_u9 rfl rfl (fun g_ => by show Sum.inl (Sum.inl (_, _, Sum.inl _)) = _; rw [g_sA_s]) hσ3 hg q760 (g_rmM hR (by decide)) (Nat.le_of_ble_eq_true rfl) dX5_be_42 ?_
  refine y_aload_n C dX5_be_45 1 rfl rfl ?_
  refine gf_C_X5_21_4 C hu_u0 dX5_be_46 ?_
  refine y_iconst (v := (0 : Int32)) C dX5_be_49 (by decide) ?_
  refine y_aload_n C dX5_be_50 0 rfl rfl ?_
  refine gf_C_X5_21_4 C hu_u9 dX5_be_51 ?_
  refine y_iconst (v := (0 : Int32)) C dX5_be_54 (by decide) ?_
  refine y_bipush (v := (8 : Int32)) C dX5_be_55 (by decide) ?_
  obtain ⟨hg, h⟩ := g_gd h
  obtain ⟨σ4, hσ4, h⟩ := g_lt h
  refine y_copyi (k0 := 8) (u0 := u0) (k := 8) (u := u9) C hu_u0 hu_u9 rfl rfl (fun g_ => by show Sum.inl (Sum.inl (_, _, Sum.inl _)) = _; rw [g_sA_s]) hσ4 hg q760 (g_rmM hR (by decide)) (Nat.le_of_ble_eq_true rfl) dX5_be_57 ?_
  refine y_aload_n C dX5_be_60 1 rfl rfl ?_
  refine gf_C_X5_24_4 C hu_u0 dX5_be_61 ?_
  refine y_iconst (v := (0 : Int32)) C dX5_be_64 (by decide) ?_
  refine y_aload_n C dX5_be_65 0 rfl rfl ?_
  refine gf_C_X5_24_4 C hu_u9 dX5_be_66 ?_
  refine y_iconst (v := (0 : Int32)) C dX5_be_69 (by decide) ?_
  refine y_bipush (v := (8 : Int32)) C dX5_be_70 (by decide) ?_
  obtain ⟨hg, h⟩ := g_gd h
  obtain ⟨σ5, hσ5, h⟩ := g_lt h
  refine y_copyi (k0 := 9) (u0 := u0) (k := 9) (u := u9) C hu_u0 hu_u9 rfl rfl (fun g_ => by show Sum.inl (Sum.inl (_, _, Sum.inl _)) = _; rw [g_sA_s]) hσ5 hg q760 (g_rmM hR (by decide)) (Nat.le_of_ble_eq_true rfl) dX5_be_72 ?_
  refine y_aload_n C dX5_be_75 0 rfl rfl ?_
  refine y_aload_n C dX5_be_76 1 rfl rfl ?_
  refine gf_C_X5_33_4 C hu_u0 dX5_be_77 ?_
  obtain ⟨σ6, hσ6, h⟩ := g_lt h
  refine pf_C_X5_33_4 C hu_u9 hσ6 dX5_be_80 ?_
  replace h := Option.some.inj h; subst h
  exact y_vret C hQ ⟨Nat.zero_le _, Nat.zero_le _⟩ dX5_be_83
theorem ct_C5_be_k4_4 {D : va_G} {dA : Nat → ClassId} {A : Nat → Prop} {s0 : State} {b0 : Nat} {l : Launch} {hid : Bool} {u9 : Nat} (hu_u9 : u9 < g_n (gC hid) 4) {u0 : Nat} (hu_u0 : u0 < g_n (gC hid) 4) {ad : Nat → Nat → Nat} {σ : g_S} {σ1 : g_S} (h : mF_C5_be_k4_4 σ u9 u0 = some σ1) : g_Met gCl D dA A s0 b0 l yX5_be cX5_be 2 none 1 (0, 0) (gC hid) ad σ [.ref (ad 4 u9), .ref (ad 4 u0)] (gC hid) ad σ1 none :=
  g_Met.of pl_X5 (Nat.le_of_ble_eq_true rfl) (fun X C hQ hR _ _ hL _ es eb => mw_C5_be_k4_4 C hR hL hu_u9 hu_u0 h hQ)
theorem mj_C1_remember_49 {X : g_F} {hid : Bool} (C : g_M gCl X cX1_remember RX1 none) (hR : g_R X = g_rm 2 0 0) (hL : g_nL X = 3) {u0 : Nat} (hu_u0 : u0 < g_n (gC hid) 4) {ad : Nat → Nat → Nat} {σ : g_S} {o : g_S} (h : mJ_C1_remember_49 σ u0 = some o) (hQ : g_MQ gCl X (gC hid) ad o none = g_Q X) : g_Y gCl X (gC hid) ad σ (0, 0) 49 [(0, .ref (ad 0 0)), (1, .ref (ad 4 u0))] [] := by
  unfold mJ_C1_remember_49 at h
  refine y_aload_n C dX1_remember_49 0 rfl rfl ?_
  refine gf_C_X1_94_0 C nC_0_0 dX1_remember_50 ?_
  refine y_aload_n C dX1_remember_53 0 rfl rfl ?_
  refine gf_C_X1_196_0 C nC_0_0 dX1_remember_54 ?_
  obtain ⟨hg1, h⟩ := g_gd h
  refine aa_C_10 C hg1 dX1_remember_57 ?_
  obtain ⟨hu2, h⟩ := g_gd h
  refine y_aload_n C dX1_remember_58 1 rfl rfl ?_
  obtain ⟨σ3, hc, h⟩ := g_bd h
  refine y_callVv C (As := [.ref (ad 4 u0)]) (rest := []) (k := 4) (hu := hu2) (hc := (rfl : gCl[4]? = some (RX5, TX5, 6))) (hcell := obC_4) (lk_X1_298_X5_l1 C hR (by decide)) (ct_C5_be_k4_4 hu2 hu_u0 hc) rfl rfl (Nat.le_of_ble_eq_true rfl) ⟨Nat.zero_le _, Nat.zero_le _⟩ dX1_remember_59 ?_
  refine y_aload_n C dX1_remember_62 0 rfl rfl ?_
  refine y_dup C dX1_remember_63 rfl ?_
  refine gf_C_X1_196_0 C nC_0_0 dX1_remember_64 ?_
  refine y_iconst (v := (1 : Int32)) C dX1_remember_67 (by decide) ?_
  refine y_iadd C dX1_remember_68 ?_
  obtain ⟨σ4, hσ4, h⟩ := g_lt h
  refine pf_C_X1_196_0 C nC_0_0 hσ4 dX1_remember_69 ?_
  replace h := Option.some.inj h; subst h
  exact y_vret C hQ ⟨Nat.zero_le _, Nat.zero_le _⟩ dX1_remember_72
theorem mw_C1_remember {X : g_F} {hid : Bool} (C : g_M gCl X cX1_remember RX1 none) (hR : g_R X = g_rm 2 0 0) (hL : g_nL X = 3) {u0 : Nat} (hu_u0 : u0 < g_n (gC hid) 4) {ad : Nat → Nat → Nat} {σ : g_S} {o : g_S} (h : mF_C1_remember σ u0 = some o) (hQ : g_MQ gCl X (gC hid) ad o none = g_Q X) : g_Y gCl X (gC hid) ad σ (0, 0) 0 [(0, .ref (ad 0 0)), (1, .ref (ad 4 u0))] [] := by
  unfold mF_C1_remember at h
  refine y_aload_n C dX1_remember_0 0 rfl rfl ?_
  refine gf_C_X1_196_0 C nC_0_0 dX1_remember_1 ?_
  refine y_bipush (v := (15 : Int32)) C dX1_remember_4 (by decide) ?_
  refine y_icmp_ne (tgt := 49) C dX1_remember_6 rfl (fun hc => ?_) (fun hc => ?_)
  · replace h := g_if h hc
    exact mj_C1_remember_49 C hR hL hu_u0 h hQ
  · replace h := g_it h hc
    refine y_aload_n C dX1_remember_9 0 rfl rfl ?_
    refine gf_C_X1_94_0 C nC_0_0 dX1_remember_10 ?_
    refine y_iconst (v := (0 : Int32)) C dX1_remember_13 (by decide) ?_
    obtain ⟨hg5, h⟩ := g_gd h
    refine aa_C_10 C hg5 dX1_remember_14 ?_
    obtain ⟨hu6, h⟩ := g_gd h
    refine y_astore_n (vs1 := [(2, .ref (ad 4 (σ.2.2 10 0 (0 : Int32).toNatClampNeg))), (0, .ref (ad 0 0)), (1, .ref (ad 4 u0))]) C rfl dX1_remember_15 rfl (g_lL hL rfl) rfl ?_
    refine y_aload_n C dX1_remember_16 1 rfl rfl ?_
    refine gf_C_X1_94_0 C nC_0_0 dX1_remember_17 ?_
    refine y_iconst (v := (1 : Int32)) C dX1_remember_20 (by decide) ?_
    refine y_aload_n C dX1_remember_21 1 rfl rfl ?_
    refine gf_C_X1_94_0 C nC_0_0 dX1_remember_22 ?_
    refine y_iconst (v := (0 : Int32)) C dX1_remember_25 (by decide) ?_
    refine y_bipush (v := (14 : Int32)) C dX1_remember_26 (by decide) ?_
    obtain ⟨hg, h⟩ := g_gd h
    obtain ⟨σ7, hσ7, h⟩ := g_lt h
    refine y_copyA C hσ7 hg q753 (g_rmM hR (by decide)) (Nat.le_of_ble_eq_true rfl) dX1_remember_28 ?_
    refine y_aload_n C dX1_remember_31 1 rfl rfl ?_
    refine gf_C_X1_94_0 C nC_0_0 dX1_remember_32 ?_
    refine y_bipush (v := (14 : Int32)) C dX1_remember_35 (by decide) ?_
    refine y_aload_n C dX1_remember_37 0 rfl rfl ?_
    obtain ⟨hg, h⟩ := g_gd h
    obtain ⟨σ8, hσ8, h⟩ := g_lt h
    refine y_astA C hu6 hσ8 hg dX1_remember_38 ?_
    refine y_aload_n C dX1_remember_39 1 rfl rfl ?_
    refine y_dup C dX1_remember_40 rfl ?_
    refine gf_C_X1_196_0 C nC_0_0 dX1_remember_41 ?_
    refine y_iconst (v := (1 : Int32)) C dX1_remember_44 (by decide) ?_
    refine y_isub C dX1_remember_45 ?_
    obtain ⟨σ9, hσ9, h⟩ := g_lt h
    refine pf_C_X1_196_0 C nC_0_0 hσ9 dX1_remember_46 ?_
    refine y_sub (vs2 := [(0, .ref (ad 0 0)), (1, .ref (ad 4 u0))]) [1, 2] rfl ?_
    exact mj_C1_remember_49 C hR hL hu_u0 h hQ
theorem ct_C1_remember {D : va_G} {dA : Nat → ClassId} {A : Nat → Prop} {s0 : State} {b0 : Nat} {l : Launch} {hid : Bool} {u0 : Nat} (hu_u0 : u0 < g_n (gC hid) 4) {ad : Nat → Nat → Nat} {σ : g_S} {σ1 : g_S} (h : mF_C1_remember σ u0 = some σ1) : g_Met gCl D dA A s0 b0 l yX1_remember cX1_remember 3 none 2 (0, 0) (gC hid) ad σ [.ref (ad 0 0), .ref (ad 4 u0)] (gC hid) ad σ1 none :=
  g_Met.of pl_X1 (Nat.le_of_ble_eq_true rfl) (fun X C hQ hR _ _ hL _ es eb => mw_C1_remember C hR hL hu_u0 h hQ)
theorem ml_C1_known_4 {X : g_F} {hid : Bool} (C : g_M gCl X cX1_known RX1 (some .int)) (hR : g_R X = g_rm 2 0 0) (hL : g_nL X = 4) {u0 : Nat} (hu_u0 : u0 < g_n (gC hid) 4) {ad : Nat → Nat → Nat} {σ : g_S} (n : Nat) (v : (Int32 × Int32)) (e : Int32) (h : g_lp (fun v => mB_C1_known_4 σ u0 v.1 v.2) n v = some e) (kx : g_Y gCl X (gC hid) ad σ (0, 0) 30 [(2, .int e)] []) : g_Y gCl X (gC hid) ad σ (0, 0) 4 [(0, .ref (ad 0 0)), (1, .ref (ad 4 u0)), (2, .int v.1), (3, .int v.2)] [] := by
  refine g_loop (P := fun v => g_Y gCl X (gC hid) ad σ (0, 0) 4 [(0, .ref (ad 0 0)), (1, .ref (ad 4 u0)), (2, .int v.1), (3, .int v.2)] []) (T := fun e => g_Y gCl X (gC hid) ad σ (0, 0) 30 [(2, .int e)] []) ?_ n v e h kx
  clear h kx
  clear n v e
  intro v o h kl kx
  obtain ⟨v2, v3⟩ := v
  have h : mB_C1_known_4 σ u0 v2 v3 = some o := h
  unfold mB_C1_known_4 at h
  show g_Y gCl X (gC hid) ad σ (0, 0) 4 [(0, .ref (ad 0 0)), (1, .ref (ad 4 u0)), (2, .int v2), (3, .int v3)] []
  refine y_iload_n C dX1_known_4 3 rfl rfl ?_
  refine y_aload_n C dX1_known_5 0 rfl rfl ?_
  refine gf_C_X1_150_0 C nC_0_0 dX1_known_6 ?_
  refine y_icmp_ge (tgt := 30) C dX1_known_9 rfl (fun hc => ?_) (fun hc => ?_)
  · replace h := g_it h hc
    refine y_sub (vs2 := [(2, .int v2)]) [2] rfl ?_
    exact kx _ (Option.some.inj h).symm
  · replace h := g_if h hc
    refine y_iload_n C dX1_known_12 2 rfl rfl ?_
    refine y_aload_n C dX1_known_13 1 rfl rfl ?_
    refine gf_C_X1_225_4 C hu_u0 dX1_known_14 ?_
    refine y_iload_n C dX1_known_17 3 rfl rfl ?_
    obtain ⟨hg, h⟩ := g_gd h
    refine al_C_8 C hu_u0 hg dX1_known_18 ?_
    obtain ⟨x1, hc, h⟩ := g_bd h
    refine y_callS C (As := [.int (σ.1 8 u0 v3.toNatClampNeg)]) (rest := [.int v2]) (lk_X1_315_l1 C hR (by decide)) (ct_J8_bitCount hc) rfl rfl (Nat.le_of_ble_eq_true rfl) ⟨Nat.zero_le _, Nat.zero_le _⟩ dX1_known_19 ?_
    refine y_iadd C dX1_known_22 ?_
    obtain ⟨x2, hx2, h⟩ := g_lt h
    refine y_istore_n (vs1 := [(2, .int x2), (0, .ref (ad 0 0)), (1, .ref (ad 4 u0)), (3, .int v3)]) C hx2 dX1_known_23 rfl (g_lL hL rfl) rfl ?_
    obtain ⟨x3, hx3, h⟩ := g_lt h
    refine y_iinc (c := (1 : Int32)) (vs1 := [(3, .int x3), (2, .int x2), (0, .ref (ad 0 0)), (1, .ref (ad 4 u0))]) C hx3 (by decide) dX1_known_24 3 rfl (g_lL hL rfl) rfl ?_
    refine y_goto (tgt := 4) C dX1_known_27 rfl ?_
    refine y_sub (vs2 := [(0, .ref (ad 0 0)), (1, .ref (ad 4 u0)), (2, .int x2), (3, .int x3)]) [2, 3, 1, 0] rfl ?_
    exact kl _ (Option.some.inj h).symm
theorem mw_C1_known {X : g_F} {hid : Bool} (C : g_M gCl X cX1_known RX1 (some .int)) (hR : g_R X = g_rm 2 0 0) (hL : g_nL X = 4) {u0 : Nat} (hu_u0 : u0 < g_n (gC hid) 4) {ad : Nat → Nat → Nat} {σ : g_S} {o : Int32} (h : mF_C1_known σ u0 = some o) (hQ : g_MQ gCl X (gC hid) ad σ (some (.int o)) = g_Q X) : g_Y gCl X (gC hid) ad σ (0, 0) 0 [(0, .ref (ad 0 0)), (1, .ref (ad 4 u0))] [] := by
  unfold mF_C1_known at h
  refine y_iconst (v := (0 : Int32)) C dX1_known_0 (by decide) ?_
  refine y_istore_n (vs1 := [(2, .int (0 : Int32)), (0, .ref (ad 0 0)), (1, .ref (ad 4 u0))]) C rfl dX1_known_1 rfl (g_lL hL rfl) rfl ?_
  refine y_iconst (v := (0 : Int32)) C dX1_known_2 (by decide) ?_
  refine y_istore_n (vs1 := [(3, .int (0 : Int32)), (2, .int (0 : Int32)), (0, .ref (ad 0 0)), (1, .ref (ad 4 u0))]) C rfl dX1_known_3 rfl (g_lL hL rfl) rfl ?_
  refine y_sub (vs2 := [(0, .ref (ad 0 0)), (1, .ref (ad 4 u0)), (2, .int (0 : Int32)), (3, .int (0 : Int32))]) [2, 3, 1, 0] rfl ?_
  obtain ⟨e4, he4, h⟩ := g_bd h
  refine ml_C1_known_4 C hR hL hu_u0 (σ := σ) _ _ _ he4 ?_
  refine y_iload_n C dX1_known_30 0 rfl rfl ?_
  replace h := Option.some.inj h; subst h
  exact y_iret C hQ ⟨Nat.zero_le _, Nat.zero_le _⟩ dX1_known_31
theorem ct_C1_known {D : va_G} {dA : Nat → ClassId} {A : Nat → Prop} {s0 : State} {b0 : Nat} {l : Launch} {hid : Bool} {u0 : Nat} (hu_u0 : u0 < g_n (gC hid) 4) {ad : Nat → Nat → Nat} {σ : g_S} {r : Int32} (h : mF_C1_known σ u0 = some r) : g_Met gCl D dA A s0 b0 l yX1_known cX1_known 4 (some .int) 2 (0, 0) (gC hid) ad σ [.ref (ad 0 0), .ref (ad 4 u0)] (gC hid) ad σ (some (.int r)) :=
  g_Met.of pl_X1 (Nat.le_of_ble_eq_true rfl) (fun X C hQ hR _ _ hL _ es eb => mw_C1_known C hR hL hu_u0 h hQ)
theorem mw_C2_reach_k1_4 {X : g_F} (C : g_M gCl X cX2_reach RX2 (some .int)) (hR : g_R X = g_rm 303 0 0) (hL : g_nL X = 3) {u0 : Nat} (hu_u0 : u0 < g_n (gC true) 4) {ad : Nat → Nat → Nat} {σ : g_S} {v2 : Int32} {o : Int32} (h : mF_C2_reach_k1_4 σ u0 v2 = some o) (hQ : g_MQ gCl X (gC true) ad σ (some (.int o)) = g_Q X) : g_Y gCl X (gC true) ad σ (0, 0) 0 [(0, .ref (ad 1 0)), (1, .ref (ad 4 u0)), (2, .int v2)] [] := by
  unfold mF_C2_reach_k1_4 at h
  refine y_aload_n C dX2_reach_0 0 rfl rfl ?_
  refine gf_C_X2_3_1 C nC_1_0 dX2_reach_1 ?_
  refine y_aload_n C dX2_reach_4 1 rfl rfl ?_
  refine y_iload_n C dX2_reach_5 2 rfl rfl ?_
  refine y_aload_n C dX2_reach_6 1 rfl rfl ?_
  refine gf_C_X2_21_4 C hu_u0 dX2_reach_7 ?_
  refine y_iload_n C dX2_reach_10 2 rfl rfl ?_
  obtain ⟨hg, h⟩ := g_gd h
  refine al_C_7 C hu_u0 hg dX2_reach_11 ?_
  obtain ⟨x1, hc, h⟩ := g_bd h
  refine y_callVN C (As := [.ref (ad 4 u0), .int v2, .int (σ.1 7 u0 v2.toNatClampNeg)]) (rest := []) (k := 0) (hu := nC_0_0) (hc := (rfl : gCl[0]? = some (RX1, TX1, 31))) (hcell := obC_0) (lk_X2_24_X1_l302 C hR (by decide)) (ct_R_C_reachBy hu_u0 hc) rfl rfl (Nat.le_of_ble_eq_true rfl) ⟨Nat.zero_le _, Nat.zero_le _⟩ dX2_reach_12 ?_
  replace h := Option.some.inj h; subst h
  exact y_iret C hQ ⟨Nat.zero_le _, Nat.zero_le _⟩ dX2_reach_15
theorem ct_C2_reach_k1_4 {D : va_G} {dA : Nat → ClassId} {A : Nat → Prop} {s0 : State} {b0 : Nat} {l : Launch} {u0 : Nat} (hu_u0 : u0 < g_n (gC true) 4) {ad : Nat → Nat → Nat} {σ : g_S} {v2 : Int32} {r : Int32} (h : mF_C2_reach_k1_4 σ u0 v2 = some r) : g_Met gCl D dA A s0 b0 l yX2_reach cX2_reach 3 (some .int) 303 (0, 0) (gC true) ad σ [.ref (ad 1 0), .ref (ad 4 u0), .int v2] (gC true) ad σ (some (.int r)) :=
  g_Met.of pl_X2 (Nat.le_of_ble_eq_true rfl) (fun X C hQ hR _ _ hL _ es eb => mw_C2_reach_k1_4 C hR hL hu_u0 h hQ)
theorem mw_C2_facing_k1_4 {X : g_F} {hid : Bool} (C : g_M gCl X cX2_facing RX2 (some .int)) (hR : g_R X = g_rm 1 0 0) (hL : g_nL X = 3) {u0 : Nat} (hu_u0 : u0 < g_n (gC hid) 4) {ad : Nat → Nat → Nat} {σ : g_S} {v2 : Int32} {o : Int32} (h : mF_C2_facing_k1_4 σ u0 v2 = some o) (hQ : g_MQ gCl X (gC hid) ad σ (some (.int o)) = g_Q X) : g_Y gCl X (gC hid) ad σ (0, 0) 0 [(0, .ref (ad 1 0)), (1, .ref (ad 4 u0)), (2, .int v2)] [] := by
  unfold mF_C2_facing_k1_4 at h
  refine y_aload_n C dX2_facing_0 1 rfl rfl ?_
  refine gf_C_X2_15_4 C hu_u0 dX2_facing_1 ?_
  refine y_iload_n C dX2_facing_4 2 rfl rfl ?_
  obtain ⟨hg, h⟩ := g_gd h
  refine al_C_6 C hu_u0 hg dX2_facing_5 ?_
  replace h := Option.some.inj h; subst h
  exact y_iret C hQ ⟨Nat.zero_le _, Nat.zero_le _⟩ dX2_facing_6
theorem ct_C2_facing_k1_4 {D : va_G} {dA : Nat → ClassId} {A : Nat → Prop} {s0 : State} {b0 : Nat} {l : Launch} {hid : Bool} {u0 : Nat} (hu_u0 : u0 < g_n (gC hid) 4) {ad : Nat → Nat → Nat} {σ : g_S} {v2 : Int32} {r : Int32} (h : mF_C2_facing_k1_4 σ u0 v2 = some r) : g_Met gCl D dA A s0 b0 l yX2_facing cX2_facing 3 (some .int) 1 (0, 0) (gC hid) ad σ [.ref (ad 1 0), .ref (ad 4 u0), .int v2] (gC hid) ad σ (some (.int r)) :=
  g_Met.of pl_X2 (Nat.le_of_ble_eq_true rfl) (fun X C hQ hR _ _ hL _ es eb => mw_C2_facing_k1_4 C hR hL hu_u0 h hQ)
theorem mw_C1_wayOf {X : g_F} {LM : g_L} (C : g_M gCl X cX1_wayOf RX1 (some .int)) (hR : g_R X = g_rm 1 0 0) (hL : g_nL X = 4) {ad : Nat → Nat → Nat} {σ : g_S} {v0 : Int32} {v1 : Int32} {o : Int32} (h : mF_C1_wayOf v0 v1 = some o) (hQ : g_MQ gCl X LM ad σ (some (.int o)) = g_Q X) : g_Y gCl X LM ad σ (0, 0) 0 [(0, .int v0), (1, .int v1)] [] := by
  unfold mF_C1_wayOf at h
  refine y_iload_n C dX1_wayOf_0 0 rfl rfl ?_
  refine y_mabs C q824 (g_rmM hR (by decide)) (Nat.le_of_ble_eq_true rfl) ⟨Nat.zero_le _, Nat.zero_le _⟩ dX1_wayOf_1 ?_
  obtain ⟨x1, hx1, h⟩ := g_lt h
  refine y_istore_n (vs1 := [(2, .int x1), (0, .int v0), (1, .int v1)]) C hx1 dX1_wayOf_4 rfl (g_lL hL rfl) rfl ?_
  refine y_iload_n C dX1_wayOf_5 2 rfl rfl ?_
  refine y_mabs C q824 (g_rmM hR (by decide)) (Nat.le_of_ble_eq_true rfl) ⟨Nat.zero_le _, Nat.zero_le _⟩ dX1_wayOf_6 ?_
  obtain ⟨x2, hx2, h⟩ := g_lt h
  refine y_istore_n (vs1 := [(3, .int x2), (2, .int x1), (0, .int v0), (1, .int v1)]) C hx2 dX1_wayOf_9 rfl (g_lL hL rfl) rfl ?_
  refine y_iload_n C dX1_wayOf_10 1 rfl rfl ?_
  refine y_iconst (v := (2 : Int32)) C dX1_wayOf_11 (by decide) ?_
  refine y_iload_n C dX1_wayOf_12 0 rfl rfl ?_
  refine y_imul C dX1_wayOf_13 ?_
  refine y_icmp_le (tgt := 27) C dX1_wayOf_14 rfl (fun hc => ?_) (fun hc => ?_)
  · replace h := g_it h hc
    refine y_iload_n C dX1_wayOf_27 0 rfl rfl ?_
    refine y_iconst (v := (2 : Int32)) C dX1_wayOf_28 (by decide) ?_
    refine y_iload_n C dX1_wayOf_29 1 rfl rfl ?_
    refine y_imul C dX1_wayOf_30 ?_
    refine y_icmp_le (tgt := 45) C dX1_wayOf_31 rfl (fun hc => ?_) (fun hc => ?_)
    · replace h := g_it h hc
      refine y_iload_n C dX1_wayOf_45 2 rfl rfl ?_
      refine y_if_ge (tgt := 60) C dX1_wayOf_46 rfl (fun hc => ?_) (fun hc => ?_)
      · replace h := g_it h hc
        refine y_iload_n C dX1_wayOf_60 3 rfl rfl ?_
        refine y_if_le (tgt := 68) C dX1_wayOf_61 rfl (fun hc => ?_) (fun hc => ?_)
        · replace h := g_it h hc
          refine y_iconst (v := (5 : Int32)) C dX1_wayOf_68 (by decide) ?_
          replace h := Option.some.inj h; subst h
          exact y_iret C hQ ⟨Nat.zero_le _, Nat.zero_le _⟩ dX1_wayOf_69
        · replace h := g_if h hc
          refine y_iconst (v := (3 : Int32)) C dX1_wayOf_64 (by decide) ?_
          refine y_goto (tgt := 69) C dX1_wayOf_65 rfl ?_
          replace h := Option.some.inj h; subst h
          exact y_iret C hQ ⟨Nat.zero_le _, Nat.zero_le _⟩ dX1_wayOf_69
      · replace h := g_if h hc
        refine y_iload_n C dX1_wayOf_49 3 rfl rfl ?_
        refine y_if_le (tgt := 57) C dX1_wayOf_50 rfl (fun hc => ?_) (fun hc => ?_)
        · replace h := g_it h hc
          refine y_bipush (v := (7 : Int32)) C dX1_wayOf_57 (by decide) ?_
          replace h := Option.some.inj h; subst h
          exact y_iret C hQ ⟨Nat.zero_le _, Nat.zero_le _⟩ dX1_wayOf_59
        · replace h := g_if h hc
          refine y_iconst (v := (1 : Int32)) C dX1_wayOf_53 (by decide) ?_
          refine y_goto (tgt := 59) C dX1_wayOf_54 rfl ?_
          replace h := Option.some.inj h; subst h
          exact y_iret C hQ ⟨Nat.zero_le _, Nat.zero_le _⟩ dX1_wayOf_59
    · replace h := g_if h hc
      refine y_iload_n C dX1_wayOf_34 3 rfl rfl ?_
      refine y_if_le (tgt := 42) C dX1_wayOf_35 rfl (fun hc => ?_) (fun hc => ?_)
      · replace h := g_it h hc
        refine y_bipush (v := (6 : Int32)) C dX1_wayOf_42 (by decide) ?_
        replace h := Option.some.inj h; subst h
        exact y_iret C hQ ⟨Nat.zero_le _, Nat.zero_le _⟩ dX1_wayOf_44
      · replace h := g_if h hc
        refine y_iconst (v := (2 : Int32)) C dX1_wayOf_38 (by decide) ?_
        refine y_goto (tgt := 44) C dX1_wayOf_39 rfl ?_
        replace h := Option.some.inj h; subst h
        exact y_iret C hQ ⟨Nat.zero_le _, Nat.zero_le _⟩ dX1_wayOf_44
  · replace h := g_if h hc
    refine y_iload_n C dX1_wayOf_17 2 rfl rfl ?_
    refine y_if_ge (tgt := 25) C dX1_wayOf_18 rfl (fun hc => ?_) (fun hc => ?_)
    · replace h := g_it h hc
      refine y_iconst (v := (4 : Int32)) C dX1_wayOf_25 (by decide) ?_
      replace h := Option.some.inj h; subst h
      exact y_iret C hQ ⟨Nat.zero_le _, Nat.zero_le _⟩ dX1_wayOf_26
    · replace h := g_if h hc
      refine y_iconst (v := (0 : Int32)) C dX1_wayOf_21 (by decide) ?_
      refine y_goto (tgt := 26) C dX1_wayOf_22 rfl ?_
      replace h := Option.some.inj h; subst h
      exact y_iret C hQ ⟨Nat.zero_le _, Nat.zero_le _⟩ dX1_wayOf_26
theorem ct_C1_wayOf {D : va_G} {dA : Nat → ClassId} {A : Nat → Prop} {s0 : State} {b0 : Nat} {l : Launch} {LM : g_L} {ad : Nat → Nat → Nat} {σ : g_S} {v0 : Int32} {v1 : Int32} {r : Int32} (h : mF_C1_wayOf v0 v1 = some r) : g_Met gCl D dA A s0 b0 l yX1_wayOf cX1_wayOf 4 (some .int) 1 (0, 0) LM ad σ [.int v0, .int v1] LM ad σ (some (.int r)) :=
  g_Met.of pl_X1 (Nat.le_of_ble_eq_true rfl) (fun X C hQ hR _ _ hL _ es eb => mw_C1_wayOf C hR hL h hQ)
theorem mw_C1_offBy {X : g_F} {LM : g_L} (C : g_M gCl X cX1_offBy RX1 (some .int)) (hR : g_R X = g_rm 1 0 0) (hL : g_nL X = 3) {ad : Nat → Nat → Nat} {σ : g_S} {v0 : Int32} {v1 : Int32} {o : Int32} (h : mF_C1_offBy v0 v1 = some o) (hQ : g_MQ gCl X LM ad σ (some (.int o)) = g_Q X) : g_Y gCl X LM ad σ (0, 0) 0 [(0, .int v0), (1, .int v1)] [] := by
  unfold mF_C1_offBy at h
  refine y_iload_n C dX1_offBy_0 0 rfl rfl ?_
  refine y_iload_n C dX1_offBy_1 1 rfl rfl ?_
  refine y_isub C dX1_offBy_2 ?_
  refine y_mabs C q824 (g_rmM hR (by decide)) (Nat.le_of_ble_eq_true rfl) ⟨Nat.zero_le _, Nat.zero_le _⟩ dX1_offBy_3 ?_
  obtain ⟨x1, hx1, h⟩ := g_lt h
  refine y_istore_n (vs1 := [(2, .int x1), (0, .int v0), (1, .int v1)]) C hx1 dX1_offBy_6 rfl (g_lL hL rfl) rfl ?_
  refine y_iload_n C dX1_offBy_7 0 rfl rfl ?_
  refine y_bipush (v := (8 : Int32)) C dX1_offBy_8 (by decide) ?_
  refine y_iload_n C dX1_offBy_10 0 rfl rfl ?_
  refine y_isub C dX1_offBy_11 ?_
  refine y_mmin C q509 (g_rmM hR (by decide)) (Nat.le_of_ble_eq_true rfl) ⟨Nat.zero_le _, Nat.zero_le _⟩ dX1_offBy_12 ?_
  replace h := Option.some.inj h; subst h
  exact y_iret C hQ ⟨Nat.zero_le _, Nat.zero_le _⟩ dX1_offBy_15
theorem ct_C1_offBy {D : va_G} {dA : Nat → ClassId} {A : Nat → Prop} {s0 : State} {b0 : Nat} {l : Launch} {LM : g_L} {ad : Nat → Nat → Nat} {σ : g_S} {v0 : Int32} {v1 : Int32} {r : Int32} (h : mF_C1_offBy v0 v1 = some r) : g_Met gCl D dA A s0 b0 l yX1_offBy cX1_offBy 3 (some .int) 1 (0, 0) LM ad σ [.int v0, .int v1] LM ad σ (some (.int r)) :=
  g_Met.of pl_X1 (Nat.le_of_ble_eq_true rfl) (fun X C hQ hR _ _ hL _ es eb => mw_C1_offBy C hR hL h hQ)
theorem mw_C2_brim_k1_4 {X : g_F} {hid : Bool} (C : g_M gCl X cX2_brim RX2 (some .int)) (hR : g_R X = g_rm 1 0 0) (hL : g_nL X = 3) {u0 : Nat} (hu_u0 : u0 < g_n (gC hid) 4) {ad : Nat → Nat → Nat} {σ : g_S} {v2 : Int32} {o : Int32} (h : mF_C2_brim_k1_4 σ u0 v2 = some o) (hQ : g_MQ gCl X (gC hid) ad σ (some (.int o)) = g_Q X) : g_Y gCl X (gC hid) ad σ (0, 0) 0 [(0, .ref (ad 1 0)), (1, .ref (ad 4 u0)), (2, .int v2)] [] := by
  unfold mF_C2_brim_k1_4 at h
  refine y_aload_n C dX2_brim_0 1 rfl rfl ?_
  refine gf_C_X2_21_4 C hu_u0 dX2_brim_1 ?_
  refine y_iload_n C dX2_brim_4 2 rfl rfl ?_
  obtain ⟨hg, h⟩ := g_gd h
  refine al_C_7 C hu_u0 hg dX2_brim_5 ?_
  replace h := Option.some.inj h; subst h
  exact y_iret C hQ ⟨Nat.zero_le _, Nat.zero_le _⟩ dX2_brim_6
theorem ct_C2_brim_k1_4 {D : va_G} {dA : Nat → ClassId} {A : Nat → Prop} {s0 : State} {b0 : Nat} {l : Launch} {hid : Bool} {u0 : Nat} (hu_u0 : u0 < g_n (gC hid) 4) {ad : Nat → Nat → Nat} {σ : g_S} {v2 : Int32} {r : Int32} (h : mF_C2_brim_k1_4 σ u0 v2 = some r) : g_Met gCl D dA A s0 b0 l yX2_brim cX2_brim 3 (some .int) 1 (0, 0) (gC hid) ad σ [.ref (ad 1 0), .ref (ad 4 u0), .int v2] (gC hid) ad σ (some (.int r)) :=
  g_Met.of pl_X2 (Nat.le_of_ble_eq_true rfl) (fun X C hQ hR _ _ hL _ es eb => mw_C2_brim_k1_4 C hR hL hu_u0 h hQ)
theorem ml_C1_isClear_15 {X : g_F} {hid : Bool} (C : g_M gCl X cX1_isClear RX1 (some .boolean)) (hR : g_R X = g_rm 2 0 0) (hL : g_nL X = 6) {ad : Nat → Nat → Nat} {σ : g_S} {v2 : Int32} (n : Nat) (v : (Int32 × Int32)) (e : (Unit ⊕ Unit)) (h : g_lp (fun v => mB_C1_isClear_15 σ v2 v.1 v.2) n v = some e) (kx : (∀ y, e = .inl y → g_Y gCl X (gC hid) ad σ (0, 0) 63 [] []) ∧ (∀ y, e = .inr y → g_Y gCl X (gC hid) ad σ (0, 0) 77 [] [])) : g_Y gCl X (gC hid) ad σ (0, 0) 15 [(0, .ref (ad 0 0)), (2, .int v2), (3, .int v.1), (4, .int v.2)] [] := by
  refine g_loop (P := fun v => g_Y gCl X (gC hid) ad σ (0, 0) 15 [(0, .ref (ad 0 0)), (2, .int v2), (3, .int v.1), (4, .int v.2)] []) (T := fun e => (∀ y, e = .inl y → g_Y gCl X (gC hid) ad σ (0, 0) 63 [] []) ∧ (∀ y, e = .inr y → g_Y gCl X (gC hid) ad σ (0, 0) 77 [] [])) ?_ n v e h kx
  clear h kx
  clear n v e
  intro v o h kl kx
  obtain ⟨v3, v4⟩ := v
  have h : mB_C1_isClear_15 σ v2 v3 v4 = some o := h
  unfold mB_C1_isClear_15 at h
  show g_Y gCl X (gC hid) ad σ (0, 0) 15 [(0, .ref (ad 0 0)), (2, .int v2), (3, .int v3), (4, .int v4)] []
  refine y_iload_n C dX1_isClear_15 2 rfl rfl ?_
  refine y_iload_n C dX1_isClear_16 1 rfl rfl ?_
  refine y_aload_n C dX1_isClear_17 0 rfl rfl ?_
  refine gf_C_X1_13_0 C nC_0_0 dX1_isClear_18 ?_
  obtain ⟨hg, h⟩ := g_gd h
  refine y_idiv C dX1_isClear_21 hg ?_
  refine y_iload_n C dX1_isClear_22 2 rfl rfl ?_
  refine y_isub C dX1_isClear_23 ?_
  obtain ⟨x3, hc, h⟩ := g_bd h
  refine y_callS C (As := [.int ((v2 / (σ.1 0 0 4)) - v3)]) (rest := [.int v3]) (lk_X1_17_l1 C hR (by decide)) (ct_J8_signum hc) rfl rfl (Nat.le_of_ble_eq_true rfl) ⟨Nat.zero_le _, Nat.zero_le _⟩ dX1_isClear_24 ?_
  refine y_iadd C dX1_isClear_27 ?_
  obtain ⟨x4, hx4, h⟩ := g_lt h
  refine y_istore_n (vs1 := [(3, .int x4), (0, .ref (ad 0 0)), (2, .int v2), (4, .int v4)]) C hx4 dX1_isClear_28 rfl (g_lL hL rfl) rfl ?_
  refine y_iload C dX1_isClear_29 3 rfl ?_
  refine y_iload_n C dX1_isClear_31 2 rfl rfl ?_
  refine y_aload_n C dX1_isClear_32 1 rfl rfl ?_
  refine gf_C_X1_13_0 C nC_0_0 dX1_isClear_33 ?_
  obtain ⟨hg, h⟩ := g_gd h
  refine y_irem C dX1_isClear_36 hg ?_
  refine y_iload C dX1_isClear_37 3 rfl ?_
  refine y_isub C dX1_isClear_39 ?_
  obtain ⟨x5, hc, h⟩ := g_bd h
  refine y_callS C (As := [.int ((g_rem v2 (σ.1 0 0 4)) - v4)]) (rest := [.int v4]) (lk_X1_17_l1 C hR (by decide)) (ct_J8_signum hc) rfl rfl (Nat.le_of_ble_eq_true rfl) ⟨Nat.zero_le _, Nat.zero_le _⟩ dX1_isClear_40 ?_
  refine y_iadd C dX1_isClear_43 ?_
  obtain ⟨x6, hx6, h⟩ := g_lt h
  refine y_istore (vs1 := [(4, .int x6), (3, .int x4), (0, .ref (ad 0 0)), (2, .int v2)]) C hx6 dX1_isClear_44 (g_lL hL rfl) rfl ?_
  refine y_aload_n C dX1_isClear_46 2 rfl rfl ?_
  refine gf_C_X1_13_0 C nC_0_0 dX1_isClear_47 ?_
  refine y_iload_n C dX1_isClear_50 1 rfl rfl ?_
  refine y_imul C dX1_isClear_51 ?_
  refine y_iload C dX1_isClear_52 0 rfl ?_
  refine y_iadd C dX1_isClear_54 ?_
  obtain ⟨x7, hx7, h⟩ := g_lt h
  refine y_istore (vs1 := [(5, .int x7), (4, .int x6), (3, .int x4), (0, .ref (ad 0 0)), (2, .int v2)]) C hx7 dX1_isClear_55 (g_lL hL rfl) rfl ?_
  refine y_iload C dX1_isClear_57 0 rfl ?_
  refine y_iload_n C dX1_isClear_59 4 rfl rfl ?_
  refine y_icmp_ne (tgt := 65) C dX1_isClear_60 rfl (fun hc => ?_) (fun hc => ?_)
  · replace h := g_if h hc
    refine y_aload_n C dX1_isClear_65 3 rfl rfl ?_
    refine gf_C_X1_22_0 C nC_0_0 dX1_isClear_66 ?_
    refine y_iload C dX1_isClear_69 0 rfl ?_
    obtain ⟨x8, hc, h⟩ := g_bd h
    refine y_callS C (As := [.long (σ.2.1 0 0 9), .int x7]) (rest := []) (lk_X1_26_l1 C hR (by decide)) (ct_C1_has hc) rfl rfl (Nat.le_of_ble_eq_true rfl) ⟨Nat.zero_le _, Nat.zero_le _⟩ dX1_isClear_71 ?_
    refine y_if_eq (tgt := 79) C dX1_isClear_74 rfl (fun hc => ?_) (fun hc => ?_)
    · replace h := g_it h hc
      refine y_goto (tgt := 15) C dX1_isClear_79 rfl ?_
      refine y_sub (vs2 := [(0, .ref (ad 0 0)), (2, .int v2), (3, .int x4), (4, .int x6)]) [3, 4, 2, 1] rfl ?_
      exact kl _ (Option.some.inj h).symm
    · replace h := g_if h hc
      refine y_sub (vs2 := []) [] rfl ?_
      exact (kx _ (Option.some.inj h).symm).2 _ rfl
  · replace h := g_it h hc
    refine y_sub (vs2 := []) [] rfl ?_
    exact (kx _ (Option.some.inj h).symm).1 _ rfl
theorem mw_C1_isClear {X : g_F} {hid : Bool} (C : g_M gCl X cX1_isClear RX1 (some .boolean)) (hR : g_R X = g_rm 2 0 0) (hL : g_nL X = 6) {ad : Nat → Nat → Nat} {σ : g_S} {v1 : Int32} {v2 : Int32} {o : Int32} (h : mF_C1_isClear σ v1 v2 = some o) (hQ : g_MQ gCl X (gC hid) ad σ (some (.int o)) = g_Q X) : g_Y gCl X (gC hid) ad σ (0, 0) 0 [(0, .ref (ad 0 0)), (1, .int v1), (2, .int v2)] [] := by
  unfold mF_C1_isClear at h
  refine y_iload_n C dX1_isClear_0 1 rfl rfl ?_
  refine y_aload_n C dX1_isClear_1 0 rfl rfl ?_
  refine gf_C_X1_13_0 C nC_0_0 dX1_isClear_2 ?_
  obtain ⟨hg, h⟩ := g_gd h
  refine y_idiv C dX1_isClear_5 hg ?_
  obtain ⟨x1, hx1, h⟩ := g_lt h
  refine y_istore_n (vs1 := [(3, .int x1), (0, .ref (ad 0 0)), (1, .int v1), (2, .int v2)]) C hx1 dX1_isClear_6 rfl (g_lL hL rfl) rfl ?_
  refine y_iload_n C dX1_isClear_7 2 rfl rfl ?_
  refine y_aload_n C dX1_isClear_8 1 rfl rfl ?_
  refine gf_C_X1_13_0 C nC_0_0 dX1_isClear_9 ?_
  obtain ⟨hg, h⟩ := g_gd h
  refine y_irem C dX1_isClear_12 hg ?_
  obtain ⟨x2, hx2, h⟩ := g_lt h
  refine y_istore (vs1 := [(4, .int x2), (3, .int x1), (0, .ref (ad 0 0)), (1, .int v1), (2, .int v2)]) C hx2 dX1_isClear_13 (g_lL hL rfl) rfl ?_
  refine y_sub (vs2 := [(0, .ref (ad 0 0)), (2, .int v2), (3, .int x1), (4, .int x2)]) [2, 4, 1, 0] rfl ?_
  obtain ⟨e9, he9, h⟩ := g_bd h
  refine ml_C1_isClear_15 C hR hL (σ := σ) _ _ _ he9 ⟨fun y he => ?_, fun y he => ?_⟩
  · obtain ⟨y10, rfl⟩ : ∃ z, z = y := ⟨_, rfl⟩
    subst he
    dsimp only at h
    refine y_iconst (v := (1 : Int32)) C dX1_isClear_63 (by decide) ?_
    replace h := Option.some.inj h; subst h
    exact y_zret C (by decide) hQ ⟨Nat.zero_le _, Nat.zero_le _⟩ dX1_isClear_64
  · obtain ⟨y11, rfl⟩ : ∃ z, z = y := ⟨_, rfl⟩
    subst he
    dsimp only at h
    refine y_iconst (v := (0 : Int32)) C dX1_isClear_77 (by decide) ?_
    replace h := Option.some.inj h; subst h
    exact y_zret C (by decide) hQ ⟨Nat.zero_le _, Nat.zero_le _⟩ dX1_isClear_78
theorem ct_C1_isClear {D : va_G} {dA : Nat → ClassId} {A : Nat → Prop} {s0 : State} {b0 : Nat} {l : Launch} {hid : Bool} {ad : Nat → Nat → Nat} {σ : g_S} {v1 : Int32} {v2 : Int32} {r : Int32} (h : mF_C1_isClear σ v1 v2 = some r) : g_Met gCl D dA A s0 b0 l yX1_isClear cX1_isClear 6 (some .boolean) 2 (0, 0) (gC hid) ad σ [.ref (ad 0 0), .int v1, .int v2] (gC hid) ad σ (some (.int r)) :=
  g_Met.of pl_X1 (Nat.le_of_ble_eq_true rfl) (fun X C hQ hR _ _ hL _ es eb => mw_C1_isClear C hR hL h hQ)
theorem mw_C2_sees_k1_4 {X : g_F} (C : g_M gCl X cX2_sees RX2 (some .boolean)) (hR : g_R X = g_rm 304 0 0) (hL : g_nL X = 6) {u0 : Nat} (hu_u0 : u0 < g_n (gC true) 4) {ad : Nat → Nat → Nat} {σ : g_S} {v2 : Int32} {v3 : Int32} {o : Int32} (h : mF_C2_sees_k1_4 σ u0 v2 v3 = some o) (hQ : g_MQ gCl X (gC true) ad σ (some (.int o)) = g_Q X) : g_Y gCl X (gC true) ad σ (0, 0) 0 [(0, .ref (ad 1 0)), (1, .ref (ad 4 u0)), (2, .int v2), (3, .int v3)] [] := by
  unfold mF_C2_sees_k1_4 at h
  refine y_iload_n C dX2_sees_0 3 rfl rfl ?_
  refine y_aload_n C dX2_sees_1 1 rfl rfl ?_
  refine gf_C_X2_28_4 C hu_u0 dX2_sees_2 ?_
  refine y_iload_n C dX2_sees_5 2 rfl rfl ?_
  obtain ⟨hg, h⟩ := g_gd h
  refine al_C_5 C hu_u0 hg dX2_sees_6 ?_
  refine y_icmp_ne (tgt := 12) C dX2_sees_7 rfl (fun hc => ?_) (fun hc => ?_)
  · replace h := g_if h hc
    refine y_iload_n C dX2_sees_12 3 rfl rfl ?_
    refine y_aload_n C dX2_sees_13 0 rfl rfl ?_
    refine gf_C_X2_3_1 C nC_1_0 dX2_sees_14 ?_
    refine gf_C_X2_31_0 C nC_0_0 dX2_sees_17 ?_
    obtain ⟨hg, h⟩ := g_gd h
    refine y_idiv C dX2_sees_20 hg ?_
    refine y_aload_n C dX2_sees_21 1 rfl rfl ?_
    refine gf_C_X2_28_4 C hu_u0 dX2_sees_22 ?_
    refine y_iload_n C dX2_sees_25 2 rfl rfl ?_
    obtain ⟨hg, h⟩ := g_gd h
    refine al_C_5 C hu_u0 hg dX2_sees_26 ?_
    refine y_aload_n C dX2_sees_27 0 rfl rfl ?_
    refine gf_C_X2_3_1 C nC_1_0 dX2_sees_28 ?_
    refine gf_C_X2_31_0 C nC_0_0 dX2_sees_31 ?_
    obtain ⟨hg, h⟩ := g_gd h
    refine y_idiv C dX2_sees_34 hg ?_
    refine y_isub C dX2_sees_35 ?_
    obtain ⟨x1, hx1, h⟩ := g_lt h
    refine y_istore (vs1 := [(4, .int x1), (0, .ref (ad 1 0)), (1, .ref (ad 4 u0)), (2, .int v2), (3, .int v3)]) C hx1 dX2_sees_36 (g_lL hL rfl) rfl ?_
    refine y_iload_n C dX2_sees_38 4 rfl rfl ?_
    refine y_aload_n C dX2_sees_39 1 rfl rfl ?_
    refine gf_C_X2_3_1 C nC_1_0 dX2_sees_40 ?_
    refine gf_C_X2_31_0 C nC_0_0 dX2_sees_43 ?_
    obtain ⟨hg, h⟩ := g_gd h
    refine y_irem C dX2_sees_46 hg ?_
    refine y_aload_n C dX2_sees_47 2 rfl rfl ?_
    refine gf_C_X2_28_4 C hu_u0 dX2_sees_48 ?_
    refine y_iload_n C dX2_sees_51 3 rfl rfl ?_
    obtain ⟨hg, h⟩ := g_gd h
    refine al_C_5 C hu_u0 hg dX2_sees_52 ?_
    refine y_aload_n C dX2_sees_53 1 rfl rfl ?_
    refine gf_C_X2_3_1 C nC_1_0 dX2_sees_54 ?_
    refine gf_C_X2_31_0 C nC_0_0 dX2_sees_57 ?_
    obtain ⟨hg, h⟩ := g_gd h
    refine y_irem C dX2_sees_60 hg ?_
    refine y_isub C dX2_sees_61 ?_
    obtain ⟨x2, hx2, h⟩ := g_lt h
    refine y_istore (vs1 := [(5, .int x2), (4, .int x1), (0, .ref (ad 1 0)), (1, .ref (ad 4 u0)), (2, .int v2), (3, .int v3)]) C hx2 dX2_sees_62 (g_lL hL rfl) rfl ?_
    refine y_iload C dX2_sees_64 1 rfl ?_
    refine y_mabs C q788 (g_rmM hR (by decide)) (Nat.le_of_ble_eq_true rfl) ⟨Nat.zero_le _, Nat.zero_le _⟩ dX2_sees_66 ?_
    refine y_iload C dX2_sees_69 0 rfl ?_
    refine y_mabs C q788 (g_rmM hR (by decide)) (Nat.le_of_ble_eq_true rfl) ⟨Nat.zero_le _, Nat.zero_le _⟩ dX2_sees_71 ?_
    refine y_mmax C q791 (g_rmM hR (by decide)) (Nat.le_of_ble_eq_true rfl) ⟨Nat.zero_le _, Nat.zero_le _⟩ dX2_sees_74 ?_
    refine y_aload_n C dX2_sees_77 2 rfl rfl ?_
    refine y_aload_n C dX2_sees_78 3 rfl rfl ?_
    refine y_iload_n C dX2_sees_79 4 rfl rfl ?_
    obtain ⟨x3, hc, h⟩ := g_bd h
    refine y_callV C (As := [.ref (ad 4 u0), .int v2]) (rest := [.int (g_max (g_abs x1) (g_abs x2))]) (k := 1) (hu := nC_1_0) (hc := (rfl : gCl[1]? = some (RX2, TX2, 1))) (hcell := obC_1) (lk_X2_45_X2_l303 C hR (by decide)) (ct_C2_reach_k1_4 hu_u0 hc) rfl rfl (Nat.le_of_ble_eq_true rfl) ⟨Nat.zero_le _, Nat.zero_le _⟩ dX2_sees_80 ?_
    refine y_icmp_le (tgt := 88) C dX2_sees_83 rfl (fun hc => ?_) (fun hc => ?_)
    · replace h := g_it h hc
      refine y_aload_n C dX2_sees_88 2 rfl rfl ?_
      refine y_aload_n C dX2_sees_89 3 rfl rfl ?_
      refine y_iload_n C dX2_sees_90 4 rfl rfl ?_
      obtain ⟨x4, hc, h⟩ := g_bd h
      refine y_callV C (As := [.ref (ad 4 u0), .int v2]) (rest := []) (k := 1) (hu := nC_1_0) (hc := (rfl : gCl[1]? = some (RX2, TX2, 1))) (hcell := obC_1) (lk_X2_49_X2_l1 C hR (by decide)) (ct_C2_facing_k1_4 hu_u0 hc) rfl rfl (Nat.le_of_ble_eq_true rfl) ⟨Nat.zero_le _, Nat.zero_le _⟩ dX2_sees_91 ?_
      refine y_iload C dX2_sees_94 1 rfl ?_
      refine y_iload C dX2_sees_96 0 rfl ?_
      obtain ⟨x5, hc, h⟩ := g_bd h
      refine y_callSN C (As := [.int x1, .int x2]) (rest := [.int x4]) (lk_X2_51_l1 C hR (by decide)) (ct_C1_wayOf hc) rfl rfl (Nat.le_of_ble_eq_true rfl) ⟨Nat.zero_le _, Nat.zero_le _⟩ dX2_sees_98 ?_
      obtain ⟨x6, hc, h⟩ := g_bd h
      refine y_callSN C (As := [.int x4, .int x5]) (rest := []) (lk_X2_54_l1 C hR (by decide)) (ct_C1_offBy hc) rfl rfl (Nat.le_of_ble_eq_true rfl) ⟨Nat.zero_le _, Nat.zero_le _⟩ dX2_sees_101 ?_
      refine y_iconst (v := (4 : Int32)) C dX2_sees_104 (by decide) ?_
      refine y_aload_n C dX2_sees_105 2 rfl rfl ?_
      refine y_aload_n C dX2_sees_106 3 rfl rfl ?_
      refine y_iload_n C dX2_sees_107 4 rfl rfl ?_
      obtain ⟨x7, hc, h⟩ := g_bd h
      refine y_callV C (As := [.ref (ad 4 u0), .int v2]) (rest := [.int (4 : Int32), .int x6]) (k := 1) (hu := nC_1_0) (hc := (rfl : gCl[1]? = some (RX2, TX2, 1))) (hcell := obC_1) (lk_X2_57_X2_l1 C hR (by decide)) (ct_C2_brim_k1_4 hu_u0 hc) rfl rfl (Nat.le_of_ble_eq_true rfl) ⟨Nat.zero_le _, Nat.zero_le _⟩ dX2_sees_108 ?_
      refine y_isub C dX2_sees_111 ?_
      refine y_icmp_gt (tgt := 136) C dX2_sees_112 rfl (fun hc => ?_) (fun hc => ?_)
      · replace h := g_it h hc
        refine y_iconst (v := (0 : Int32)) C dX2_sees_136 (by decide) ?_
        replace h := Option.some.inj h; subst h
        exact y_zret C (by decide) hQ ⟨Nat.zero_le _, Nat.zero_le _⟩ dX2_sees_137
      · replace h := g_if h hc
        refine y_aload_n C dX2_sees_115 2 rfl rfl ?_
        refine gf_C_X2_3_1 C nC_1_0 dX2_sees_116 ?_
        refine y_aload_n C dX2_sees_119 3 rfl rfl ?_
        refine gf_C_X2_28_4 C hu_u0 dX2_sees_120 ?_
        refine y_iload_n C dX2_sees_123 4 rfl rfl ?_
        obtain ⟨hg, h⟩ := g_gd h
        refine al_C_5 C hu_u0 hg dX2_sees_124 ?_
        refine y_iload_n C dX2_sees_125 5 rfl rfl ?_
        obtain ⟨x8, hc, h⟩ := g_bd h
        refine y_callVN C (As := [.int (σ.1 5 u0 v2.toNatClampNeg), .int v3]) (rest := []) (k := 0) (hu := nC_0_0) (hc := (rfl : gCl[0]? = some (RX1, TX1, 31))) (hcell := obC_0) (lk_X2_59_X1_l2 C hR (by decide)) (ct_C1_isClear hc) rfl rfl (Nat.le_of_ble_eq_true rfl) ⟨Nat.zero_le _, Nat.zero_le _⟩ dX2_sees_126 ?_
        refine y_if_eq (tgt := 136) C dX2_sees_129 rfl (fun hc => ?_) (fun hc => ?_)
        · replace h := g_it h hc
          refine y_iconst (v := (0 : Int32)) C dX2_sees_136 (by decide) ?_
          replace h := Option.some.inj h; subst h
          exact y_zret C (by decide) hQ ⟨Nat.zero_le _, Nat.zero_le _⟩ dX2_sees_137
        · replace h := g_if h hc
          refine y_iconst (v := (1 : Int32)) C dX2_sees_132 (by decide) ?_
          refine y_goto (tgt := 137) C dX2_sees_133 rfl ?_
          replace h := Option.some.inj h; subst h
          exact y_zret C (by decide) hQ ⟨Nat.zero_le _, Nat.zero_le _⟩ dX2_sees_137
    · replace h := g_if h hc
      refine y_iconst (v := (0 : Int32)) C dX2_sees_86 (by decide) ?_
      replace h := Option.some.inj h; subst h
      exact y_zret C (by decide) hQ ⟨Nat.zero_le _, Nat.zero_le _⟩ dX2_sees_87
  · replace h := g_it h hc
    refine y_iconst (v := (1 : Int32)) C dX2_sees_10 (by decide) ?_
    replace h := Option.some.inj h; subst h
    exact y_zret C (by decide) hQ ⟨Nat.zero_le _, Nat.zero_le _⟩ dX2_sees_11
theorem ct_C2_sees_k1_4 {D : va_G} {dA : Nat → ClassId} {A : Nat → Prop} {s0 : State} {b0 : Nat} {l : Launch} {u0 : Nat} (hu_u0 : u0 < g_n (gC true) 4) {ad : Nat → Nat → Nat} {σ : g_S} {v2 : Int32} {v3 : Int32} {r : Int32} (h : mF_C2_sees_k1_4 σ u0 v2 v3 = some r) : g_Met gCl D dA A s0 b0 l yX2_sees cX2_sees 6 (some .boolean) 304 (0, 0) (gC true) ad σ [.ref (ad 1 0), .ref (ad 4 u0), .int v2, .int v3] (gC true) ad σ (some (.int r)) :=
  g_Met.of pl_X2 (Nat.le_of_ble_eq_true rfl) (fun X C hQ hR _ _ hL _ es eb => mw_C2_sees_k1_4 C hR hL hu_u0 h hQ)
theorem ml_C2_things_k1_4_5 {X : g_F} (C : g_M gCl X cX2_things RX2 (some .int)) (hR : g_R X = g_rm 305 0 0) (hL : g_nL X = 5) {u0 : Nat} (hu_u0 : u0 < g_n (gC true) 4) {ad : Nat → Nat → Nat} {σ : g_S} {v2 : Int32} (n : Nat) (v : (Int32 × Int32)) (e : Int32) (h : g_lp (fun v => mB_C2_things_k1_4_5 σ u0 v2 v.1 v.2) n v = some e) (kx : g_Y gCl X (gC true) ad σ (0, 0) 50 [(3, .int e)] []) : g_Y gCl X (gC true) ad σ (0, 0) 5 [(0, .ref (ad 1 0)), (1, .ref (ad 4 u0)), (2, .int v2), (3, .int v.1), (4, .int v.2)] [] := by
  refine g_loop (P := fun v => g_Y gCl X (gC true) ad σ (0, 0) 5 [(0, .ref (ad 1 0)), (1, .ref (ad 4 u0)), (2, .int v2), (3, .int v.1), (4, .int v.2)] []) (T := fun e => g_Y gCl X (gC true) ad σ (0, 0) 50 [(3, .int e)] []) ?_ n v e h kx
  clear h kx
  clear n v e
  intro v o h kl kx
  obtain ⟨v3, v4⟩ := v
  have h : mB_C2_things_k1_4_5 σ u0 v2 v3 v4 = some o := h
  unfold mB_C2_things_k1_4_5 at h
  show g_Y gCl X (gC true) ad σ (0, 0) 5 [(0, .ref (ad 1 0)), (1, .ref (ad 4 u0)), (2, .int v2), (3, .int v3), (4, .int v4)] []
  refine y_iload C dX2_things_5 4 rfl ?_
  refine y_aload_n C dX2_things_7 0 rfl rfl ?_
  refine gf_C_X2_3_1 C nC_1_0 dX2_things_8 ?_
  refine gf_C_X2_74_0 C nC_0_0 dX2_things_11 ?_
  refine y_icmp_ge (tgt := 50) C dX2_things_14 rfl (fun hc => ?_) (fun hc => ?_)
  · replace h := g_it h hc
    refine y_sub (vs2 := [(3, .int v3)]) [3] rfl ?_
    exact kx _ (Option.some.inj h).symm
  · replace h := g_if h hc
    refine y_iload_n C dX2_things_17 3 rfl rfl ?_
    refine y_aload_n C dX2_things_18 0 rfl rfl ?_
    refine y_aload_n C dX2_things_19 1 rfl rfl ?_
    refine y_iload_n C dX2_things_20 2 rfl rfl ?_
    refine y_aload_n C dX2_things_21 1 rfl rfl ?_
    refine gf_C_X2_77_4 C hu_u0 dX2_things_22 ?_
    refine y_iload C dX2_things_25 4 rfl ?_
    obtain ⟨hg, h⟩ := g_gd h
    refine al_C_9 C hu_u0 hg dX2_things_27 ?_
    obtain ⟨x1, hc, h⟩ := g_bd h
    refine y_callV C (As := [.ref (ad 4 u0), .int v2, .int (σ.1 9 u0 v4.toNatClampNeg)]) (rest := [.int v3]) (k := 1) (hu := nC_1_0) (hc := (rfl : gCl[1]? = some (RX2, TX2, 1))) (hcell := obC_1) (lk_X2_67_X2_l304 C hR (by decide)) (ct_C2_sees_k1_4 hu_u0 hc) rfl rfl (Nat.le_of_ble_eq_true rfl) ⟨Nat.zero_le _, Nat.zero_le _⟩ dX2_things_28 ?_
    refine y_if_eq (tgt := 41) C dX2_things_31 rfl (fun hc => ?_) (fun hc => ?_)
    · replace h := g_it h hc
      refine y_iconst (v := (0 : Int32)) C dX2_things_41 (by decide) ?_
      refine y_ior C dX2_things_42 ?_
      obtain ⟨x2, hx2, h⟩ := g_lt h
      refine y_istore_n (vs1 := [(3, .int x2), (0, .ref (ad 1 0)), (1, .ref (ad 4 u0)), (2, .int v2), (4, .int v4)]) C hx2 dX2_things_43 rfl (g_lL hL rfl) rfl ?_
      obtain ⟨x3, hx3, h⟩ := g_lt h
      refine y_iinc (c := (1 : Int32)) (vs1 := [(4, .int x3), (3, .int x2), (0, .ref (ad 1 0)), (1, .ref (ad 4 u0)), (2, .int v2)]) C hx3 (by decide) dX2_things_44 4 rfl (g_lL hL rfl) rfl ?_
      refine y_goto (tgt := 5) C dX2_things_47 rfl ?_
      refine y_sub (vs2 := [(0, .ref (ad 1 0)), (1, .ref (ad 4 u0)), (2, .int v2), (3, .int x2), (4, .int x3)]) [2, 3, 4, 1, 0] rfl ?_
      exact kl _ (Option.some.inj h).symm
    · replace h := g_if h hc
      refine y_iconst (v := (1 : Int32)) C dX2_things_34 (by decide) ?_
      refine y_iload C dX2_things_35 4 rfl ?_
      refine y_ishl C dX2_things_37 ?_
      refine y_goto (tgt := 42) C dX2_things_38 rfl ?_
      refine y_ior C dX2_things_42 ?_
      obtain ⟨x4, hx4, h⟩ := g_lt h
      refine y_istore_n (vs1 := [(3, .int x4), (0, .ref (ad 1 0)), (1, .ref (ad 4 u0)), (2, .int v2), (4, .int v4)]) C hx4 dX2_things_43 rfl (g_lL hL rfl) rfl ?_
      obtain ⟨x5, hx5, h⟩ := g_lt h
      refine y_iinc (c := (1 : Int32)) (vs1 := [(4, .int x5), (3, .int x4), (0, .ref (ad 1 0)), (1, .ref (ad 4 u0)), (2, .int v2)]) C hx5 (by decide) dX2_things_44 4 rfl (g_lL hL rfl) rfl ?_
      refine y_goto (tgt := 5) C dX2_things_47 rfl ?_
      refine y_sub (vs2 := [(0, .ref (ad 1 0)), (1, .ref (ad 4 u0)), (2, .int v2), (3, .int x4), (4, .int x5)]) [2, 3, 4, 1, 0] rfl ?_
      exact kl _ (Option.some.inj h).symm
theorem mw_C2_things_k1_4 {X : g_F} (C : g_M gCl X cX2_things RX2 (some .int)) (hR : g_R X = g_rm 305 0 0) (hL : g_nL X = 5) {u0 : Nat} (hu_u0 : u0 < g_n (gC true) 4) {ad : Nat → Nat → Nat} {σ : g_S} {v2 : Int32} {o : Int32} (h : mF_C2_things_k1_4 σ u0 v2 = some o) (hQ : g_MQ gCl X (gC true) ad σ (some (.int o)) = g_Q X) : g_Y gCl X (gC true) ad σ (0, 0) 0 [(0, .ref (ad 1 0)), (1, .ref (ad 4 u0)), (2, .int v2)] [] := by
  unfold mF_C2_things_k1_4 at h
  refine y_iconst (v := (0 : Int32)) C dX2_things_0 (by decide) ?_
  refine y_istore_n (vs1 := [(3, .int (0 : Int32)), (0, .ref (ad 1 0)), (1, .ref (ad 4 u0)), (2, .int v2)]) C rfl dX2_things_1 rfl (g_lL hL rfl) rfl ?_
  refine y_iconst (v := (0 : Int32)) C dX2_things_2 (by decide) ?_
  refine y_istore (vs1 := [(4, .int (0 : Int32)), (3, .int (0 : Int32)), (0, .ref (ad 1 0)), (1, .ref (ad 4 u0)), (2, .int v2)]) C rfl dX2_things_3 (g_lL hL rfl) rfl ?_
  refine y_sub (vs2 := [(0, .ref (ad 1 0)), (1, .ref (ad 4 u0)), (2, .int v2), (3, .int (0 : Int32)), (4, .int (0 : Int32))]) [2, 3, 4, 1, 0] rfl ?_
  obtain ⟨e6, he6, h⟩ := g_bd h
  refine ml_C2_things_k1_4_5 C hR hL hu_u0 (σ := σ) _ _ _ he6 ?_
  refine y_iload_n C dX2_things_50 0 rfl rfl ?_
  replace h := Option.some.inj h; subst h
  exact y_iret C hQ ⟨Nat.zero_le _, Nat.zero_le _⟩ dX2_things_51
theorem ct_C2_things_k1_4 {D : va_G} {dA : Nat → ClassId} {A : Nat → Prop} {s0 : State} {b0 : Nat} {l : Launch} {u0 : Nat} (hu_u0 : u0 < g_n (gC true) 4) {ad : Nat → Nat → Nat} {σ : g_S} {v2 : Int32} {r : Int32} (h : mF_C2_things_k1_4 σ u0 v2 = some r) : g_Met gCl D dA A s0 b0 l yX2_things cX2_things 5 (some .int) 305 (0, 0) (gC true) ad σ [.ref (ad 1 0), .ref (ad 4 u0), .int v2] (gC true) ad σ (some (.int r)) :=
  g_Met.of pl_X2 (Nat.le_of_ble_eq_true rfl) (fun X C hQ hR _ _ hL _ es eb => mw_C2_things_k1_4 C hR hL hu_u0 h hQ)
theorem mw_C1_areNear {X : g_F} {hid : Bool} (C : g_M gCl X cX1_areNear RX1 (some .boolean)) (hR : g_R X = g_rm 1 0 0) (hL : g_nL X = 3) {ad : Nat → Nat → Nat} {σ : g_S} {v1 : Int32} {v2 : Int32} {o : Int32} (h : mF_C1_areNear σ v1 v2 = some o) (hQ : g_MQ gCl X (gC hid) ad σ (some (.int o)) = g_Q X) : g_Y gCl X (gC hid) ad σ (0, 0) 0 [(0, .ref (ad 0 0)), (1, .int v1), (2, .int v2)] [] := by
  unfold mF_C1_areNear at h
  refine y_iload_n C dX1_areNear_0 1 rfl rfl ?_
  refine y_aload_n C dX1_areNear_1 0 rfl rfl ?_
  refine gf_C_X1_13_0 C nC_0_0 dX1_areNear_2 ?_
  obtain ⟨hg, h⟩ := g_gd h
  refine y_idiv C dX1_areNear_5 hg ?_
  refine y_iload_n C dX1_areNear_6 2 rfl rfl ?_
  refine y_aload_n C dX1_areNear_7 0 rfl rfl ?_
  refine gf_C_X1_13_0 C nC_0_0 dX1_areNear_8 ?_
  obtain ⟨hg, h⟩ := g_gd h
  refine y_idiv C dX1_areNear_11 hg ?_
  refine y_isub C dX1_areNear_12 ?_
  refine y_mabs C q824 (g_rmM hR (by decide)) (Nat.le_of_ble_eq_true rfl) ⟨Nat.zero_le _, Nat.zero_le _⟩ dX1_areNear_13 ?_
  refine y_iconst (v := (1 : Int32)) C dX1_areNear_16 (by decide) ?_
  refine y_icmp_gt (tgt := 44) C dX1_areNear_17 rfl (fun hc => ?_) (fun hc => ?_)
  · replace h := g_it h hc
    refine y_iconst (v := (0 : Int32)) C dX1_areNear_44 (by decide) ?_
    replace h := Option.some.inj h; subst h
    exact y_zret C (by decide) hQ ⟨Nat.zero_le _, Nat.zero_le _⟩ dX1_areNear_45
  · replace h := g_if h hc
    refine y_iload_n C dX1_areNear_20 1 rfl rfl ?_
    refine y_aload_n C dX1_areNear_21 0 rfl rfl ?_
    refine gf_C_X1_13_0 C nC_0_0 dX1_areNear_22 ?_
    obtain ⟨hg, h⟩ := g_gd h
    refine y_irem C dX1_areNear_25 hg ?_
    refine y_iload_n C dX1_areNear_26 2 rfl rfl ?_
    refine y_aload_n C dX1_areNear_27 0 rfl rfl ?_
    refine gf_C_X1_13_0 C nC_0_0 dX1_areNear_28 ?_
    obtain ⟨hg, h⟩ := g_gd h
    refine y_irem C dX1_areNear_31 hg ?_
    refine y_isub C dX1_areNear_32 ?_
    refine y_mabs C q824 (g_rmM hR (by decide)) (Nat.le_of_ble_eq_true rfl) ⟨Nat.zero_le _, Nat.zero_le _⟩ dX1_areNear_33 ?_
    refine y_iconst (v := (1 : Int32)) C dX1_areNear_36 (by decide) ?_
    refine y_icmp_gt (tgt := 44) C dX1_areNear_37 rfl (fun hc => ?_) (fun hc => ?_)
    · replace h := g_it h hc
      refine y_iconst (v := (0 : Int32)) C dX1_areNear_44 (by decide) ?_
      replace h := Option.some.inj h; subst h
      exact y_zret C (by decide) hQ ⟨Nat.zero_le _, Nat.zero_le _⟩ dX1_areNear_45
    · replace h := g_if h hc
      refine y_iconst (v := (1 : Int32)) C dX1_areNear_40 (by decide) ?_
      refine y_goto (tgt := 45) C dX1_areNear_41 rfl ?_
      replace h := Option.some.inj h; subst h
      exact y_zret C (by decide) hQ ⟨Nat.zero_le _, Nat.zero_le _⟩ dX1_areNear_45
theorem ct_C1_areNear {D : va_G} {dA : Nat → ClassId} {A : Nat → Prop} {s0 : State} {b0 : Nat} {l : Launch} {hid : Bool} {ad : Nat → Nat → Nat} {σ : g_S} {v1 : Int32} {v2 : Int32} {r : Int32} (h : mF_C1_areNear σ v1 v2 = some r) : g_Met gCl D dA A s0 b0 l yX1_areNear cX1_areNear 3 (some .boolean) 1 (0, 0) (gC hid) ad σ [.ref (ad 0 0), .int v1, .int v2] (gC hid) ad σ (some (.int r)) :=
  g_Met.of pl_X1 (Nat.le_of_ble_eq_true rfl) (fun X C hQ hR _ _ hL _ es eb => mw_C1_areNear C hR hL h hQ)
theorem mw_C1_meet {X : g_F} (C : g_M gCl X cX1_meet RX1 (some .boolean)) (hR : g_R X = g_rm 305 0 0) (hL : g_nL X = 4) {u0 : Nat} (hu_u0 : u0 < g_n (gC true) 4) {ad : Nat → Nat → Nat} {σ : g_S} {v2 : Int32} {v3 : Int32} {o : Int32} (h : mF_C1_meet σ u0 v2 v3 = some o) (hQ : g_MQ gCl X (gC true) ad σ (some (.int o)) = g_Q X) : g_Y gCl X (gC true) ad σ (0, 0) 0 [(0, .ref (ad 0 0)), (1, .ref (ad 4 u0)), (2, .int v2), (3, .int v3)] [] := by
  unfold mF_C1_meet at h
  refine y_aload_n C dX1_meet_0 0 rfl rfl ?_
  refine gf_C_X1_62_0 C nC_0_0 dX1_meet_1 ?_
  refine y_aload_n C dX1_meet_4 1 rfl rfl ?_
  refine y_iload_n C dX1_meet_5 2 rfl rfl ?_
  refine y_aload_n C dX1_meet_6 1 rfl rfl ?_
  refine gf_C_X1_217_4 C hu_u0 dX1_meet_7 ?_
  refine y_iload_n C dX1_meet_10 3 rfl rfl ?_
  obtain ⟨hg, h⟩ := g_gd h
  refine al_C_5 C hu_u0 hg dX1_meet_11 ?_
  obtain ⟨x1, hc, h⟩ := g_bd h
  refine y_callV C (As := [.ref (ad 4 u0), .int v2, .int (σ.1 5 u0 v3.toNatClampNeg)]) (rest := []) (k := 1) (hu := nC_1_0) (hc := (rfl : gCl[1]? = some (RX2, TX2, 1))) (hcell := obC_1) (lk_X1_246_X2_l304 C hR (by decide)) (ct_C2_sees_k1_4 hu_u0 hc) rfl rfl (Nat.le_of_ble_eq_true rfl) ⟨Nat.zero_le _, Nat.zero_le _⟩ dX1_meet_12 ?_
  refine y_if_eq (tgt := 40) C dX1_meet_15 rfl (fun hc => ?_) (fun hc => ?_)
  · replace h := g_it h hc
    refine y_iconst (v := (0 : Int32)) C dX1_meet_40 (by decide) ?_
    replace h := Option.some.inj h; subst h
    exact y_zret C (by decide) hQ ⟨Nat.zero_le _, Nat.zero_le _⟩ dX1_meet_41
  · replace h := g_if h hc
    refine y_aload_n C dX1_meet_18 0 rfl rfl ?_
    refine gf_C_X1_62_0 C nC_0_0 dX1_meet_19 ?_
    refine y_aload_n C dX1_meet_22 1 rfl rfl ?_
    refine y_iload_n C dX1_meet_23 3 rfl rfl ?_
    refine y_aload_n C dX1_meet_24 1 rfl rfl ?_
    refine gf_C_X1_217_4 C hu_u0 dX1_meet_25 ?_
    refine y_iload_n C dX1_meet_28 2 rfl rfl ?_
    obtain ⟨hg, h⟩ := g_gd h
    refine al_C_5 C hu_u0 hg dX1_meet_29 ?_
    obtain ⟨x2, hc, h⟩ := g_bd h
    refine y_callV C (As := [.ref (ad 4 u0), .int v3, .int (σ.1 5 u0 v2.toNatClampNeg)]) (rest := []) (k := 1) (hu := nC_1_0) (hc := (rfl : gCl[1]? = some (RX2, TX2, 1))) (hcell := obC_1) (lk_X1_246_X2_l304 C hR (by decide)) (ct_C2_sees_k1_4 hu_u0 hc) rfl rfl (Nat.le_of_ble_eq_true rfl) ⟨Nat.zero_le _, Nat.zero_le _⟩ dX1_meet_30 ?_
    refine y_if_eq (tgt := 40) C dX1_meet_33 rfl (fun hc => ?_) (fun hc => ?_)
    · replace h := g_it h hc
      refine y_iconst (v := (0 : Int32)) C dX1_meet_40 (by decide) ?_
      replace h := Option.some.inj h; subst h
      exact y_zret C (by decide) hQ ⟨Nat.zero_le _, Nat.zero_le _⟩ dX1_meet_41
    · replace h := g_if h hc
      refine y_iconst (v := (1 : Int32)) C dX1_meet_36 (by decide) ?_
      refine y_goto (tgt := 41) C dX1_meet_37 rfl ?_
      replace h := Option.some.inj h; subst h
      exact y_zret C (by decide) hQ ⟨Nat.zero_le _, Nat.zero_le _⟩ dX1_meet_41
theorem ct_C1_meet {D : va_G} {dA : Nat → ClassId} {A : Nat → Prop} {s0 : State} {b0 : Nat} {l : Launch} {u0 : Nat} (hu_u0 : u0 < g_n (gC true) 4) {ad : Nat → Nat → Nat} {σ : g_S} {v2 : Int32} {v3 : Int32} {r : Int32} (h : mF_C1_meet σ u0 v2 v3 = some r) : g_Met gCl D dA A s0 b0 l yX1_meet cX1_meet 4 (some .boolean) 305 (0, 0) (gC true) ad σ [.ref (ad 0 0), .ref (ad 4 u0), .int v2, .int v3] (gC true) ad σ (some (.int r)) :=
  g_Met.of pl_X1 (Nat.le_of_ble_eq_true rfl) (fun X C hQ hR _ _ hL _ es eb => mw_C1_meet C hR hL hu_u0 h hQ)
theorem mw_C1_tell {X : g_F} (C : g_M gCl X cX1_tell RX1 (some .boolean)) (hR : g_R X = g_rm 306 0 0) (hL : g_nL X = 4) {u0 : Nat} (hu_u0 : u0 < g_n (gC true) 4) {ad : Nat → Nat → Nat} {σ : g_S} {v2 : Int32} {v3 : Int32} {o : Int32} (h : mF_C1_tell σ u0 v2 v3 = some o) (hQ : g_MQ gCl X (gC true) ad σ (some (.int o)) = g_Q X) : g_Y gCl X (gC true) ad σ (0, 0) 0 [(0, .ref (ad 0 0)), (1, .ref (ad 4 u0)), (2, .int v2), (3, .int v3)] [] := by
  unfold mF_C1_tell at h
  refine y_iload_n C dX1_tell_0 2 rfl rfl ?_
  refine y_iload_n C dX1_tell_1 3 rfl rfl ?_
  refine y_icmp_eq (tgt := 38) C dX1_tell_2 rfl (fun hc => ?_) (fun hc => ?_)
  · replace h := g_it h hc
    refine y_iconst (v := (0 : Int32)) C dX1_tell_38 (by decide) ?_
    replace h := Option.some.inj h; subst h
    exact y_zret C (by decide) hQ ⟨Nat.zero_le _, Nat.zero_le _⟩ dX1_tell_39
  · replace h := g_if h hc
    refine y_aload_n C dX1_tell_5 0 rfl rfl ?_
    refine y_aload_n C dX1_tell_6 1 rfl rfl ?_
    refine gf_C_X1_217_4 C hu_u0 dX1_tell_7 ?_
    refine y_iload_n C dX1_tell_10 2 rfl rfl ?_
    obtain ⟨hg, h⟩ := g_gd h
    refine al_C_5 C hu_u0 hg dX1_tell_11 ?_
    refine y_aload_n C dX1_tell_12 1 rfl rfl ?_
    refine gf_C_X1_217_4 C hu_u0 dX1_tell_13 ?_
    refine y_iload_n C dX1_tell_16 3 rfl rfl ?_
    obtain ⟨hg, h⟩ := g_gd h
    refine al_C_5 C hu_u0 hg dX1_tell_17 ?_
    obtain ⟨x1, hc, h⟩ := g_bd h
    refine y_callV C (As := [.int (σ.1 5 u0 v2.toNatClampNeg), .int (σ.1 5 u0 v3.toNatClampNeg)]) (rest := []) (k := 0) (hu := nC_0_0) (hc := (rfl : gCl[0]? = some (RX1, TX1, 31))) (hcell := obC_0) (lk_X1_302_X1_l1 C hR (by decide)) (ct_C1_areNear hc) rfl rfl (Nat.le_of_ble_eq_true rfl) ⟨Nat.zero_le _, Nat.zero_le _⟩ dX1_tell_18 ?_
    refine y_if_eq (tgt := 38) C dX1_tell_21 rfl (fun hc => ?_) (fun hc => ?_)
    · replace h := g_it h hc
      refine y_iconst (v := (0 : Int32)) C dX1_tell_38 (by decide) ?_
      replace h := Option.some.inj h; subst h
      exact y_zret C (by decide) hQ ⟨Nat.zero_le _, Nat.zero_le _⟩ dX1_tell_39
    · replace h := g_if h hc
      refine y_aload_n C dX1_tell_24 0 rfl rfl ?_
      refine y_aload_n C dX1_tell_25 1 rfl rfl ?_
      refine y_iload_n C dX1_tell_26 2 rfl rfl ?_
      refine y_iload_n C dX1_tell_27 3 rfl rfl ?_
      obtain ⟨x2, hc, h⟩ := g_bd h
      refine y_callV C (As := [.ref (ad 4 u0), .int v2, .int v3]) (rest := []) (k := 0) (hu := nC_0_0) (hc := (rfl : gCl[0]? = some (RX1, TX1, 31))) (hcell := obC_0) (lk_X1_306_X1_l305 C hR (by decide)) (ct_C1_meet hu_u0 hc) rfl rfl (Nat.le_of_ble_eq_true rfl) ⟨Nat.zero_le _, Nat.zero_le _⟩ dX1_tell_28 ?_
      refine y_if_eq (tgt := 38) C dX1_tell_31 rfl (fun hc => ?_) (fun hc => ?_)
      · replace h := g_it h hc
        refine y_iconst (v := (0 : Int32)) C dX1_tell_38 (by decide) ?_
        replace h := Option.some.inj h; subst h
        exact y_zret C (by decide) hQ ⟨Nat.zero_le _, Nat.zero_le _⟩ dX1_tell_39
      · replace h := g_if h hc
        refine y_iconst (v := (1 : Int32)) C dX1_tell_34 (by decide) ?_
        refine y_goto (tgt := 39) C dX1_tell_35 rfl ?_
        replace h := Option.some.inj h; subst h
        exact y_zret C (by decide) hQ ⟨Nat.zero_le _, Nat.zero_le _⟩ dX1_tell_39
theorem ct_C1_tell {D : va_G} {dA : Nat → ClassId} {A : Nat → Prop} {s0 : State} {b0 : Nat} {l : Launch} {u0 : Nat} (hu_u0 : u0 < g_n (gC true) 4) {ad : Nat → Nat → Nat} {σ : g_S} {v2 : Int32} {v3 : Int32} {r : Int32} (h : mF_C1_tell σ u0 v2 v3 = some r) : g_Met gCl D dA A s0 b0 l yX1_tell cX1_tell 4 (some .boolean) 306 (0, 0) (gC true) ad σ [.ref (ad 0 0), .ref (ad 4 u0), .int v2, .int v3] (gC true) ad σ (some (.int r)) :=
  g_Met.of pl_X1 (Nat.le_of_ble_eq_true rfl) (fun X C hQ hR _ _ hL _ es eb => mw_C1_tell C hR hL hu_u0 h hQ)
theorem ml_C1_goHour_34 {X : g_F} (C : g_M gCl X cX1_goHour RX1 none) (hR : g_R X = g_rm 307 0 0) (hL : g_nL X = 4) {u0 : Nat} (hu_u0 : u0 < g_n (gC true) 4) {ad : Nat → Nat → Nat} {σ : g_S} {v2 : Int32} (n : Nat) (v : (Int32 × g_S)) (e : g_S) (h : g_lp (fun v => mB_C1_goHour_34 v.2 u0 v2 v.1) n v = some e) (kx : g_Y gCl X (gC true) ad e (0, 0) 73 [(0, .ref (ad 0 0)), (1, .ref (ad 4 u0)), (2, .int v2)] []) : g_Y gCl X (gC true) ad v.2 (0, 0) 34 [(0, .ref (ad 0 0)), (1, .ref (ad 4 u0)), (2, .int v2), (3, .int v.1)] [] := by
  refine g_loop (P := fun v => g_Y gCl X (gC true) ad v.2 (0, 0) 34 [(0, .ref (ad 0 0)), (1, .ref (ad 4 u0)), (2, .int v2), (3, .int v.1)] []) (T := fun e => g_Y gCl X (gC true) ad e (0, 0) 73 [(0, .ref (ad 0 0)), (1, .ref (ad 4 u0)), (2, .int v2)] []) ?_ n v e h kx
  clear h kx
  clear n v e
  intro v o h kl kx
  obtain ⟨v3, σ⟩ := v
  have h : mB_C1_goHour_34 σ u0 v2 v3 = some o := h
  unfold mB_C1_goHour_34 at h
  show g_Y gCl X (gC true) ad σ (0, 0) 34 [(0, .ref (ad 0 0)), (1, .ref (ad 4 u0)), (2, .int v2), (3, .int v3)] []
  refine y_iload_n C dX1_goHour_34 3 rfl rfl ?_
  refine y_aload_n C dX1_goHour_35 0 rfl rfl ?_
  refine gf_C_X1_150_0 C nC_0_0 dX1_goHour_36 ?_
  refine y_icmp_ge (tgt := 73) C dX1_goHour_39 rfl (fun hc => ?_) (fun hc => ?_)
  · replace h := g_it h hc
    refine y_sub (vs2 := [(0, .ref (ad 0 0)), (1, .ref (ad 4 u0)), (2, .int v2)]) [0, 1, 2] rfl ?_
    exact kx _ (Option.some.inj h).symm
  · replace h := g_if h hc
    refine y_aload_n C dX1_goHour_42 0 rfl rfl ?_
    refine y_aload_n C dX1_goHour_43 1 rfl rfl ?_
    refine y_iload_n C dX1_goHour_44 2 rfl rfl ?_
    refine y_iload_n C dX1_goHour_45 3 rfl rfl ?_
    obtain ⟨x3, hc, h⟩ := g_bd h
    refine y_callV C (As := [.ref (ad 4 u0), .int v2, .int v3]) (rest := []) (k := 0) (hu := nC_0_0) (hc := (rfl : gCl[0]? = some (RX1, TX1, 31))) (hcell := obC_0) (lk_X1_309_X1_l306 C hR (by decide)) (ct_C1_tell hu_u0 hc) rfl rfl (Nat.le_of_ble_eq_true rfl) ⟨Nat.zero_le _, Nat.zero_le _⟩ dX1_goHour_46 ?_
    refine y_if_eq (tgt := 67) C dX1_goHour_49 rfl (fun hc => ?_) (fun hc => ?_)
    · replace h := g_it h hc
      obtain ⟨x4, hx4, h⟩ := g_lt h
      refine y_iinc (c := (1 : Int32)) (vs1 := [(3, .int x4), (0, .ref (ad 0 0)), (1, .ref (ad 4 u0)), (2, .int v2)]) C hx4 (by decide) dX1_goHour_67 3 rfl (g_lL hL rfl) rfl ?_
      refine y_goto (tgt := 34) C dX1_goHour_70 rfl ?_
      refine y_sub (vs2 := [(0, .ref (ad 0 0)), (1, .ref (ad 4 u0)), (2, .int v2), (3, .int x4)]) [1, 2, 3, 0] rfl ?_
      exact kl _ (Option.some.inj h).symm
    · replace h := g_if h hc
      refine y_aload_n C dX1_goHour_52 0 rfl rfl ?_
      refine gf_C_X1_109_0 C nC_0_0 dX1_goHour_53 ?_
      refine y_iload_n C dX1_goHour_56 2 rfl rfl ?_
      refine y_dup2_11 C dX1_goHour_57 rfl rfl ?_
      obtain ⟨hg, h⟩ := g_gd h
      refine al_C_14 C nC_14_0 hg dX1_goHour_58 ?_
      refine y_aload_n C dX1_goHour_59 1 rfl rfl ?_
      refine gf_C_X1_225_4 C hu_u0 dX1_goHour_60 ?_
      refine y_iload_n C dX1_goHour_63 3 rfl rfl ?_
      obtain ⟨hg, h⟩ := g_gd h
      refine al_C_8 C hu_u0 hg dX1_goHour_64 ?_
      refine y_ior C dX1_goHour_65 ?_
      obtain ⟨hg, h⟩ := g_gd h
      obtain ⟨σ5, hσ5, h⟩ := g_lt h
      refine as_C_14 C nC_14_0 hσ5 hg dX1_goHour_66 ?_
      obtain ⟨x6, hx6, h⟩ := g_lt h
      refine y_iinc (c := (1 : Int32)) (vs1 := [(3, .int x6), (0, .ref (ad 0 0)), (1, .ref (ad 4 u0)), (2, .int v2)]) C hx6 (by decide) dX1_goHour_67 3 rfl (g_lL hL rfl) rfl ?_
      refine y_goto (tgt := 34) C dX1_goHour_70 rfl ?_
      refine y_sub (vs2 := [(0, .ref (ad 0 0)), (1, .ref (ad 4 u0)), (2, .int v2), (3, .int x6)]) [1, 2, 3, 0] rfl ?_
      exact kl _ (Option.some.inj h).symm
theorem ml_C1_goHour_2 {X : g_F} (C : g_M gCl X cX1_goHour RX1 none) (hR : g_R X = g_rm 307 0 0) (hL : g_nL X = 4) {u0 : Nat} (hu_u0 : u0 < g_n (gC true) 4) {ad : Nat → Nat → Nat} {σ : g_S} (n : Nat) (v : (Int32 × g_S)) (e : g_S) (h : g_lp (fun v => mB_C1_goHour_2 v.2 u0 v.1) n v = some e) (kx : g_Y gCl X (gC true) ad e (0, 0) 79 [(0, .ref (ad 0 0)), (1, .ref (ad 4 u0))] []) : g_Y gCl X (gC true) ad v.2 (0, 0) 2 [(0, .ref (ad 0 0)), (1, .ref (ad 4 u0)), (2, .int v.1)] [] := by
  refine g_loop (P := fun v => g_Y gCl X (gC true) ad v.2 (0, 0) 2 [(0, .ref (ad 0 0)), (1, .ref (ad 4 u0)), (2, .int v.1)] []) (T := fun e => g_Y gCl X (gC true) ad e (0, 0) 79 [(0, .ref (ad 0 0)), (1, .ref (ad 4 u0))] []) ?_ n v e h kx
  clear h kx
  clear n v e
  intro v o h kl kx
  obtain ⟨v2, σ⟩ := v
  have h : mB_C1_goHour_2 σ u0 v2 = some o := h
  unfold mB_C1_goHour_2 at h
  show g_Y gCl X (gC true) ad σ (0, 0) 2 [(0, .ref (ad 0 0)), (1, .ref (ad 4 u0)), (2, .int v2)] []
  refine y_iload_n C dX1_goHour_2 2 rfl rfl ?_
  refine y_aload_n C dX1_goHour_3 0 rfl rfl ?_
  refine gf_C_X1_150_0 C nC_0_0 dX1_goHour_4 ?_
  refine y_icmp_ge (tgt := 79) C dX1_goHour_7 rfl (fun hc => ?_) (fun hc => ?_)
  · replace h := g_it h hc
    refine y_sub (vs2 := [(0, .ref (ad 0 0)), (1, .ref (ad 4 u0))]) [0, 1] rfl ?_
    exact kx _ (Option.some.inj h).symm
  · replace h := g_if h hc
    refine y_aload_n C dX1_goHour_10 0 rfl rfl ?_
    refine gf_C_X1_109_0 C nC_0_0 dX1_goHour_11 ?_
    refine y_iload_n C dX1_goHour_14 2 rfl rfl ?_
    refine y_aload_n C dX1_goHour_15 1 rfl rfl ?_
    refine gf_C_X1_225_4 C hu_u0 dX1_goHour_16 ?_
    refine y_iload_n C dX1_goHour_19 2 rfl rfl ?_
    obtain ⟨hg, h⟩ := g_gd h
    refine al_C_8 C hu_u0 hg dX1_goHour_20 ?_
    refine y_aload_n C dX1_goHour_21 0 rfl rfl ?_
    refine gf_C_X1_62_0 C nC_0_0 dX1_goHour_22 ?_
    refine y_aload_n C dX1_goHour_25 1 rfl rfl ?_
    refine y_iload_n C dX1_goHour_26 2 rfl rfl ?_
    obtain ⟨x1, hc, h⟩ := g_bd h
    refine y_callV C (As := [.ref (ad 4 u0), .int v2]) (rest := [.int (σ.1 8 u0 v2.toNatClampNeg), .int v2, .ref (ad 14 0)]) (k := 1) (hu := nC_1_0) (hc := (rfl : gCl[1]? = some (RX2, TX2, 1))) (hcell := obC_1) (lk_X1_260_X2_l305 C hR (by decide)) (ct_C2_things_k1_4 hu_u0 hc) rfl rfl (Nat.le_of_ble_eq_true rfl) ⟨Nat.zero_le _, Nat.zero_le _⟩ dX1_goHour_27 ?_
    refine y_ior C dX1_goHour_30 ?_
    obtain ⟨hg, h⟩ := g_gd h
    obtain ⟨σ2, hσ2, h⟩ := g_lt h
    refine as_C_14 C nC_14_0 hσ2 hg dX1_goHour_31 ?_
    refine y_iconst (v := (0 : Int32)) C dX1_goHour_32 (by decide) ?_
    refine y_istore_n (vs1 := [(3, .int (0 : Int32)), (0, .ref (ad 0 0)), (1, .ref (ad 4 u0)), (2, .int v2)]) C rfl dX1_goHour_33 rfl (g_lL hL rfl) rfl ?_
    refine y_sub (vs2 := [(0, .ref (ad 0 0)), (1, .ref (ad 4 u0)), (2, .int v2), (3, .int (0 : Int32))]) [1, 2, 3, 0] rfl ?_
    obtain ⟨e7, he7, h⟩ := g_bd h
    refine ml_C1_goHour_34 C hR hL hu_u0 (σ := σ2) _ _ _ he7 ?_
    obtain ⟨x8, hx8, h⟩ := g_lt h
    refine y_iinc (c := (1 : Int32)) (vs1 := [(2, .int x8), (0, .ref (ad 0 0)), (1, .ref (ad 4 u0))]) C hx8 (by decide) dX1_goHour_73 2 rfl (g_lL hL rfl) rfl ?_
    refine y_goto (tgt := 2) C dX1_goHour_76 rfl ?_
    refine y_sub (vs2 := [(0, .ref (ad 0 0)), (1, .ref (ad 4 u0)), (2, .int x8)]) [1, 2, 0] rfl ?_
    exact kl _ (Option.some.inj h).symm
theorem mw_C1_goHour {X : g_F} (C : g_M gCl X cX1_goHour RX1 none) (hR : g_R X = g_rm 307 0 0) (hL : g_nL X = 4) {u0 : Nat} (hu_u0 : u0 < g_n (gC true) 4) {ad : Nat → Nat → Nat} {σ : g_S} {o : g_S} (h : mF_C1_goHour σ u0 = some o) (hQ : g_MQ gCl X (gC true) ad o none = g_Q X) : g_Y gCl X (gC true) ad σ (0, 0) 0 [(0, .ref (ad 0 0)), (1, .ref (ad 4 u0))] [] := by
  unfold mF_C1_goHour at h
  refine y_iconst (v := (0 : Int32)) C dX1_goHour_0 (by decide) ?_
  refine y_istore_n (vs1 := [(2, .int (0 : Int32)), (0, .ref (ad 0 0)), (1, .ref (ad 4 u0))]) C rfl dX1_goHour_1 rfl (g_lL hL rfl) rfl ?_
  refine y_sub (vs2 := [(0, .ref (ad 0 0)), (1, .ref (ad 4 u0)), (2, .int (0 : Int32))]) [1, 2, 0] rfl ?_
  obtain ⟨e9, he9, h⟩ := g_bd h
  refine ml_C1_goHour_2 C hR hL hu_u0 (σ := σ) _ _ _ he9 ?_
  refine y_aload_n C dX1_goHour_79 0 rfl rfl ?_
  refine gf_C_X1_109_0 C nC_0_0 dX1_goHour_80 ?_
  refine y_iconst (v := (0 : Int32)) C dX1_goHour_83 (by decide) ?_
  refine y_aload_n C dX1_goHour_84 1 rfl rfl ?_
  refine gf_C_X1_225_4 C hu_u0 dX1_goHour_85 ?_
  refine y_iconst (v := (0 : Int32)) C dX1_goHour_88 (by decide) ?_
  refine y_aload_n C dX1_goHour_89 0 rfl rfl ?_
  refine gf_C_X1_150_0 C nC_0_0 dX1_goHour_90 ?_
  obtain ⟨hg, h⟩ := g_gd h
  obtain ⟨σ10, hσ10, h⟩ := g_lt h
  refine y_copyi (k0 := 14) (u0 := 0) (k := 8) (u := u0) C nC_14_0 hu_u0 rfl rfl (fun g_ => by show Sum.inl (Sum.inl (_, _, Sum.inl _)) = _; rw [g_sA_s]) hσ10 hg q753 (g_rmM hR (by decide)) (Nat.le_of_ble_eq_true rfl) dX1_goHour_93 ?_
  refine y_aload_n C dX1_goHour_96 1 rfl rfl ?_
  refine y_dup C dX1_goHour_97 rfl ?_
  refine gf_C_X1_34_4 C hu_u0 dX1_goHour_98 ?_
  refine y_iconst (v := (1 : Int32)) C dX1_goHour_101 (by decide) ?_
  refine y_iadd C dX1_goHour_102 ?_
  obtain ⟨σ11, hσ11, h⟩ := g_lt h
  refine pf_C_X1_34_4 C hu_u0 hσ11 dX1_goHour_103 ?_
  replace h := Option.some.inj h; subst h
  exact y_vret C hQ ⟨Nat.zero_le _, Nat.zero_le _⟩ dX1_goHour_106
theorem ct_C1_goHour {D : va_G} {dA : Nat → ClassId} {A : Nat → Prop} {s0 : State} {b0 : Nat} {l : Launch} {u0 : Nat} (hu_u0 : u0 < g_n (gC true) 4) {ad : Nat → Nat → Nat} {σ : g_S} {σ1 : g_S} (h : mF_C1_goHour σ u0 = some σ1) : g_Met gCl D dA A s0 b0 l yX1_goHour cX1_goHour 4 none 307 (0, 0) (gC true) ad σ [.ref (ad 0 0), .ref (ad 4 u0)] (gC true) ad σ1 none :=
  g_Met.of pl_X1 (Nat.le_of_ble_eq_true rfl) (fun X C hQ hR _ _ hL _ es eb => mw_C1_goHour C hR hL hu_u0 h hQ)
theorem ml_C1_goHours_2 {X : g_F} (C : g_M gCl X cX1_goHours RX1 none) (hR : g_R X = g_rm 308 0 0) (hL : g_nL X = 4) {u0 : Nat} (hu_u0 : u0 < g_n (gC true) 4) {ad : Nat → Nat → Nat} {σ : g_S} {v2 : Int32} (n : Nat) (v : (Int32 × g_S)) (e : g_S) (h : g_lp (fun v => mB_C1_goHours_2 v.2 u0 v2 v.1) n v = some e) (kx : g_Y gCl X (gC true) ad e (0, 0) 18 [] []) : g_Y gCl X (gC true) ad v.2 (0, 0) 2 [(0, .ref (ad 0 0)), (1, .ref (ad 4 u0)), (2, .int v2), (3, .int v.1)] [] := by
  refine g_loop (P := fun v => g_Y gCl X (gC true) ad v.2 (0, 0) 2 [(0, .ref (ad 0 0)), (1, .ref (ad 4 u0)), (2, .int v2), (3, .int v.1)] []) (T := fun e => g_Y gCl X (gC true) ad e (0, 0) 18 [] []) ?_ n v e h kx
  clear h kx
  clear n v e
  intro v o h kl kx
  obtain ⟨v3, σ⟩ := v
  have h : mB_C1_goHours_2 σ u0 v2 v3 = some o := h
  unfold mB_C1_goHours_2 at h
  show g_Y gCl X (gC true) ad σ (0, 0) 2 [(0, .ref (ad 0 0)), (1, .ref (ad 4 u0)), (2, .int v2), (3, .int v3)] []
  refine y_iload_n C dX1_goHours_2 3 rfl rfl ?_
  refine y_iload_n C dX1_goHours_3 2 rfl rfl ?_
  refine y_icmp_ge (tgt := 18) C dX1_goHours_4 rfl (fun hc => ?_) (fun hc => ?_)
  · replace h := g_it h hc
    refine y_sub (vs2 := []) [] rfl ?_
    exact kx _ (Option.some.inj h).symm
  · replace h := g_if h hc
    refine y_aload_n C dX1_goHours_7 0 rfl rfl ?_
    refine y_aload_n C dX1_goHours_8 1 rfl rfl ?_
    obtain ⟨σ1, hc, h⟩ := g_bd h
    refine y_callVv C (As := [.ref (ad 4 u0)]) (rest := []) (k := 0) (hu := nC_0_0) (hc := (rfl : gCl[0]? = some (RX1, TX1, 31))) (hcell := obC_0) (lk_X1_312_X1_l307 C hR (by decide)) (ct_C1_goHour hu_u0 hc) rfl rfl (Nat.le_of_ble_eq_true rfl) ⟨Nat.zero_le _, Nat.zero_le _⟩ dX1_goHours_9 ?_
    obtain ⟨x2, hx2, h⟩ := g_lt h
    refine y_iinc (c := (1 : Int32)) (vs1 := [(3, .int x2), (0, .ref (ad 0 0)), (1, .ref (ad 4 u0)), (2, .int v2)]) C hx2 (by decide) dX1_goHours_12 3 rfl (g_lL hL rfl) rfl ?_
    refine y_goto (tgt := 2) C dX1_goHours_15 rfl ?_
    refine y_sub (vs2 := [(0, .ref (ad 0 0)), (1, .ref (ad 4 u0)), (2, .int v2), (3, .int x2)]) [1, 2, 3, 0] rfl ?_
    exact kl _ (Option.some.inj h).symm
theorem mw_C1_goHours {X : g_F} (C : g_M gCl X cX1_goHours RX1 none) (hR : g_R X = g_rm 308 0 0) (hL : g_nL X = 4) {u0 : Nat} (hu_u0 : u0 < g_n (gC true) 4) {ad : Nat → Nat → Nat} {σ : g_S} {v2 : Int32} {o : g_S} (h : mF_C1_goHours σ u0 v2 = some o) (hQ : g_MQ gCl X (gC true) ad o none = g_Q X) : g_Y gCl X (gC true) ad σ (0, 0) 0 [(0, .ref (ad 0 0)), (1, .ref (ad 4 u0)), (2, .int v2)] [] := by
  unfold mF_C1_goHours at h
  refine y_iconst (v := (0 : Int32)) C dX1_goHours_0 (by decide) ?_
  refine y_istore_n (vs1 := [(3, .int (0 : Int32)), (0, .ref (ad 0 0)), (1, .ref (ad 4 u0)), (2, .int v2)]) C rfl dX1_goHours_1 rfl (g_lL hL rfl) rfl ?_
  refine y_sub (vs2 := [(0, .ref (ad 0 0)), (1, .ref (ad 4 u0)), (2, .int v2), (3, .int (0 : Int32))]) [1, 2, 3, 0] rfl ?_
  obtain ⟨e3, he3, h⟩ := g_bd h
  refine ml_C1_goHours_2 C hR hL hu_u0 (σ := σ) _ _ _ he3 ?_
  replace h := Option.some.inj h; subst h
  exact y_vret C hQ ⟨Nat.zero_le _, Nat.zero_le _⟩ dX1_goHours_18
theorem ct_C1_goHours {D : va_G} {dA : Nat → ClassId} {A : Nat → Prop} {s0 : State} {b0 : Nat} {l : Launch} {u0 : Nat} (hu_u0 : u0 < g_n (gC true) 4) {ad : Nat → Nat → Nat} {σ : g_S} {v2 : Int32} {σ1 : g_S} (h : mF_C1_goHours σ u0 v2 = some σ1) : g_Met gCl D dA A s0 b0 l yX1_goHours cX1_goHours 4 none 308 (0, 0) (gC true) ad σ [.ref (ad 0 0), .ref (ad 4 u0), .int v2] (gC true) ad σ1 none :=
  g_Met.of pl_X1 (Nat.le_of_ble_eq_true rfl) (fun X C hQ hR _ _ hL _ es eb => mw_C1_goHours C hR hL hu_u0 h hQ)
theorem mw_C1_tell_2 {X : g_F} {hid : Bool} (C : g_M gCl X cX1_tell_2 RX1 none) (hR : g_R X = g_rm 1 0 0) (hL : g_nL X = 3) {ad : Nat → Nat → Nat} {σ : g_S} {v1 : Int64} {o : g_S} (h : mF_C1_tell_2 σ v1 = some o) (hQ : g_MQ gCl X (gC hid) ad o none = g_Q X) : g_Y gCl X (gC hid) ad σ (0, 0) 0 [(0, .ref (ad 0 0)), (1, .long v1)] [] := by
  unfold mF_C1_tell_2 at h
  refine y_aload_n C dX1_tell_2_0 0 rfl rfl ?_
  refine gf_C_X1_105_0 C nC_0_0 dX1_tell_2_1 ?_
  refine y_aload_n C dX1_tell_2_4 0 rfl rfl ?_
  refine gf_C_X1_139_0 C nC_0_0 dX1_tell_2_5 ?_
  refine y_lload_n C dX1_tell_2_8 1 rfl rfl ?_
  obtain ⟨hg, h⟩ := g_gd h
  obtain ⟨σ1, hσ1, h⟩ := g_lt h
  refine as_C_13 C nC_13_0 hσ1 hg dX1_tell_2_9 ?_
  refine y_aload_n C dX1_tell_2_10 0 rfl rfl ?_
  refine y_dup C dX1_tell_2_11 rfl ?_
  refine gf_C_X1_139_0 C nC_0_0 dX1_tell_2_12 ?_
  refine y_iconst (v := (1 : Int32)) C dX1_tell_2_15 (by decide) ?_
  refine y_iadd C dX1_tell_2_16 ?_
  obtain ⟨σ2, hσ2, h⟩ := g_lt h
  refine pf_C_X1_139_0 C nC_0_0 hσ2 dX1_tell_2_17 ?_
  replace h := Option.some.inj h; subst h
  exact y_vret C hQ ⟨Nat.zero_le _, Nat.zero_le _⟩ dX1_tell_2_20
theorem ct_C1_tell_2 {D : va_G} {dA : Nat → ClassId} {A : Nat → Prop} {s0 : State} {b0 : Nat} {l : Launch} {hid : Bool} {ad : Nat → Nat → Nat} {σ : g_S} {v1 : Int64} {σ1 : g_S} (h : mF_C1_tell_2 σ v1 = some σ1) : g_Met gCl D dA A s0 b0 l yX1_tell_2 cX1_tell_2 3 none 1 (0, 0) (gC hid) ad σ [.ref (ad 0 0), .long v1] (gC hid) ad σ1 none :=
  g_Met.of pl_X1 (Nat.le_of_ble_eq_true rfl) (fun X C hQ hR _ _ hL _ es eb => mw_C1_tell_2 C hR hL h hQ)
theorem ml_C1_hours_45 {X : g_F} (C : g_M gCl X cX1_hours RX1 (some .int)) (hR : g_R X = g_rm 309 0 0) (hL : g_nL X = 5) {ad : Nat → Nat → Nat} {σ : g_S} {v2 : Int32} (n : Nat) (v : (Int32 × Int32)) (e : Int32) (h : g_lp (fun v => mB_C1_hours_45 σ v2 v.1 v.2) n v = some e) (kx : g_Y gCl X (gC true) ad σ (0, 0) 73 [(0, .ref (ad 0 0)), (2, .int v2), (3, .int e)] []) : g_Y gCl X (gC true) ad σ (0, 0) 45 [(0, .ref (ad 0 0)), (2, .int v2), (3, .int v.1), (4, .int v.2)] [] := by
  refine g_loop (P := fun v => g_Y gCl X (gC true) ad σ (0, 0) 45 [(0, .ref (ad 0 0)), (2, .int v2), (3, .int v.1), (4, .int v.2)] []) (T := fun e => g_Y gCl X (gC true) ad σ (0, 0) 73 [(0, .ref (ad 0 0)), (2, .int v2), (3, .int e)] []) ?_ n v e h kx
  clear h kx
  clear n v e
  intro v o h kl kx
  obtain ⟨v3, v4⟩ := v
  have h : mB_C1_hours_45 σ v2 v3 v4 = some o := h
  unfold mB_C1_hours_45 at h
  show g_Y gCl X (gC true) ad σ (0, 0) 45 [(0, .ref (ad 0 0)), (2, .int v2), (3, .int v3), (4, .int v4)] []
  refine y_iload C dX1_hours_45 3 rfl ?_
  refine y_aload_n C dX1_hours_47 0 rfl rfl ?_
  refine gf_C_X1_150_0 C nC_0_0 dX1_hours_48 ?_
  refine y_icmp_ge (tgt := 73) C dX1_hours_51 rfl (fun hc => ?_) (fun hc => ?_)
  · replace h := g_it h hc
    refine y_sub (vs2 := [(0, .ref (ad 0 0)), (2, .int v2), (3, .int v3)]) [0, 1, 2] rfl ?_
    exact kx _ (Option.some.inj h).symm
  · replace h := g_if h hc
    refine y_iload_n C dX1_hours_54 2 rfl rfl ?_
    refine y_aload_n C dX1_hours_55 0 rfl rfl ?_
    refine gf_C_X1_84_0 C nC_0_0 dX1_hours_56 ?_
    refine gf_C_X1_225_4 C nC_4_0 dX1_hours_59 ?_
    refine y_iload C dX1_hours_62 3 rfl ?_
    obtain ⟨hg, h⟩ := g_gd h
    refine al_C_8 C nC_8_0 hg dX1_hours_64 ?_
    refine y_ior C dX1_hours_65 ?_
    obtain ⟨x5, hx5, h⟩ := g_lt h
    refine y_istore_n (vs1 := [(3, .int x5), (0, .ref (ad 0 0)), (2, .int v2), (4, .int v4)]) C hx5 dX1_hours_66 rfl (g_lL hL rfl) rfl ?_
    obtain ⟨x6, hx6, h⟩ := g_lt h
    refine y_iinc (c := (1 : Int32)) (vs1 := [(4, .int x6), (3, .int x5), (0, .ref (ad 0 0)), (2, .int v2)]) C hx6 (by decide) dX1_hours_67 3 rfl (g_lL hL rfl) rfl ?_
    refine y_goto (tgt := 45) C dX1_hours_70 rfl ?_
    refine y_sub (vs2 := [(0, .ref (ad 0 0)), (2, .int v2), (3, .int x5), (4, .int x6)]) [2, 3, 1, 0] rfl ?_
    exact kl _ (Option.some.inj h).symm
theorem mw_C1_hours {X : g_F} (C : g_M gCl X cX1_hours RX1 (some .int)) (hR : g_R X = g_rm 309 0 0) (hL : g_nL X = 5) {ad : Nat → Nat → Nat} {σ : g_S} {v1 : Int32} {o : (Int32 × g_S)} (h : mF_C1_hours σ v1 = some o) (hQ : g_MQ gCl X (gC true) ad o.2 (some (.int o.1)) = g_Q X) : g_Y gCl X (gC true) ad σ (0, 0) 0 [(0, .ref (ad 0 0)), (1, .int v1)] [] := by
  unfold mF_C1_hours at h
  refine y_iload_n C dX1_hours_0 1 rfl rfl ?_
  refine y_i2l C dX1_hours_1 ?_
  refine y_lconst (v := (0 : Int64)) C dX1_hours_2 (by decide) ?_
  refine y_ldc2 (v := (60 : Int64)) C q748 dX1_hours_3 ?_
  obtain ⟨x1, hc, h⟩ := g_bd h
  refine y_callS C (As := [.long (v1.toInt64), .long (0 : Int64), .long (60 : Int64)]) (rest := []) (lk_X1_146_l1 C hR (by decide)) (ct_C1_in hc) rfl rfl (Nat.le_of_ble_eq_true rfl) ⟨Nat.zero_le _, Nat.zero_le _⟩ dX1_hours_6 ?_
  refine y_if_ne (tgt := 14) C dX1_hours_9 rfl (fun hc => ?_) (fun hc => ?_)
  · replace h := g_if h hc
    refine y_aload_n C dX1_hours_14 0 rfl rfl ?_
    refine y_aload_n C dX1_hours_15 0 rfl rfl ?_
    refine gf_C_X1_84_0 C nC_0_0 dX1_hours_16 ?_
    obtain ⟨σ2, hc, h⟩ := g_bd h
    refine y_callVv C (As := [.ref (ad 4 0)]) (rest := []) (k := 0) (hu := nC_0_0) (hc := (rfl : gCl[0]? = some (RX1, TX1, 31))) (hcell := obC_0) (lk_X1_320_X1_l2 C hR (by decide)) (ct_C1_remember nC_4_0 hc) rfl rfl (Nat.le_of_ble_eq_true rfl) ⟨Nat.zero_le _, Nat.zero_le _⟩ dX1_hours_19 ?_
    refine y_aload_n C dX1_hours_22 0 rfl rfl ?_
    refine y_aload_n C dX1_hours_23 0 rfl rfl ?_
    refine gf_C_X1_84_0 C nC_0_0 dX1_hours_24 ?_
    obtain ⟨x3, hc, h⟩ := g_bd h
    refine y_callV C (As := [.ref (ad 4 0)]) (rest := []) (k := 0) (hu := nC_0_0) (hc := (rfl : gCl[0]? = some (RX1, TX1, 31))) (hcell := obC_0) (lk_X1_323_X1_l2 C hR (by decide)) (ct_C1_known nC_4_0 hc) rfl rfl (Nat.le_of_ble_eq_true rfl) ⟨Nat.zero_le _, Nat.zero_le _⟩ dX1_hours_27 ?_
    refine y_istore_n (vs1 := [(2, .int x3), (0, .ref (ad 0 0)), (1, .int v1)]) C rfl dX1_hours_30 rfl (g_lL hL rfl) rfl ?_
    refine y_aload_n C dX1_hours_31 1 rfl rfl ?_
    refine y_aload_n C dX1_hours_32 1 rfl rfl ?_
    refine gf_C_X1_84_0 C nC_0_0 dX1_hours_33 ?_
    refine y_iload_n C dX1_hours_36 2 rfl rfl ?_
    obtain ⟨σ4, hc, h⟩ := g_bd h
    refine y_callVv C (As := [.ref (ad 4 0), .int v1]) (rest := []) (k := 0) (hu := nC_0_0) (hc := (rfl : gCl[0]? = some (RX1, TX1, 31))) (hcell := obC_0) (lk_X1_326_X1_l308 C hR (by decide)) (ct_C1_goHours nC_4_0 hc) rfl rfl (Nat.le_of_ble_eq_true rfl) ⟨Nat.zero_le _, Nat.zero_le _⟩ dX1_hours_37 ?_
    refine y_iconst (v := (0 : Int32)) C dX1_hours_40 (by decide) ?_
    refine y_istore_n (vs1 := [(3, .int (0 : Int32)), (2, .int x3), (0, .ref (ad 0 0)), (1, .int v1)]) C rfl dX1_hours_41 rfl (g_lL hL rfl) rfl ?_
    refine y_iconst (v := (0 : Int32)) C dX1_hours_42 (by decide) ?_
    refine y_istore (vs1 := [(4, .int (0 : Int32)), (3, .int (0 : Int32)), (2, .int x3), (0, .ref (ad 0 0)), (1, .int v1)]) C rfl dX1_hours_43 (g_lL hL rfl) rfl ?_
    refine y_sub (vs2 := [(0, .ref (ad 0 0)), (2, .int x3), (3, .int (0 : Int32)), (4, .int (0 : Int32))]) [3, 2, 1, 0] rfl ?_
    obtain ⟨e7, he7, h⟩ := g_bd h
    refine ml_C1_hours_45 C hR hL (σ := σ4) _ _ _ he7 ?_
    refine y_aload_n C dX1_hours_73 0 rfl rfl ?_
    refine y_iconst (v := (0 : Int32)) C dX1_hours_74 (by decide) ?_
    obtain ⟨σ8, hσ8, h⟩ := g_lt h
    refine pf_C_X1_139_0 C nC_0_0 hσ8 dX1_hours_75 ?_
    refine y_aload_n C dX1_hours_78 0 rfl rfl ?_
    refine y_aload_n C dX1_hours_79 0 rfl rfl ?_
    refine y_aload_n C dX1_hours_80 0 rfl rfl ?_
    refine gf_C_X1_84_0 C nC_0_0 dX1_hours_81 ?_
    obtain ⟨x9, hc, h⟩ := g_bd h
    refine y_callV C (As := [.ref (ad 4 0)]) (rest := [.ref (ad 0 0)]) (k := 0) (hu := nC_0_0) (hc := (rfl : gCl[0]? = some (RX1, TX1, 31))) (hcell := obC_0) (lk_X1_323_X1_l2 C hR (by decide)) (ct_C1_known nC_4_0 hc) rfl rfl (Nat.le_of_ble_eq_true rfl) ⟨Nat.zero_le _, Nat.zero_le _⟩ dX1_hours_84 ?_
    refine y_iload_n C dX1_hours_87 1 rfl rfl ?_
    refine y_isub C dX1_hours_88 ?_
    refine y_i2l C dX1_hours_89 ?_
    obtain ⟨σ10, hc, h⟩ := g_bd h
    refine y_callVv C (As := [.long ((x9 - x3).toInt64)]) (rest := []) (k := 0) (hu := nC_0_0) (hc := (rfl : gCl[0]? = some (RX1, TX1, 31))) (hcell := obC_0) (lk_X1_330_X1_l1 C hR (by decide)) (ct_C1_tell_2 hc) rfl rfl (Nat.le_of_ble_eq_true rfl) ⟨Nat.zero_le _, Nat.zero_le _⟩ dX1_hours_90 ?_
    refine y_aload_n C dX1_hours_93 0 rfl rfl ?_
    refine y_iload_n C dX1_hours_94 2 rfl rfl ?_
    refine y_i2l C dX1_hours_95 ?_
    obtain ⟨σ11, hc, h⟩ := g_bd h
    refine y_callVv C (As := [.long (e7.toInt64)]) (rest := []) (k := 0) (hu := nC_0_0) (hc := (rfl : gCl[0]? = some (RX1, TX1, 31))) (hcell := obC_0) (lk_X1_330_X1_l1 C hR (by decide)) (ct_C1_tell_2 hc) rfl rfl (Nat.le_of_ble_eq_true rfl) ⟨Nat.zero_le _, Nat.zero_le _⟩ dX1_hours_96 ?_
    refine y_aload_n C dX1_hours_99 0 rfl rfl ?_
    refine y_aload_n C dX1_hours_100 0 rfl rfl ?_
    refine gf_C_X1_84_0 C nC_0_0 dX1_hours_101 ?_
    obtain ⟨x12, hc, h⟩ := g_bd h
    refine y_callV C (As := [.ref (ad 4 0)]) (rest := []) (k := 0) (hu := nC_0_0) (hc := (rfl : gCl[0]? = some (RX1, TX1, 31))) (hcell := obC_0) (lk_X1_323_X1_l2 C hR (by decide)) (ct_C1_known nC_4_0 hc) rfl rfl (Nat.le_of_ble_eq_true rfl) ⟨Nat.zero_le _, Nat.zero_le _⟩ dX1_hours_104 ?_
    replace h := Option.some.inj h; subst h
    exact y_iret C hQ ⟨Nat.zero_le _, Nat.zero_le _⟩ dX1_hours_107
  · replace h := g_it h hc
    refine y_iconst (v := (-1 : Int32)) C dX1_hours_12 (by decide) ?_
    replace h := Option.some.inj h; subst h
    exact y_iret C hQ ⟨Nat.zero_le _, Nat.zero_le _⟩ dX1_hours_13
theorem ct_C1_hours {D : va_G} {dA : Nat → ClassId} {A : Nat → Prop} {s0 : State} {b0 : Nat} {l : Launch} {ad : Nat → Nat → Nat} {σ : g_S} {v1 : Int32} {r : Int32} {σ1 : g_S} (h : mF_C1_hours σ v1 = some (r, σ1)) : g_Met gCl D dA A s0 b0 l yX1_hours cX1_hours 5 (some .int) 309 (0, 0) (gC true) ad σ [.ref (ad 0 0), .int v1] (gC true) ad σ1 (some (.int r)) :=
  g_Met.of pl_X1 (Nat.le_of_ble_eq_true rfl) (fun X C hQ hR _ _ hL _ es eb => mw_C1_hours C hR hL h hQ)
theorem mw_C1_isMan {X : g_F} {hid : Bool} (C : g_M gCl X cX1_isMan RX1 (some .boolean)) (hR : g_R X = g_rm 2 0 0) (hL : g_nL X = 2) {ad : Nat → Nat → Nat} {σ : g_S} {v1 : Int32} {o : Int32} (h : mF_C1_isMan σ v1 = some o) (hQ : g_MQ gCl X (gC hid) ad σ (some (.int o)) = g_Q X) : g_Y gCl X (gC hid) ad σ (0, 0) 0 [(0, .ref (ad 0 0)), (1, .int v1)] [] := by
  unfold mF_C1_isMan at h
  refine y_iload_n C dX1_isMan_0 1 rfl rfl ?_
  refine y_i2l C dX1_isMan_1 ?_
  refine y_lconst (v := (0 : Int64)) C dX1_isMan_2 (by decide) ?_
  refine y_aload_n C dX1_isMan_3 0 rfl rfl ?_
  refine gf_C_X1_150_0 C nC_0_0 dX1_isMan_4 ?_
  refine y_iconst (v := (1 : Int32)) C dX1_isMan_7 (by decide) ?_
  refine y_isub C dX1_isMan_8 ?_
  refine y_i2l C dX1_isMan_9 ?_
  obtain ⟨x1, hc, h⟩ := g_bd h
  refine y_callS C (As := [.long (v1.toInt64), .long (0 : Int64), .long (((σ.1 0 0 5) - (1 : Int32)).toInt64)]) (rest := []) (lk_X1_146_l1 C hR (by decide)) (ct_C1_in hc) rfl rfl (Nat.le_of_ble_eq_true rfl) ⟨Nat.zero_le _, Nat.zero_le _⟩ dX1_isMan_10 ?_
  obtain ⟨hg, h⟩ := g_gd h
  replace h := Option.some.inj h; subst h
  exact y_zret C (g_nz hg) hQ ⟨Nat.zero_le _, Nat.zero_le _⟩ dX1_isMan_13
theorem ct_C1_isMan {D : va_G} {dA : Nat → ClassId} {A : Nat → Prop} {s0 : State} {b0 : Nat} {l : Launch} {hid : Bool} {ad : Nat → Nat → Nat} {σ : g_S} {v1 : Int32} {r : Int32} (h : mF_C1_isMan σ v1 = some r) : g_Met gCl D dA A s0 b0 l yX1_isMan cX1_isMan 2 (some .boolean) 2 (0, 0) (gC hid) ad σ [.ref (ad 0 0), .int v1] (gC hid) ad σ (some (.int r)) :=
  g_Met.of pl_X1 (Nat.le_of_ble_eq_true rfl) (fun X C hQ hR _ _ hL _ es eb => mw_C1_isMan C hR hL h hQ)
theorem mw_C1_canFace {X : g_F} {hid : Bool} (C : g_M gCl X cX1_canFace RX1 (some .boolean)) (hR : g_R X = g_rm 3 0 0) (hL : g_nL X = 3) {ad : Nat → Nat → Nat} {σ : g_S} {v1 : Int32} {v2 : Int32} {o : Int32} (h : mF_C1_canFace σ v1 v2 = some o) (hQ : g_MQ gCl X (gC hid) ad σ (some (.int o)) = g_Q X) : g_Y gCl X (gC hid) ad σ (0, 0) 0 [(0, .ref (ad 0 0)), (1, .int v1), (2, .int v2)] [] := by
  unfold mF_C1_canFace at h
  refine y_aload_n C dX1_canFace_0 0 rfl rfl ?_
  refine y_iload_n C dX1_canFace_1 1 rfl rfl ?_
  obtain ⟨x1, hc, h⟩ := g_bd h
  refine y_callV C (As := [.int v1]) (rest := []) (k := 0) (hu := nC_0_0) (hc := (rfl : gCl[0]? = some (RX1, TX1, 31))) (hcell := obC_0) (lk_X1_250_X1_l2 C hR (by decide)) (ct_C1_isMan hc) rfl rfl (Nat.le_of_ble_eq_true rfl) ⟨Nat.zero_le _, Nat.zero_le _⟩ dX1_canFace_2 ?_
  refine y_if_eq (tgt := 24) C dX1_canFace_5 rfl (fun hc => ?_) (fun hc => ?_)
  · replace h := g_it h hc
    refine y_iconst (v := (0 : Int32)) C dX1_canFace_24 (by decide) ?_
    replace h := Option.some.inj h; subst h
    exact y_zret C (by decide) hQ ⟨Nat.zero_le _, Nat.zero_le _⟩ dX1_canFace_25
  · replace h := g_if h hc
    refine y_iload_n C dX1_canFace_8 2 rfl rfl ?_
    refine y_i2l C dX1_canFace_9 ?_
    refine y_lconst (v := (0 : Int64)) C dX1_canFace_10 (by decide) ?_
    refine y_ldc2 (v := (7 : Int64)) C q873 dX1_canFace_11 ?_
    obtain ⟨x2, hc, h⟩ := g_bd h
    refine y_callS C (As := [.long (v2.toInt64), .long (0 : Int64), .long (7 : Int64)]) (rest := []) (lk_X1_146_l1 C hR (by decide)) (ct_C1_in hc) rfl rfl (Nat.le_of_ble_eq_true rfl) ⟨Nat.zero_le _, Nat.zero_le _⟩ dX1_canFace_14 ?_
    refine y_if_eq (tgt := 24) C dX1_canFace_17 rfl (fun hc => ?_) (fun hc => ?_)
    · replace h := g_it h hc
      refine y_iconst (v := (0 : Int32)) C dX1_canFace_24 (by decide) ?_
      replace h := Option.some.inj h; subst h
      exact y_zret C (by decide) hQ ⟨Nat.zero_le _, Nat.zero_le _⟩ dX1_canFace_25
    · replace h := g_if h hc
      refine y_iconst (v := (1 : Int32)) C dX1_canFace_20 (by decide) ?_
      refine y_goto (tgt := 25) C dX1_canFace_21 rfl ?_
      replace h := Option.some.inj h; subst h
      exact y_zret C (by decide) hQ ⟨Nat.zero_le _, Nat.zero_le _⟩ dX1_canFace_25
theorem ct_C1_canFace {D : va_G} {dA : Nat → ClassId} {A : Nat → Prop} {s0 : State} {b0 : Nat} {l : Launch} {hid : Bool} {ad : Nat → Nat → Nat} {σ : g_S} {v1 : Int32} {v2 : Int32} {r : Int32} (h : mF_C1_canFace σ v1 v2 = some r) : g_Met gCl D dA A s0 b0 l yX1_canFace cX1_canFace 3 (some .boolean) 3 (0, 0) (gC hid) ad σ [.ref (ad 0 0), .int v1, .int v2] (gC hid) ad σ (some (.int r)) :=
  g_Met.of pl_X1 (Nat.le_of_ble_eq_true rfl) (fun X C hQ hR _ _ hL _ es eb => mw_C1_canFace C hR hL h hQ)
theorem mw_C1_faces {X : g_F} {hid : Bool} (C : g_M gCl X cX1_faces RX1 (some .int)) (hR : g_R X = g_rm 4 0 0) (hL : g_nL X = 4) {ad : Nat → Nat → Nat} {σ : g_S} {v1 : Int32} {v2 : Int32} {o : (Int32 × g_S)} (h : mF_C1_faces σ v1 v2 = some o) (hQ : g_MQ gCl X (gC hid) ad o.2 (some (.int o.1)) = g_Q X) : g_Y gCl X (gC hid) ad σ (0, 0) 0 [(0, .ref (ad 0 0)), (1, .int v1), (2, .int v2)] [] := by
  unfold mF_C1_faces at h
  refine y_aload_n C dX1_faces_0 0 rfl rfl ?_
  refine y_iload_n C dX1_faces_1 1 rfl rfl ?_
  refine y_iload_n C dX1_faces_2 2 rfl rfl ?_
  obtain ⟨x1, hc, h⟩ := g_bd h
  refine y_callV C (As := [.int v1, .int v2]) (rest := []) (k := 0) (hu := nC_0_0) (hc := (rfl : gCl[0]? = some (RX1, TX1, 31))) (hcell := obC_0) (lk_X1_335_X1_l3 C hR (by decide)) (ct_C1_canFace hc) rfl rfl (Nat.le_of_ble_eq_true rfl) ⟨Nat.zero_le _, Nat.zero_le _⟩ dX1_faces_3 ?_
  refine y_if_ne (tgt := 11) C dX1_faces_6 rfl (fun hc => ?_) (fun hc => ?_)
  · replace h := g_if h hc
    refine y_aload_n C dX1_faces_11 0 rfl rfl ?_
    refine y_aload_n C dX1_faces_12 0 rfl rfl ?_
    refine gf_C_X1_84_0 C nC_0_0 dX1_faces_13 ?_
    obtain ⟨σ2, hc, h⟩ := g_bd h
    refine y_callVv C (As := [.ref (ad 4 0)]) (rest := []) (k := 0) (hu := nC_0_0) (hc := (rfl : gCl[0]? = some (RX1, TX1, 31))) (hcell := obC_0) (lk_X1_320_X1_l2 C hR (by decide)) (ct_C1_remember nC_4_0 hc) rfl rfl (Nat.le_of_ble_eq_true rfl) ⟨Nat.zero_le _, Nat.zero_le _⟩ dX1_faces_16 ?_
    refine y_aload_n C dX1_faces_19 0 rfl rfl ?_
    refine gf_C_X1_84_0 C nC_0_0 dX1_faces_20 ?_
    refine gf_C_X1_219_4 C nC_4_0 dX1_faces_23 ?_
    refine y_iload_n C dX1_faces_26 1 rfl rfl ?_
    obtain ⟨hg, h⟩ := g_gd h
    refine al_C_6 C nC_6_0 hg dX1_faces_27 ?_
    refine y_iload_n C dX1_faces_28 2 rfl rfl ?_
    obtain ⟨x3, hc, h⟩ := g_bd h
    refine y_callS C (As := [.int (σ2.1 6 0 v1.toNatClampNeg), .int v2]) (rest := []) (lk_X1_338_l1 C hR (by decide)) (ct_C1_offBy hc) rfl rfl (Nat.le_of_ble_eq_true rfl) ⟨Nat.zero_le _, Nat.zero_le _⟩ dX1_faces_29 ?_
    refine y_istore_n (vs1 := [(3, .int x3), (0, .ref (ad 0 0)), (1, .int v1), (2, .int v2)]) C rfl dX1_faces_32 rfl (g_lL hL rfl) rfl ?_
    refine y_aload_n C dX1_faces_33 1 rfl rfl ?_
    refine gf_C_X1_84_0 C nC_0_0 dX1_faces_34 ?_
    refine gf_C_X1_219_4 C nC_4_0 dX1_faces_37 ?_
    refine y_iload_n C dX1_faces_40 2 rfl rfl ?_
    refine y_iload_n C dX1_faces_41 3 rfl rfl ?_
    obtain ⟨hg, h⟩ := g_gd h
    obtain ⟨σ4, hσ4, h⟩ := g_lt h
    refine as_C_6 C nC_6_0 hσ4 hg dX1_faces_42 ?_
    refine y_iload_n C dX1_faces_43 0 rfl rfl ?_
    replace h := Option.some.inj h; subst h
    exact y_iret C hQ ⟨Nat.zero_le _, Nat.zero_le _⟩ dX1_faces_44
  · replace h := g_it h hc
    refine y_iconst (v := (-1 : Int32)) C dX1_faces_9 (by decide) ?_
    replace h := Option.some.inj h; subst h
    exact y_iret C hQ ⟨Nat.zero_le _, Nat.zero_le _⟩ dX1_faces_10
theorem ct_C1_faces {D : va_G} {dA : Nat → ClassId} {A : Nat → Prop} {s0 : State} {b0 : Nat} {l : Launch} {hid : Bool} {ad : Nat → Nat → Nat} {σ : g_S} {v1 : Int32} {v2 : Int32} {r : Int32} {σ1 : g_S} (h : mF_C1_faces σ v1 v2 = some (r, σ1)) : g_Met gCl D dA A s0 b0 l yX1_faces cX1_faces 4 (some .int) 4 (0, 0) (gC hid) ad σ [.ref (ad 0 0), .int v1, .int v2] (gC hid) ad σ1 (some (.int r)) :=
  g_Met.of pl_X1 (Nat.le_of_ble_eq_true rfl) (fun X C hQ hR _ _ hL _ es eb => mw_C1_faces C hR hL h hQ)
theorem mw_C1_stepOf {X : g_F} {hid : Bool} (C : g_M gCl X cX1_stepOf RX1 (some .int)) (hR : g_R X = g_rm 3 0 0) (hL : g_nL X = 5) {ad : Nat → Nat → Nat} {σ : g_S} {v1 : Int32} {v2 : Int32} {o : Int32} (h : mF_C1_stepOf σ v1 v2 = some o) (hQ : g_MQ gCl X (gC hid) ad σ (some (.int o)) = g_Q X) : g_Y gCl X (gC hid) ad σ (0, 0) 0 [(0, .ref (ad 0 0)), (1, .int v1), (2, .int v2)] [] := by
  unfold mF_C1_stepOf at h
  refine y_iload_n C dX1_stepOf_0 1 rfl rfl ?_
  refine y_aload_n C dX1_stepOf_1 0 rfl rfl ?_
  refine gf_C_X1_13_0 C nC_0_0 dX1_stepOf_2 ?_
  obtain ⟨hg, h⟩ := g_gd h
  refine y_idiv C dX1_stepOf_5 hg ?_
  refine y_tbg0 C q887 dX1_stepOf_6 ?_
  refine y_iload_n C dX1_stepOf_9 2 rfl rfl ?_
  obtain ⟨hg, h⟩ := g_gd h
  refine y_tbl C (t := 0) (by decide) hg dX1_stepOf_10 ?_
  refine y_iadd C dX1_stepOf_11 ?_
  obtain ⟨x1, hx1, h⟩ := g_lt h
  refine y_istore_n (vs1 := [(3, .int x1), (0, .ref (ad 0 0)), (1, .int v1), (2, .int v2)]) C hx1 dX1_stepOf_12 rfl (g_lL hL rfl) rfl ?_
  refine y_iload_n C dX1_stepOf_13 2 rfl rfl ?_
  refine y_aload_n C dX1_stepOf_14 1 rfl rfl ?_
  refine gf_C_X1_13_0 C nC_0_0 dX1_stepOf_15 ?_
  obtain ⟨hg, h⟩ := g_gd h
  refine y_irem C dX1_stepOf_18 hg ?_
  refine y_tbg1 C q889 dX1_stepOf_19 ?_
  refine y_iload_n C dX1_stepOf_22 3 rfl rfl ?_
  obtain ⟨hg, h⟩ := g_gd h
  refine y_tbl C (t := 1) (by decide) hg dX1_stepOf_23 ?_
  refine y_iadd C dX1_stepOf_24 ?_
  obtain ⟨x2, hx2, h⟩ := g_lt h
  refine y_istore (vs1 := [(4, .int x2), (3, .int x1), (0, .ref (ad 0 0)), (1, .int v1), (2, .int v2)]) C hx2 dX1_stepOf_25 (g_lL hL rfl) rfl ?_
  refine y_iload_n C dX1_stepOf_27 1 rfl rfl ?_
  refine y_i2l C dX1_stepOf_28 ?_
  refine y_lconst (v := (0 : Int64)) C dX1_stepOf_29 (by decide) ?_
  refine y_aload_n C dX1_stepOf_30 2 rfl rfl ?_
  refine gf_C_X1_80_0 C nC_0_0 dX1_stepOf_31 ?_
  refine y_iconst (v := (1 : Int32)) C dX1_stepOf_34 (by decide) ?_
  refine y_isub C dX1_stepOf_35 ?_
  refine y_i2l C dX1_stepOf_36 ?_
  obtain ⟨x3, hc, h⟩ := g_bd h
  refine y_callS C (As := [.long (x1.toInt64), .long (0 : Int64), .long (((σ.1 0 0 3) - (1 : Int32)).toInt64)]) (rest := []) (lk_X1_146_l1 C hR (by decide)) (ct_C1_in hc) rfl rfl (Nat.le_of_ble_eq_true rfl) ⟨Nat.zero_le _, Nat.zero_le _⟩ dX1_stepOf_37 ?_
  refine y_if_eq (tgt := 76) C dX1_stepOf_40 rfl (fun hc => ?_) (fun hc => ?_)
  · replace h := g_it h hc
    refine y_iconst (v := (-1 : Int32)) C dX1_stepOf_76 (by decide) ?_
    refine y_goto (tgt := 89) C dX1_stepOf_77 rfl ?_
    replace h := Option.some.inj h; subst h
    exact y_iret C hQ ⟨Nat.zero_le _, Nat.zero_le _⟩ dX1_stepOf_89
  · replace h := g_if h hc
    refine y_iload C dX1_stepOf_43 0 rfl ?_
    refine y_i2l C dX1_stepOf_45 ?_
    refine y_lconst (v := (0 : Int64)) C dX1_stepOf_46 (by decide) ?_
    refine y_aload_n C dX1_stepOf_47 2 rfl rfl ?_
    refine gf_C_X1_13_0 C nC_0_0 dX1_stepOf_48 ?_
    refine y_iconst (v := (1 : Int32)) C dX1_stepOf_51 (by decide) ?_
    refine y_isub C dX1_stepOf_52 ?_
    refine y_i2l C dX1_stepOf_53 ?_
    obtain ⟨x4, hc, h⟩ := g_bd h
    refine y_callS C (As := [.long (x2.toInt64), .long (0 : Int64), .long (((σ.1 0 0 4) - (1 : Int32)).toInt64)]) (rest := []) (lk_X1_146_l1 C hR (by decide)) (ct_C1_in hc) rfl rfl (Nat.le_of_ble_eq_true rfl) ⟨Nat.zero_le _, Nat.zero_le _⟩ dX1_stepOf_54 ?_
    refine y_if_eq (tgt := 76) C dX1_stepOf_57 rfl (fun hc => ?_) (fun hc => ?_)
    · replace h := g_it h hc
      refine y_iconst (v := (-1 : Int32)) C dX1_stepOf_76 (by decide) ?_
      refine y_goto (tgt := 89) C dX1_stepOf_77 rfl ?_
      replace h := Option.some.inj h; subst h
      exact y_iret C hQ ⟨Nat.zero_le _, Nat.zero_le _⟩ dX1_stepOf_89
    · replace h := g_if h hc
      refine y_aload_n C dX1_stepOf_60 2 rfl rfl ?_
      refine y_aload_n C dX1_stepOf_61 2 rfl rfl ?_
      refine gf_C_X1_13_0 C nC_0_0 dX1_stepOf_62 ?_
      refine y_iload_n C dX1_stepOf_65 1 rfl rfl ?_
      refine y_imul C dX1_stepOf_66 ?_
      refine y_iload C dX1_stepOf_67 0 rfl ?_
      refine y_iadd C dX1_stepOf_69 ?_
      obtain ⟨x5, hc, h⟩ := g_bd h
      refine y_callV C (As := [.int (((σ.1 0 0 4) * x1) + x2)]) (rest := []) (k := 0) (hu := nC_0_0) (hc := (rfl : gCl[0]? = some (RX1, TX1, 31))) (hcell := obC_0) (lk_X1_209_X1_l2 C hR (by decide)) (ct_C1_isRock hc) rfl rfl (Nat.le_of_ble_eq_true rfl) ⟨Nat.zero_le _, Nat.zero_le _⟩ dX1_stepOf_70 ?_
      refine y_if_eq (tgt := 80) C dX1_stepOf_73 rfl (fun hc => ?_) (fun hc => ?_)
      · replace h := g_it h hc
        refine y_aload_n C dX1_stepOf_80 2 rfl rfl ?_
        refine gf_C_X1_13_0 C nC_0_0 dX1_stepOf_81 ?_
        refine y_iload_n C dX1_stepOf_84 1 rfl rfl ?_
        refine y_imul C dX1_stepOf_85 ?_
        refine y_iload C dX1_stepOf_86 0 rfl ?_
        refine y_iadd C dX1_stepOf_88 ?_
        replace h := Option.some.inj h; subst h
        exact y_iret C hQ ⟨Nat.zero_le _, Nat.zero_le _⟩ dX1_stepOf_89
      · replace h := g_if h hc
        refine y_iconst (v := (-1 : Int32)) C dX1_stepOf_76 (by decide) ?_
        refine y_goto (tgt := 89) C dX1_stepOf_77 rfl ?_
        replace h := Option.some.inj h; subst h
        exact y_iret C hQ ⟨Nat.zero_le _, Nat.zero_le _⟩ dX1_stepOf_89
theorem ct_C1_stepOf {D : va_G} {dA : Nat → ClassId} {A : Nat → Prop} {s0 : State} {b0 : Nat} {l : Launch} {hid : Bool} {ad : Nat → Nat → Nat} {σ : g_S} {v1 : Int32} {v2 : Int32} {r : Int32} (h : mF_C1_stepOf σ v1 v2 = some r) : g_Met gCl D dA A s0 b0 l yX1_stepOf cX1_stepOf 5 (some .int) 3 (0, 0) (gC hid) ad σ [.ref (ad 0 0), .int v1, .int v2] (gC hid) ad σ (some (.int r)) :=
  g_Met.of pl_X1 (Nat.le_of_ble_eq_true rfl) (fun X C hQ hR _ _ hL _ es eb => mw_C1_stepOf C hR hL h hQ)
theorem mw_C1_refusesStep {X : g_F} {hid : Bool} (C : g_M gCl X cX1_refusesStep RX1 (some .int)) (hR : g_R X = g_rm 4 0 0) (hL : g_nL X = 4) {u0 : Nat} (hu_u0 : u0 < g_n (gC hid) 4) {ad : Nat → Nat → Nat} {σ : g_S} {v2 : Int32} {v3 : Int32} {o : Int32} (h : mF_C1_refusesStep σ u0 v2 v3 = some o) (hQ : g_MQ gCl X (gC hid) ad σ (some (.int o)) = g_Q X) : g_Y gCl X (gC hid) ad σ (0, 0) 0 [(0, .ref (ad 0 0)), (1, .ref (ad 4 u0)), (2, .int v2), (3, .int v3)] [] := by
  unfold mF_C1_refusesStep at h
  refine y_aload_n C dX1_refusesStep_0 0 rfl rfl ?_
  refine y_iload_n C dX1_refusesStep_1 2 rfl rfl ?_
  refine y_iload_n C dX1_refusesStep_2 3 rfl rfl ?_
  obtain ⟨x1, hc, h⟩ := g_bd h
  refine y_callV C (As := [.int v2, .int v3]) (rest := []) (k := 0) (hu := nC_0_0) (hc := (rfl : gCl[0]? = some (RX1, TX1, 31))) (hcell := obC_0) (lk_X1_335_X1_l3 C hR (by decide)) (ct_C1_canFace hc) rfl rfl (Nat.le_of_ble_eq_true rfl) ⟨Nat.zero_le _, Nat.zero_le _⟩ dX1_refusesStep_3 ?_
  refine y_if_ne (tgt := 11) C dX1_refusesStep_6 rfl (fun hc => ?_) (fun hc => ?_)
  · replace h := g_if h hc
    refine y_aload_n C dX1_refusesStep_11 0 rfl rfl ?_
    refine y_aload_n C dX1_refusesStep_12 1 rfl rfl ?_
    refine gf_C_X1_217_4 C hu_u0 dX1_refusesStep_13 ?_
    refine y_iload_n C dX1_refusesStep_16 2 rfl rfl ?_
    obtain ⟨hg, h⟩ := g_gd h
    refine al_C_5 C hu_u0 hg dX1_refusesStep_17 ?_
    refine y_iload_n C dX1_refusesStep_18 3 rfl rfl ?_
    obtain ⟨x2, hc, h⟩ := g_bd h
    refine y_callV C (As := [.int (σ.1 5 u0 v2.toNatClampNeg), .int v3]) (rest := []) (k := 0) (hu := nC_0_0) (hc := (rfl : gCl[0]? = some (RX1, TX1, 31))) (hcell := obC_0) (lk_X1_347_X1_l3 C hR (by decide)) (ct_C1_stepOf hc) rfl rfl (Nat.le_of_ble_eq_true rfl) ⟨Nat.zero_le _, Nat.zero_le _⟩ dX1_refusesStep_19 ?_
    refine y_iconst (v := (-1 : Int32)) C dX1_refusesStep_22 (by decide) ?_
    refine y_icmp_ne (tgt := 31) C dX1_refusesStep_23 rfl (fun hc => ?_) (fun hc => ?_)
    · replace h := g_if h hc
      refine y_iconst (v := (0 : Int32)) C dX1_refusesStep_31 (by decide) ?_
      replace h := Option.some.inj h; subst h
      exact y_iret C hQ ⟨Nat.zero_le _, Nat.zero_le _⟩ dX1_refusesStep_32
    · replace h := g_it h hc
      refine y_bipush (v := (-2 : Int32)) C dX1_refusesStep_26 (by decide) ?_
      refine y_goto (tgt := 32) C dX1_refusesStep_28 rfl ?_
      replace h := Option.some.inj h; subst h
      exact y_iret C hQ ⟨Nat.zero_le _, Nat.zero_le _⟩ dX1_refusesStep_32
  · replace h := g_it h hc
    refine y_iconst (v := (-1 : Int32)) C dX1_refusesStep_9 (by decide) ?_
    replace h := Option.some.inj h; subst h
    exact y_iret C hQ ⟨Nat.zero_le _, Nat.zero_le _⟩ dX1_refusesStep_10
theorem ct_C1_refusesStep {D : va_G} {dA : Nat → ClassId} {A : Nat → Prop} {s0 : State} {b0 : Nat} {l : Launch} {hid : Bool} {u0 : Nat} (hu_u0 : u0 < g_n (gC hid) 4) {ad : Nat → Nat → Nat} {σ : g_S} {v2 : Int32} {v3 : Int32} {r : Int32} (h : mF_C1_refusesStep σ u0 v2 v3 = some r) : g_Met gCl D dA A s0 b0 l yX1_refusesStep cX1_refusesStep 4 (some .int) 4 (0, 0) (gC hid) ad σ [.ref (ad 0 0), .ref (ad 4 u0), .int v2, .int v3] (gC hid) ad σ (some (.int r)) :=
  g_Met.of pl_X1 (Nat.le_of_ble_eq_true rfl) (fun X C hQ hR _ _ hL _ es eb => mw_C1_refusesStep C hR hL hu_u0 h hQ)
theorem mw_C1_steps {X : g_F} {hid : Bool} (C : g_M gCl X cX1_steps RX1 (some .int)) (hR : g_R X = g_rm 5 0 0) (hL : g_nL X = 4) {ad : Nat → Nat → Nat} {σ : g_S} {v1 : Int32} {v2 : Int32} {o : (Int32 × g_S)} (h : mF_C1_steps σ v1 v2 = some o) (hQ : g_MQ gCl X (gC hid) ad o.2 (some (.int o.1)) = g_Q X) : g_Y gCl X (gC hid) ad σ (0, 0) 0 [(0, .ref (ad 0 0)), (1, .int v1), (2, .int v2)] [] := by
  unfold mF_C1_steps at h
  refine y_aload_n C dX1_steps_0 0 rfl rfl ?_
  refine y_aload_n C dX1_steps_1 0 rfl rfl ?_
  refine gf_C_X1_84_0 C nC_0_0 dX1_steps_2 ?_
  refine y_iload_n C dX1_steps_5 1 rfl rfl ?_
  refine y_iload_n C dX1_steps_6 2 rfl rfl ?_
  obtain ⟨x1, hc, h⟩ := g_bd h
  refine y_callV C (As := [.ref (ad 4 0), .int v1, .int v2]) (rest := []) (k := 0) (hu := nC_0_0) (hc := (rfl : gCl[0]? = some (RX1, TX1, 31))) (hcell := obC_0) (lk_X1_350_X1_l4 C hR (by decide)) (ct_C1_refusesStep nC_4_0 hc) rfl rfl (Nat.le_of_ble_eq_true rfl) ⟨Nat.zero_le _, Nat.zero_le _⟩ dX1_steps_7 ?_
  refine y_istore_n (vs1 := [(3, .int x1), (0, .ref (ad 0 0)), (1, .int v1), (2, .int v2)]) C rfl dX1_steps_10 rfl (g_lL hL rfl) rfl ?_
  refine y_iload_n C dX1_steps_11 0 rfl rfl ?_
  refine y_if_ge (tgt := 17) C dX1_steps_12 rfl (fun hc => ?_) (fun hc => ?_)
  · replace h := g_it h hc
    refine y_aload_n C dX1_steps_17 1 rfl rfl ?_
    refine y_aload_n C dX1_steps_18 1 rfl rfl ?_
    refine gf_C_X1_84_0 C nC_0_0 dX1_steps_19 ?_
    obtain ⟨σ2, hc, h⟩ := g_bd h
    refine y_callVv C (As := [.ref (ad 4 0)]) (rest := []) (k := 0) (hu := nC_0_0) (hc := (rfl : gCl[0]? = some (RX1, TX1, 31))) (hcell := obC_0) (lk_X1_320_X1_l2 C hR (by decide)) (ct_C1_remember nC_4_0 hc) rfl rfl (Nat.le_of_ble_eq_true rfl) ⟨Nat.zero_le _, Nat.zero_le _⟩ dX1_steps_22 ?_
    refine y_aload_n C dX1_steps_25 1 rfl rfl ?_
    refine gf_C_X1_84_0 C nC_0_0 dX1_steps_26 ?_
    refine gf_C_X1_217_4 C nC_4_0 dX1_steps_29 ?_
    refine y_iload_n C dX1_steps_32 2 rfl rfl ?_
    refine y_aload_n C dX1_steps_33 1 rfl rfl ?_
    refine y_aload_n C dX1_steps_34 1 rfl rfl ?_
    refine gf_C_X1_84_0 C nC_0_0 dX1_steps_35 ?_
    refine gf_C_X1_217_4 C nC_4_0 dX1_steps_38 ?_
    refine y_iload_n C dX1_steps_41 2 rfl rfl ?_
    obtain ⟨hg, h⟩ := g_gd h
    refine al_C_5 C nC_5_0 hg dX1_steps_42 ?_
    refine y_iload_n C dX1_steps_43 3 rfl rfl ?_
    obtain ⟨x3, hc, h⟩ := g_bd h
    refine y_callV C (As := [.int (σ2.1 5 0 v1.toNatClampNeg), .int v2]) (rest := [.int v1, .ref (ad 5 0)]) (k := 0) (hu := nC_0_0) (hc := (rfl : gCl[0]? = some (RX1, TX1, 31))) (hcell := obC_0) (lk_X1_347_X1_l3 C hR (by decide)) (ct_C1_stepOf hc) rfl rfl (Nat.le_of_ble_eq_true rfl) ⟨Nat.zero_le _, Nat.zero_le _⟩ dX1_steps_44 ?_
    obtain ⟨hg, h⟩ := g_gd h
    obtain ⟨σ4, hσ4, h⟩ := g_lt h
    refine as_C_5 C nC_5_0 hσ4 hg dX1_steps_47 ?_
    refine y_aload_n C dX1_steps_48 1 rfl rfl ?_
    refine gf_C_X1_84_0 C nC_0_0 dX1_steps_49 ?_
    refine gf_C_X1_217_4 C nC_4_0 dX1_steps_52 ?_
    refine y_iload_n C dX1_steps_55 2 rfl rfl ?_
    obtain ⟨hg, h⟩ := g_gd h
    refine al_C_5 C nC_5_0 hg dX1_steps_56 ?_
    replace h := Option.some.inj h; subst h
    exact y_iret C hQ ⟨Nat.zero_le _, Nat.zero_le _⟩ dX1_steps_57
  · replace h := g_if h hc
    refine y_iload_n C dX1_steps_15 0 rfl rfl ?_
    replace h := Option.some.inj h; subst h
    exact y_iret C hQ ⟨Nat.zero_le _, Nat.zero_le _⟩ dX1_steps_16
theorem ct_C1_steps {D : va_G} {dA : Nat → ClassId} {A : Nat → Prop} {s0 : State} {b0 : Nat} {l : Launch} {hid : Bool} {ad : Nat → Nat → Nat} {σ : g_S} {v1 : Int32} {v2 : Int32} {r : Int32} {σ1 : g_S} (h : mF_C1_steps σ v1 v2 = some (r, σ1)) : g_Met gCl D dA A s0 b0 l yX1_steps cX1_steps 4 (some .int) 5 (0, 0) (gC hid) ad σ [.ref (ad 0 0), .int v1, .int v2] (gC hid) ad σ1 (some (.int r)) :=
  g_Met.of pl_X1 (Nat.le_of_ble_eq_true rfl) (fun X C hQ hR _ _ hL _ es eb => mw_C1_steps C hR hL h hQ)
theorem mw_C1_canTrim {X : g_F} {hid : Bool} (C : g_M gCl X cX1_canTrim RX1 (some .boolean)) (hR : g_R X = g_rm 3 0 0) (hL : g_nL X = 3) {ad : Nat → Nat → Nat} {σ : g_S} {v1 : Int32} {v2 : Int32} {o : Int32} (h : mF_C1_canTrim σ v1 v2 = some o) (hQ : g_MQ gCl X (gC hid) ad σ (some (.int o)) = g_Q X) : g_Y gCl X (gC hid) ad σ (0, 0) 0 [(0, .ref (ad 0 0)), (1, .int v1), (2, .int v2)] [] := by
  unfold mF_C1_canTrim at h
  refine y_aload_n C dX1_canTrim_0 0 rfl rfl ?_
  refine y_iload_n C dX1_canTrim_1 1 rfl rfl ?_
  obtain ⟨x1, hc, h⟩ := g_bd h
  refine y_callV C (As := [.int v1]) (rest := []) (k := 0) (hu := nC_0_0) (hc := (rfl : gCl[0]? = some (RX1, TX1, 31))) (hcell := obC_0) (lk_X1_250_X1_l2 C hR (by decide)) (ct_C1_isMan hc) rfl rfl (Nat.le_of_ble_eq_true rfl) ⟨Nat.zero_le _, Nat.zero_le _⟩ dX1_canTrim_2 ?_
  refine y_if_eq (tgt := 24) C dX1_canTrim_5 rfl (fun hc => ?_) (fun hc => ?_)
  · replace h := g_it h hc
    refine y_iconst (v := (0 : Int32)) C dX1_canTrim_24 (by decide) ?_
    replace h := Option.some.inj h; subst h
    exact y_zret C (by decide) hQ ⟨Nat.zero_le _, Nat.zero_le _⟩ dX1_canTrim_25
  · replace h := g_if h hc
    refine y_iload_n C dX1_canTrim_8 2 rfl rfl ?_
    refine y_i2l C dX1_canTrim_9 ?_
    refine y_lconst (v := (0 : Int64)) C dX1_canTrim_10 (by decide) ?_
    refine y_ldc2 (v := (4 : Int64)) C q899 dX1_canTrim_11 ?_
    obtain ⟨x2, hc, h⟩ := g_bd h
    refine y_callS C (As := [.long (v2.toInt64), .long (0 : Int64), .long (4 : Int64)]) (rest := []) (lk_X1_146_l1 C hR (by decide)) (ct_C1_in hc) rfl rfl (Nat.le_of_ble_eq_true rfl) ⟨Nat.zero_le _, Nat.zero_le _⟩ dX1_canTrim_14 ?_
    refine y_if_eq (tgt := 24) C dX1_canTrim_17 rfl (fun hc => ?_) (fun hc => ?_)
    · replace h := g_it h hc
      refine y_iconst (v := (0 : Int32)) C dX1_canTrim_24 (by decide) ?_
      replace h := Option.some.inj h; subst h
      exact y_zret C (by decide) hQ ⟨Nat.zero_le _, Nat.zero_le _⟩ dX1_canTrim_25
    · replace h := g_if h hc
      refine y_iconst (v := (1 : Int32)) C dX1_canTrim_20 (by decide) ?_
      refine y_goto (tgt := 25) C dX1_canTrim_21 rfl ?_
      replace h := Option.some.inj h; subst h
      exact y_zret C (by decide) hQ ⟨Nat.zero_le _, Nat.zero_le _⟩ dX1_canTrim_25
theorem ct_C1_canTrim {D : va_G} {dA : Nat → ClassId} {A : Nat → Prop} {s0 : State} {b0 : Nat} {l : Launch} {hid : Bool} {ad : Nat → Nat → Nat} {σ : g_S} {v1 : Int32} {v2 : Int32} {r : Int32} (h : mF_C1_canTrim σ v1 v2 = some r) : g_Met gCl D dA A s0 b0 l yX1_canTrim cX1_canTrim 3 (some .boolean) 3 (0, 0) (gC hid) ad σ [.ref (ad 0 0), .int v1, .int v2] (gC hid) ad σ (some (.int r)) :=
  g_Met.of pl_X1 (Nat.le_of_ble_eq_true rfl) (fun X C hQ hR _ _ hL _ es eb => mw_C1_canTrim C hR hL h hQ)
theorem mw_C1_trims {X : g_F} {hid : Bool} (C : g_M gCl X cX1_trims RX1 (some .int)) (hR : g_R X = g_rm 4 0 0) (hL : g_nL X = 4) {ad : Nat → Nat → Nat} {σ : g_S} {v1 : Int32} {v2 : Int32} {o : (Int32 × g_S)} (h : mF_C1_trims σ v1 v2 = some o) (hQ : g_MQ gCl X (gC hid) ad o.2 (some (.int o.1)) = g_Q X) : g_Y gCl X (gC hid) ad σ (0, 0) 0 [(0, .ref (ad 0 0)), (1, .int v1), (2, .int v2)] [] := by
  unfold mF_C1_trims at h
  refine y_aload_n C dX1_trims_0 0 rfl rfl ?_
  refine y_iload_n C dX1_trims_1 1 rfl rfl ?_
  refine y_iload_n C dX1_trims_2 2 rfl rfl ?_
  obtain ⟨x1, hc, h⟩ := g_bd h
  refine y_callV C (As := [.int v1, .int v2]) (rest := []) (k := 0) (hu := nC_0_0) (hc := (rfl : gCl[0]? = some (RX1, TX1, 31))) (hcell := obC_0) (lk_X1_355_X1_l3 C hR (by decide)) (ct_C1_canTrim hc) rfl rfl (Nat.le_of_ble_eq_true rfl) ⟨Nat.zero_le _, Nat.zero_le _⟩ dX1_trims_3 ?_
  refine y_if_ne (tgt := 11) C dX1_trims_6 rfl (fun hc => ?_) (fun hc => ?_)
  · replace h := g_if h hc
    refine y_aload_n C dX1_trims_11 0 rfl rfl ?_
    refine y_aload_n C dX1_trims_12 0 rfl rfl ?_
    refine gf_C_X1_84_0 C nC_0_0 dX1_trims_13 ?_
    obtain ⟨σ2, hc, h⟩ := g_bd h
    refine y_callVv C (As := [.ref (ad 4 0)]) (rest := []) (k := 0) (hu := nC_0_0) (hc := (rfl : gCl[0]? = some (RX1, TX1, 31))) (hcell := obC_0) (lk_X1_320_X1_l2 C hR (by decide)) (ct_C1_remember nC_4_0 hc) rfl rfl (Nat.le_of_ble_eq_true rfl) ⟨Nat.zero_le _, Nat.zero_le _⟩ dX1_trims_16 ?_
    refine y_aload_n C dX1_trims_19 0 rfl rfl ?_
    refine gf_C_X1_84_0 C nC_0_0 dX1_trims_20 ?_
    refine gf_C_X1_222_4 C nC_4_0 dX1_trims_23 ?_
    refine y_iload_n C dX1_trims_26 1 rfl rfl ?_
    obtain ⟨hg, h⟩ := g_gd h
    refine al_C_7 C nC_7_0 hg dX1_trims_27 ?_
    obtain ⟨x3, hx3, h⟩ := g_lt h
    refine y_istore_n (vs1 := [(3, .int x3), (0, .ref (ad 0 0)), (1, .int v1), (2, .int v2)]) C hx3 dX1_trims_28 rfl (g_lL hL rfl) rfl ?_
    refine y_aload_n C dX1_trims_29 1 rfl rfl ?_
    refine gf_C_X1_84_0 C nC_0_0 dX1_trims_30 ?_
    refine gf_C_X1_222_4 C nC_4_0 dX1_trims_33 ?_
    refine y_iload_n C dX1_trims_36 2 rfl rfl ?_
    refine y_iload_n C dX1_trims_37 3 rfl rfl ?_
    obtain ⟨hg, h⟩ := g_gd h
    obtain ⟨σ4, hσ4, h⟩ := g_lt h
    refine as_C_7 C nC_7_0 hσ4 hg dX1_trims_38 ?_
    refine y_iload_n C dX1_trims_39 0 rfl rfl ?_
    replace h := Option.some.inj h; subst h
    exact y_iret C hQ ⟨Nat.zero_le _, Nat.zero_le _⟩ dX1_trims_40
  · replace h := g_it h hc
    refine y_iconst (v := (-1 : Int32)) C dX1_trims_9 (by decide) ?_
    replace h := Option.some.inj h; subst h
    exact y_iret C hQ ⟨Nat.zero_le _, Nat.zero_le _⟩ dX1_trims_10
theorem ct_C1_trims {D : va_G} {dA : Nat → ClassId} {A : Nat → Prop} {s0 : State} {b0 : Nat} {l : Launch} {hid : Bool} {ad : Nat → Nat → Nat} {σ : g_S} {v1 : Int32} {v2 : Int32} {r : Int32} {σ1 : g_S} (h : mF_C1_trims σ v1 v2 = some (r, σ1)) : g_Met gCl D dA A s0 b0 l yX1_trims cX1_trims 4 (some .int) 4 (0, 0) (gC hid) ad σ [.ref (ad 0 0), .int v1, .int v2] (gC hid) ad σ1 (some (.int r)) :=
  g_Met.of pl_X1 (Nat.le_of_ble_eq_true rfl) (fun X C hQ hR _ _ hL _ es eb => mw_C1_trims C hR hL h hQ)
theorem mw_C1_isThing {X : g_F} {hid : Bool} (C : g_M gCl X cX1_isThing RX1 (some .boolean)) (hR : g_R X = g_rm 2 0 0) (hL : g_nL X = 2) {ad : Nat → Nat → Nat} {σ : g_S} {v1 : Int32} {o : Int32} (h : mF_C1_isThing σ v1 = some o) (hQ : g_MQ gCl X (gC hid) ad σ (some (.int o)) = g_Q X) : g_Y gCl X (gC hid) ad σ (0, 0) 0 [(0, .ref (ad 0 0)), (1, .int v1)] [] := by
  unfold mF_C1_isThing at h
  refine y_iload_n C dX1_isThing_0 1 rfl rfl ?_
  refine y_i2l C dX1_isThing_1 ?_
  refine y_lconst (v := (0 : Int64)) C dX1_isThing_2 (by decide) ?_
  refine y_aload_n C dX1_isThing_3 0 rfl rfl ?_
  refine gf_C_X1_153_0 C nC_0_0 dX1_isThing_4 ?_
  refine y_iconst (v := (1 : Int32)) C dX1_isThing_7 (by decide) ?_
  refine y_isub C dX1_isThing_8 ?_
  refine y_i2l C dX1_isThing_9 ?_
  obtain ⟨x1, hc, h⟩ := g_bd h
  refine y_callS C (As := [.long (v1.toInt64), .long (0 : Int64), .long (((σ.1 0 0 6) - (1 : Int32)).toInt64)]) (rest := []) (lk_X1_146_l1 C hR (by decide)) (ct_C1_in hc) rfl rfl (Nat.le_of_ble_eq_true rfl) ⟨Nat.zero_le _, Nat.zero_le _⟩ dX1_isThing_10 ?_
  obtain ⟨hg, h⟩ := g_gd h
  replace h := Option.some.inj h; subst h
  exact y_zret C (g_nz hg) hQ ⟨Nat.zero_le _, Nat.zero_le _⟩ dX1_isThing_13
theorem ct_C1_isThing {D : va_G} {dA : Nat → ClassId} {A : Nat → Prop} {s0 : State} {b0 : Nat} {l : Launch} {hid : Bool} {ad : Nat → Nat → Nat} {σ : g_S} {v1 : Int32} {r : Int32} (h : mF_C1_isThing σ v1 = some r) : g_Met gCl D dA A s0 b0 l yX1_isThing cX1_isThing 2 (some .boolean) 2 (0, 0) (gC hid) ad σ [.ref (ad 0 0), .int v1] (gC hid) ad σ (some (.int r)) :=
  g_Met.of pl_X1 (Nat.le_of_ble_eq_true rfl) (fun X C hQ hR _ _ hL _ es eb => mw_C1_isThing C hR hL h hQ)
theorem mw_C1_fields {X : g_F} {hid : Bool} (C : g_M gCl X cX1_fields RX1 (some .int)) (hR : g_R X = g_rm 1 0 0) (hL : g_nL X = 1) {ad : Nat → Nat → Nat} {σ : g_S} {o : Int32} (h : mF_C1_fields σ = some o) (hQ : g_MQ gCl X (gC hid) ad σ (some (.int o)) = g_Q X) : g_Y gCl X (gC hid) ad σ (0, 0) 0 [(0, .ref (ad 0 0))] [] := by
  unfold mF_C1_fields at h
  refine y_aload_n C dX1_fields_0 0 rfl rfl ?_
  refine gf_C_X1_80_0 C nC_0_0 dX1_fields_1 ?_
  refine y_aload_n C dX1_fields_4 0 rfl rfl ?_
  refine gf_C_X1_13_0 C nC_0_0 dX1_fields_5 ?_
  refine y_imul C dX1_fields_8 ?_
  replace h := Option.some.inj h; subst h
  exact y_iret C hQ ⟨Nat.zero_le _, Nat.zero_le _⟩ dX1_fields_9
theorem ct_C1_fields {D : va_G} {dA : Nat → ClassId} {A : Nat → Prop} {s0 : State} {b0 : Nat} {l : Launch} {hid : Bool} {ad : Nat → Nat → Nat} {σ : g_S} {r : Int32} (h : mF_C1_fields σ = some r) : g_Met gCl D dA A s0 b0 l yX1_fields cX1_fields 1 (some .int) 1 (0, 0) (gC hid) ad σ [.ref (ad 0 0)] (gC hid) ad σ (some (.int r)) :=
  g_Met.of pl_X1 (Nat.le_of_ble_eq_true rfl) (fun X C hQ hR _ _ hL _ es eb => mw_C1_fields C hR hL h hQ)
theorem mw_C1_isField {X : g_F} {hid : Bool} (C : g_M gCl X cX1_isField RX1 (some .boolean)) (hR : g_R X = g_rm 2 0 0) (hL : g_nL X = 2) {ad : Nat → Nat → Nat} {σ : g_S} {v1 : Int32} {o : Int32} (h : mF_C1_isField σ v1 = some o) (hQ : g_MQ gCl X (gC hid) ad σ (some (.int o)) = g_Q X) : g_Y gCl X (gC hid) ad σ (0, 0) 0 [(0, .ref (ad 0 0)), (1, .int v1)] [] := by
  unfold mF_C1_isField at h
  refine y_iload_n C dX1_isField_0 1 rfl rfl ?_
  refine y_i2l C dX1_isField_1 ?_
  refine y_lconst (v := (0 : Int64)) C dX1_isField_2 (by decide) ?_
  refine y_aload_n C dX1_isField_3 0 rfl rfl ?_
  obtain ⟨x1, hc, h⟩ := g_bd h
  refine y_callV C (As := []) (rest := [.long (0 : Int64), .long (v1.toInt64)]) (k := 0) (hu := nC_0_0) (hc := (rfl : gCl[0]? = some (RX1, TX1, 31))) (hcell := obC_0) (lk_X1_142_X1_l1 C hR (by decide)) (ct_C1_fields hc) rfl rfl (Nat.le_of_ble_eq_true rfl) ⟨Nat.zero_le _, Nat.zero_le _⟩ dX1_isField_4 ?_
  refine y_iconst (v := (1 : Int32)) C dX1_isField_7 (by decide) ?_
  refine y_isub C dX1_isField_8 ?_
  refine y_i2l C dX1_isField_9 ?_
  obtain ⟨x2, hc, h⟩ := g_bd h
  refine y_callS C (As := [.long (v1.toInt64), .long (0 : Int64), .long ((x1 - (1 : Int32)).toInt64)]) (rest := []) (lk_X1_146_l1 C hR (by decide)) (ct_C1_in hc) rfl rfl (Nat.le_of_ble_eq_true rfl) ⟨Nat.zero_le _, Nat.zero_le _⟩ dX1_isField_10 ?_
  obtain ⟨hg, h⟩ := g_gd h
  replace h := Option.some.inj h; subst h
  exact y_zret C (g_nz hg) hQ ⟨Nat.zero_le _, Nat.zero_le _⟩ dX1_isField_13
theorem ct_C1_isField {D : va_G} {dA : Nat → ClassId} {A : Nat → Prop} {s0 : State} {b0 : Nat} {l : Launch} {hid : Bool} {ad : Nat → Nat → Nat} {σ : g_S} {v1 : Int32} {r : Int32} (h : mF_C1_isField σ v1 = some r) : g_Met gCl D dA A s0 b0 l yX1_isField cX1_isField 2 (some .boolean) 2 (0, 0) (gC hid) ad σ [.ref (ad 0 0), .int v1] (gC hid) ad σ (some (.int r)) :=
  g_Met.of pl_X1 (Nat.le_of_ble_eq_true rfl) (fun X C hQ hR _ _ hL _ es eb => mw_C1_isField C hR hL h hQ)
theorem mw_C1_refusesPut {X : g_F} {hid : Bool} (C : g_M gCl X cX1_refusesPut RX1 (some .int)) (hR : g_R X = g_rm 3 0 0) (hL : g_nL X = 3) {ad : Nat → Nat → Nat} {σ : g_S} {v1 : Int32} {v2 : Int32} {o : Int32} (h : mF_C1_refusesPut σ v1 v2 = some o) (hQ : g_MQ gCl X (gC hid) ad σ (some (.int o)) = g_Q X) : g_Y gCl X (gC hid) ad σ (0, 0) 0 [(0, .ref (ad 0 0)), (1, .int v1), (2, .int v2)] [] := by
  unfold mF_C1_refusesPut at h
  refine y_aload_n C dX1_refusesPut_0 0 rfl rfl ?_
  refine y_iload_n C dX1_refusesPut_1 1 rfl rfl ?_
  obtain ⟨x1, hc, h⟩ := g_bd h
  refine y_callV C (As := [.int v1]) (rest := []) (k := 0) (hu := nC_0_0) (hc := (rfl : gCl[0]? = some (RX1, TX1, 31))) (hcell := obC_0) (lk_X1_262_X1_l2 C hR (by decide)) (ct_C1_isThing hc) rfl rfl (Nat.le_of_ble_eq_true rfl) ⟨Nat.zero_le _, Nat.zero_le _⟩ dX1_refusesPut_2 ?_
  refine y_if_eq (tgt := 16) C dX1_refusesPut_5 rfl (fun hc => ?_) (fun hc => ?_)
  · replace h := g_it h hc
    refine y_iconst (v := (-1 : Int32)) C dX1_refusesPut_16 (by decide) ?_
    replace h := Option.some.inj h; subst h
    exact y_iret C hQ ⟨Nat.zero_le _, Nat.zero_le _⟩ dX1_refusesPut_17
  · replace h := g_if h hc
    refine y_aload_n C dX1_refusesPut_8 0 rfl rfl ?_
    refine y_iload_n C dX1_refusesPut_9 2 rfl rfl ?_
    obtain ⟨x2, hc, h⟩ := g_bd h
    refine y_callV C (As := [.int v2]) (rest := []) (k := 0) (hu := nC_0_0) (hc := (rfl : gCl[0]? = some (RX1, TX1, 31))) (hcell := obC_0) (lk_X1_358_X1_l2 C hR (by decide)) (ct_C1_isField hc) rfl rfl (Nat.le_of_ble_eq_true rfl) ⟨Nat.zero_le _, Nat.zero_le _⟩ dX1_refusesPut_10 ?_
    refine y_if_ne (tgt := 18) C dX1_refusesPut_13 rfl (fun hc => ?_) (fun hc => ?_)
    · replace h := g_if h hc
      refine y_aload_n C dX1_refusesPut_18 0 rfl rfl ?_
      refine gf_C_X1_84_0 C nC_0_0 dX1_refusesPut_19 ?_
      refine gf_C_X1_228_4 C nC_4_0 dX1_refusesPut_22 ?_
      refine y_iload_n C dX1_refusesPut_25 1 rfl rfl ?_
      obtain ⟨hg, h⟩ := g_gd h
      refine al_C_9 C nC_9_0 hg dX1_refusesPut_26 ?_
      refine y_iload_n C dX1_refusesPut_27 2 rfl rfl ?_
      refine y_icmp_ne (tgt := 36) C dX1_refusesPut_28 rfl (fun hc => ?_) (fun hc => ?_)
      · replace h := g_if h hc
        refine y_iconst (v := (0 : Int32)) C dX1_refusesPut_36 (by decide) ?_
        replace h := Option.some.inj h; subst h
        exact y_iret C hQ ⟨Nat.zero_le _, Nat.zero_le _⟩ dX1_refusesPut_37
      · replace h := g_it h hc
        refine y_bipush (v := (-2 : Int32)) C dX1_refusesPut_31 (by decide) ?_
        refine y_goto (tgt := 37) C dX1_refusesPut_33 rfl ?_
        replace h := Option.some.inj h; subst h
        exact y_iret C hQ ⟨Nat.zero_le _, Nat.zero_le _⟩ dX1_refusesPut_37
    · replace h := g_it h hc
      refine y_iconst (v := (-1 : Int32)) C dX1_refusesPut_16 (by decide) ?_
      replace h := Option.some.inj h; subst h
      exact y_iret C hQ ⟨Nat.zero_le _, Nat.zero_le _⟩ dX1_refusesPut_17
theorem ct_C1_refusesPut {D : va_G} {dA : Nat → ClassId} {A : Nat → Prop} {s0 : State} {b0 : Nat} {l : Launch} {hid : Bool} {ad : Nat → Nat → Nat} {σ : g_S} {v1 : Int32} {v2 : Int32} {r : Int32} (h : mF_C1_refusesPut σ v1 v2 = some r) : g_Met gCl D dA A s0 b0 l yX1_refusesPut cX1_refusesPut 3 (some .int) 3 (0, 0) (gC hid) ad σ [.ref (ad 0 0), .int v1, .int v2] (gC hid) ad σ (some (.int r)) :=
  g_Met.of pl_X1 (Nat.le_of_ble_eq_true rfl) (fun X C hQ hR _ _ hL _ es eb => mw_C1_refusesPut C hR hL h hQ)
theorem mw_C1_puts {X : g_F} {hid : Bool} (C : g_M gCl X cX1_puts RX1 (some .int)) (hR : g_R X = g_rm 4 0 0) (hL : g_nL X = 5) {ad : Nat → Nat → Nat} {σ : g_S} {v1 : Int32} {v2 : Int32} {o : (Int32 × g_S)} (h : mF_C1_puts σ v1 v2 = some o) (hQ : g_MQ gCl X (gC hid) ad o.2 (some (.int o.1)) = g_Q X) : g_Y gCl X (gC hid) ad σ (0, 0) 0 [(0, .ref (ad 0 0)), (1, .int v1), (2, .int v2)] [] := by
  unfold mF_C1_puts at h
  refine y_aload_n C dX1_puts_0 0 rfl rfl ?_
  refine y_iload_n C dX1_puts_1 1 rfl rfl ?_
  refine y_iload_n C dX1_puts_2 2 rfl rfl ?_
  obtain ⟨x1, hc, h⟩ := g_bd h
  refine y_callV C (As := [.int v1, .int v2]) (rest := []) (k := 0) (hu := nC_0_0) (hc := (rfl : gCl[0]? = some (RX1, TX1, 31))) (hcell := obC_0) (lk_X1_361_X1_l3 C hR (by decide)) (ct_C1_refusesPut hc) rfl rfl (Nat.le_of_ble_eq_true rfl) ⟨Nat.zero_le _, Nat.zero_le _⟩ dX1_puts_3 ?_
  refine y_istore_n (vs1 := [(3, .int x1), (0, .ref (ad 0 0)), (1, .int v1), (2, .int v2)]) C rfl dX1_puts_6 rfl (g_lL hL rfl) rfl ?_
  refine y_iload_n C dX1_puts_7 0 rfl rfl ?_
  refine y_if_ge (tgt := 13) C dX1_puts_8 rfl (fun hc => ?_) (fun hc => ?_)
  · replace h := g_it h hc
    refine y_aload_n C dX1_puts_13 1 rfl rfl ?_
    refine y_aload_n C dX1_puts_14 1 rfl rfl ?_
    refine gf_C_X1_84_0 C nC_0_0 dX1_puts_15 ?_
    obtain ⟨σ2, hc, h⟩ := g_bd h
    refine y_callVv C (As := [.ref (ad 4 0)]) (rest := []) (k := 0) (hu := nC_0_0) (hc := (rfl : gCl[0]? = some (RX1, TX1, 31))) (hcell := obC_0) (lk_X1_320_X1_l2 C hR (by decide)) (ct_C1_remember nC_4_0 hc) rfl rfl (Nat.le_of_ble_eq_true rfl) ⟨Nat.zero_le _, Nat.zero_le _⟩ dX1_puts_18 ?_
    refine y_aload_n C dX1_puts_21 1 rfl rfl ?_
    refine gf_C_X1_84_0 C nC_0_0 dX1_puts_22 ?_
    refine gf_C_X1_228_4 C nC_4_0 dX1_puts_25 ?_
    refine y_iload_n C dX1_puts_28 2 rfl rfl ?_
    obtain ⟨hg, h⟩ := g_gd h
    refine al_C_9 C nC_9_0 hg dX1_puts_29 ?_
    obtain ⟨x3, hx3, h⟩ := g_lt h
    refine y_istore (vs1 := [(4, .int x3), (3, .int x1), (0, .ref (ad 0 0)), (1, .int v1), (2, .int v2)]) C hx3 dX1_puts_30 (g_lL hL rfl) rfl ?_
    refine y_aload_n C dX1_puts_32 2 rfl rfl ?_
    refine gf_C_X1_84_0 C nC_0_0 dX1_puts_33 ?_
    refine gf_C_X1_228_4 C nC_4_0 dX1_puts_36 ?_
    refine y_iload_n C dX1_puts_39 3 rfl rfl ?_
    refine y_iload_n C dX1_puts_40 4 rfl rfl ?_
    obtain ⟨hg, h⟩ := g_gd h
    obtain ⟨σ4, hσ4, h⟩ := g_lt h
    refine as_C_9 C nC_9_0 hσ4 hg dX1_puts_41 ?_
    refine y_iload C dX1_puts_42 0 rfl ?_
    replace h := Option.some.inj h; subst h
    exact y_iret C hQ ⟨Nat.zero_le _, Nat.zero_le _⟩ dX1_puts_44
  · replace h := g_if h hc
    refine y_iload_n C dX1_puts_11 0 rfl rfl ?_
    replace h := Option.some.inj h; subst h
    exact y_iret C hQ ⟨Nat.zero_le _, Nat.zero_le _⟩ dX1_puts_12
theorem ct_C1_puts {D : va_G} {dA : Nat → ClassId} {A : Nat → Prop} {s0 : State} {b0 : Nat} {l : Launch} {hid : Bool} {ad : Nat → Nat → Nat} {σ : g_S} {v1 : Int32} {v2 : Int32} {r : Int32} {σ1 : g_S} (h : mF_C1_puts σ v1 v2 = some (r, σ1)) : g_Met gCl D dA A s0 b0 l yX1_puts cX1_puts 5 (some .int) 4 (0, 0) (gC hid) ad σ [.ref (ad 0 0), .int v1, .int v2] (gC hid) ad σ1 (some (.int r)) :=
  g_Met.of pl_X1 (Nat.le_of_ble_eq_true rfl) (fun X C hQ hR _ _ hL _ es eb => mw_C1_puts C hR hL h hQ)
theorem mw_C7_init_k44_12 {X : g_F} {hid : Bool} (C : g_M gCl X cX7_init RX7 none) (hR : g_R X = g_rm 1 0 0) (hL : g_nL X = 4) (hnm : (g_me X).name = "<init>") {ad : Nat → Nat → Nat} {σ : g_S} {v2 : Int32} {v3 : Int32} {o : g_S} (h : mF_C7_init_k44_12 σ v2 v3 = some o) (hQ : g_MQ gCl X (gC hid) ad o none = g_Q X) : g_Y gCl X (gC hid) ad σ (0, 0) 0 [(0, .ref (ad 44 0)), (1, .ref (ad 12 0)), (2, .int v2), (3, .int v3)] [] := by
  unfold mF_C7_init_k44_12 at h
  refine y_aload_n C dX7_init_0 0 rfl rfl ?_
  refine y_objInit C q356 q142 q143 dX7_init_1 (g_rmM hR (Nat.le_of_ble_eq_true rfl)).1 (Nat.le_trans (by decide) (g_rmM hR (Nat.le_of_ble_eq_true rfl)).2) (by decide) ?_
  refine y_aload_n C dX7_init_4 0 rfl rfl ?_
  refine y_aload_n C dX7_init_5 1 rfl rfl ?_
  obtain ⟨hp, h⟩ := g_gd h
  obtain ⟨σ1, hσ1, h⟩ := g_lt h
  refine pf_C_X7_9_44 C nC_44_0 hp hnm hσ1 dX7_init_6 ?_
  refine y_aload_n C dX7_init_9 0 rfl rfl ?_
  refine y_iload_n C dX7_init_10 2 rfl rfl ?_
  obtain ⟨hp, h⟩ := g_gd h
  obtain ⟨σ2, hσ2, h⟩ := g_lt h
  refine pf_C_X7_15_44 C nC_44_0 hp hnm hσ2 dX7_init_11 ?_
  refine y_aload_n C dX7_init_14 0 rfl rfl ?_
  refine y_iload_n C dX7_init_15 2 rfl rfl ?_
  refine y_iload_n C dX7_init_16 3 rfl rfl ?_
  refine y_mmin C q357 (g_rmM hR (by decide)) (Nat.le_of_ble_eq_true rfl) ⟨Nat.zero_le _, Nat.zero_le _⟩ dX7_init_17 ?_
  obtain ⟨hp, h⟩ := g_gd h
  obtain ⟨σ3, hσ3, h⟩ := g_lt h
  refine pf_C_X7_25_44 C nC_44_0 hp hnm hσ3 dX7_init_20 ?_
  replace h := Option.some.inj h; subst h
  exact y_vret C hQ ⟨Nat.zero_le _, Nat.zero_le _⟩ dX7_init_23
theorem ct_C7_init_k44_12 {D : va_G} {dA : Nat → ClassId} {A : Nat → Prop} {s0 : State} {b0 : Nat} {l : Launch} {hid : Bool} {ad : Nat → Nat → Nat} {σ : g_S} {v2 : Int32} {v3 : Int32} {σ1 : g_S} (h : mF_C7_init_k44_12 σ v2 v3 = some σ1) : g_Met gCl D dA A s0 b0 l yX7_init cX7_init 4 none 1 (0, 0) (gC hid) ad σ [.ref (ad 44 0), .ref (ad 12 0), .int v2, .int v3] (gC hid) ad σ1 none :=
  g_Met.of pl_X7 (Nat.le_of_ble_eq_true rfl) (fun X C hQ hR _ _ hL hnm es eb => mw_C7_init_k44_12 C hR hL hnm h hQ)
theorem mw_C10_init {X : g_F} {hid : Bool} (C : g_M gCl X cX10_init RX10 none) (hR : g_R X = g_rm 2 3 180) (hL : g_nL X = 4) (hnm : (g_me X).name = "<init>") (hmc : g_mc X = 3 ∧ g_ms X = 180) {ad : Nat → Nat → Nat} {σ : g_S} {v3 : Int32} {o : g_S} (h : mF_C10_init σ v3 = some o) (hQ : g_MQG gCl X (gC hid) (fun v ad2 s2 => v = none ∧ s2 = o ∧ ∃ q0 q1 q2, ad2 = (g_ua (g_ua (g_ua ad 45 0 q0) 46 0 q1) 47 0 q2)) (fun _ _ _ _ => False) = g_Q X) : g_Y gCl X (gC hid) ad σ (0, 0) 0 [(0, .ref (ad 44 0)), (1, .ref (ad 0 0)), (2, .ref (ad 12 0)), (3, .int v3)] [] := by
  unfold mF_C10_init at h
  refine y_aload_n C dX10_init_0 0 rfl rfl ?_
  refine y_aload_n C dX10_init_1 1 rfl rfl ?_
  obtain ⟨hp, h⟩ := g_gd h
  obtain ⟨σ1, hσ1, h⟩ := g_lt h
  refine pf_C_X10_3_44 C nC_44_0 hp hnm hσ1 dX10_init_2 ?_
  refine y_aload_n C dX10_init_5 0 rfl rfl ?_
  refine y_aload_n C dX10_init_6 2 rfl rfl ?_
  refine y_iload_n C dX10_init_7 3 rfl rfl ?_
  refine y_bipush (v := (60 : Int32)) C dX10_init_8 (by decide) ?_
  obtain ⟨σ2, hc, h⟩ := g_bd h
  refine y_callIv C (As := [.ref (ad 12 0), .int v3, .int (60 : Int32)]) (rest := []) (lk_X10_9_X10_l1 C hR (by decide)) (ct_C7_init_k44_12 hc) rfl rfl (Nat.le_of_ble_eq_true rfl) ⟨Nat.zero_le _, Nat.zero_le _⟩ dX10_init_10 ?_
  refine y_aload_n C dX10_init_13 0 rfl rfl ?_
  refine y_bipush (v := (60 : Int32)) C dX10_init_14 (by decide) ?_
  obtain ⟨hp, h⟩ := g_gd h
  obtain ⟨σ3, hσ3, h⟩ := g_lt h
  refine y_newa (atype := .char) (ty := .char) (σ1 := σ3) (a0 := (60, .inl fun _ => 0)) (t0 := 5) C 45 0 rfl rfl q954 (fun _ => rfl) (by decide) rfl (by decide) (by rw [hR]; exact ⟨Nat.le_of_ble_eq_true rfl, Nat.le_of_ble_eq_true rfl⟩) dX10_init_16 (by rw [hσ3]; exact fr_45 hp) (fun q => by rw [hσ3]; exact me_45) (fun q4 => ?_)
  have hq4 : (g_ua ad 45 0 q4) 45 0 = q4 := g_ua_s
  suffices key : g_Y gCl X (gC hid) (g_ua ad 45 0 q4) σ3 (1, 60) 18 [(0, .ref ((g_ua ad 45 0 q4) 44 0)), (1, .ref ((g_ua ad 45 0 q4) 0 0)), (2, .ref ((g_ua ad 45 0 q4) 12 0)), (3, .int v3)] [.ref ((g_ua ad 45 0 q4) 45 0), .ref ((g_ua ad 45 0 q4) 44 0)] by rw [hq4] at key; exact key
  obtain ⟨hp, h⟩ := g_gd h
  obtain ⟨σ5, hσ5, h⟩ := g_lt h
  refine pf_C_X10_15_44 C nC_44_0 hp hnm hσ5 dX10_init_18 ?_
  refine y_aload_n C dX10_init_21 0 rfl rfl ?_
  refine y_bipush (v := (60 : Int32)) C dX10_init_22 (by decide) ?_
  obtain ⟨hp, h⟩ := g_gd h
  obtain ⟨σ6, hσ6, h⟩ := g_lt h
  refine y_newa (atype := .int) (ty := .int) (σ1 := σ6) (a0 := (60, .inl fun _ => 0)) (t0 := 0) C 46 0 rfl rfl q221 (fun _ => rfl) (by decide) rfl (by decide) (by rw [hR]; exact ⟨Nat.le_of_ble_eq_true rfl, Nat.le_of_ble_eq_true rfl⟩) dX10_init_24 (by rw [hσ6]; exact fr_46 hp) (fun q => by rw [hσ6]; exact me_46) (fun q7 => ?_)
  have hq7 : (g_ua (g_ua ad 45 0 q4) 46 0 q7) 46 0 = q7 := g_ua_s
  suffices key : g_Y gCl X (gC hid) (g_ua (g_ua ad 45 0 q4) 46 0 q7) σ6 (2, 120) 26 [(0, .ref ((g_ua (g_ua ad 45 0 q4) 46 0 q7) 44 0)), (1, .ref ((g_ua (g_ua ad 45 0 q4) 46 0 q7) 0 0)), (2, .ref ((g_ua (g_ua ad 45 0 q4) 46 0 q7) 12 0)), (3, .int v3)] [.ref ((g_ua (g_ua ad 45 0 q4) 46 0 q7) 46 0), .ref ((g_ua (g_ua ad 45 0 q4) 46 0 q7) 44 0)] by rw [hq7] at key; exact key
  obtain ⟨hp, h⟩ := g_gd h
  obtain ⟨σ8, hσ8, h⟩ := g_lt h
  refine pf_C_X10_19_44 C nC_44_0 hp hnm hσ8 dX10_init_26 ?_
  refine y_aload_n C dX10_init_29 0 rfl rfl ?_
  refine y_bipush (v := (60 : Int32)) C dX10_init_30 (by decide) ?_
  obtain ⟨hp, h⟩ := g_gd h
  obtain ⟨σ9, hσ9, h⟩ := g_lt h
  refine y_newa (atype := .int) (ty := .int) (σ1 := σ9) (a0 := (60, .inl fun _ => 0)) (t0 := 0) C 47 0 rfl rfl q221 (fun _ => rfl) (by decide) rfl (by decide) (by rw [hR]; exact ⟨Nat.le_of_ble_eq_true rfl, Nat.le_of_ble_eq_true rfl⟩) dX10_init_32 (by rw [hσ9]; exact fr_47 hp) (fun q => by rw [hσ9]; exact me_47) (fun q10 => ?_)
  have hq10 : (g_ua (g_ua (g_ua ad 45 0 q4) 46 0 q7) 47 0 q10) 47 0 = q10 := g_ua_s
  suffices key : g_Y gCl X (gC hid) (g_ua (g_ua (g_ua ad 45 0 q4) 46 0 q7) 47 0 q10) σ9 (3, 180) 34 [(0, .ref ((g_ua (g_ua (g_ua ad 45 0 q4) 46 0 q7) 47 0 q10) 44 0)), (1, .ref ((g_ua (g_ua (g_ua ad 45 0 q4) 46 0 q7) 47 0 q10) 0 0)), (2, .ref ((g_ua (g_ua (g_ua ad 45 0 q4) 46 0 q7) 47 0 q10) 12 0)), (3, .int v3)] [.ref ((g_ua (g_ua (g_ua ad 45 0 q4) 46 0 q7) 47 0 q10) 47 0), .ref ((g_ua (g_ua (g_ua ad 45 0 q4) 46 0 q7) 47 0 q10) 44 0)] by rw [hq10] at key; exact key
  obtain ⟨hp, h⟩ := g_gd h
  obtain ⟨σ11, hσ11, h⟩ := g_lt h
  refine pf_C_X10_23_44 C nC_44_0 hp hnm hσ11 dX10_init_34 ?_
  replace h := Option.some.inj h; subst h
  exact y_vretG C hQ ⟨rfl, rfl, _, _, _, rfl⟩ (by rw [hmc.1, hmc.2]; exact ⟨Nat.le_of_ble_eq_true rfl, Nat.le_of_ble_eq_true rfl⟩) dX10_init_37
theorem ct_C10_init {D : va_G} {dA : Nat → ClassId} {A : Nat → Prop} {s0 : State} {b0 : Nat} {l : Launch} {hid : Bool} {ad : Nat → Nat → Nat} {σ : g_S} {v3 : Int32}{σ1 : g_S} (h : mF_C10_init σ v3 = some σ1) : g_MetG gCl D dA A s0 b0 l yX10_init (ws_ yX10_init cX10_init 4 none) 2 (3, 180) (gC hid) ad σ [.ref (ad 44 0), .ref (ad 0 0), .ref (ad 12 0), .int v3] (gC hid) (fun v ad2 s2 => v = none ∧ s2 = σ1 ∧ ∃ q0 q1 q2, ad2 = (g_ua (g_ua (g_ua ad 45 0 q0) 46 0 q1) 47 0 q2)) (fun _ _ _ _ => False) :=
  g_MetG.of pl_X10 (Nat.le_of_ble_eq_true rfl) (fun X C hQ hR hmc hms hL hnm es eb el hT => mw_C10_init C hR hL hnm ⟨hmc, hms⟩ h hQ)
theorem mw_C7_here_k44 {X : g_F} {hid : Bool} (C : g_M gCl X cX7_here RX7 (some .int)) (hR : g_R X = g_rm 1 0 0) (hL : g_nL X = 1) {ad : Nat → Nat → Nat} {σ : g_S} {o : Int32} (h : mF_C7_here_k44 σ = some o) (hQ : g_MQ gCl X (gC hid) ad σ (some (.int o)) = g_Q X) : g_Y gCl X (gC hid) ad σ (0, 0) 0 [(0, .ref (ad 44 0))] [] := by
  unfold mF_C7_here_k44 at h
  refine y_aload_n C dX7_here_0 0 rfl rfl ?_
  obtain ⟨hp, h⟩ := g_gd h
  refine gf_C_X7_28_44 C nC_44_0 hp dX7_here_1 ?_
  refine y_aload_n C dX7_here_4 0 rfl rfl ?_
  obtain ⟨hp, h⟩ := g_gd h
  refine gf_C_X7_25_44 C nC_44_0 hp dX7_here_5 ?_
  refine y_icmp_ge (tgt := 27) C dX7_here_8 rfl (fun hc => ?_) (fun hc => ?_)
  · replace h := g_it h hc
    refine y_iconst (v := (-1 : Int32)) C dX7_here_27 (by decide) ?_
    replace h := Option.some.inj h; subst h
    exact y_iret C hQ ⟨Nat.zero_le _, Nat.zero_le _⟩ dX7_here_28
  · replace h := g_if h hc
    refine y_aload_n C dX7_here_11 0 rfl rfl ?_
    obtain ⟨hp, h⟩ := g_gd h
    refine gf_C_X7_9_44 C nC_44_0 hp dX7_here_12 ?_
    refine y_aload_n C dX7_here_15 0 rfl rfl ?_
    obtain ⟨hp, h⟩ := g_gd h
    refine gf_C_X7_28_44 C nC_44_0 hp dX7_here_16 ?_
    obtain ⟨hg, h⟩ := g_gd h
    refine al_C_12 C nC_12_0 hg dX7_here_19 ?_
    refine y_sipush (v := (255 : Int32)) C dX7_here_20 (by decide) ?_
    refine y_iand C dX7_here_23 ?_
    refine y_goto (tgt := 28) C dX7_here_24 rfl ?_
    replace h := Option.some.inj h; subst h
    exact y_iret C hQ ⟨Nat.zero_le _, Nat.zero_le _⟩ dX7_here_28
theorem ct_C7_here_k44 {D : va_G} {dA : Nat → ClassId} {A : Nat → Prop} {s0 : State} {b0 : Nat} {l : Launch} {hid : Bool} {ad : Nat → Nat → Nat} {σ : g_S} {r : Int32} (h : mF_C7_here_k44 σ = some r) : g_Met gCl D dA A s0 b0 l yX7_here cX7_here 1 (some .int) 1 (0, 0) (gC hid) ad σ [.ref (ad 44 0)] (gC hid) ad σ (some (.int r)) :=
  g_Met.of pl_X7 (Nat.le_of_ble_eq_true rfl) (fun X C hQ hR _ _ hL _ es eb => mw_C7_here_k44 C hR hL h hQ)
theorem mw_C7_need_k44 {X : g_F} {ck sk : Nat} {hid : Bool} (C : g_M gCl X cX7_need RX7 none) (hR : g_R X = g_rm 6 ck sk) (hL : g_nL X = 2) (hlt : (g_l X).stackTraces = false) (hT : (g_c X).exceptionTable.toList = []) {ad : Nat → Nat → Nat} {σ : g_S} {v1 : Int32} {o : (g_S ⊕ g_S)} (h : mF_C7_need_k44 σ v1 = some o) (hQ : Sum.elim (fun z => g_MQX gCl X (gC hid) ad z) (fun z => g_MQ gCl X (gC hid) ad z none) o = g_Q X) (hw : Sum.elim (fun _ => 1 ≤ g_mc X ∧ 7 ≤ g_ms X ∧ 1 ≤ (g_R X).cells ∧ 7 ≤ (g_R X).slots) (fun _ => True) o) : g_Y gCl X (gC hid) ad σ (0, 0) 0 [(0, .ref (ad 44 0)), (1, .int v1)] [] := by
  unfold mF_C7_need_k44 at h
  refine y_iload_n C dX7_need_0 1 rfl rfl ?_
  refine y_if_ne (tgt := 16) C dX7_need_1 rfl (fun hc => ?_) (fun hc => ?_)
  · replace h := g_if h hc
    replace h := Option.some.inj h; subst h
    exact y_vret C hQ ⟨Nat.zero_le _, Nat.zero_le _⟩ dX7_need_16
  · replace h := g_it h hc
    obtain ⟨hp, h⟩ := g_gd h
    obtain ⟨x2, hx2, h⟩ := g_lt h
    obtain ⟨σ1, hσ1, h⟩ := g_lt h
    replace h := Option.some.inj h
    have hQ1 := hQ
    have hw1 := hw
    rw [← h] at hQ1 hw1
    refine y_newFault (v := x2) (σ1 := σ1) C hlt (rfl : gCl[10]? = _) nC_52_0 q403 (lkf_X7_33 C hR (by decide)) (Nat.le_of_ble_eq_true rfl) ⟨hw1.2.2.1, hw1.2.2.2⟩ dX7_need_4 dX7_need_7 dX7_need_12 fr_52 (fun q => me_52) (fun q => by rw [hσ1]; exact me1_52) (by rw [hσ1]; exact ho_52) (fun H locs ls q c s hW hS hl k => by rw [hx2] at k; exact lv_aload_n C.1 C.2.1 dX7_need_8 rfl (lv_at hl 0 rfl) (va_get C.1 C.2.1 C.2.2.2.2.1 in_X10 C.2.2.2.1 C.2.2.2.2.2.2.2.2.1 (hW.at nC_44_0 (if_neg hp)) 0 rfl (rfl : gCl[8]? = _) 3 (by decide) (C.2.2.2.2.1 _ q366) (fun x h => h) rfl dX7_need_9 (k))) (fun q => ?_)
    have hq : g_ua ad 52 0 q 52 0 = q := g_ua_s
    suffices key : g_Y gCl X (gC hid) (g_ua ad 52 0 q) σ1 (1, 7) 15 [(0, .ref (ad 44 0)), (1, .int v1)] [.ref (g_ua ad 52 0 q 52 0)] by rw [hq] at key; exact key
    refine y_athrow C nC_52_0 (rfl : gCl[10]? = _) (by rw [hσ1]; exact me1_52) dX7_need_15 ?_
    rw [hq]
    exact y_outX C hT hQ1 ⟨hw1.1, hw1.2.1⟩
theorem ct_C7_need_k44 {D : va_G} {dA : Nat → ClassId} {A : Nat → Prop} {s0 : State} {b0 : Nat} {l : Launch} {hid : Bool} (hlt : l.stackTraces = false) {ad : Nat → Nat → Nat} {σ : g_S} {v1 : Int32}{σ1 : g_S} (h : mF_C7_need_k44 σ v1 = some (.inr σ1)) : g_Met gCl D dA A s0 b0 l yX7_need cX7_need 2 none 6 (0, 0) (gC hid) ad σ [.ref (ad 44 0), .int v1] (gC hid) ad σ1 none :=
  g_Met.of2 pl_X7 (Nat.le_of_ble_eq_true rfl) (fun X C hQ hR _ _ hL hnm es eb el hT => mw_C7_need_k44 C hR hL (by rw [el]; exact hlt) hT h hQ trivial)
theorem cx_C7_need_k44 {D : va_G} {dA : Nat → ClassId} {A : Nat → Prop} {s0 : State} {b0 : Nat} {l : Launch} {hid : Bool} (hlt : l.stackTraces = false) {ad : Nat → Nat → Nat} {σ : g_S} {v1 : Int32} {σ1 : g_S} (h : mF_C7_need_k44 σ v1 = some (.inl σ1)) : g_MetX gCl D dA A s0 b0 l yX7_need cX7_need 2 none 6 (gC hid) ad σ [.ref (ad 44 0), .int v1] (gC hid) ad σ1 :=
  g_MetX.of pl_X7 (Nat.le_of_ble_eq_true rfl) (fun X C hQ hR hmc hms hL hnm es eb el hT => mw_C7_need_k44 C hR hL (by rw [el]; exact hlt) hT h hQ ⟨Nat.le_of_eq hmc.symm, Nat.le_of_eq hms.symm, by rw [hR]; exact Nat.le_refl _, by rw [hR]; exact Nat.le_refl _⟩)
theorem mw_C7_one_k44 {X : g_F} {ck sk : Nat} {hid : Bool} (C : g_M gCl X cX7_one RX7 (some .int)) (hR : g_R X = g_rm 7 ck sk) (hL : g_nL X = 3) (hlt : (g_l X).stackTraces = false) (hT : (g_c X).exceptionTable.toList = []) {ad : Nat → Nat → Nat} {σ : g_S} {v1 : Int32} {v2 : Int32} {o : (g_S ⊕ (Int32 × g_S))} (h : mF_C7_one_k44 σ v1 v2 = some o) (hQ : Sum.elim (fun z => g_MQX gCl X (gC hid) ad z) (fun z => g_MQ gCl X (gC hid) ad z.2 (some (.int z.1))) o = g_Q X) (hw : Sum.elim (fun _ => 1 ≤ g_mc X ∧ 7 ≤ g_ms X ∧ 1 ≤ (g_R X).cells ∧ 7 ≤ (g_R X).slots) (fun _ => True) o) : g_Y gCl X (gC hid) ad σ (0, 0) 0 [(0, .ref (ad 44 0)), (1, .int v1), (2, .int v2)] [] := by
  unfold mF_C7_one_k44 at h
  refine y_aload_n C dX7_one_0 0 rfl rfl ?_
  refine y_aload_n C dX7_one_1 0 rfl rfl ?_
  obtain ⟨hp, h⟩ := g_gd h
  obtain ⟨x1, hc, h⟩ := g_bd h
  refine y_callU C (As := []) (rest := [.ref (ad 44 0)]) (k := 44) (hu := nC_44_0) (hc := (rfl : gCl[8]? = some (RX10, TX10, 9))) (hcell := (obC_44 hp)) (lk_X7_40_X10_X7_l1 C hR (by decide)) (ct_C7_here_k44 hc) rfl rfl (Nat.le_of_ble_eq_true rfl) ⟨Nat.zero_le _, Nat.zero_le _⟩ dX7_one_2 ?_
  refine y_i2l C dX7_one_5 ?_
  refine y_iload_n C dX7_one_6 1 rfl rfl ?_
  refine y_i2l C dX7_one_7 ?_
  refine y_iload_n C dX7_one_8 1 rfl rfl ?_
  refine y_iload_n C dX7_one_9 2 rfl rfl ?_
  refine y_iadd C dX7_one_10 ?_
  refine y_iconst (v := (1 : Int32)) C dX7_one_11 (by decide) ?_
  refine y_isub C dX7_one_12 ?_
  refine y_i2l C dX7_one_13 ?_
  obtain ⟨x2, hc, h⟩ := g_bd h
  refine y_callSN C (As := [.long (x1.toInt64), .long (v1.toInt64), .long (((v1 + v2) - (1 : Int32)).toInt64)]) (rest := [.ref (ad 44 0)]) (lk_X7_44_l1 C hR (by decide)) (ct_C1_in hc) rfl rfl (Nat.le_of_ble_eq_true rfl) ⟨Nat.zero_le _, Nat.zero_le _⟩ dX7_one_14 ?_
  obtain ⟨hp, h⟩ := g_gd h
  rcases g_txE h with ⟨z4, hc, h⟩ | ⟨σ3, hc, h⟩
  · replace h := Option.some.inj h; subst h
    refine y_callUX C (As := [.int x2]) (rest := []) (k := 44) (hu := nC_44_0) (hc := (rfl : gCl[8]? = some (RX10, TX10, 9))) (hcell := (obC_44 hp)) (lk_X7_36_X10_X7x_l6 C hR (by decide)) (cx_C7_need_k44 hlt hc) rfl rfl (Nat.le_of_ble_eq_true rfl) ⟨hw.2.2.1, hw.2.2.2⟩ dX7_one_17 (fun q => ?_)
    exact y_outX C hT hQ ⟨hw.1, hw.2.1⟩
  refine y_callUv C (As := [.int x2]) (rest := []) (k := 44) (hu := nC_44_0) (hc := (rfl : gCl[8]? = some (RX10, TX10, 9))) (hcell := (obC_44 hp)) (lk_X7_36_X10_X7_l6 C hR (by decide)) (ct_C7_need_k44 hlt hc) rfl rfl (Nat.le_of_ble_eq_true rfl) ⟨Nat.zero_le _, Nat.zero_le _⟩ dX7_one_17 ?_
  refine y_aload_n C dX7_one_20 0 rfl rfl ?_
  refine y_dup C dX7_one_21 rfl ?_
  obtain ⟨hp, h⟩ := g_gd h
  refine gf_C_X7_28_44 C nC_44_0 hp dX7_one_22 ?_
  refine y_iconst (v := (1 : Int32)) C dX7_one_25 (by decide) ?_
  refine y_iadd C dX7_one_26 ?_
  obtain ⟨hp, h⟩ := g_gd h
  obtain ⟨σ5, hσ5, h⟩ := g_lt h
  refine pf_C_X7_28_44 C nC_44_0 hp hσ5 dX7_one_27 ?_
  refine y_aload_n C dX7_one_30 0 rfl rfl ?_
  obtain ⟨hp, h⟩ := g_gd h
  refine gf_C_X7_9_44 C nC_44_0 hp dX7_one_31 ?_
  refine y_aload_n C dX7_one_34 0 rfl rfl ?_
  obtain ⟨hp, h⟩ := g_gd h
  refine gf_C_X7_28_44 C nC_44_0 hp dX7_one_35 ?_
  refine y_iconst (v := (1 : Int32)) C dX7_one_38 (by decide) ?_
  refine y_isub C dX7_one_39 ?_
  obtain ⟨hg, h⟩ := g_gd h
  refine al_C_12 C nC_12_0 hg dX7_one_40 ?_
  refine y_iload_n C dX7_one_41 1 rfl rfl ?_
  refine y_isub C dX7_one_42 ?_
  replace h := Option.some.inj h; subst h
  exact y_iret C hQ ⟨Nat.zero_le _, Nat.zero_le _⟩ dX7_one_43
theorem ct_C7_one_k44 {D : va_G} {dA : Nat → ClassId} {A : Nat → Prop} {s0 : State} {b0 : Nat} {l : Launch} {hid : Bool} (hlt : l.stackTraces = false) {ad : Nat → Nat → Nat} {σ : g_S} {v1 : Int32} {v2 : Int32}{r : Int32} {σ1 : g_S} (h : mF_C7_one_k44 σ v1 v2 = some (.inr (r, σ1))) : g_Met gCl D dA A s0 b0 l yX7_one cX7_one 3 (some .int) 7 (0, 0) (gC hid) ad σ [.ref (ad 44 0), .int v1, .int v2] (gC hid) ad σ1 (some (.int r)) :=
  g_Met.of2 pl_X7 (Nat.le_of_ble_eq_true rfl) (fun X C hQ hR _ _ hL hnm es eb el hT => mw_C7_one_k44 C hR hL (by rw [el]; exact hlt) hT h hQ trivial)
theorem cx_C7_one_k44 {D : va_G} {dA : Nat → ClassId} {A : Nat → Prop} {s0 : State} {b0 : Nat} {l : Launch} {hid : Bool} (hlt : l.stackTraces = false) {ad : Nat → Nat → Nat} {σ : g_S} {v1 : Int32} {v2 : Int32} {σ1 : g_S} (h : mF_C7_one_k44 σ v1 v2 = some (.inl σ1)) : g_MetX gCl D dA A s0 b0 l yX7_one cX7_one 3 (some .int) 7 (gC hid) ad σ [.ref (ad 44 0), .int v1, .int v2] (gC hid) ad σ1 :=
  g_MetX.of pl_X7 (Nat.le_of_ble_eq_true rfl) (fun X C hQ hR hmc hms hL hnm es eb el hT => mw_C7_one_k44 C hR hL (by rw [el]; exact hlt) hT h hQ ⟨Nat.le_of_eq hmc.symm, Nat.le_of_eq hms.symm, by rw [hR]; exact Nat.le_refl _, by rw [hR]; exact Nat.le_refl _⟩)
theorem mj_C10_act_167 {X : g_F} {ck sk : Nat} {hid : Bool} (C : g_M gCl X cX10_act RX10 none) (hR : g_R X = g_rm 8 ck sk) (hL : g_nL X = 3) (hlt : (g_l X).stackTraces = false) (hT : (g_c X).exceptionTable.toList = []) {ad : Nat → Nat → Nat} {σ : g_S} {s1 : Int32} {s2 : Int32} {o : (g_S ⊕ g_S)} (h : mJ_C10_act_167 σ s1 s2 = some o) (hQ : Sum.elim (fun z => g_MQX gCl X (gC hid) ad z) (fun z => g_MQ gCl X (gC hid) ad z none) o = g_Q X) (hw : Sum.elim (fun _ => 1 ≤ g_mc X ∧ 7 ≤ g_ms X ∧ 1 ≤ (g_R X).cells ∧ 7 ≤ (g_R X).slots) (fun _ => True) o) : g_Y gCl X (gC hid) ad σ (0, 0) 167 [] [.int s2, .int s1, .ref (ad 47 0)] := by
  unfold mJ_C10_act_167 at h
  obtain ⟨hg, h⟩ := g_gd h
  obtain ⟨σ17, hσ17, h⟩ := g_lt h
  refine as_C_47 C nC_47_0 hσ17 hg dX10_act_167 ?_
  replace h := Option.some.inj h; subst h
  exact y_vret C hQ ⟨Nat.zero_le _, Nat.zero_le _⟩ dX10_act_168
theorem mj_C10_act_166 {X : g_F} {ck sk : Nat} {hid : Bool} (C : g_M gCl X cX10_act RX10 none) (hR : g_R X = g_rm 8 ck sk) (hL : g_nL X = 3) (hlt : (g_l X).stackTraces = false) (hT : (g_c X).exceptionTable.toList = []) {ad : Nat → Nat → Nat} {σ : g_S} {s1 : Int32} {o : (g_S ⊕ g_S)} (h : mJ_C10_act_166 σ s1 = some o) (hQ : Sum.elim (fun z => g_MQX gCl X (gC hid) ad z) (fun z => g_MQ gCl X (gC hid) ad z none) o = g_Q X) (hw : Sum.elim (fun _ => 1 ≤ g_mc X ∧ 7 ≤ g_ms X ∧ 1 ≤ (g_R X).cells ∧ 7 ≤ (g_R X).slots) (fun _ => True) o) : g_Y gCl X (gC hid) ad σ (0, 0) 166 [] [.int s1, .ref (ad 47 0)] := by
  unfold mJ_C10_act_166 at h
  refine y_iconst (v := (-1 : Int32)) C dX10_act_166 (by decide) ?_
  exact mj_C10_act_167 C hR hL hlt hT h hQ hw
theorem mj_C10_act_25 {X : g_F} {ck sk : Nat} {hid : Bool} (C : g_M gCl X cX10_act RX10 none) (hR : g_R X = g_rm 8 ck sk) (hL : g_nL X = 3) (hlt : (g_l X).stackTraces = false) (hT : (g_c X).exceptionTable.toList = []) {ad : Nat → Nat → Nat} {σ : g_S} {v1 : Int32} {s1 : Int32} {o : (g_S ⊕ g_S)} (h : mJ_C10_act_25 σ v1 s1 = some o) (hQ : Sum.elim (fun z => g_MQX gCl X (gC hid) ad z) (fun z => g_MQ gCl X (gC hid) ad z none) o = g_Q X) (hw : Sum.elim (fun _ => 1 ≤ g_mc X ∧ 7 ≤ g_ms X ∧ 1 ≤ (g_R X).cells ∧ 7 ≤ (g_R X).slots) (fun _ => True) o) : g_Y gCl X (gC hid) ad σ (0, 0) 25 [(0, .ref (ad 44 0)), (1, .int v1)] [.int s1, .ref (ad 44 0)] := by
  unfold mJ_C10_act_25 at h
  obtain ⟨hp, h⟩ := g_gd h
  rcases g_txE h with ⟨z3, hc, h⟩ | ⟨σ2, hc, h⟩
  · replace h := Option.some.inj h; subst h
    refine y_callUX C (As := [.int s1]) (rest := []) (k := 44) (hu := nC_44_0) (hc := (rfl : gCl[8]? = some (RX10, TX10, 9))) (hcell := (obC_44 hp)) (lk_X10_55_X10_X7x_l6 C hR (by decide)) (cx_C7_need_k44 hlt hc) rfl rfl (Nat.le_of_ble_eq_true rfl) ⟨hw.2.2.1, hw.2.2.2⟩ dX10_act_25 (fun q => ?_)
    exact y_outX C hT hQ ⟨hw.1, hw.2.1⟩
  refine y_callUv C (As := [.int s1]) (rest := []) (k := 44) (hu := nC_44_0) (hc := (rfl : gCl[8]? = some (RX10, TX10, 9))) (hcell := (obC_44 hp)) (lk_X10_55_X10_X7_l6 C hR (by decide)) (ct_C7_need_k44 hlt hc) rfl rfl (Nat.le_of_ble_eq_true rfl) ⟨Nat.zero_le _, Nat.zero_le _⟩ dX10_act_25 ?_
  refine y_aload_n C dX10_act_28 0 rfl rfl ?_
  refine y_dup C dX10_act_29 rfl ?_
  obtain ⟨hp, h⟩ := g_gd h
  refine gf_C_X10_26_44 C nC_44_0 hp dX10_act_30 ?_
  refine y_iconst (v := (1 : Int32)) C dX10_act_33 (by decide) ?_
  refine y_iadd C dX10_act_34 ?_
  obtain ⟨hp, h⟩ := g_gd h
  obtain ⟨σ4, hσ4, h⟩ := g_lt h
  refine pf_C_X10_26_44 C nC_44_0 hp hσ4 dX10_act_35 ?_
  refine y_aload_n C dX10_act_38 0 rfl rfl ?_
  obtain ⟨hp, h⟩ := g_gd h
  refine gf_C_X10_15_44 C nC_44_0 hp dX10_act_39 ?_
  refine y_aload_n C dX10_act_42 0 rfl rfl ?_
  obtain ⟨hp, h⟩ := g_gd h
  refine gf_C_X10_37_44 C nC_44_0 hp dX10_act_43 ?_
  refine y_iload_n C dX10_act_46 1 rfl rfl ?_
  refine y_i2c C dX10_act_47 ?_
  obtain ⟨hg, h⟩ := g_gd h
  obtain ⟨σ5, hσ5, h⟩ := g_lt h
  refine as_C_45 C nC_45_0 hσ5 hg dX10_act_48 ?_
  refine y_aload_n C dX10_act_49 0 rfl rfl ?_
  obtain ⟨hp, h⟩ := g_gd h
  refine gf_C_X10_19_44 C nC_44_0 hp dX10_act_50 ?_
  refine y_aload_n C dX10_act_53 0 rfl rfl ?_
  obtain ⟨hp, h⟩ := g_gd h
  refine gf_C_X10_37_44 C nC_44_0 hp dX10_act_54 ?_
  refine y_aload_n C dX10_act_57 0 rfl rfl ?_
  refine y_bipush (v := (48 : Int32)) C dX10_act_58 (by decide) ?_
  refine y_bipush (v := (10 : Int32)) C dX10_act_60 (by decide) ?_
  obtain ⟨hp, h⟩ := g_gd h
  rcases g_t2E h with ⟨z8, hc, h⟩ | ⟨x7, σ6, hc, h⟩
  · replace h := Option.some.inj h; subst h
    refine y_callUX C (As := [.int (48 : Int32), .int (10 : Int32)]) (rest := [.int (σ5.1 44 0 7), .ref (ad 46 0)]) (k := 44) (hu := nC_44_0) (hc := (rfl : gCl[8]? = some (RX10, TX10, 9))) (hcell := (obC_44 hp)) (lk_X10_59_X10_X7x_l7 C hR (by decide)) (cx_C7_one_k44 hlt hc) rfl rfl (Nat.le_of_ble_eq_true rfl) ⟨hw.2.2.1, hw.2.2.2⟩ dX10_act_62 (fun q => ?_)
    exact y_outX C hT hQ ⟨hw.1, hw.2.1⟩
  refine y_callU C (As := [.int (48 : Int32), .int (10 : Int32)]) (rest := [.int (σ5.1 44 0 7), .ref (ad 46 0)]) (k := 44) (hu := nC_44_0) (hc := (rfl : gCl[8]? = some (RX10, TX10, 9))) (hcell := (obC_44 hp)) (lk_X10_59_X10_X7_l7 C hR (by decide)) (ct_C7_one_k44 hlt hc) rfl rfl (Nat.le_of_ble_eq_true rfl) ⟨Nat.zero_le _, Nat.zero_le _⟩ dX10_act_62 ?_
  obtain ⟨hg, h⟩ := g_gd h
  obtain ⟨σ9, hσ9, h⟩ := g_lt h
  refine as_C_46 C nC_46_0 hσ9 hg dX10_act_65 ?_
  refine y_iload_n C dX10_act_66 1 rfl rfl ?_
  refine y_bipush (v := (110 : Int32)) C dX10_act_67 (by decide) ?_
  refine y_icmp_ne (tgt := 73) C dX10_act_69 rfl (fun hc => ?_) (fun hc => ?_)
  · replace h := g_if h hc
    refine y_aload_n C dX10_act_73 0 rfl rfl ?_
    obtain ⟨hp, h⟩ := g_gd h
    refine gf_C_X10_23_44 C nC_44_0 hp dX10_act_74 ?_
    refine y_aload_n C dX10_act_77 0 rfl rfl ?_
    obtain ⟨hp, h⟩ := g_gd h
    refine gf_C_X10_37_44 C nC_44_0 hp dX10_act_78 ?_
    refine y_aload_n C dX10_act_81 0 rfl rfl ?_
    refine y_bipush (v := (48 : Int32)) C dX10_act_82 (by decide) ?_
    refine y_bipush (v := (10 : Int32)) C dX10_act_84 (by decide) ?_
    obtain ⟨hp, h⟩ := g_gd h
    rcases g_t2E h with ⟨z12, hc, h⟩ | ⟨x11, σ10, hc, h⟩
    · replace h := Option.some.inj h; subst h
      refine y_callUX C (As := [.int (48 : Int32), .int (10 : Int32)]) (rest := [.int (σ9.1 44 0 7), .ref (ad 47 0)]) (k := 44) (hu := nC_44_0) (hc := (rfl : gCl[8]? = some (RX10, TX10, 9))) (hcell := (obC_44 hp)) (lk_X10_59_X10_X7x_l7 C hR (by decide)) (cx_C7_one_k44 hlt hc) rfl rfl (Nat.le_of_ble_eq_true rfl) ⟨hw.2.2.1, hw.2.2.2⟩ dX10_act_86 (fun q => ?_)
      exact y_outX C hT hQ ⟨hw.1, hw.2.1⟩
    refine y_callU C (As := [.int (48 : Int32), .int (10 : Int32)]) (rest := [.int (σ9.1 44 0 7), .ref (ad 47 0)]) (k := 44) (hu := nC_44_0) (hc := (rfl : gCl[8]? = some (RX10, TX10, 9))) (hcell := (obC_44 hp)) (lk_X10_59_X10_X7_l7 C hR (by decide)) (ct_C7_one_k44 hlt hc) rfl rfl (Nat.le_of_ble_eq_true rfl) ⟨Nat.zero_le _, Nat.zero_le _⟩ dX10_act_86 ?_
    obtain ⟨hg, h⟩ := g_gd h
    obtain ⟨σ13, hσ13, h⟩ := g_lt h
    refine as_C_47 C nC_47_0 hσ13 hg dX10_act_89 ?_
    refine y_iload_n C dX10_act_90 1 rfl rfl ?_
    refine y_bipush (v := (112 : Int32)) C dX10_act_91 (by decide) ?_
    refine y_icmp_eq (tgt := 97) C dX10_act_93 rfl (fun hc => ?_) (fun hc => ?_)
    · replace h := g_it h hc
      refine y_aload_n C dX10_act_97 0 rfl rfl ?_
      refine y_bipush (v := (48 : Int32)) C dX10_act_98 (by decide) ?_
      refine y_bipush (v := (10 : Int32)) C dX10_act_100 (by decide) ?_
      obtain ⟨hp, h⟩ := g_gd h
      rcases g_t2E h with ⟨z16, hc, h⟩ | ⟨x15, σ14, hc, h⟩
      · replace h := Option.some.inj h; subst h
        refine y_callUX C (As := [.int (48 : Int32), .int (10 : Int32)]) (rest := []) (k := 44) (hu := nC_44_0) (hc := (rfl : gCl[8]? = some (RX10, TX10, 9))) (hcell := (obC_44 hp)) (lk_X10_59_X10_X7x_l7 C hR (by decide)) (cx_C7_one_k44 hlt hc) rfl rfl (Nat.le_of_ble_eq_true rfl) ⟨hw.2.2.1, hw.2.2.2⟩ dX10_act_102 (fun q => ?_)
        exact y_outX C hT hQ ⟨hw.1, hw.2.1⟩
      refine y_callU C (As := [.int (48 : Int32), .int (10 : Int32)]) (rest := []) (k := 44) (hu := nC_44_0) (hc := (rfl : gCl[8]? = some (RX10, TX10, 9))) (hcell := (obC_44 hp)) (lk_X10_59_X10_X7_l7 C hR (by decide)) (ct_C7_one_k44 hlt hc) rfl rfl (Nat.le_of_ble_eq_true rfl) ⟨Nat.zero_le _, Nat.zero_le _⟩ dX10_act_102 ?_
      refine y_istore_n (vs1 := [(2, .int x15), (0, .ref (ad 44 0)), (1, .int v1)]) C rfl dX10_act_105 rfl (g_lL hL rfl) rfl ?_
      refine y_aload_n C dX10_act_106 1 rfl rfl ?_
      obtain ⟨hp, h⟩ := g_gd h
      refine gf_C_X10_23_44 C nC_44_0 hp dX10_act_107 ?_
      refine y_aload_n C dX10_act_110 1 rfl rfl ?_
      obtain ⟨hp, h⟩ := g_gd h
      refine gf_C_X10_37_44 C nC_44_0 hp dX10_act_111 ?_
      refine y_aload_n C dX10_act_114 1 rfl rfl ?_
      obtain ⟨hp, h⟩ := g_gd h
      refine gf_C_X10_23_44 C nC_44_0 hp dX10_act_115 ?_
      refine y_aload_n C dX10_act_118 1 rfl rfl ?_
      obtain ⟨hp, h⟩ := g_gd h
      refine gf_C_X10_37_44 C nC_44_0 hp dX10_act_119 ?_
      obtain ⟨hg, h⟩ := g_gd h
      refine al_C_47 C nC_47_0 hg dX10_act_122 ?_
      refine y_aload_n C dX10_act_123 1 rfl rfl ?_
      obtain ⟨hp, h⟩ := g_gd h
      refine gf_C_X10_3_44 C nC_44_0 hp dX10_act_124 ?_
      refine gf_C_X10_63_0 C nC_0_0 dX10_act_127 ?_
      refine y_icmp_ge (tgt := 166) C dX10_act_130 rfl (fun hc => ?_) (fun hc => ?_)
      · replace h := g_it h hc
        refine y_sub (vs2 := []) [] rfl ?_
        exact mj_C10_act_166 C hR hL hlt hT h hQ hw
      · replace h := g_if h hc
        refine y_iload_n C dX10_act_133 0 rfl rfl ?_
        refine y_aload_n C dX10_act_134 1 rfl rfl ?_
        obtain ⟨hp, h⟩ := g_gd h
        refine gf_C_X10_3_44 C nC_44_0 hp dX10_act_135 ?_
        refine gf_C_X10_66_0 C nC_0_0 dX10_act_138 ?_
        refine y_icmp_ge (tgt := 166) C dX10_act_141 rfl (fun hc => ?_) (fun hc => ?_)
        · replace h := g_it h hc
          refine y_sub (vs2 := []) [] rfl ?_
          exact mj_C10_act_166 C hR hL hlt hT h hQ hw
        · replace h := g_if h hc
          refine y_aload_n C dX10_act_144 1 rfl rfl ?_
          obtain ⟨hp, h⟩ := g_gd h
          refine gf_C_X10_3_44 C nC_44_0 hp dX10_act_145 ?_
          refine gf_C_X10_66_0 C nC_0_0 dX10_act_148 ?_
          refine y_aload_n C dX10_act_151 1 rfl rfl ?_
          obtain ⟨hp, h⟩ := g_gd h
          refine gf_C_X10_23_44 C nC_44_0 hp dX10_act_152 ?_
          refine y_aload_n C dX10_act_155 1 rfl rfl ?_
          obtain ⟨hp, h⟩ := g_gd h
          refine gf_C_X10_37_44 C nC_44_0 hp dX10_act_156 ?_
          obtain ⟨hg, h⟩ := g_gd h
          refine al_C_47 C nC_47_0 hg dX10_act_159 ?_
          refine y_imul C dX10_act_160 ?_
          refine y_iload_n C dX10_act_161 0 rfl rfl ?_
          refine y_iadd C dX10_act_162 ?_
          refine y_goto (tgt := 167) C dX10_act_163 rfl ?_
          refine y_sub (vs2 := []) [] rfl ?_
          exact mj_C10_act_167 C hR hL hlt hT h hQ hw
    · replace h := g_if h hc
      replace h := Option.some.inj h; subst h
      exact y_vret C hQ ⟨Nat.zero_le _, Nat.zero_le _⟩ dX10_act_96
  · replace h := g_it h hc
    replace h := Option.some.inj h; subst h
    exact y_vret C hQ ⟨Nat.zero_le _, Nat.zero_le _⟩ dX10_act_72
theorem mj_C10_act_24 {X : g_F} {ck sk : Nat} {hid : Bool} (C : g_M gCl X cX10_act RX10 none) (hR : g_R X = g_rm 8 ck sk) (hL : g_nL X = 3) (hlt : (g_l X).stackTraces = false) (hT : (g_c X).exceptionTable.toList = []) {ad : Nat → Nat → Nat} {σ : g_S} {v1 : Int32} {o : (g_S ⊕ g_S)} (h : mJ_C10_act_24 σ v1 = some o) (hQ : Sum.elim (fun z => g_MQX gCl X (gC hid) ad z) (fun z => g_MQ gCl X (gC hid) ad z none) o = g_Q X) (hw : Sum.elim (fun _ => 1 ≤ g_mc X ∧ 7 ≤ g_ms X ∧ 1 ≤ (g_R X).cells ∧ 7 ≤ (g_R X).slots) (fun _ => True) o) : g_Y gCl X (gC hid) ad σ (0, 0) 24 [(0, .ref (ad 44 0)), (1, .int v1)] [.ref (ad 44 0)] := by
  unfold mJ_C10_act_24 at h
  refine y_iconst (v := (0 : Int32)) C dX10_act_24 (by decide) ?_
  exact mj_C10_act_25 C hR hL hlt hT h hQ hw
theorem mw_C10_act {X : g_F} {ck sk : Nat} {hid : Bool} (C : g_M gCl X cX10_act RX10 none) (hR : g_R X = g_rm 8 ck sk) (hL : g_nL X = 3) (hlt : (g_l X).stackTraces = false) (hT : (g_c X).exceptionTable.toList = []) {ad : Nat → Nat → Nat} {σ : g_S} {o : (g_S ⊕ g_S)} (h : mF_C10_act σ = some o) (hQ : Sum.elim (fun z => g_MQX gCl X (gC hid) ad z) (fun z => g_MQ gCl X (gC hid) ad z none) o = g_Q X) (hw : Sum.elim (fun _ => 1 ≤ g_mc X ∧ 7 ≤ g_ms X ∧ 1 ≤ (g_R X).cells ∧ 7 ≤ (g_R X).slots) (fun _ => True) o) : g_Y gCl X (gC hid) ad σ (0, 0) 0 [(0, .ref (ad 44 0))] [] := by
  unfold mF_C10_act at h
  refine y_aload_n C dX10_act_0 0 rfl rfl ?_
  obtain ⟨hp, h⟩ := g_gd h
  obtain ⟨x1, hc, h⟩ := g_bd h
  refine y_callU C (As := []) (rest := []) (k := 44) (hu := nC_44_0) (hc := (rfl : gCl[8]? = some (RX10, TX10, 9))) (hcell := (obC_44 hp)) (lk_X10_43_X10_X7_l1 C hR (by decide)) (ct_C7_here_k44 hc) rfl rfl (Nat.le_of_ble_eq_true rfl) ⟨Nat.zero_le _, Nat.zero_le _⟩ dX10_act_1 ?_
  refine y_istore_n (vs1 := [(1, .int x1), (0, .ref (ad 44 0))]) C rfl dX10_act_4 rfl (g_lL hL rfl) rfl ?_
  refine y_aload_n C dX10_act_5 1 rfl rfl ?_
  refine y_iload_n C dX10_act_6 0 rfl rfl ?_
  refine y_iconst (v := (-1 : Int32)) C dX10_act_7 (by decide) ?_
  refine y_icmp_eq (tgt := 24) C dX10_act_8 rfl (fun hc => ?_) (fun hc => ?_)
  · replace h := g_it h hc
    refine y_sub (vs2 := [(0, .ref (ad 44 0)), (1, .int x1)]) [1, 0] rfl ?_
    exact mj_C10_act_24 C hR hL hlt hT h hQ hw
  · replace h := g_if h hc
    refine y_ldcS (i := 5) C q966 (g_strO C.2.2.2.2.2.2.2.2.2.1) dX10_act_11 ?_
    refine y_iload_n C dX10_act_13 0 rfl rfl ?_
    obtain ⟨x18, hc, h⟩ := g_bd h
    refine y_callH C (As := [.int x1]) (rest := [.ref (ad 44 0)]) (C1 := "java/lang/String") (fun H locs hS => vk_recv (g_strX C) (by decide) hS) (lk_X10_49_J3_l4 C hR (by decide)) (ct_J3_indexOf (by decide) hc) rfl rfl (Nat.le_of_ble_eq_true rfl) ⟨Nat.zero_le _, Nat.zero_le _⟩ dX10_act_14 ?_
    refine y_if_lt (tgt := 24) C dX10_act_17 rfl (fun hc => ?_) (fun hc => ?_)
    · replace h := g_it h hc
      refine y_sub (vs2 := [(0, .ref (ad 44 0)), (1, .int x1)]) [1, 0] rfl ?_
      exact mj_C10_act_24 C hR hL hlt hT h hQ hw
    · replace h := g_if h hc
      refine y_iconst (v := (1 : Int32)) C dX10_act_20 (by decide) ?_
      refine y_goto (tgt := 25) C dX10_act_21 rfl ?_
      refine y_sub (vs2 := [(0, .ref (ad 44 0)), (1, .int x1)]) [1, 0] rfl ?_
      exact mj_C10_act_25 C hR hL hlt hT h hQ hw
theorem ct_C10_act {D : va_G} {dA : Nat → ClassId} {A : Nat → Prop} {s0 : State} {b0 : Nat} {l : Launch} {hid : Bool} (hlt : l.stackTraces = false) {ad : Nat → Nat → Nat} {σ : g_S}{σ1 : g_S} (h : mF_C10_act σ = some (.inr σ1)) : g_Met gCl D dA A s0 b0 l yX10_act cX10_act 3 none 8 (0, 0) (gC hid) ad σ [.ref (ad 44 0)] (gC hid) ad σ1 none :=
  g_Met.of2 pl_X10 (Nat.le_of_ble_eq_true rfl) (fun X C hQ hR _ _ hL hnm es eb el hT => mw_C10_act C hR hL (by rw [el]; exact hlt) hT h hQ trivial)
theorem cx_C10_act {D : va_G} {dA : Nat → ClassId} {A : Nat → Prop} {s0 : State} {b0 : Nat} {l : Launch} {hid : Bool} (hlt : l.stackTraces = false) {ad : Nat → Nat → Nat} {σ : g_S} {σ1 : g_S} (h : mF_C10_act σ = some (.inl σ1)) : g_MetX gCl D dA A s0 b0 l yX10_act cX10_act 3 none 8 (gC hid) ad σ [.ref (ad 44 0)] (gC hid) ad σ1 :=
  g_MetX.of pl_X10 (Nat.le_of_ble_eq_true rfl) (fun X C hQ hR hmc hms hL hnm es eb el hT => mw_C10_act C hR hL (by rw [el]; exact hlt) hT h hQ ⟨Nat.le_of_eq hmc.symm, Nat.le_of_eq hms.symm, by rw [hR]; exact Nat.le_refl _, by rw [hR]; exact Nat.le_refl _⟩)
theorem mj_C7_needEnd_k44_17 {X : g_F} {ck sk : Nat} {hid : Bool} (C : g_M gCl X cX7_needEnd RX7 none) (hR : g_R X = g_rm 7 ck sk) (hL : g_nL X = 1) (hlt : (g_l X).stackTraces = false) (hT : (g_c X).exceptionTable.toList = []) {ad : Nat → Nat → Nat} {σ : g_S} {s1 : Int32} {o : (g_S ⊕ g_S)} (h : mJ_C7_needEnd_k44_17 σ s1 = some o) (hQ : Sum.elim (fun z => g_MQX gCl X (gC hid) ad z) (fun z => g_MQ gCl X (gC hid) ad z none) o = g_Q X) (hw : Sum.elim (fun _ => 1 ≤ g_mc X ∧ 7 ≤ g_ms X ∧ 1 ≤ (g_R X).cells ∧ 7 ≤ (g_R X).slots) (fun _ => True) o) : g_Y gCl X (gC hid) ad σ (0, 0) 17 [] [.int s1, .ref (ad 44 0)] := by
  unfold mJ_C7_needEnd_k44_17 at h
  obtain ⟨hp, h⟩ := g_gd h
  rcases g_txE h with ⟨z2, hc, h⟩ | ⟨σ1, hc, h⟩
  · replace h := Option.some.inj h; subst h
    refine y_callUX C (As := [.int s1]) (rest := []) (k := 44) (hu := nC_44_0) (hc := (rfl : gCl[8]? = some (RX10, TX10, 9))) (hcell := (obC_44 hp)) (lk_X7_36_X10_X7x_l6 C hR (by decide)) (cx_C7_need_k44 hlt hc) rfl rfl (Nat.le_of_ble_eq_true rfl) ⟨hw.2.2.1, hw.2.2.2⟩ dX7_needEnd_17 (fun q => ?_)
    exact y_outX C hT hQ ⟨hw.1, hw.2.1⟩
  refine y_callUv C (As := [.int s1]) (rest := []) (k := 44) (hu := nC_44_0) (hc := (rfl : gCl[8]? = some (RX10, TX10, 9))) (hcell := (obC_44 hp)) (lk_X7_36_X10_X7_l6 C hR (by decide)) (ct_C7_need_k44 hlt hc) rfl rfl (Nat.le_of_ble_eq_true rfl) ⟨Nat.zero_le _, Nat.zero_le _⟩ dX7_needEnd_17 ?_
  replace h := Option.some.inj h; subst h
  exact y_vret C hQ ⟨Nat.zero_le _, Nat.zero_le _⟩ dX7_needEnd_20
theorem mw_C7_needEnd_k44 {X : g_F} {ck sk : Nat} {hid : Bool} (C : g_M gCl X cX7_needEnd RX7 none) (hR : g_R X = g_rm 7 ck sk) (hL : g_nL X = 1) (hlt : (g_l X).stackTraces = false) (hT : (g_c X).exceptionTable.toList = []) {ad : Nat → Nat → Nat} {σ : g_S} {o : (g_S ⊕ g_S)} (h : mF_C7_needEnd_k44 σ = some o) (hQ : Sum.elim (fun z => g_MQX gCl X (gC hid) ad z) (fun z => g_MQ gCl X (gC hid) ad z none) o = g_Q X) (hw : Sum.elim (fun _ => 1 ≤ g_mc X ∧ 7 ≤ g_ms X ∧ 1 ≤ (g_R X).cells ∧ 7 ≤ (g_R X).slots) (fun _ => True) o) : g_Y gCl X (gC hid) ad σ (0, 0) 0 [(0, .ref (ad 44 0))] [] := by
  unfold mF_C7_needEnd_k44 at h
  refine y_aload_n C dX7_needEnd_0 0 rfl rfl ?_
  refine y_aload_n C dX7_needEnd_1 0 rfl rfl ?_
  obtain ⟨hp, h⟩ := g_gd h
  refine gf_C_X7_28_44 C nC_44_0 hp dX7_needEnd_2 ?_
  refine y_aload_n C dX7_needEnd_5 0 rfl rfl ?_
  obtain ⟨hp, h⟩ := g_gd h
  refine gf_C_X7_15_44 C nC_44_0 hp dX7_needEnd_6 ?_
  refine y_icmp_ne (tgt := 16) C dX7_needEnd_9 rfl (fun hc => ?_) (fun hc => ?_)
  · replace h := g_if h hc
    refine y_iconst (v := (0 : Int32)) C dX7_needEnd_16 (by decide) ?_
    refine y_sub (vs2 := []) [] rfl ?_
    exact mj_C7_needEnd_k44_17 C hR hL hlt hT h hQ hw
  · replace h := g_it h hc
    refine y_iconst (v := (1 : Int32)) C dX7_needEnd_12 (by decide) ?_
    refine y_goto (tgt := 17) C dX7_needEnd_13 rfl ?_
    refine y_sub (vs2 := []) [] rfl ?_
    exact mj_C7_needEnd_k44_17 C hR hL hlt hT h hQ hw
theorem ct_C7_needEnd_k44 {D : va_G} {dA : Nat → ClassId} {A : Nat → Prop} {s0 : State} {b0 : Nat} {l : Launch} {hid : Bool} (hlt : l.stackTraces = false) {ad : Nat → Nat → Nat} {σ : g_S}{σ1 : g_S} (h : mF_C7_needEnd_k44 σ = some (.inr σ1)) : g_Met gCl D dA A s0 b0 l yX7_needEnd cX7_needEnd 1 none 7 (0, 0) (gC hid) ad σ [.ref (ad 44 0)] (gC hid) ad σ1 none :=
  g_Met.of2 pl_X7 (Nat.le_of_ble_eq_true rfl) (fun X C hQ hR _ _ hL hnm es eb el hT => mw_C7_needEnd_k44 C hR hL (by rw [el]; exact hlt) hT h hQ trivial)
theorem cx_C7_needEnd_k44 {D : va_G} {dA : Nat → ClassId} {A : Nat → Prop} {s0 : State} {b0 : Nat} {l : Launch} {hid : Bool} (hlt : l.stackTraces = false) {ad : Nat → Nat → Nat} {σ : g_S} {σ1 : g_S} (h : mF_C7_needEnd_k44 σ = some (.inl σ1)) : g_MetX gCl D dA A s0 b0 l yX7_needEnd cX7_needEnd 1 none 7 (gC hid) ad σ [.ref (ad 44 0)] (gC hid) ad σ1 :=
  g_MetX.of pl_X7 (Nat.le_of_ble_eq_true rfl) (fun X C hQ hR hmc hms hL hnm es eb el hT => mw_C7_needEnd_k44 C hR hL (by rw [el]; exact hlt) hT h hQ ⟨Nat.le_of_eq hmc.symm, Nat.le_of_eq hms.symm, by rw [hR]; exact Nat.le_refl _, by rw [hR]; exact Nat.le_refl _⟩)
theorem ml_C10_read_0 {X : g_F} {ck sk : Nat} {hid : Bool} (C : g_M gCl X cX10_read RX10 none) (hR : g_R X = g_rm 9 ck sk) (hL : g_nL X = 1) (hlt : (g_l X).stackTraces = false) (hT : (g_c X).exceptionTable.toList = []) {ad : Nat → Nat → Nat} {σ : g_S} (n : Nat) (v : g_S) (e : (g_S ⊕ g_S)) (h : g_lp (fun v => mB_C10_read_0 v) n v = some e) (kx : (∀ y, e = .inl y → g_MQX gCl X (gC hid) ad y = g_Q X ∧ 1 ≤ g_mc X ∧ 7 ≤ g_ms X ∧ 1 ≤ (g_R X).cells ∧ 7 ≤ (g_R X).slots) ∧ (∀ y, e = .inr y → g_Y gCl X (gC hid) ad y (0, 0) 28 [(0, .ref (ad 44 0))] [])) : g_Y gCl X (gC hid) ad v (0, 0) 0 [(0, .ref (ad 44 0))] [] := by
  refine g_loop (P := fun v => g_Y gCl X (gC hid) ad v (0, 0) 0 [(0, .ref (ad 44 0))] []) (T := fun e => (∀ y, e = .inl y → g_MQX gCl X (gC hid) ad y = g_Q X ∧ 1 ≤ g_mc X ∧ 7 ≤ g_ms X ∧ 1 ≤ (g_R X).cells ∧ 7 ≤ (g_R X).slots) ∧ (∀ y, e = .inr y → g_Y gCl X (gC hid) ad y (0, 0) 28 [(0, .ref (ad 44 0))] [])) ?_ n v e h kx
  clear h kx
  clear n v e
  intro v o h kl kx
  obtain ⟨σ, rfl⟩ : ∃ z, z = v := ⟨_, rfl⟩
  have h : mB_C10_read_0 σ = some o := h
  unfold mB_C10_read_0 at h
  show g_Y gCl X (gC hid) ad σ (0, 0) 0 [(0, .ref (ad 44 0))] []
  refine y_aload_n C dX10_read_0 0 rfl rfl ?_
  obtain ⟨hp, h⟩ := g_gd h
  refine gf_C_X10_26_44 C nC_44_0 hp dX10_read_1 ?_
  refine y_aload_n C dX10_read_4 0 rfl rfl ?_
  obtain ⟨hp, h⟩ := g_gd h
  refine gf_C_X10_30_44 C nC_44_0 hp dX10_read_5 ?_
  refine y_icmp_ge (tgt := 28) C dX10_read_8 rfl (fun hc => ?_) (fun hc => ?_)
  · replace h := g_it h hc
    exact (kx _ (Option.some.inj h).symm).2 _ rfl
  · replace h := g_if h hc
    refine y_aload_n C dX10_read_11 0 rfl rfl ?_
    obtain ⟨hp, h⟩ := g_gd h
    rcases g_txE h with ⟨z2, hc, h⟩ | ⟨σ1, hc, h⟩
    · obtain ⟨hQ, hw⟩ := (kx _ (Option.some.inj h).symm).1 _ rfl
      refine y_callVX C (As := []) (rest := []) (k := 44) (hu := nC_44_0) (hc := (rfl : gCl[8]? = some (RX10, TX10, 9))) (hcell := (obC_44 hp)) (lk_X10_33_X10x_l8 C hR (by decide)) (cx_C10_act hlt hc) rfl rfl (Nat.le_of_ble_eq_true rfl) ⟨hw.2.2.1, hw.2.2.2⟩ dX10_read_12 (fun q => ?_)
      exact y_outX C hT hQ ⟨hw.1, hw.2.1⟩
    refine y_callVv C (As := []) (rest := []) (k := 44) (hu := nC_44_0) (hc := (rfl : gCl[8]? = some (RX10, TX10, 9))) (hcell := (obC_44 hp)) (lk_X10_33_X10_l8 C hR (by decide)) (ct_C10_act hlt hc) rfl rfl (Nat.le_of_ble_eq_true rfl) ⟨Nat.zero_le _, Nat.zero_le _⟩ dX10_read_12 ?_
    refine y_aload_n C dX10_read_15 0 rfl rfl ?_
    refine y_dup C dX10_read_16 rfl ?_
    obtain ⟨hp, h⟩ := g_gd h
    refine gf_C_X10_37_44 C nC_44_0 hp dX10_read_17 ?_
    refine y_iconst (v := (1 : Int32)) C dX10_read_20 (by decide) ?_
    refine y_iadd C dX10_read_21 ?_
    obtain ⟨hp, h⟩ := g_gd h
    obtain ⟨σ3, hσ3, h⟩ := g_lt h
    refine pf_C_X10_37_44 C nC_44_0 hp hσ3 dX10_read_22 ?_
    refine y_goto (tgt := 0) C dX10_read_25 rfl ?_
    exact kl _ (Option.some.inj h).symm
theorem mw_C10_read {X : g_F} {ck sk : Nat} {hid : Bool} (C : g_M gCl X cX10_read RX10 none) (hR : g_R X = g_rm 9 ck sk) (hL : g_nL X = 1) (hlt : (g_l X).stackTraces = false) (hT : (g_c X).exceptionTable.toList = []) {ad : Nat → Nat → Nat} {σ : g_S} {o : (g_S ⊕ g_S)} (h : mF_C10_read σ = some o) (hQ : Sum.elim (fun z => g_MQX gCl X (gC hid) ad z) (fun z => g_MQ gCl X (gC hid) ad z none) o = g_Q X) (hw : Sum.elim (fun _ => 1 ≤ g_mc X ∧ 7 ≤ g_ms X ∧ 1 ≤ (g_R X).cells ∧ 7 ≤ (g_R X).slots) (fun _ => True) o) : g_Y gCl X (gC hid) ad σ (0, 0) 0 [(0, .ref (ad 44 0))] [] := by
  unfold mF_C10_read at h
  obtain ⟨e4, he4, h⟩ := g_bd h
  refine ml_C10_read_0 C hR hL hlt hT (σ := σ) _ _ _ he4 ⟨fun y he => ?_, fun y he => ?_⟩
  · obtain ⟨y5, rfl⟩ : ∃ z, z = y := ⟨_, rfl⟩
    subst he
    dsimp only at h
    replace h := Option.some.inj h; subst h
    exact ⟨hQ, hw⟩
  · obtain ⟨y6, rfl⟩ : ∃ z, z = y := ⟨_, rfl⟩
    subst he
    dsimp only at h
    refine y_aload_n C dX10_read_28 0 rfl rfl ?_
    obtain ⟨hp, h⟩ := g_gd h
    rcases g_txE h with ⟨z8, hc, h⟩ | ⟨σ7, hc, h⟩
    · replace h := Option.some.inj h; subst h
      refine y_callUX C (As := []) (rest := []) (k := 44) (hu := nC_44_0) (hc := (rfl : gCl[8]? = some (RX10, TX10, 9))) (hcell := (obC_44 hp)) (lk_X10_40_X10_X7x_l7 C hR (by decide)) (cx_C7_needEnd_k44 hlt hc) rfl rfl (Nat.le_of_ble_eq_true rfl) ⟨hw.2.2.1, hw.2.2.2⟩ dX10_read_29 (fun q => ?_)
      exact y_outX C hT hQ ⟨hw.1, hw.2.1⟩
    refine y_callUv C (As := []) (rest := []) (k := 44) (hu := nC_44_0) (hc := (rfl : gCl[8]? = some (RX10, TX10, 9))) (hcell := (obC_44 hp)) (lk_X10_40_X10_X7_l7 C hR (by decide)) (ct_C7_needEnd_k44 hlt hc) rfl rfl (Nat.le_of_ble_eq_true rfl) ⟨Nat.zero_le _, Nat.zero_le _⟩ dX10_read_29 ?_
    replace h := Option.some.inj h; subst h
    exact y_vret C hQ ⟨Nat.zero_le _, Nat.zero_le _⟩ dX10_read_32
theorem ct_C10_read {D : va_G} {dA : Nat → ClassId} {A : Nat → Prop} {s0 : State} {b0 : Nat} {l : Launch} {hid : Bool} (hlt : l.stackTraces = false) {ad : Nat → Nat → Nat} {σ : g_S}{σ1 : g_S} (h : mF_C10_read σ = some (.inr σ1)) : g_Met gCl D dA A s0 b0 l yX10_read cX10_read 1 none 9 (0, 0) (gC hid) ad σ [.ref (ad 44 0)] (gC hid) ad σ1 none :=
  g_Met.of2 pl_X10 (Nat.le_of_ble_eq_true rfl) (fun X C hQ hR _ _ hL hnm es eb el hT => mw_C10_read C hR hL (by rw [el]; exact hlt) hT h hQ trivial)
theorem cx_C10_read {D : va_G} {dA : Nat → ClassId} {A : Nat → Prop} {s0 : State} {b0 : Nat} {l : Launch} {hid : Bool} (hlt : l.stackTraces = false) {ad : Nat → Nat → Nat} {σ : g_S} {σ1 : g_S} (h : mF_C10_read σ = some (.inl σ1)) : g_MetX gCl D dA A s0 b0 l yX10_read cX10_read 1 none 9 (gC hid) ad σ [.ref (ad 44 0)] (gC hid) ad σ1 :=
  g_MetX.of pl_X10 (Nat.le_of_ble_eq_true rfl) (fun X C hQ hR hmc hms hL hnm es eb el hT => mw_C10_read C hR hL (by rw [el]; exact hlt) hT h hQ ⟨Nat.le_of_eq hmc.symm, Nat.le_of_eq hms.symm, by rw [hR]; exact Nat.le_refl _, by rw [hR]; exact Nat.le_refl _⟩)
theorem mw_C1_act {X : g_F} (C : g_M gCl X cX1_act RX1 (some .boolean)) (hR : g_R X = g_rm 309 0 0) (hL : g_nL X = 4) {ad : Nat → Nat → Nat} {σ : g_S} {v1 : Int32} {v2 : Int32} {v3 : Int32} {o : (Int32 × g_S)} (h : mF_C1_act σ v1 v2 v3 = some o) (hQ : g_MQ gCl X (gC true) ad o.2 (some (.int o.1)) = g_Q X) : g_Y gCl X (gC true) ad σ (0, 0) 0 [(0, .ref (ad 0 0)), (1, .int v1), (2, .int v2), (3, .int v3)] [] := by
  unfold mF_C1_act at h
  refine y_iload_n C dX1_act_0 1 rfl rfl ?_
  by_cases hc98 : v1 = (98 : Int32)
  · replace h := g_it h hc98
    refine y_lsw (tgt := 118) (off := 117) C dX1_act_1 (by decide) (by rw [hc98]; decide) rfl ?_
    refine y_aload_n C dX1_act_118 0 rfl rfl ?_
    refine y_iload_n C dX1_act_119 2 rfl rfl ?_
    refine y_iload_n C dX1_act_120 3 rfl rfl ?_
    obtain ⟨x1, hc, h⟩ := g_bd h
    refine y_callV C (As := [.int v2, .int v3]) (rest := []) (k := 0) (hu := nC_0_0) (hc := (rfl : gCl[0]? = some (RX1, TX1, 31))) (hcell := obC_0) (lk_X1_355_X1_l3 C hR (by decide)) (ct_C1_canTrim hc) rfl rfl (Nat.le_of_ble_eq_true rfl) ⟨Nat.zero_le _, Nat.zero_le _⟩ dX1_act_121 ?_
    refine y_if_ne (tgt := 129) C dX1_act_124 rfl (fun hc => ?_) (fun hc => ?_)
    · replace h := g_if h hc
      refine y_aload_n C dX1_act_129 0 rfl rfl ?_
      refine gf_C_X1_84_0 C nC_0_0 dX1_act_130 ?_
      refine gf_C_X1_222_4 C nC_4_0 dX1_act_133 ?_
      refine y_iload_n C dX1_act_136 2 rfl rfl ?_
      refine y_iload_n C dX1_act_137 3 rfl rfl ?_
      obtain ⟨hg, h⟩ := g_gd h
      obtain ⟨σ2, hσ2, h⟩ := g_lt h
      refine as_C_7 C nC_7_0 hσ2 hg dX1_act_138 ?_
      refine y_iconst (v := (1 : Int32)) C dX1_act_139 (by decide) ?_
      replace h := Option.some.inj h; subst h
      exact y_zret C (by decide) hQ ⟨Nat.zero_le _, Nat.zero_le _⟩ dX1_act_140
    · replace h := g_it h hc
      refine y_iconst (v := (0 : Int32)) C dX1_act_127 (by decide) ?_
      replace h := Option.some.inj h; subst h
      exact y_zret C (by decide) hQ ⟨Nat.zero_le _, Nat.zero_le _⟩ dX1_act_128
  replace h := g_if h hc98
  by_cases hc102 : v1 = (102 : Int32)
  · replace h := g_it h hc102
    refine y_lsw (tgt := 55) (off := 54) C dX1_act_1 (by decide) (by rw [hc102]; decide) rfl ?_
    refine y_aload_n C dX1_act_55 0 rfl rfl ?_
    refine y_iload_n C dX1_act_56 2 rfl rfl ?_
    refine y_iload_n C dX1_act_57 3 rfl rfl ?_
    obtain ⟨x3, hc, h⟩ := g_bd h
    refine y_callV C (As := [.int v2, .int v3]) (rest := []) (k := 0) (hu := nC_0_0) (hc := (rfl : gCl[0]? = some (RX1, TX1, 31))) (hcell := obC_0) (lk_X1_335_X1_l3 C hR (by decide)) (ct_C1_canFace hc) rfl rfl (Nat.le_of_ble_eq_true rfl) ⟨Nat.zero_le _, Nat.zero_le _⟩ dX1_act_58 ?_
    refine y_if_ne (tgt := 66) C dX1_act_61 rfl (fun hc => ?_) (fun hc => ?_)
    · replace h := g_if h hc
      refine y_aload_n C dX1_act_66 0 rfl rfl ?_
      refine gf_C_X1_84_0 C nC_0_0 dX1_act_67 ?_
      refine gf_C_X1_219_4 C nC_4_0 dX1_act_70 ?_
      refine y_iload_n C dX1_act_73 2 rfl rfl ?_
      refine y_iload_n C dX1_act_74 3 rfl rfl ?_
      obtain ⟨hg, h⟩ := g_gd h
      obtain ⟨σ4, hσ4, h⟩ := g_lt h
      refine as_C_6 C nC_6_0 hσ4 hg dX1_act_75 ?_
      refine y_iconst (v := (1 : Int32)) C dX1_act_76 (by decide) ?_
      replace h := Option.some.inj h; subst h
      exact y_zret C (by decide) hQ ⟨Nat.zero_le _, Nat.zero_le _⟩ dX1_act_77
    · replace h := g_it h hc
      refine y_iconst (v := (0 : Int32)) C dX1_act_64 (by decide) ?_
      replace h := Option.some.inj h; subst h
      exact y_zret C (by decide) hQ ⟨Nat.zero_le _, Nat.zero_le _⟩ dX1_act_65
  replace h := g_if h hc102
  by_cases hc103 : v1 = (103 : Int32)
  · replace h := g_it h hc103
    refine y_lsw (tgt := 78) (off := 77) C dX1_act_1 (by decide) (by rw [hc103]; decide) rfl ?_
    refine y_aload_n C dX1_act_78 0 rfl rfl ?_
    refine y_aload_n C dX1_act_79 0 rfl rfl ?_
    refine gf_C_X1_84_0 C nC_0_0 dX1_act_80 ?_
    refine y_iload_n C dX1_act_83 2 rfl rfl ?_
    refine y_iload_n C dX1_act_84 3 rfl rfl ?_
    obtain ⟨x5, hc, h⟩ := g_bd h
    refine y_callV C (As := [.ref (ad 4 0), .int v2, .int v3]) (rest := []) (k := 0) (hu := nC_0_0) (hc := (rfl : gCl[0]? = some (RX1, TX1, 31))) (hcell := obC_0) (lk_X1_350_X1_l4 C hR (by decide)) (ct_C1_refusesStep nC_4_0 hc) rfl rfl (Nat.le_of_ble_eq_true rfl) ⟨Nat.zero_le _, Nat.zero_le _⟩ dX1_act_85 ?_
    refine y_if_ge (tgt := 93) C dX1_act_88 rfl (fun hc => ?_) (fun hc => ?_)
    · replace h := g_it h hc
      refine y_aload_n C dX1_act_93 0 rfl rfl ?_
      refine gf_C_X1_84_0 C nC_0_0 dX1_act_94 ?_
      refine gf_C_X1_217_4 C nC_4_0 dX1_act_97 ?_
      refine y_iload_n C dX1_act_100 2 rfl rfl ?_
      refine y_aload_n C dX1_act_101 0 rfl rfl ?_
      refine y_aload_n C dX1_act_102 0 rfl rfl ?_
      refine gf_C_X1_84_0 C nC_0_0 dX1_act_103 ?_
      refine gf_C_X1_217_4 C nC_4_0 dX1_act_106 ?_
      refine y_iload_n C dX1_act_109 2 rfl rfl ?_
      obtain ⟨hg, h⟩ := g_gd h
      refine al_C_5 C nC_5_0 hg dX1_act_110 ?_
      refine y_iload_n C dX1_act_111 3 rfl rfl ?_
      obtain ⟨x6, hc, h⟩ := g_bd h
      refine y_callV C (As := [.int (σ.1 5 0 v2.toNatClampNeg), .int v3]) (rest := [.int v2, .ref (ad 5 0)]) (k := 0) (hu := nC_0_0) (hc := (rfl : gCl[0]? = some (RX1, TX1, 31))) (hcell := obC_0) (lk_X1_347_X1_l3 C hR (by decide)) (ct_C1_stepOf hc) rfl rfl (Nat.le_of_ble_eq_true rfl) ⟨Nat.zero_le _, Nat.zero_le _⟩ dX1_act_112 ?_
      obtain ⟨hg, h⟩ := g_gd h
      obtain ⟨σ7, hσ7, h⟩ := g_lt h
      refine as_C_5 C nC_5_0 hσ7 hg dX1_act_115 ?_
      refine y_iconst (v := (1 : Int32)) C dX1_act_116 (by decide) ?_
      replace h := Option.some.inj h; subst h
      exact y_zret C (by decide) hQ ⟨Nat.zero_le _, Nat.zero_le _⟩ dX1_act_117
    · replace h := g_if h hc
      refine y_iconst (v := (0 : Int32)) C dX1_act_91 (by decide) ?_
      replace h := Option.some.inj h; subst h
      exact y_zret C (by decide) hQ ⟨Nat.zero_le _, Nat.zero_le _⟩ dX1_act_92
  replace h := g_if h hc103
  by_cases hc110 : v1 = (110 : Int32)
  · replace h := g_it h hc110
    refine y_lsw (tgt := 44) (off := 43) C dX1_act_1 (by decide) (by rw [hc110]; decide) rfl ?_
    refine y_aload_n C dX1_act_44 0 rfl rfl ?_
    refine y_aload_n C dX1_act_45 0 rfl rfl ?_
    refine gf_C_X1_84_0 C nC_0_0 dX1_act_46 ?_
    refine y_iload_n C dX1_act_49 2 rfl rfl ?_
    obtain ⟨σ8, hc, h⟩ := g_bd h
    refine y_callVv C (As := [.ref (ad 4 0), .int v2]) (rest := []) (k := 0) (hu := nC_0_0) (hc := (rfl : gCl[0]? = some (RX1, TX1, 31))) (hcell := obC_0) (lk_X1_326_X1_l308 C hR (by decide)) (ct_C1_goHours nC_4_0 hc) rfl rfl (Nat.le_of_ble_eq_true rfl) ⟨Nat.zero_le _, Nat.zero_le _⟩ dX1_act_50 ?_
    refine y_iconst (v := (1 : Int32)) C dX1_act_53 (by decide) ?_
    replace h := Option.some.inj h; subst h
    exact y_zret C (by decide) hQ ⟨Nat.zero_le _, Nat.zero_le _⟩ dX1_act_54
  replace h := g_if h hc110
  refine y_lsw (tgt := 141) (off := 140) C dX1_act_1 (by decide) (by show Op.lookupswitch.offset [(98, 117), (102, 54), (103, 77), (110, 43)] _ _ = _; rw [lv_osw hc98 (by decide), lv_osw hc102 (by decide), lv_osw hc103 (by decide), lv_osw hc110 (by decide)]; rfl) rfl ?_
  refine y_aload_n C dX1_act_141 0 rfl rfl ?_
  refine y_iload_n C dX1_act_142 2 rfl rfl ?_
  refine y_iload_n C dX1_act_143 3 rfl rfl ?_
  obtain ⟨x9, hc, h⟩ := g_bd h
  refine y_callV C (As := [.int v2, .int v3]) (rest := []) (k := 0) (hu := nC_0_0) (hc := (rfl : gCl[0]? = some (RX1, TX1, 31))) (hcell := obC_0) (lk_X1_361_X1_l3 C hR (by decide)) (ct_C1_refusesPut hc) rfl rfl (Nat.le_of_ble_eq_true rfl) ⟨Nat.zero_le _, Nat.zero_le _⟩ dX1_act_144 ?_
  refine y_if_ge (tgt := 152) C dX1_act_147 rfl (fun hc => ?_) (fun hc => ?_)
  · replace h := g_it h hc
    refine y_aload_n C dX1_act_152 0 rfl rfl ?_
    refine gf_C_X1_84_0 C nC_0_0 dX1_act_153 ?_
    refine gf_C_X1_228_4 C nC_4_0 dX1_act_156 ?_
    refine y_iload_n C dX1_act_159 2 rfl rfl ?_
    refine y_iload_n C dX1_act_160 3 rfl rfl ?_
    obtain ⟨hg, h⟩ := g_gd h
    obtain ⟨σ10, hσ10, h⟩ := g_lt h
    refine as_C_9 C nC_9_0 hσ10 hg dX1_act_161 ?_
    refine y_iconst (v := (1 : Int32)) C dX1_act_162 (by decide) ?_
    replace h := Option.some.inj h; subst h
    exact y_zret C (by decide) hQ ⟨Nat.zero_le _, Nat.zero_le _⟩ dX1_act_163
  · replace h := g_if h hc
    refine y_iconst (v := (0 : Int32)) C dX1_act_150 (by decide) ?_
    replace h := Option.some.inj h; subst h
    exact y_zret C (by decide) hQ ⟨Nat.zero_le _, Nat.zero_le _⟩ dX1_act_151
theorem ct_C1_act {D : va_G} {dA : Nat → ClassId} {A : Nat → Prop} {s0 : State} {b0 : Nat} {l : Launch} {ad : Nat → Nat → Nat} {σ : g_S} {v1 : Int32} {v2 : Int32} {v3 : Int32} {r : Int32} {σ1 : g_S} (h : mF_C1_act σ v1 v2 v3 = some (r, σ1)) : g_Met gCl D dA A s0 b0 l yX1_act cX1_act 4 (some .boolean) 309 (0, 0) (gC true) ad σ [.ref (ad 0 0), .int v1, .int v2, .int v3] (gC true) ad σ1 (some (.int r)) :=
  g_Met.of pl_X1 (Nat.le_of_ble_eq_true rfl) (fun X C hQ hR _ _ hL _ es eb => mw_C1_act C hR hL h hQ)
theorem ml_C1_day_50 {X : g_F} (C : g_M gCl X cX1_day RX1 (some .int)) (hR : g_R X = g_rm 310 5 196) (hL : g_nL X = 3) (hlt : (g_l X).stackTraces = false) (hT : (g_c X).exceptionTable.toList = tableOf [((22 : Nat), (26 : Nat), (29 : Nat), (185 : Nat))]) (hmc : g_mc X = 5 ∧ g_ms X = 196) {ad : Nat → Nat → Nat} {σ : g_S} {a0 : Nat} (ha0 : ad 0 0 = a0) (n : Nat) (v : (Int32 × g_S)) (e : (Int32 × g_S)) (h : g_lp (fun v => mB_C1_day_50 v.2 v.1) n v = some e) (kx : g_Y gCl X (gC true) ad e.2 (4, 189) 89 [(0, .ref (ad 0 0)), (1, .ref (ad 44 0)), (2, .int e.1)] []) : g_Y gCl X (gC true) ad v.2 (4, 189) 50 [(0, .ref (ad 0 0)), (1, .ref (ad 44 0)), (2, .int v.1)] [] := by
  refine g_loop (P := fun v => g_Y gCl X (gC true) ad v.2 (4, 189) 50 [(0, .ref (ad 0 0)), (1, .ref (ad 44 0)), (2, .int v.1)] []) (T := fun e => g_Y gCl X (gC true) ad e.2 (4, 189) 89 [(0, .ref (ad 0 0)), (1, .ref (ad 44 0)), (2, .int e.1)] []) ?_ n v e h kx
  clear h kx
  clear n v e
  intro v o h kl kx
  obtain ⟨v2, σ⟩ := v
  have h : mB_C1_day_50 σ v2 = some o := h
  unfold mB_C1_day_50 at h
  show g_Y gCl X (gC true) ad σ (4, 189) 50 [(0, .ref (ad 0 0)), (1, .ref (ad 44 0)), (2, .int v2)] []
  refine y_iload_n C dX1_day_50 2 rfl rfl ?_
  refine y_aload_n C dX1_day_51 1 rfl rfl ?_
  obtain ⟨hp, h⟩ := g_gd h
  refine gf_C_X1_369_44 C nC_44_0 hp dX1_day_52 ?_
  refine y_icmp_ge (tgt := 89) C dX1_day_55 rfl (fun hc => ?_) (fun hc => ?_)
  · replace h := g_it h hc
    exact kx _ (Option.some.inj h).symm
  · replace h := g_if h hc
    refine y_aload_n C dX1_day_58 0 rfl rfl ?_
    refine y_aload_n C dX1_day_59 1 rfl rfl ?_
    obtain ⟨hp, h⟩ := g_gd h
    refine gf_C_X1_372_44 C nC_44_0 hp dX1_day_60 ?_
    refine y_iload_n C dX1_day_63 2 rfl rfl ?_
    obtain ⟨hg, h⟩ := g_gd h
    refine al_C_45 C nC_45_0 hg dX1_day_64 ?_
    refine y_aload_n C dX1_day_65 1 rfl rfl ?_
    obtain ⟨hp, h⟩ := g_gd h
    refine gf_C_X1_376_44 C nC_44_0 hp dX1_day_66 ?_
    refine y_iload_n C dX1_day_69 2 rfl rfl ?_
    obtain ⟨hg, h⟩ := g_gd h
    refine al_C_46 C nC_46_0 hg dX1_day_70 ?_
    refine y_aload_n C dX1_day_71 1 rfl rfl ?_
    obtain ⟨hp, h⟩ := g_gd h
    refine gf_C_X1_379_44 C nC_44_0 hp dX1_day_72 ?_
    refine y_iload_n C dX1_day_75 2 rfl rfl ?_
    obtain ⟨hg, h⟩ := g_gd h
    refine al_C_47 C nC_47_0 hg dX1_day_76 ?_
    obtain ⟨x12, σ11, hc, h⟩ := g_bp h
    refine y_callV C (As := [.int (σ.1 45 0 v2.toNatClampNeg), .int (σ.1 46 0 v2.toNatClampNeg), .int (σ.1 47 0 v2.toNatClampNeg)]) (rest := []) (k := 0) (hu := nC_0_0) (hc := (rfl : gCl[0]? = some (RX1, TX1, 31))) (hcell := obC_0) (lk_X1_382_X1_l309 C hR (by decide)) (ct_C1_act hc) rfl rfl (Nat.le_of_ble_eq_true rfl) (by rw [hR]; exact ⟨Nat.le_of_ble_eq_true rfl, Nat.le_of_ble_eq_true rfl⟩) dX1_day_77 ?_
    refine y_if_eq (tgt := 89) C dX1_day_80 rfl (fun hc => ?_) (fun hc => ?_)
    · replace h := g_it h hc
      exact kx _ (Option.some.inj h).symm
    · replace h := g_if h hc
      obtain ⟨x13, hx13, h⟩ := g_lt h
      refine y_iinc (c := (1 : Int32)) (vs1 := [(2, .int x13), (0, .ref (ad 0 0)), (1, .ref (ad 44 0))]) C hx13 (by decide) dX1_day_83 2 rfl (g_lL hL rfl) rfl ?_
      refine y_goto (tgt := 50) C dX1_day_86 rfl ?_
      refine y_sub (vs2 := [(0, .ref (ad 0 0)), (1, .ref (ad 44 0)), (2, .int x13)]) [1, 2, 0] rfl ?_
      exact kl _ (Option.some.inj h).symm
theorem mj_C1_day_120 {X : g_F} (C : g_M gCl X cX1_day RX1 (some .int)) (hR : g_R X = g_rm 310 5 196) (hL : g_nL X = 3) (hlt : (g_l X).stackTraces = false) (hT : (g_c X).exceptionTable.toList = tableOf [((22 : Nat), (26 : Nat), (29 : Nat), (185 : Nat))]) (hmc : g_mc X = 5 ∧ g_ms X = 196) {ad : Nat → Nat → Nat} {σ : g_S} {a0 : Nat} (ha0 : ad 0 0 = a0) {v2 : Int32} {s1 : Int64} {o : (Int32 × g_S)} (h : mJ_C1_day_120 σ v2 s1 = some o) (hQ : g_MQG gCl X (gC true) (fun v ad2 s2 => v = some (.int o.1) ∧ s2 = o.2 ∧ ad2 0 0 = a0) (fun _ _ _ _ => False) = g_Q X) : g_Y gCl X (gC true) ad σ (4, 189) 120 [(0, .ref (ad 0 0)), (2, .int v2)] [.long s1, .ref (ad 0 0)] := by
  unfold mJ_C1_day_120 at h
  obtain ⟨σ16, hc, h⟩ := g_bd h
  refine y_callVv C (As := [.long s1]) (rest := []) (k := 0) (hu := nC_0_0) (hc := (rfl : gCl[0]? = some (RX1, TX1, 31))) (hcell := obC_0) (lk_X1_330_X1_l1 C hR (by decide)) (ct_C1_tell_2 hc) rfl rfl (Nat.le_of_ble_eq_true rfl) (by rw [hR]; exact ⟨Nat.le_of_ble_eq_true rfl, Nat.le_of_ble_eq_true rfl⟩) dX1_day_120 ?_
  refine y_aload_n C dX1_day_123 0 rfl rfl ?_
  refine y_aload_n C dX1_day_124 0 rfl rfl ?_
  refine gf_C_X1_84_0 C nC_0_0 dX1_day_125 ?_
  refine gf_C_X1_34_4 C nC_4_0 dX1_day_128 ?_
  refine y_i2l C dX1_day_131 ?_
  obtain ⟨σ17, hc, h⟩ := g_bd h
  refine y_callVv C (As := [.long ((σ16.1 4 0 5).toInt64)]) (rest := []) (k := 0) (hu := nC_0_0) (hc := (rfl : gCl[0]? = some (RX1, TX1, 31))) (hcell := obC_0) (lk_X1_330_X1_l1 C hR (by decide)) (ct_C1_tell_2 hc) rfl rfl (Nat.le_of_ble_eq_true rfl) (by rw [hR]; exact ⟨Nat.le_of_ble_eq_true rfl, Nat.le_of_ble_eq_true rfl⟩) dX1_day_132 ?_
  refine y_iload_n C dX1_day_135 1 rfl rfl ?_
  replace h := Option.some.inj h; subst h
  exact y_iretG C hQ ⟨rfl, rfl, ha0⟩ (by rw [hmc.1, hmc.2]; exact ⟨Nat.le_of_ble_eq_true rfl, Nat.le_of_ble_eq_true rfl⟩) dX1_day_136
theorem mj_C1_day_101 {X : g_F} (C : g_M gCl X cX1_day RX1 (some .int)) (hR : g_R X = g_rm 310 5 196) (hL : g_nL X = 3) (hlt : (g_l X).stackTraces = false) (hT : (g_c X).exceptionTable.toList = tableOf [((22 : Nat), (26 : Nat), (29 : Nat), (185 : Nat))]) (hmc : g_mc X = 5 ∧ g_ms X = 196) {ad : Nat → Nat → Nat} {σ : g_S} {a0 : Nat} (ha0 : ad 0 0 = a0) {v2 : Int32} {o : (Int32 × g_S)} (h : mJ_C1_day_101 σ v2 = some o) (hQ : g_MQG gCl X (gC true) (fun v ad2 s2 => v = some (.int o.1) ∧ s2 = o.2 ∧ ad2 0 0 = a0) (fun _ _ _ _ => False) = g_Q X) : g_Y gCl X (gC true) ad σ (4, 189) 101 [(0, .ref (ad 0 0)), (1, .ref (ad 44 0)), (2, .int v2)] [] := by
  unfold mJ_C1_day_101 at h
  refine y_aload_n C dX1_day_101 0 rfl rfl ?_
  refine y_iconst (v := (0 : Int32)) C dX1_day_102 (by decide) ?_
  obtain ⟨σ15, hσ15, h⟩ := g_lt h
  refine pf_C_X1_139_0 C nC_0_0 hσ15 dX1_day_103 ?_
  refine y_aload_n C dX1_day_106 0 rfl rfl ?_
  refine y_iload_n C dX1_day_107 2 rfl rfl ?_
  refine y_aload_n C dX1_day_108 1 rfl rfl ?_
  obtain ⟨hp, h⟩ := g_gd h
  refine gf_C_X1_369_44 C nC_44_0 hp dX1_day_109 ?_
  refine y_icmp_ge (tgt := 119) C dX1_day_112 rfl (fun hc => ?_) (fun hc => ?_)
  · replace h := g_it h hc
    refine y_lconst (v := (0 : Int64)) C dX1_day_119 (by decide) ?_
    refine y_sub (vs2 := [(0, .ref (ad 0 0)), (2, .int v2)]) [0, 2] rfl ?_
    exact mj_C1_day_120 C hR hL hlt hT hmc ha0 h hQ
  · replace h := g_if h hc
    refine y_lconst (v := (1 : Int64)) C dX1_day_115 (by decide) ?_
    refine y_goto (tgt := 120) C dX1_day_116 rfl ?_
    refine y_sub (vs2 := [(0, .ref (ad 0 0)), (2, .int v2)]) [0, 2] rfl ?_
    exact mj_C1_day_120 C hR hL hlt hT hmc ha0 h hQ
theorem mw_C1_day {X : g_F} (C : g_M gCl X cX1_day RX1 (some .int)) (hR : g_R X = g_rm 310 5 196) (hL : g_nL X = 3) (hlt : (g_l X).stackTraces = false) (hT : (g_c X).exceptionTable.toList = tableOf [((22 : Nat), (26 : Nat), (29 : Nat), (185 : Nat))]) (hmc : g_mc X = 5 ∧ g_ms X = 196) {ad : Nat → Nat → Nat} {σ : g_S} {a0 : Nat} (ha0 : ad 0 0 = a0) {o : (Int32 × g_S)} (h : mF_C1_day σ = some o) (hQ : g_MQG gCl X (gC true) (fun v ad2 s2 => v = some (.int o.1) ∧ s2 = o.2 ∧ ad2 0 0 = a0) (fun _ _ _ _ => False) = g_Q X) : g_Y gCl X (gC true) ad σ (0, 0) 0 [(0, .ref (ad 0 0))] [] := by
  unfold mF_C1_day at h
  obtain ⟨σ1, hσ1, h⟩ := g_lt h
  refine y_new (σ1 := σ1) (fs := [.null, .int 0, .int 0, .int 0, .null, .null, .null, .int 0, .null]) C 44 0 in_X10 tyX10 tyX10_ok q924 q925 q132 (rfl : gCl[8]? = _) (fun j hj => by rcases (show j = 0 ∨ j = 1 ∨ j = 2 ∨ j = 3 ∨ j = 4 ∨ j = 5 ∨ j = 6 ∨ j = 7 ∨ j = 8 by omega) with rfl | rfl | rfl | rfl | rfl | rfl | rfl | rfl | rfl <;> rfl) (by rw [hR]; exact ⟨Nat.le_of_ble_eq_true rfl, Nat.le_of_ble_eq_true rfl⟩) dX1_day_0 (by rw [hσ1]; exact fr_44) (fun q => by rw [hσ1]; exact me_44) (fun q2 => ?_)
  have hq2 : (g_ua ad 44 0 q2) 44 0 = q2 := g_ua_s
  suffices key : g_Y gCl X (gC true) (g_ua ad 44 0 q2) σ1 (1, 9) 3 [(0, .ref ((g_ua ad 44 0 q2) 0 0))] [.ref ((g_ua ad 44 0 q2) 44 0)] by rw [hq2] at key; exact key
  refine y_dup C dX1_day_3 rfl ?_
  refine y_aload_n C dX1_day_4 0 rfl rfl ?_
  refine y_aload_n C dX1_day_5 0 rfl rfl ?_
  refine gf_C_X1_102_0 C nC_0_0 dX1_day_6 ?_
  refine y_aload_n C dX1_day_9 0 rfl rfl ?_
  refine gf_C_X1_160_0 C nC_0_0 dX1_day_10 ?_
  obtain ⟨σ3, hc, h⟩ := g_bd h
  refine y_callIG C (As := [.ref ((g_ua ad 44 0 q2) 0 0), .ref ((g_ua ad 44 0 q2) 12 0), .int (σ1.1 0 0 16)]) (rest := [.ref ((g_ua ad 44 0 q2) 44 0)]) (lk_X1_366_X10_l2 C hR (by decide)) (ct_C10_init hc) rfl rfl (Nat.le_of_ble_eq_true rfl) (by rw [hR]; exact ⟨Nat.le_of_ble_eq_true rfl, Nat.le_of_ble_eq_true rfl⟩) dX1_day_13 (fun v ad9 σ9 hz => ?_) (fun E q ad9 σ9 hz => hz.elim)
  obtain ⟨e1, e2, q4, q5, q6, e3⟩ := hz
  subst e1
  rw [e2, e3]
  clear e2 e3
  show g_Y gCl X (gC true) (g_ua (g_ua (g_ua (g_ua ad 44 0 q2) 45 0 q4) 46 0 q5) 47 0 q6) σ3 (4, 189) 16 [(0, .ref ((g_ua (g_ua (g_ua (g_ua ad 44 0 q2) 45 0 q4) 46 0 q5) 47 0 q6) 0 0))] [.ref ((g_ua (g_ua (g_ua (g_ua ad 44 0 q2) 45 0 q4) 46 0 q5) 47 0 q6) 44 0)]
  refine y_astore_n (vs1 := [(1, .ref ((g_ua (g_ua (g_ua (g_ua ad 44 0 q2) 45 0 q4) 46 0 q5) 47 0 q6) 44 0)), (0, .ref ((g_ua (g_ua (g_ua (g_ua ad 44 0 q2) 45 0 q4) 46 0 q5) 47 0 q6) 0 0))]) C rfl dX1_day_16 rfl (g_lL hL rfl) rfl ?_
  refine y_aload_n C dX1_day_17 1 rfl rfl ?_
  refine y_iconst (v := (0 : Int32)) C dX1_day_18 (by decide) ?_
  obtain ⟨σ7, hσ7, h⟩ := g_lt h
  refine pf_C_X1_160_0 C nC_0_0 hσ7 dX1_day_19 ?_
  refine y_aload_n C dX1_day_22 0 rfl rfl ?_
  obtain ⟨hp, h⟩ := g_gd h
  rcases g_txE h with ⟨z9, hc, h⟩ | ⟨σ8, hc, h⟩
  · refine y_callVX C (As := []) (rest := []) (k := 44) (hu := nC_44_0) (hc := (rfl : gCl[8]? = some (RX10, TX10, 9))) (hcell := (obC_44 hp)) (lk_X1_367_X10x_l9 C hR (by decide)) (cx_C10_read hlt hc) rfl rfl (Nat.le_of_ble_eq_true rfl) (by rw [hR]; exact ⟨Nat.le_of_ble_eq_true rfl, Nat.le_of_ble_eq_true rfl⟩) dX1_day_23 (fun q => ?_)
    refine y_catchX C hT rfl (by decide) (by decide) q346 q405 ?_
    show g_Y gCl X (gC true) (g_ua (g_ua (g_ua (g_ua (g_ua ad 44 0 q2) 45 0 q4) 46 0 q5) 47 0 q6) 52 0 q) z9 (5, 196) 29 [(1, .ref ((g_ua (g_ua (g_ua (g_ua (g_ua ad 44 0 q2) 45 0 q4) 46 0 q5) 47 0 q6) 52 0 q) 44 0)), (0, .ref ((g_ua (g_ua (g_ua (g_ua (g_ua ad 44 0 q2) 45 0 q4) 46 0 q5) 47 0 q6) 52 0 q) 0 0))] [.ref ((g_ua (g_ua (g_ua (g_ua (g_ua ad 44 0 q2) 45 0 q4) 46 0 q5) 47 0 q6) 52 0 q) 52 0)]
    refine y_astore_n (vs1 := [(2, .ref ((g_ua (g_ua (g_ua (g_ua (g_ua ad 44 0 q2) 45 0 q4) 46 0 q5) 47 0 q6) 52 0 q) 52 0)), (1, .ref ((g_ua (g_ua (g_ua (g_ua (g_ua ad 44 0 q2) 45 0 q4) 46 0 q5) 47 0 q6) 52 0 q) 44 0)), (0, .ref ((g_ua (g_ua (g_ua (g_ua (g_ua ad 44 0 q2) 45 0 q4) 46 0 q5) 47 0 q6) 52 0 q) 0 0))]) C rfl dX1_day_29 rfl (g_lL hL rfl) rfl ?_
    refine y_iconst (v := (-1 : Int32)) C dX1_day_30 (by decide) ?_
    refine y_aload_n C dX1_day_31 0 rfl rfl ?_
    obtain ⟨hp, h⟩ := g_gd h
    refine gf_C_X1_187_52 C nC_52_0 hp dX1_day_32 ?_
    refine y_isub C dX1_day_35 ?_
    replace h := Option.some.inj h; subst h
    exact y_iretG C hQ ⟨rfl, rfl, ha0⟩ (by rw [hmc.1, hmc.2]; exact ⟨Nat.le_of_ble_eq_true rfl, Nat.le_of_ble_eq_true rfl⟩) dX1_day_36
  refine y_callVv C (As := []) (rest := []) (k := 44) (hu := nC_44_0) (hc := (rfl : gCl[8]? = some (RX10, TX10, 9))) (hcell := (obC_44 hp)) (lk_X1_367_X10_l9 C hR (by decide)) (ct_C10_read hlt hc) rfl rfl (Nat.le_of_ble_eq_true rfl) (by rw [hR]; exact ⟨Nat.le_of_ble_eq_true rfl, Nat.le_of_ble_eq_true rfl⟩) dX1_day_23 ?_
  refine y_goto (tgt := 37) C dX1_day_26 rfl ?_
  refine y_aload_n C dX1_day_37 1 rfl rfl ?_
  refine gf_C_X1_88_0 C nC_0_0 dX1_day_38 ?_
  refine y_aload_n C dX1_day_41 1 rfl rfl ?_
  refine gf_C_X1_84_0 C nC_0_0 dX1_day_42 ?_
  obtain ⟨σ10, hc, h⟩ := g_bd h
  refine y_callVv C (As := [.ref ((g_ua (g_ua (g_ua (g_ua ad 44 0 q2) 45 0 q4) 46 0 q5) 47 0 q6) 4 0)]) (rest := []) (k := 4) (hu := nC_4_1) (hc := (rfl : gCl[4]? = some (RX5, TX5, 6))) (hcell := obC_4) (lk_X1_298_X5_l1 C hR (by decide)) (ct_C5_be_k4_4 nC_4_1 nC_4_0 hc) rfl rfl (Nat.le_of_ble_eq_true rfl) (by rw [hR]; exact ⟨Nat.le_of_ble_eq_true rfl, Nat.le_of_ble_eq_true rfl⟩) dX1_day_45 ?_
  refine y_iconst (v := (0 : Int32)) C dX1_day_48 (by decide) ?_
  refine y_istore_n (vs1 := [(2, .int (0 : Int32)), (1, .ref ((g_ua (g_ua (g_ua (g_ua ad 44 0 q2) 45 0 q4) 46 0 q5) 47 0 q6) 44 0)), (0, .ref ((g_ua (g_ua (g_ua (g_ua ad 44 0 q2) 45 0 q4) 46 0 q5) 47 0 q6) 0 0))]) C rfl dX1_day_49 rfl (g_lL hL rfl) rfl ?_
  refine y_sub (vs2 := [(0, .ref ((g_ua (g_ua (g_ua (g_ua ad 44 0 q2) 45 0 q4) 46 0 q5) 47 0 q6) 0 0)), (1, .ref ((g_ua (g_ua (g_ua (g_ua ad 44 0 q2) 45 0 q4) 46 0 q5) 47 0 q6) 44 0)), (2, .int (0 : Int32))]) [2, 1, 0] rfl ?_
  obtain ⟨e14, he14, h⟩ := g_bd h
  refine ml_C1_day_50 C hR hL hlt hT hmc (show (g_ua (g_ua (g_ua (g_ua ad 44 0 q2) 45 0 q4) 46 0 q5) 47 0 q6) 0 0 = a0 from ha0) (σ := σ10) _ _ _ he14 ?_
  refine y_iload_n C dX1_day_89 2 rfl rfl ?_
  refine y_if_le (tgt := 101) C dX1_day_90 rfl (fun hc => ?_) (fun hc => ?_)
  · replace h := g_it h hc
    exact mj_C1_day_101 C hR hL hlt hT hmc (show (g_ua (g_ua (g_ua (g_ua ad 44 0 q2) 45 0 q4) 46 0 q5) 47 0 q6) 0 0 = a0 from ha0) h hQ
  · replace h := g_if h hc
    refine y_aload_n C dX1_day_93 0 rfl rfl ?_
    refine y_aload_n C dX1_day_94 0 rfl rfl ?_
    refine gf_C_X1_88_0 C nC_0_0 dX1_day_95 ?_
    obtain ⟨σ18, hc, h⟩ := g_bd h
    refine y_callVv C (As := [.ref ((g_ua (g_ua (g_ua (g_ua ad 44 0 q2) 45 0 q4) 46 0 q5) 47 0 q6) 4 1)]) (rest := []) (k := 0) (hu := nC_0_0) (hc := (rfl : gCl[0]? = some (RX1, TX1, 31))) (hcell := obC_0) (lk_X1_320_X1_l2 C hR (by decide)) (ct_C1_remember nC_4_1 hc) rfl rfl (Nat.le_of_ble_eq_true rfl) (by rw [hR]; exact ⟨Nat.le_of_ble_eq_true rfl, Nat.le_of_ble_eq_true rfl⟩) dX1_day_98 ?_
    exact mj_C1_day_101 C hR hL hlt hT hmc (show (g_ua (g_ua (g_ua (g_ua ad 44 0 q2) 45 0 q4) 46 0 q5) 47 0 q6) 0 0 = a0 from ha0) h hQ
theorem ct_C1_day {D : va_G} {dA : Nat → ClassId} {A : Nat → Prop} {s0 : State} {b0 : Nat} {l : Launch} (hlt : l.stackTraces = false) {ad : Nat → Nat → Nat} {σ : g_S}{r : Int32} {σ1 : g_S} (h : mF_C1_day σ = some (r, σ1)) : g_MetG gCl D dA A s0 b0 l yX1_day (wsW_ yX1_day cX1_day 3 (some .int)  [((22 : Nat), (26 : Nat), (29 : Nat), (185 : Nat))]) 310 (5, 196) (gC true) ad σ [.ref (ad 0 0)] (gC true) (fun v ad2 s2 => v = some (.int r) ∧ s2 = σ1 ∧ ad2 0 0 = (ad 0 0)) (fun _ _ _ _ => False) :=
  g_MetG.ofH pl_X1 (Nat.le_of_ble_eq_true rfl) (fun X C hQ hR hmc hms hL hnm es eb el hT => mw_C1_day C hR hL (by rw [el]; exact hlt) hT ⟨hmc, hms⟩ rfl h hQ)
theorem mw_C1_undo {X : g_F} {hid : Bool} (C : g_M gCl X cX1_undo RX1 (some .int)) (hR : g_R X = g_rm 2 0 0) (hL : g_nL X = 1) {ad : Nat → Nat → Nat} {σ : g_S} {o : (Int32 × g_S)} (h : mF_C1_undo σ = some o) (hQ : g_MQ gCl X (gC hid) ad o.2 (some (.int o.1)) = g_Q X) : g_Y gCl X (gC hid) ad σ (0, 0) 0 [(0, .ref (ad 0 0))] [] := by
  unfold mF_C1_undo at h
  refine y_aload_n C dX1_undo_0 0 rfl rfl ?_
  refine gf_C_X1_196_0 C nC_0_0 dX1_undo_1 ?_
  refine y_if_ne (tgt := 9) C dX1_undo_4 rfl (fun hc => ?_) (fun hc => ?_)
  · replace h := g_if h hc
    refine y_aload_n C dX1_undo_9 0 rfl rfl ?_
    refine y_dup C dX1_undo_10 rfl ?_
    refine gf_C_X1_196_0 C nC_0_0 dX1_undo_11 ?_
    refine y_iconst (v := (1 : Int32)) C dX1_undo_14 (by decide) ?_
    refine y_isub C dX1_undo_15 ?_
    obtain ⟨σ1, hσ1, h⟩ := g_lt h
    refine pf_C_X1_196_0 C nC_0_0 hσ1 dX1_undo_16 ?_
    refine y_aload_n C dX1_undo_19 0 rfl rfl ?_
    refine gf_C_X1_84_0 C nC_0_0 dX1_undo_20 ?_
    refine y_aload_n C dX1_undo_23 0 rfl rfl ?_
    refine gf_C_X1_94_0 C nC_0_0 dX1_undo_24 ?_
    refine y_aload_n C dX1_undo_27 0 rfl rfl ?_
    refine gf_C_X1_196_0 C nC_0_0 dX1_undo_28 ?_
    obtain ⟨hg2, h⟩ := g_gd h
    refine aa_C_10 C hg2 dX1_undo_31 ?_
    obtain ⟨hu3, h⟩ := g_gd h
    obtain ⟨σ4, hc, h⟩ := g_bd h
    refine y_callVv C (As := [.ref (ad 4 (σ1.2.2 10 0 (σ1.1 0 0 8).toNatClampNeg))]) (rest := []) (k := 4) (hu := nC_4_0) (hc := (rfl : gCl[4]? = some (RX5, TX5, 6))) (hcell := obC_4) (lk_X1_298_X5_l1 C hR (by decide)) (ct_C5_be_k4_4 nC_4_0 hu3 hc) rfl rfl (Nat.le_of_ble_eq_true rfl) ⟨Nat.zero_le _, Nat.zero_le _⟩ dX1_undo_32 ?_
    refine y_aload_n C dX1_undo_35 0 rfl rfl ?_
    refine gf_C_X1_196_0 C nC_0_0 dX1_undo_36 ?_
    replace h := Option.some.inj h; subst h
    exact y_iret C hQ ⟨Nat.zero_le _, Nat.zero_le _⟩ dX1_undo_39
  · replace h := g_it h hc
    refine y_iconst (v := (-1 : Int32)) C dX1_undo_7 (by decide) ?_
    replace h := Option.some.inj h; subst h
    exact y_iret C hQ ⟨Nat.zero_le _, Nat.zero_le _⟩ dX1_undo_8
theorem ct_C1_undo {D : va_G} {dA : Nat → ClassId} {A : Nat → Prop} {s0 : State} {b0 : Nat} {l : Launch} {hid : Bool} {ad : Nat → Nat → Nat} {σ : g_S} {r : Int32} {σ1 : g_S} (h : mF_C1_undo σ = some (r, σ1)) : g_Met gCl D dA A s0 b0 l yX1_undo cX1_undo 1 (some .int) 2 (0, 0) (gC hid) ad σ [.ref (ad 0 0)] (gC hid) ad σ1 (some (.int r)) :=
  g_Met.of pl_X1 (Nat.le_of_ble_eq_true rfl) (fun X C hQ hR _ _ hL _ es eb => mw_C1_undo C hR hL h hQ)
theorem mw_C2_all_k1 {X : g_F} {hid : Bool} (C : g_M gCl X cX2_all RX2 (some .int)) (hR : g_R X = g_rm 1 0 0) (hL : g_nL X = 1) {ad : Nat → Nat → Nat} {σ : g_S} {o : Int32} (h : mF_C2_all_k1 σ = some o) (hQ : g_MQ gCl X (gC hid) ad σ (some (.int o)) = g_Q X) : g_Y gCl X (gC hid) ad σ (0, 0) 0 [(0, .ref (ad 1 0))] [] := by
  unfold mF_C2_all_k1 at h
  refine y_aload_n C dX2_all_0 0 rfl rfl ?_
  refine gf_C_X2_3_1 C nC_1_0 dX2_all_1 ?_
  refine gf_C_X2_71_0 C nC_0_0 dX2_all_4 ?_
  refine y_aload_n C dX2_all_7 0 rfl rfl ?_
  refine gf_C_X2_3_1 C nC_1_0 dX2_all_8 ?_
  refine gf_C_X2_31_0 C nC_0_0 dX2_all_11 ?_
  refine y_imul C dX2_all_14 ?_
  replace h := Option.some.inj h; subst h
  exact y_iret C hQ ⟨Nat.zero_le _, Nat.zero_le _⟩ dX2_all_15
theorem ct_C2_all_k1 {D : va_G} {dA : Nat → ClassId} {A : Nat → Prop} {s0 : State} {b0 : Nat} {l : Launch} {hid : Bool} {ad : Nat → Nat → Nat} {σ : g_S} {r : Int32} (h : mF_C2_all_k1 σ = some r) : g_Met gCl D dA A s0 b0 l yX2_all cX2_all 1 (some .int) 1 (0, 0) (gC hid) ad σ [.ref (ad 1 0)] (gC hid) ad σ (some (.int r)) :=
  g_Met.of pl_X2 (Nat.le_of_ble_eq_true rfl) (fun X C hQ hR _ _ hL _ es eb => mw_C2_all_k1 C hR hL h hQ)
theorem ml_C2_fields_k1_4_5 {X : g_F} (C : g_M gCl X cX2_fields RX2 (some .long)) (hR : g_R X = g_rm 305 0 0) (hL : g_nL X = 6) {u0 : Nat} (hu_u0 : u0 < g_n (gC true) 4) {ad : Nat → Nat → Nat} {σ : g_S} {v2 : Int32} (n : Nat) (v : (Int64 × Int32)) (e : Int64) (h : g_lp (fun v => mB_C2_fields_k1_4_5 σ u0 v2 v.1 v.2) n v = some e) (kx : g_Y gCl X (gC true) ad σ (0, 0) 42 [(3, .long e)] []) : g_Y gCl X (gC true) ad σ (0, 0) 5 [(0, .ref (ad 1 0)), (1, .ref (ad 4 u0)), (2, .int v2), (3, .long v.1), (5, .int v.2)] [] := by
  refine g_loop (P := fun v => g_Y gCl X (gC true) ad σ (0, 0) 5 [(0, .ref (ad 1 0)), (1, .ref (ad 4 u0)), (2, .int v2), (3, .long v.1), (5, .int v.2)] []) (T := fun e => g_Y gCl X (gC true) ad σ (0, 0) 42 [(3, .long e)] []) ?_ n v e h kx
  clear h kx
  clear n v e
  intro v o h kl kx
  obtain ⟨v3, v5⟩ := v
  have h : mB_C2_fields_k1_4_5 σ u0 v2 v3 v5 = some o := h
  unfold mB_C2_fields_k1_4_5 at h
  show g_Y gCl X (gC true) ad σ (0, 0) 5 [(0, .ref (ad 1 0)), (1, .ref (ad 4 u0)), (2, .int v2), (3, .long v3), (5, .int v5)] []
  refine y_iload C dX2_fields_5 4 rfl ?_
  refine y_aload_n C dX2_fields_7 0 rfl rfl ?_
  obtain ⟨x1, hc, h⟩ := g_bd h
  refine y_callV C (As := []) (rest := [.int v5]) (k := 1) (hu := nC_1_0) (hc := (rfl : gCl[1]? = some (RX2, TX2, 1))) (hcell := obC_1) (lk_X2_63_X2_l1 C hR (by decide)) (ct_C2_all_k1 hc) rfl rfl (Nat.le_of_ble_eq_true rfl) ⟨Nat.zero_le _, Nat.zero_le _⟩ dX2_fields_8 ?_
  refine y_icmp_ge (tgt := 42) C dX2_fields_11 rfl (fun hc => ?_) (fun hc => ?_)
  · replace h := g_it h hc
    refine y_sub (vs2 := [(3, .long v3)]) [3] rfl ?_
    exact kx _ (Option.some.inj h).symm
  · replace h := g_if h hc
    refine y_lload_n C dX2_fields_14 3 rfl rfl ?_
    refine y_aload_n C dX2_fields_15 0 rfl rfl ?_
    refine y_aload_n C dX2_fields_16 1 rfl rfl ?_
    refine y_iload_n C dX2_fields_17 2 rfl rfl ?_
    refine y_iload C dX2_fields_18 4 rfl ?_
    obtain ⟨x2, hc, h⟩ := g_bd h
    refine y_callV C (As := [.ref (ad 4 u0), .int v2, .int v5]) (rest := [.long v3]) (k := 1) (hu := nC_1_0) (hc := (rfl : gCl[1]? = some (RX2, TX2, 1))) (hcell := obC_1) (lk_X2_67_X2_l304 C hR (by decide)) (ct_C2_sees_k1_4 hu_u0 hc) rfl rfl (Nat.le_of_ble_eq_true rfl) ⟨Nat.zero_le _, Nat.zero_le _⟩ dX2_fields_20 ?_
    refine y_if_eq (tgt := 33) C dX2_fields_23 rfl (fun hc => ?_) (fun hc => ?_)
    · replace h := g_it h hc
      refine y_lconst (v := (0 : Int64)) C dX2_fields_33 (by decide) ?_
      refine y_lor C dX2_fields_34 ?_
      obtain ⟨x3, hx3, h⟩ := g_lt h
      refine y_lstore_n (vs1 := [(3, .long x3), (0, .ref (ad 1 0)), (1, .ref (ad 4 u0)), (2, .int v2), (5, .int v5)]) C hx3 dX2_fields_35 rfl (g_lL hL rfl) rfl ?_
      obtain ⟨x4, hx4, h⟩ := g_lt h
      refine y_iinc (c := (1 : Int32)) (vs1 := [(5, .int x4), (3, .long x3), (0, .ref (ad 1 0)), (1, .ref (ad 4 u0)), (2, .int v2)]) C hx4 (by decide) dX2_fields_36 4 rfl (g_lL hL rfl) rfl ?_
      refine y_goto (tgt := 5) C dX2_fields_39 rfl ?_
      refine y_sub (vs2 := [(0, .ref (ad 1 0)), (1, .ref (ad 4 u0)), (2, .int v2), (3, .long x3), (5, .int x4)]) [2, 3, 4, 1, 0] rfl ?_
      exact kl _ (Option.some.inj h).symm
    · replace h := g_if h hc
      refine y_lconst (v := (1 : Int64)) C dX2_fields_26 (by decide) ?_
      refine y_iload C dX2_fields_27 4 rfl ?_
      refine y_lshl C dX2_fields_29 rfl ?_
      refine y_goto (tgt := 34) C dX2_fields_30 rfl ?_
      refine y_lor C dX2_fields_34 ?_
      obtain ⟨x5, hx5, h⟩ := g_lt h
      refine y_lstore_n (vs1 := [(3, .long x5), (0, .ref (ad 1 0)), (1, .ref (ad 4 u0)), (2, .int v2), (5, .int v5)]) C hx5 dX2_fields_35 rfl (g_lL hL rfl) rfl ?_
      obtain ⟨x6, hx6, h⟩ := g_lt h
      refine y_iinc (c := (1 : Int32)) (vs1 := [(5, .int x6), (3, .long x5), (0, .ref (ad 1 0)), (1, .ref (ad 4 u0)), (2, .int v2)]) C hx6 (by decide) dX2_fields_36 4 rfl (g_lL hL rfl) rfl ?_
      refine y_goto (tgt := 5) C dX2_fields_39 rfl ?_
      refine y_sub (vs2 := [(0, .ref (ad 1 0)), (1, .ref (ad 4 u0)), (2, .int v2), (3, .long x5), (5, .int x6)]) [2, 3, 4, 1, 0] rfl ?_
      exact kl _ (Option.some.inj h).symm
theorem mw_C2_fields_k1_4 {X : g_F} (C : g_M gCl X cX2_fields RX2 (some .long)) (hR : g_R X = g_rm 305 0 0) (hL : g_nL X = 6) {u0 : Nat} (hu_u0 : u0 < g_n (gC true) 4) {ad : Nat → Nat → Nat} {σ : g_S} {v2 : Int32} {o : Int64} (h : mF_C2_fields_k1_4 σ u0 v2 = some o) (hQ : g_MQ gCl X (gC true) ad σ (some (.long o)) = g_Q X) : g_Y gCl X (gC true) ad σ (0, 0) 0 [(0, .ref (ad 1 0)), (1, .ref (ad 4 u0)), (2, .int v2)] [] := by
  unfold mF_C2_fields_k1_4 at h
  refine y_lconst (v := (0 : Int64)) C dX2_fields_0 (by decide) ?_
  refine y_lstore_n (vs1 := [(3, .long (0 : Int64)), (0, .ref (ad 1 0)), (1, .ref (ad 4 u0)), (2, .int v2)]) C rfl dX2_fields_1 rfl (g_lL hL rfl) rfl ?_
  refine y_iconst (v := (0 : Int32)) C dX2_fields_2 (by decide) ?_
  refine y_istore (vs1 := [(5, .int (0 : Int32)), (3, .long (0 : Int64)), (0, .ref (ad 1 0)), (1, .ref (ad 4 u0)), (2, .int v2)]) C rfl dX2_fields_3 (g_lL hL rfl) rfl ?_
  refine y_sub (vs2 := [(0, .ref (ad 1 0)), (1, .ref (ad 4 u0)), (2, .int v2), (3, .long (0 : Int64)), (5, .int (0 : Int32))]) [2, 3, 4, 1, 0] rfl ?_
  obtain ⟨e7, he7, h⟩ := g_bd h
  refine ml_C2_fields_k1_4_5 C hR hL hu_u0 (σ := σ) _ _ _ he7 ?_
  refine y_lload_n C dX2_fields_42 0 rfl rfl ?_
  replace h := Option.some.inj h; subst h
  exact y_lret C hQ ⟨Nat.zero_le _, Nat.zero_le _⟩ dX2_fields_43
theorem ct_C2_fields_k1_4 {D : va_G} {dA : Nat → ClassId} {A : Nat → Prop} {s0 : State} {b0 : Nat} {l : Launch} {u0 : Nat} (hu_u0 : u0 < g_n (gC true) 4) {ad : Nat → Nat → Nat} {σ : g_S} {v2 : Int32} {r : Int64} (h : mF_C2_fields_k1_4 σ u0 v2 = some r) : g_Met gCl D dA A s0 b0 l yX2_fields cX2_fields 6 (some .long) 305 (0, 0) (gC true) ad σ [.ref (ad 1 0), .ref (ad 4 u0), .int v2] (gC true) ad σ (some (.long r)) :=
  g_Met.of pl_X2 (Nat.le_of_ble_eq_true rfl) (fun X C hQ hR _ _ hL _ es eb => mw_C2_fields_k1_4 C hR hL hu_u0 h hQ)
theorem mw_C1_sees {X : g_F} (C : g_M gCl X cX1_sees RX1 (some .long)) (hR : g_R X = g_rm 306 0 0) (hL : g_nL X = 4) {ad : Nat → Nat → Nat} {σ : g_S} {v1 : Int32} {o : (Int64 × g_S)} (h : mF_C1_sees σ v1 = some o) (hQ : g_MQ gCl X (gC true) ad o.2 (some (.long o.1)) = g_Q X) : g_Y gCl X (gC true) ad σ (0, 0) 0 [(0, .ref (ad 0 0)), (1, .int v1)] [] := by
  unfold mF_C1_sees at h
  refine y_aload_n C dX1_sees_0 0 rfl rfl ?_
  refine y_iload_n C dX1_sees_1 1 rfl rfl ?_
  obtain ⟨x1, hc, h⟩ := g_bd h
  refine y_callV C (As := [.int v1]) (rest := []) (k := 0) (hu := nC_0_0) (hc := (rfl : gCl[0]? = some (RX1, TX1, 31))) (hcell := obC_0) (lk_X1_250_X1_l2 C hR (by decide)) (ct_C1_isMan hc) rfl rfl (Nat.le_of_ble_eq_true rfl) ⟨Nat.zero_le _, Nat.zero_le _⟩ dX1_sees_2 ?_
  refine y_if_ne (tgt := 12) C dX1_sees_5 rfl (fun hc => ?_) (fun hc => ?_)
  · replace h := g_if h hc
    refine y_aload_n C dX1_sees_12 0 rfl rfl ?_
    refine gf_C_X1_62_0 C nC_0_0 dX1_sees_13 ?_
    refine y_aload_n C dX1_sees_16 0 rfl rfl ?_
    refine gf_C_X1_84_0 C nC_0_0 dX1_sees_17 ?_
    refine y_iload_n C dX1_sees_20 1 rfl rfl ?_
    obtain ⟨x2, hc, h⟩ := g_bd h
    refine y_callV C (As := [.ref (ad 4 0), .int v1]) (rest := []) (k := 1) (hu := nC_1_0) (hc := (rfl : gCl[1]? = some (RX2, TX2, 1))) (hcell := obC_1) (lk_X1_386_X2_l305 C hR (by decide)) (ct_C2_fields_k1_4 nC_4_0 hc) rfl rfl (Nat.le_of_ble_eq_true rfl) ⟨Nat.zero_le _, Nat.zero_le _⟩ dX1_sees_21 ?_
    refine y_lstore_n (vs1 := [(2, .long x2), (0, .ref (ad 0 0)), (1, .int v1)]) C rfl dX1_sees_24 rfl (g_lL hL rfl) rfl ?_
    refine y_aload_n C dX1_sees_25 1 rfl rfl ?_
    refine y_iconst (v := (0 : Int32)) C dX1_sees_26 (by decide) ?_
    obtain ⟨σ3, hσ3, h⟩ := g_lt h
    refine pf_C_X1_139_0 C nC_0_0 hσ3 dX1_sees_27 ?_
    refine y_aload_n C dX1_sees_30 1 rfl rfl ?_
    refine y_lload_n C dX1_sees_31 0 rfl rfl ?_
    obtain ⟨x4, hc, h⟩ := g_bd h
    refine y_callS C (As := [.long x2]) (rest := [.ref (ad 0 0)]) (lk_X1_389_l1 C hR (by decide)) (ct_J12_bitCount hc) rfl rfl (Nat.le_of_ble_eq_true rfl) ⟨Nat.zero_le _, Nat.zero_le _⟩ dX1_sees_32 ?_
    refine y_i2l C dX1_sees_35 ?_
    obtain ⟨σ5, hc, h⟩ := g_bd h
    refine y_callVv C (As := [.long (x4.toInt64)]) (rest := []) (k := 0) (hu := nC_0_0) (hc := (rfl : gCl[0]? = some (RX1, TX1, 31))) (hcell := obC_0) (lk_X1_330_X1_l1 C hR (by decide)) (ct_C1_tell_2 hc) rfl rfl (Nat.le_of_ble_eq_true rfl) ⟨Nat.zero_le _, Nat.zero_le _⟩ dX1_sees_36 ?_
    refine y_aload_n C dX1_sees_39 1 rfl rfl ?_
    refine y_aload_n C dX1_sees_40 1 rfl rfl ?_
    refine y_aload_n C dX1_sees_41 1 rfl rfl ?_
    refine gf_C_X1_84_0 C nC_0_0 dX1_sees_42 ?_
    refine y_lload_n C dX1_sees_45 0 rfl rfl ?_
    obtain ⟨x6, hc, h⟩ := g_bd h
    refine y_callV C (As := [.ref (ad 4 0), .long x2]) (rest := [.ref (ad 0 0)]) (k := 0) (hu := nC_0_0) (hc := (rfl : gCl[0]? = some (RX1, TX1, 31))) (hcell := obC_0) (lk_X1_394_X1_l2 C hR (by decide)) (ct_C1_peopleOn nC_4_0 hc) rfl rfl (Nat.le_of_ble_eq_true rfl) ⟨Nat.zero_le _, Nat.zero_le _⟩ dX1_sees_46 ?_
    refine y_iconst (v := (1 : Int32)) C dX1_sees_49 (by decide) ?_
    refine y_iload_n C dX1_sees_50 2 rfl rfl ?_
    refine y_ishl C dX1_sees_51 ?_
    refine y_iconst (v := (-1 : Int32)) C dX1_sees_52 (by decide) ?_
    refine y_ixor C dX1_sees_53 ?_
    refine y_iand C dX1_sees_54 ?_
    refine y_i2l C dX1_sees_55 ?_
    obtain ⟨σ7, hc, h⟩ := g_bd h
    refine y_callVv C (As := [.long ((x6 &&& (((1 : Int32) <<< (v1 &&& 31)) ^^^ (-1 : Int32))).toInt64)]) (rest := []) (k := 0) (hu := nC_0_0) (hc := (rfl : gCl[0]? = some (RX1, TX1, 31))) (hcell := obC_0) (lk_X1_330_X1_l1 C hR (by decide)) (ct_C1_tell_2 hc) rfl rfl (Nat.le_of_ble_eq_true rfl) ⟨Nat.zero_le _, Nat.zero_le _⟩ dX1_sees_56 ?_
    refine y_lload_n C dX1_sees_59 0 rfl rfl ?_
    replace h := Option.some.inj h; subst h
    exact y_lret C hQ ⟨Nat.zero_le _, Nat.zero_le _⟩ dX1_sees_60
  · replace h := g_it h hc
    refine y_ldc2 (v := (-1 : Int64)) C q990 dX1_sees_8 ?_
    replace h := Option.some.inj h; subst h
    exact y_lret C hQ ⟨Nat.zero_le _, Nat.zero_le _⟩ dX1_sees_11
theorem ct_C1_sees {D : va_G} {dA : Nat → ClassId} {A : Nat → Prop} {s0 : State} {b0 : Nat} {l : Launch} {ad : Nat → Nat → Nat} {σ : g_S} {v1 : Int32} {r : Int64} {σ1 : g_S} (h : mF_C1_sees σ v1 = some (r, σ1)) : g_Met gCl D dA A s0 b0 l yX1_sees cX1_sees 4 (some .long) 306 (0, 0) (gC true) ad σ [.ref (ad 0 0), .int v1] (gC true) ad σ1 (some (.long r)) :=
  g_Met.of pl_X1 (Nat.le_of_ble_eq_true rfl) (fun X C hQ hR _ _ hL _ es eb => mw_C1_sees C hR hL h hQ)
theorem ml_C1_seersOf_5 {X : g_F} (C : g_M gCl X cX1_seersOf RX1 (some .int)) (hR : g_R X = g_rm 305 0 0) (hL : g_nL X = 5) {u0 : Nat} (hu_u0 : u0 < g_n (gC true) 4) {ad : Nat → Nat → Nat} {σ : g_S} {v2 : Int32} (n : Nat) (v : (Int32 × Int32)) (e : Int32) (h : g_lp (fun v => mB_C1_seersOf_5 σ u0 v2 v.1 v.2) n v = some e) (kx : g_Y gCl X (gC true) ad σ (0, 0) 45 [(3, .int e)] []) : g_Y gCl X (gC true) ad σ (0, 0) 5 [(0, .ref (ad 0 0)), (1, .ref (ad 4 u0)), (2, .int v2), (3, .int v.1), (4, .int v.2)] [] := by
  refine g_loop (P := fun v => g_Y gCl X (gC true) ad σ (0, 0) 5 [(0, .ref (ad 0 0)), (1, .ref (ad 4 u0)), (2, .int v2), (3, .int v.1), (4, .int v.2)] []) (T := fun e => g_Y gCl X (gC true) ad σ (0, 0) 45 [(3, .int e)] []) ?_ n v e h kx
  clear h kx
  clear n v e
  intro v o h kl kx
  obtain ⟨v3, v4⟩ := v
  have h : mB_C1_seersOf_5 σ u0 v2 v3 v4 = some o := h
  unfold mB_C1_seersOf_5 at h
  show g_Y gCl X (gC true) ad σ (0, 0) 5 [(0, .ref (ad 0 0)), (1, .ref (ad 4 u0)), (2, .int v2), (3, .int v3), (4, .int v4)] []
  refine y_iload C dX1_seersOf_5 4 rfl ?_
  refine y_aload_n C dX1_seersOf_7 0 rfl rfl ?_
  refine gf_C_X1_150_0 C nC_0_0 dX1_seersOf_8 ?_
  refine y_icmp_ge (tgt := 45) C dX1_seersOf_11 rfl (fun hc => ?_) (fun hc => ?_)
  · replace h := g_it h hc
    refine y_sub (vs2 := [(3, .int v3)]) [3] rfl ?_
    exact kx _ (Option.some.inj h).symm
  · replace h := g_if h hc
    refine y_iload_n C dX1_seersOf_14 3 rfl rfl ?_
    refine y_aload_n C dX1_seersOf_15 0 rfl rfl ?_
    refine gf_C_X1_62_0 C nC_0_0 dX1_seersOf_16 ?_
    refine y_aload_n C dX1_seersOf_19 1 rfl rfl ?_
    refine y_iload C dX1_seersOf_20 4 rfl ?_
    refine y_iload_n C dX1_seersOf_22 2 rfl rfl ?_
    obtain ⟨x1, hc, h⟩ := g_bd h
    refine y_callV C (As := [.ref (ad 4 u0), .int v4, .int v2]) (rest := [.int v3]) (k := 1) (hu := nC_1_0) (hc := (rfl : gCl[1]? = some (RX2, TX2, 1))) (hcell := obC_1) (lk_X1_246_X2_l304 C hR (by decide)) (ct_C2_sees_k1_4 hu_u0 hc) rfl rfl (Nat.le_of_ble_eq_true rfl) ⟨Nat.zero_le _, Nat.zero_le _⟩ dX1_seersOf_23 ?_
    refine y_if_eq (tgt := 36) C dX1_seersOf_26 rfl (fun hc => ?_) (fun hc => ?_)
    · replace h := g_it h hc
      refine y_iconst (v := (0 : Int32)) C dX1_seersOf_36 (by decide) ?_
      refine y_ior C dX1_seersOf_37 ?_
      obtain ⟨x2, hx2, h⟩ := g_lt h
      refine y_istore_n (vs1 := [(3, .int x2), (0, .ref (ad 0 0)), (1, .ref (ad 4 u0)), (2, .int v2), (4, .int v4)]) C hx2 dX1_seersOf_38 rfl (g_lL hL rfl) rfl ?_
      obtain ⟨x3, hx3, h⟩ := g_lt h
      refine y_iinc (c := (1 : Int32)) (vs1 := [(4, .int x3), (3, .int x2), (0, .ref (ad 0 0)), (1, .ref (ad 4 u0)), (2, .int v2)]) C hx3 (by decide) dX1_seersOf_39 4 rfl (g_lL hL rfl) rfl ?_
      refine y_goto (tgt := 5) C dX1_seersOf_42 rfl ?_
      refine y_sub (vs2 := [(0, .ref (ad 0 0)), (1, .ref (ad 4 u0)), (2, .int v2), (3, .int x2), (4, .int x3)]) [2, 3, 4, 1, 0] rfl ?_
      exact kl _ (Option.some.inj h).symm
    · replace h := g_if h hc
      refine y_iconst (v := (1 : Int32)) C dX1_seersOf_29 (by decide) ?_
      refine y_iload C dX1_seersOf_30 4 rfl ?_
      refine y_ishl C dX1_seersOf_32 ?_
      refine y_goto (tgt := 37) C dX1_seersOf_33 rfl ?_
      refine y_ior C dX1_seersOf_37 ?_
      obtain ⟨x4, hx4, h⟩ := g_lt h
      refine y_istore_n (vs1 := [(3, .int x4), (0, .ref (ad 0 0)), (1, .ref (ad 4 u0)), (2, .int v2), (4, .int v4)]) C hx4 dX1_seersOf_38 rfl (g_lL hL rfl) rfl ?_
      obtain ⟨x5, hx5, h⟩ := g_lt h
      refine y_iinc (c := (1 : Int32)) (vs1 := [(4, .int x5), (3, .int x4), (0, .ref (ad 0 0)), (1, .ref (ad 4 u0)), (2, .int v2)]) C hx5 (by decide) dX1_seersOf_39 4 rfl (g_lL hL rfl) rfl ?_
      refine y_goto (tgt := 5) C dX1_seersOf_42 rfl ?_
      refine y_sub (vs2 := [(0, .ref (ad 0 0)), (1, .ref (ad 4 u0)), (2, .int v2), (3, .int x4), (4, .int x5)]) [2, 3, 4, 1, 0] rfl ?_
      exact kl _ (Option.some.inj h).symm
theorem mw_C1_seersOf {X : g_F} (C : g_M gCl X cX1_seersOf RX1 (some .int)) (hR : g_R X = g_rm 305 0 0) (hL : g_nL X = 5) {u0 : Nat} (hu_u0 : u0 < g_n (gC true) 4) {ad : Nat → Nat → Nat} {σ : g_S} {v2 : Int32} {o : Int32} (h : mF_C1_seersOf σ u0 v2 = some o) (hQ : g_MQ gCl X (gC true) ad σ (some (.int o)) = g_Q X) : g_Y gCl X (gC true) ad σ (0, 0) 0 [(0, .ref (ad 0 0)), (1, .ref (ad 4 u0)), (2, .int v2)] [] := by
  unfold mF_C1_seersOf at h
  refine y_iconst (v := (0 : Int32)) C dX1_seersOf_0 (by decide) ?_
  refine y_istore_n (vs1 := [(3, .int (0 : Int32)), (0, .ref (ad 0 0)), (1, .ref (ad 4 u0)), (2, .int v2)]) C rfl dX1_seersOf_1 rfl (g_lL hL rfl) rfl ?_
  refine y_iconst (v := (0 : Int32)) C dX1_seersOf_2 (by decide) ?_
  refine y_istore (vs1 := [(4, .int (0 : Int32)), (3, .int (0 : Int32)), (0, .ref (ad 0 0)), (1, .ref (ad 4 u0)), (2, .int v2)]) C rfl dX1_seersOf_3 (g_lL hL rfl) rfl ?_
  refine y_sub (vs2 := [(0, .ref (ad 0 0)), (1, .ref (ad 4 u0)), (2, .int v2), (3, .int (0 : Int32)), (4, .int (0 : Int32))]) [2, 3, 4, 1, 0] rfl ?_
  obtain ⟨e6, he6, h⟩ := g_bd h
  refine ml_C1_seersOf_5 C hR hL hu_u0 (σ := σ) _ _ _ he6 ?_
  refine y_iload_n C dX1_seersOf_45 0 rfl rfl ?_
  replace h := Option.some.inj h; subst h
  exact y_iret C hQ ⟨Nat.zero_le _, Nat.zero_le _⟩ dX1_seersOf_46
theorem ct_C1_seersOf {D : va_G} {dA : Nat → ClassId} {A : Nat → Prop} {s0 : State} {b0 : Nat} {l : Launch} {u0 : Nat} (hu_u0 : u0 < g_n (gC true) 4) {ad : Nat → Nat → Nat} {σ : g_S} {v2 : Int32} {r : Int32} (h : mF_C1_seersOf σ u0 v2 = some r) : g_Met gCl D dA A s0 b0 l yX1_seersOf cX1_seersOf 5 (some .int) 305 (0, 0) (gC true) ad σ [.ref (ad 0 0), .ref (ad 4 u0), .int v2] (gC true) ad σ (some (.int r)) :=
  g_Met.of pl_X1 (Nat.le_of_ble_eq_true rfl) (fun X C hQ hR _ _ hL _ es eb => mw_C1_seersOf C hR hL hu_u0 h hQ)
theorem ml_C1_thingsOn_5 {X : g_F} {hid : Bool} (C : g_M gCl X cX1_thingsOn RX1 (some .int)) (hR : g_R X = g_rm 2 0 0) (hL : g_nL X = 5) {ad : Nat → Nat → Nat} {σ : g_S} {v1 : Int64} (n : Nat) (v : (Int32 × Int32)) (e : Int32) (h : g_lp (fun v => mB_C1_thingsOn_5 σ v1 v.1 v.2) n v = some e) (kx : g_Y gCl X (gC hid) ad σ (0, 0) 48 [(3, .int e)] []) : g_Y gCl X (gC hid) ad σ (0, 0) 5 [(0, .ref (ad 0 0)), (1, .long v1), (3, .int v.1), (4, .int v.2)] [] := by
  refine g_loop (P := fun v => g_Y gCl X (gC hid) ad σ (0, 0) 5 [(0, .ref (ad 0 0)), (1, .long v1), (3, .int v.1), (4, .int v.2)] []) (T := fun e => g_Y gCl X (gC hid) ad σ (0, 0) 48 [(3, .int e)] []) ?_ n v e h kx
  clear h kx
  clear n v e
  intro v o h kl kx
  obtain ⟨v3, v4⟩ := v
  have h : mB_C1_thingsOn_5 σ v1 v3 v4 = some o := h
  unfold mB_C1_thingsOn_5 at h
  show g_Y gCl X (gC hid) ad σ (0, 0) 5 [(0, .ref (ad 0 0)), (1, .long v1), (3, .int v3), (4, .int v4)] []
  refine y_iload C dX1_thingsOn_5 3 rfl ?_
  refine y_aload_n C dX1_thingsOn_7 0 rfl rfl ?_
  refine gf_C_X1_153_0 C nC_0_0 dX1_thingsOn_8 ?_
  refine y_icmp_ge (tgt := 48) C dX1_thingsOn_11 rfl (fun hc => ?_) (fun hc => ?_)
  · replace h := g_it h hc
    refine y_sub (vs2 := [(3, .int v3)]) [2] rfl ?_
    exact kx _ (Option.some.inj h).symm
  · replace h := g_if h hc
    refine y_iload_n C dX1_thingsOn_14 2 rfl rfl ?_
    refine y_lload_n C dX1_thingsOn_15 1 rfl rfl ?_
    refine y_aload_n C dX1_thingsOn_16 0 rfl rfl ?_
    refine gf_C_X1_84_0 C nC_0_0 dX1_thingsOn_17 ?_
    refine gf_C_X1_228_4 C nC_4_0 dX1_thingsOn_20 ?_
    refine y_iload C dX1_thingsOn_23 3 rfl ?_
    obtain ⟨hg, h⟩ := g_gd h
    refine al_C_9 C nC_9_0 hg dX1_thingsOn_25 ?_
    obtain ⟨x1, hc, h⟩ := g_bd h
    refine y_callS C (As := [.long v1, .int (σ.1 9 0 v4.toNatClampNeg)]) (rest := [.int v3]) (lk_X1_26_l1 C hR (by decide)) (ct_C1_has hc) rfl rfl (Nat.le_of_ble_eq_true rfl) ⟨Nat.zero_le _, Nat.zero_le _⟩ dX1_thingsOn_26 ?_
    refine y_if_eq (tgt := 39) C dX1_thingsOn_29 rfl (fun hc => ?_) (fun hc => ?_)
    · replace h := g_it h hc
      refine y_iconst (v := (0 : Int32)) C dX1_thingsOn_39 (by decide) ?_
      refine y_ior C dX1_thingsOn_40 ?_
      obtain ⟨x2, hx2, h⟩ := g_lt h
      refine y_istore_n (vs1 := [(3, .int x2), (0, .ref (ad 0 0)), (1, .long v1), (4, .int v4)]) C hx2 dX1_thingsOn_41 rfl (g_lL hL rfl) rfl ?_
      obtain ⟨x3, hx3, h⟩ := g_lt h
      refine y_iinc (c := (1 : Int32)) (vs1 := [(4, .int x3), (3, .int x2), (0, .ref (ad 0 0)), (1, .long v1)]) C hx3 (by decide) dX1_thingsOn_42 3 rfl (g_lL hL rfl) rfl ?_
      refine y_goto (tgt := 5) C dX1_thingsOn_45 rfl ?_
      refine y_sub (vs2 := [(0, .ref (ad 0 0)), (1, .long v1), (3, .int x2), (4, .int x3)]) [2, 3, 1, 0] rfl ?_
      exact kl _ (Option.some.inj h).symm
    · replace h := g_if h hc
      refine y_iconst (v := (1 : Int32)) C dX1_thingsOn_32 (by decide) ?_
      refine y_iload C dX1_thingsOn_33 3 rfl ?_
      refine y_ishl C dX1_thingsOn_35 ?_
      refine y_goto (tgt := 40) C dX1_thingsOn_36 rfl ?_
      refine y_ior C dX1_thingsOn_40 ?_
      obtain ⟨x4, hx4, h⟩ := g_lt h
      refine y_istore_n (vs1 := [(3, .int x4), (0, .ref (ad 0 0)), (1, .long v1), (4, .int v4)]) C hx4 dX1_thingsOn_41 rfl (g_lL hL rfl) rfl ?_
      obtain ⟨x5, hx5, h⟩ := g_lt h
      refine y_iinc (c := (1 : Int32)) (vs1 := [(4, .int x5), (3, .int x4), (0, .ref (ad 0 0)), (1, .long v1)]) C hx5 (by decide) dX1_thingsOn_42 3 rfl (g_lL hL rfl) rfl ?_
      refine y_goto (tgt := 5) C dX1_thingsOn_45 rfl ?_
      refine y_sub (vs2 := [(0, .ref (ad 0 0)), (1, .long v1), (3, .int x4), (4, .int x5)]) [2, 3, 1, 0] rfl ?_
      exact kl _ (Option.some.inj h).symm
theorem mw_C1_thingsOn {X : g_F} {hid : Bool} (C : g_M gCl X cX1_thingsOn RX1 (some .int)) (hR : g_R X = g_rm 2 0 0) (hL : g_nL X = 5) {ad : Nat → Nat → Nat} {σ : g_S} {v1 : Int64} {o : Int32} (h : mF_C1_thingsOn σ v1 = some o) (hQ : g_MQ gCl X (gC hid) ad σ (some (.int o)) = g_Q X) : g_Y gCl X (gC hid) ad σ (0, 0) 0 [(0, .ref (ad 0 0)), (1, .long v1)] [] := by
  unfold mF_C1_thingsOn at h
  refine y_iconst (v := (0 : Int32)) C dX1_thingsOn_0 (by decide) ?_
  refine y_istore_n (vs1 := [(3, .int (0 : Int32)), (0, .ref (ad 0 0)), (1, .long v1)]) C rfl dX1_thingsOn_1 rfl (g_lL hL rfl) rfl ?_
  refine y_iconst (v := (0 : Int32)) C dX1_thingsOn_2 (by decide) ?_
  refine y_istore (vs1 := [(4, .int (0 : Int32)), (3, .int (0 : Int32)), (0, .ref (ad 0 0)), (1, .long v1)]) C rfl dX1_thingsOn_3 (g_lL hL rfl) rfl ?_
  refine y_sub (vs2 := [(0, .ref (ad 0 0)), (1, .long v1), (3, .int (0 : Int32)), (4, .int (0 : Int32))]) [2, 3, 1, 0] rfl ?_
  obtain ⟨e6, he6, h⟩ := g_bd h
  refine ml_C1_thingsOn_5 C hR hL (σ := σ) _ _ _ he6 ?_
  refine y_iload_n C dX1_thingsOn_48 0 rfl rfl ?_
  replace h := Option.some.inj h; subst h
  exact y_iret C hQ ⟨Nat.zero_le _, Nat.zero_le _⟩ dX1_thingsOn_49
theorem ct_C1_thingsOn {D : va_G} {dA : Nat → ClassId} {A : Nat → Prop} {s0 : State} {b0 : Nat} {l : Launch} {hid : Bool} {ad : Nat → Nat → Nat} {σ : g_S} {v1 : Int64} {r : Int32} (h : mF_C1_thingsOn σ v1 = some r) : g_Met gCl D dA A s0 b0 l yX1_thingsOn cX1_thingsOn 5 (some .int) 2 (0, 0) (gC hid) ad σ [.ref (ad 0 0), .long v1] (gC hid) ad σ (some (.int r)) :=
  g_Met.of pl_X1 (Nat.le_of_ble_eq_true rfl) (fun X C hQ hR _ _ hL _ es eb => mw_C1_thingsOn C hR hL h hQ)
theorem mw_C1_seers {X : g_F} (C : g_M gCl X cX1_seers RX1 (some .int)) (hR : g_R X = g_rm 306 0 0) (hL : g_nL X = 3) {ad : Nat → Nat → Nat} {σ : g_S} {v1 : Int32} {o : (Int32 × g_S)} (h : mF_C1_seers σ v1 = some o) (hQ : g_MQ gCl X (gC true) ad o.2 (some (.int o.1)) = g_Q X) : g_Y gCl X (gC true) ad σ (0, 0) 0 [(0, .ref (ad 0 0)), (1, .int v1)] [] := by
  unfold mF_C1_seers at h
  refine y_aload_n C dX1_seers_0 0 rfl rfl ?_
  refine y_iload_n C dX1_seers_1 1 rfl rfl ?_
  obtain ⟨x1, hc, h⟩ := g_bd h
  refine y_callV C (As := [.int v1]) (rest := []) (k := 0) (hu := nC_0_0) (hc := (rfl : gCl[0]? = some (RX1, TX1, 31))) (hcell := obC_0) (lk_X1_358_X1_l2 C hR (by decide)) (ct_C1_isField hc) rfl rfl (Nat.le_of_ble_eq_true rfl) ⟨Nat.zero_le _, Nat.zero_le _⟩ dX1_seers_2 ?_
  refine y_if_ne (tgt := 10) C dX1_seers_5 rfl (fun hc => ?_) (fun hc => ?_)
  · replace h := g_if h hc
    refine y_aload_n C dX1_seers_10 0 rfl rfl ?_
    refine y_aload_n C dX1_seers_11 0 rfl rfl ?_
    refine gf_C_X1_84_0 C nC_0_0 dX1_seers_12 ?_
    refine y_iload_n C dX1_seers_15 1 rfl rfl ?_
    obtain ⟨x2, hc, h⟩ := g_bd h
    refine y_callV C (As := [.ref (ad 4 0), .int v1]) (rest := []) (k := 0) (hu := nC_0_0) (hc := (rfl : gCl[0]? = some (RX1, TX1, 31))) (hcell := obC_0) (lk_X1_270_X1_l305 C hR (by decide)) (ct_C1_seersOf nC_4_0 hc) rfl rfl (Nat.le_of_ble_eq_true rfl) ⟨Nat.zero_le _, Nat.zero_le _⟩ dX1_seers_16 ?_
    refine y_istore_n (vs1 := [(2, .int x2), (0, .ref (ad 0 0)), (1, .int v1)]) C rfl dX1_seers_19 rfl (g_lL hL rfl) rfl ?_
    refine y_aload_n C dX1_seers_20 1 rfl rfl ?_
    refine y_iconst (v := (0 : Int32)) C dX1_seers_21 (by decide) ?_
    obtain ⟨σ3, hσ3, h⟩ := g_lt h
    refine pf_C_X1_139_0 C nC_0_0 hσ3 dX1_seers_22 ?_
    refine y_aload_n C dX1_seers_25 1 rfl rfl ?_
    refine y_iload_n C dX1_seers_26 0 rfl rfl ?_
    obtain ⟨x4, hc, h⟩ := g_bd h
    refine y_callS C (As := [.int x2]) (rest := [.ref (ad 0 0)]) (lk_X1_315_l1 C hR (by decide)) (ct_J8_bitCount hc) rfl rfl (Nat.le_of_ble_eq_true rfl) ⟨Nat.zero_le _, Nat.zero_le _⟩ dX1_seers_27 ?_
    refine y_i2l C dX1_seers_30 ?_
    obtain ⟨σ5, hc, h⟩ := g_bd h
    refine y_callVv C (As := [.long (x4.toInt64)]) (rest := []) (k := 0) (hu := nC_0_0) (hc := (rfl : gCl[0]? = some (RX1, TX1, 31))) (hcell := obC_0) (lk_X1_330_X1_l1 C hR (by decide)) (ct_C1_tell_2 hc) rfl rfl (Nat.le_of_ble_eq_true rfl) ⟨Nat.zero_le _, Nat.zero_le _⟩ dX1_seers_31 ?_
    refine y_aload_n C dX1_seers_34 1 rfl rfl ?_
    refine y_aload_n C dX1_seers_35 1 rfl rfl ?_
    refine y_lconst (v := (1 : Int64)) C dX1_seers_36 (by decide) ?_
    refine y_iload_n C dX1_seers_37 2 rfl rfl ?_
    refine y_lshl C dX1_seers_38 rfl ?_
    obtain ⟨x6, hc, h⟩ := g_bd h
    refine y_callV C (As := [.long ((1 : Int64) <<< (v1.toInt64 &&& 63))]) (rest := [.ref (ad 0 0)]) (k := 0) (hu := nC_0_0) (hc := (rfl : gCl[0]? = some (RX1, TX1, 31))) (hcell := obC_0) (lk_X1_398_X1_l2 C hR (by decide)) (ct_C1_thingsOn hc) rfl rfl (Nat.le_of_ble_eq_true rfl) ⟨Nat.zero_le _, Nat.zero_le _⟩ dX1_seers_39 ?_
    refine y_i2l C dX1_seers_42 ?_
    obtain ⟨σ7, hc, h⟩ := g_bd h
    refine y_callVv C (As := [.long (x6.toInt64)]) (rest := []) (k := 0) (hu := nC_0_0) (hc := (rfl : gCl[0]? = some (RX1, TX1, 31))) (hcell := obC_0) (lk_X1_330_X1_l1 C hR (by decide)) (ct_C1_tell_2 hc) rfl rfl (Nat.le_of_ble_eq_true rfl) ⟨Nat.zero_le _, Nat.zero_le _⟩ dX1_seers_43 ?_
    refine y_iload_n C dX1_seers_46 0 rfl rfl ?_
    replace h := Option.some.inj h; subst h
    exact y_iret C hQ ⟨Nat.zero_le _, Nat.zero_le _⟩ dX1_seers_47
  · replace h := g_it h hc
    refine y_iconst (v := (-1 : Int32)) C dX1_seers_8 (by decide) ?_
    replace h := Option.some.inj h; subst h
    exact y_iret C hQ ⟨Nat.zero_le _, Nat.zero_le _⟩ dX1_seers_9
theorem ct_C1_seers {D : va_G} {dA : Nat → ClassId} {A : Nat → Prop} {s0 : State} {b0 : Nat} {l : Launch} {ad : Nat → Nat → Nat} {σ : g_S} {v1 : Int32} {r : Int32} {σ1 : g_S} (h : mF_C1_seers σ v1 = some (r, σ1)) : g_Met gCl D dA A s0 b0 l yX1_seers cX1_seers 3 (some .int) 306 (0, 0) (gC true) ad σ [.ref (ad 0 0), .int v1] (gC true) ad σ1 (some (.int r)) :=
  g_Met.of pl_X1 (Nat.le_of_ble_eq_true rfl) (fun X C hQ hR _ _ hL _ es eb => mw_C1_seers C hR hL h hQ)
theorem mw_C1_open {X : g_F} {hid : Bool} (C : g_M gCl X cX1_open RX1 (some .long)) (hR : g_R X = g_rm 2 0 0) (hL : g_nL X = 1) {ad : Nat → Nat → Nat} {σ : g_S} {o : Int64} (h : mF_C1_open σ = some o) (hQ : g_MQ gCl X (gC hid) ad σ (some (.long o)) = g_Q X) : g_Y gCl X (gC hid) ad σ (0, 0) 0 [(0, .ref (ad 0 0))] [] := by
  unfold mF_C1_open at h
  refine y_lconst (v := (1 : Int64)) C dX1_open_0 (by decide) ?_
  refine y_aload_n C dX1_open_1 0 rfl rfl ?_
  obtain ⟨x1, hc, h⟩ := g_bd h
  refine y_callV C (As := []) (rest := [.long (1 : Int64)]) (k := 0) (hu := nC_0_0) (hc := (rfl : gCl[0]? = some (RX1, TX1, 31))) (hcell := obC_0) (lk_X1_142_X1_l1 C hR (by decide)) (ct_C1_fields hc) rfl rfl (Nat.le_of_ble_eq_true rfl) ⟨Nat.zero_le _, Nat.zero_le _⟩ dX1_open_2 ?_
  refine y_lshl C dX1_open_5 rfl ?_
  refine y_lconst (v := (1 : Int64)) C dX1_open_6 (by decide) ?_
  refine y_lsub C dX1_open_7 ?_
  refine y_aload_n C dX1_open_8 0 rfl rfl ?_
  refine gf_C_X1_22_0 C nC_0_0 dX1_open_9 ?_
  refine y_ldc2 (v := (-1 : Int64)) C q990 dX1_open_12 ?_
  refine y_lxor C dX1_open_15 ?_
  refine y_land C dX1_open_16 ?_
  replace h := Option.some.inj h; subst h
  exact y_lret C hQ ⟨Nat.zero_le _, Nat.zero_le _⟩ dX1_open_17
theorem ct_C1_open {D : va_G} {dA : Nat → ClassId} {A : Nat → Prop} {s0 : State} {b0 : Nat} {l : Launch} {hid : Bool} {ad : Nat → Nat → Nat} {σ : g_S} {r : Int64} (h : mF_C1_open σ = some r) : g_Met gCl D dA A s0 b0 l yX1_open cX1_open 1 (some .long) 2 (0, 0) (gC hid) ad σ [.ref (ad 0 0)] (gC hid) ad σ (some (.long r)) :=
  g_Met.of pl_X1 (Nat.le_of_ble_eq_true rfl) (fun X C hQ hR _ _ hL _ es eb => mw_C1_open C hR hL h hQ)
theorem ml_C1_seen_5 {X : g_F} (C : g_M gCl X cX1_seen RX1 (some .long)) (hR : g_R X = g_rm 306 0 0) (hL : g_nL X = 5) {u0 : Nat} (hu_u0 : u0 < g_n (gC true) 4) {ad : Nat → Nat → Nat} {σ : g_S} (n : Nat) (v : (Int64 × Int32)) (e : Int64) (h : g_lp (fun v => mB_C1_seen_5 σ u0 v.1 v.2) n v = some e) (kx : g_Y gCl X (gC true) ad σ (0, 0) 33 [(2, .long e)] []) : g_Y gCl X (gC true) ad σ (0, 0) 5 [(0, .ref (ad 0 0)), (1, .ref (ad 4 u0)), (2, .long v.1), (4, .int v.2)] [] := by
  refine g_loop (P := fun v => g_Y gCl X (gC true) ad σ (0, 0) 5 [(0, .ref (ad 0 0)), (1, .ref (ad 4 u0)), (2, .long v.1), (4, .int v.2)] []) (T := fun e => g_Y gCl X (gC true) ad σ (0, 0) 33 [(2, .long e)] []) ?_ n v e h kx
  clear h kx
  clear n v e
  intro v o h kl kx
  obtain ⟨v2, v4⟩ := v
  have h : mB_C1_seen_5 σ u0 v2 v4 = some o := h
  unfold mB_C1_seen_5 at h
  show g_Y gCl X (gC true) ad σ (0, 0) 5 [(0, .ref (ad 0 0)), (1, .ref (ad 4 u0)), (2, .long v2), (4, .int v4)] []
  refine y_iload C dX1_seen_5 3 rfl ?_
  refine y_aload_n C dX1_seen_7 0 rfl rfl ?_
  refine gf_C_X1_150_0 C nC_0_0 dX1_seen_8 ?_
  refine y_icmp_ge (tgt := 33) C dX1_seen_11 rfl (fun hc => ?_) (fun hc => ?_)
  · replace h := g_it h hc
    refine y_sub (vs2 := [(2, .long v2)]) [2] rfl ?_
    exact kx _ (Option.some.inj h).symm
  · replace h := g_if h hc
    refine y_lload_n C dX1_seen_14 2 rfl rfl ?_
    refine y_aload_n C dX1_seen_15 0 rfl rfl ?_
    refine gf_C_X1_62_0 C nC_0_0 dX1_seen_16 ?_
    refine y_aload_n C dX1_seen_19 1 rfl rfl ?_
    refine y_iload C dX1_seen_20 3 rfl ?_
    obtain ⟨x1, hc, h⟩ := g_bd h
    refine y_callV C (As := [.ref (ad 4 u0), .int v4]) (rest := [.long v2]) (k := 1) (hu := nC_1_0) (hc := (rfl : gCl[1]? = some (RX2, TX2, 1))) (hcell := obC_1) (lk_X1_386_X2_l305 C hR (by decide)) (ct_C2_fields_k1_4 hu_u0 hc) rfl rfl (Nat.le_of_ble_eq_true rfl) ⟨Nat.zero_le _, Nat.zero_le _⟩ dX1_seen_22 ?_
    refine y_lor C dX1_seen_25 ?_
    obtain ⟨x2, hx2, h⟩ := g_lt h
    refine y_lstore_n (vs1 := [(2, .long x2), (0, .ref (ad 0 0)), (1, .ref (ad 4 u0)), (4, .int v4)]) C hx2 dX1_seen_26 rfl (g_lL hL rfl) rfl ?_
    obtain ⟨x3, hx3, h⟩ := g_lt h
    refine y_iinc (c := (1 : Int32)) (vs1 := [(4, .int x3), (2, .long x2), (0, .ref (ad 0 0)), (1, .ref (ad 4 u0))]) C hx3 (by decide) dX1_seen_27 3 rfl (g_lL hL rfl) rfl ?_
    refine y_goto (tgt := 5) C dX1_seen_30 rfl ?_
    refine y_sub (vs2 := [(0, .ref (ad 0 0)), (1, .ref (ad 4 u0)), (2, .long x2), (4, .int x3)]) [2, 3, 1, 0] rfl ?_
    exact kl _ (Option.some.inj h).symm
theorem mw_C1_seen {X : g_F} (C : g_M gCl X cX1_seen RX1 (some .long)) (hR : g_R X = g_rm 306 0 0) (hL : g_nL X = 5) {u0 : Nat} (hu_u0 : u0 < g_n (gC true) 4) {ad : Nat → Nat → Nat} {σ : g_S} {o : Int64} (h : mF_C1_seen σ u0 = some o) (hQ : g_MQ gCl X (gC true) ad σ (some (.long o)) = g_Q X) : g_Y gCl X (gC true) ad σ (0, 0) 0 [(0, .ref (ad 0 0)), (1, .ref (ad 4 u0))] [] := by
  unfold mF_C1_seen at h
  refine y_lconst (v := (0 : Int64)) C dX1_seen_0 (by decide) ?_
  refine y_lstore_n (vs1 := [(2, .long (0 : Int64)), (0, .ref (ad 0 0)), (1, .ref (ad 4 u0))]) C rfl dX1_seen_1 rfl (g_lL hL rfl) rfl ?_
  refine y_iconst (v := (0 : Int32)) C dX1_seen_2 (by decide) ?_
  refine y_istore (vs1 := [(4, .int (0 : Int32)), (2, .long (0 : Int64)), (0, .ref (ad 0 0)), (1, .ref (ad 4 u0))]) C rfl dX1_seen_3 (g_lL hL rfl) rfl ?_
  refine y_sub (vs2 := [(0, .ref (ad 0 0)), (1, .ref (ad 4 u0)), (2, .long (0 : Int64)), (4, .int (0 : Int32))]) [2, 3, 1, 0] rfl ?_
  obtain ⟨e4, he4, h⟩ := g_bd h
  refine ml_C1_seen_5 C hR hL hu_u0 (σ := σ) _ _ _ he4 ?_
  refine y_lload_n C dX1_seen_33 0 rfl rfl ?_
  replace h := Option.some.inj h; subst h
  exact y_lret C hQ ⟨Nat.zero_le _, Nat.zero_le _⟩ dX1_seen_34
theorem ct_C1_seen {D : va_G} {dA : Nat → ClassId} {A : Nat → Prop} {s0 : State} {b0 : Nat} {l : Launch} {u0 : Nat} (hu_u0 : u0 < g_n (gC true) 4) {ad : Nat → Nat → Nat} {σ : g_S} {r : Int64} (h : mF_C1_seen σ u0 = some r) : g_Met gCl D dA A s0 b0 l yX1_seen cX1_seen 5 (some .long) 306 (0, 0) (gC true) ad σ [.ref (ad 0 0), .ref (ad 4 u0)] (gC true) ad σ (some (.long r)) :=
  g_Met.of pl_X1 (Nat.le_of_ble_eq_true rfl) (fun X C hQ hR _ _ hL _ es eb => mw_C1_seen C hR hL hu_u0 h hQ)
theorem mw_C1_hidden {X : g_F} (C : g_M gCl X cX1_hidden RX1 (some .long)) (hR : g_R X = g_rm 307 0 0) (hL : g_nL X = 3) {ad : Nat → Nat → Nat} {σ : g_S} {o : (Int64 × g_S)} (h : mF_C1_hidden σ = some o) (hQ : g_MQ gCl X (gC true) ad o.2 (some (.long o.1)) = g_Q X) : g_Y gCl X (gC true) ad σ (0, 0) 0 [(0, .ref (ad 0 0))] [] := by
  unfold mF_C1_hidden at h
  refine y_aload_n C dX1_hidden_0 0 rfl rfl ?_
  obtain ⟨x1, hc, h⟩ := g_bd h
  refine y_callV C (As := []) (rest := []) (k := 0) (hu := nC_0_0) (hc := (rfl : gCl[0]? = some (RX1, TX1, 31))) (hcell := obC_0) (lk_X1_401_X1_l2 C hR (by decide)) (ct_C1_open hc) rfl rfl (Nat.le_of_ble_eq_true rfl) ⟨Nat.zero_le _, Nat.zero_le _⟩ dX1_hidden_1 ?_
  refine y_aload_n C dX1_hidden_4 0 rfl rfl ?_
  refine y_aload_n C dX1_hidden_5 0 rfl rfl ?_
  refine gf_C_X1_84_0 C nC_0_0 dX1_hidden_6 ?_
  obtain ⟨x2, hc, h⟩ := g_bd h
  refine y_callV C (As := [.ref (ad 4 0)]) (rest := [.long x1]) (k := 0) (hu := nC_0_0) (hc := (rfl : gCl[0]? = some (RX1, TX1, 31))) (hcell := obC_0) (lk_X1_405_X1_l306 C hR (by decide)) (ct_C1_seen nC_4_0 hc) rfl rfl (Nat.le_of_ble_eq_true rfl) ⟨Nat.zero_le _, Nat.zero_le _⟩ dX1_hidden_9 ?_
  refine y_ldc2 (v := (-1 : Int64)) C q990 dX1_hidden_12 ?_
  refine y_lxor C dX1_hidden_15 ?_
  refine y_land C dX1_hidden_16 ?_
  obtain ⟨x3, hx3, h⟩ := g_lt h
  refine y_lstore_n (vs1 := [(1, .long x3), (0, .ref (ad 0 0))]) C hx3 dX1_hidden_17 rfl (g_lL hL rfl) rfl ?_
  refine y_aload_n C dX1_hidden_18 1 rfl rfl ?_
  refine y_iconst (v := (0 : Int32)) C dX1_hidden_19 (by decide) ?_
  obtain ⟨σ4, hσ4, h⟩ := g_lt h
  refine pf_C_X1_139_0 C nC_0_0 hσ4 dX1_hidden_20 ?_
  refine y_aload_n C dX1_hidden_23 1 rfl rfl ?_
  refine y_lload_n C dX1_hidden_24 0 rfl rfl ?_
  obtain ⟨x5, hc, h⟩ := g_bd h
  refine y_callS C (As := [.long x3]) (rest := [.ref (ad 0 0)]) (lk_X1_389_l1 C hR (by decide)) (ct_J12_bitCount hc) rfl rfl (Nat.le_of_ble_eq_true rfl) ⟨Nat.zero_le _, Nat.zero_le _⟩ dX1_hidden_25 ?_
  refine y_i2l C dX1_hidden_28 ?_
  obtain ⟨σ6, hc, h⟩ := g_bd h
  refine y_callVv C (As := [.long (x5.toInt64)]) (rest := []) (k := 0) (hu := nC_0_0) (hc := (rfl : gCl[0]? = some (RX1, TX1, 31))) (hcell := obC_0) (lk_X1_330_X1_l1 C hR (by decide)) (ct_C1_tell_2 hc) rfl rfl (Nat.le_of_ble_eq_true rfl) ⟨Nat.zero_le _, Nat.zero_le _⟩ dX1_hidden_29 ?_
  refine y_aload_n C dX1_hidden_32 1 rfl rfl ?_
  refine y_aload_n C dX1_hidden_33 1 rfl rfl ?_
  refine y_lload_n C dX1_hidden_34 0 rfl rfl ?_
  obtain ⟨x7, hc, h⟩ := g_bd h
  refine y_callV C (As := [.long x3]) (rest := [.ref (ad 0 0)]) (k := 0) (hu := nC_0_0) (hc := (rfl : gCl[0]? = some (RX1, TX1, 31))) (hcell := obC_0) (lk_X1_398_X1_l2 C hR (by decide)) (ct_C1_thingsOn hc) rfl rfl (Nat.le_of_ble_eq_true rfl) ⟨Nat.zero_le _, Nat.zero_le _⟩ dX1_hidden_35 ?_
  refine y_i2l C dX1_hidden_38 ?_
  obtain ⟨σ8, hc, h⟩ := g_bd h
  refine y_callVv C (As := [.long (x7.toInt64)]) (rest := []) (k := 0) (hu := nC_0_0) (hc := (rfl : gCl[0]? = some (RX1, TX1, 31))) (hcell := obC_0) (lk_X1_330_X1_l1 C hR (by decide)) (ct_C1_tell_2 hc) rfl rfl (Nat.le_of_ble_eq_true rfl) ⟨Nat.zero_le _, Nat.zero_le _⟩ dX1_hidden_39 ?_
  refine y_lload_n C dX1_hidden_42 0 rfl rfl ?_
  replace h := Option.some.inj h; subst h
  exact y_lret C hQ ⟨Nat.zero_le _, Nat.zero_le _⟩ dX1_hidden_43
theorem ct_C1_hidden {D : va_G} {dA : Nat → ClassId} {A : Nat → Prop} {s0 : State} {b0 : Nat} {l : Launch} {ad : Nat → Nat → Nat} {σ : g_S} {r : Int64} {σ1 : g_S} (h : mF_C1_hidden σ = some (r, σ1)) : g_Met gCl D dA A s0 b0 l yX1_hidden cX1_hidden 3 (some .long) 307 (0, 0) (gC true) ad σ [.ref (ad 0 0)] (gC true) ad σ1 (some (.long r)) :=
  g_Met.of pl_X1 (Nat.le_of_ble_eq_true rfl) (fun X C hQ hR _ _ hL _ es eb => mw_C1_hidden C hR hL h hQ)
theorem mj_C1_pairs_79 {X : g_F} (C : g_M gCl X cX1_pairs RX1 (some .int)) (hR : g_R X = g_rm 307 0 0) (hL : g_nL X = 7) {ad : Nat → Nat → Nat} {σ : g_S} {v1 : Int32} {v5 : Int32} {v6 : Int32} {s0 : Int32} {s1 : Int32} {o : ((Int32 × Int32 × Int32 × Int32 × Int32) ⊕ (Int32 × Int32 × Int32 × Int32))} (h : mJ_C1_pairs_79 σ v1 v5 v6 s0 s1 = some o) (kl : ∀ z, o = .inl z → g_Y gCl X (gC true) ad σ (0, 0) 30 [(0, .ref (ad 0 0)), (1, .int z.1), (2, .int z.2.1), (3, .int z.2.2.1), (4, .int z.2.2.2.1), (5, .int v5), (6, .int z.2.2.2.2)] []) (kx : ∀ z, o = .inr z → g_Y gCl X (gC true) ad σ (0, 0) 94 [(0, .ref (ad 0 0)), (1, .int z.1), (2, .int z.2.1), (3, .int z.2.2.1), (4, .int z.2.2.2), (5, .int v5)] []) : g_Y gCl X (gC true) ad σ (0, 0) 79 [(0, .ref (ad 0 0)), (1, .int v1), (5, .int v5), (6, .int v6)] [.int s1, .int s0] := by
  unfold mJ_C1_pairs_79 at h
  refine y_iadd C dX1_pairs_79 ?_
  obtain ⟨x6, hx6, h⟩ := g_lt h
  refine y_istore_n (vs1 := [(2, .int x6), (0, .ref (ad 0 0)), (1, .int v1), (5, .int v5), (6, .int v6)]) C hx6 dX1_pairs_80 rfl (g_lL hL rfl) rfl ?_
  refine y_iload C dX1_pairs_81 3 rfl ?_
  refine y_istore_n (vs1 := [(3, .int v5), (2, .int x6), (0, .ref (ad 0 0)), (1, .int v1), (5, .int v5), (6, .int v6)]) C rfl dX1_pairs_83 rfl (g_lL hL rfl) rfl ?_
  refine y_iload C dX1_pairs_84 5 rfl ?_
  refine y_istore (vs1 := [(4, .int v6), (3, .int v5), (2, .int x6), (0, .ref (ad 0 0)), (1, .int v1), (5, .int v5), (6, .int v6)]) C rfl dX1_pairs_86 (g_lL hL rfl) rfl ?_
  obtain ⟨x7, hx7, h⟩ := g_lt h
  refine y_iinc (c := (-1 : Int32)) (vs1 := [(6, .int x7), (4, .int v6), (3, .int v5), (2, .int x6), (0, .ref (ad 0 0)), (1, .int v1), (5, .int v5)]) C hx7 (by decide) dX1_pairs_88 6 rfl (g_lL hL rfl) rfl ?_
  refine y_goto (tgt := 30) C dX1_pairs_91 rfl ?_
  refine y_sub (vs2 := [(0, .ref (ad 0 0)), (1, .int v1), (2, .int x6), (3, .int v5), (4, .int v6), (5, .int v5), (6, .int x7)]) [4, 5, 3, 2, 1, 6, 0] rfl ?_
  exact kl _ (Option.some.inj h).symm
theorem ml_C1_pairs_30 {X : g_F} (C : g_M gCl X cX1_pairs RX1 (some .int)) (hR : g_R X = g_rm 307 0 0) (hL : g_nL X = 7) {ad : Nat → Nat → Nat} {σ : g_S} {v5 : Int32} (n : Nat) (v : (Int32 × Int32 × Int32 × Int32 × Int32)) (e : (Int32 × Int32 × Int32 × Int32)) (h : g_lp (fun v => mB_C1_pairs_30 σ v5 v.1 v.2.1 v.2.2.1 v.2.2.2.1 v.2.2.2.2) n v = some e) (kx : g_Y gCl X (gC true) ad σ (0, 0) 94 [(0, .ref (ad 0 0)), (1, .int e.1), (2, .int e.2.1), (3, .int e.2.2.1), (4, .int e.2.2.2), (5, .int v5)] []) : g_Y gCl X (gC true) ad σ (0, 0) 30 [(0, .ref (ad 0 0)), (1, .int v.1), (2, .int v.2.1), (3, .int v.2.2.1), (4, .int v.2.2.2.1), (5, .int v5), (6, .int v.2.2.2.2)] [] := by
  refine g_loop (P := fun v => g_Y gCl X (gC true) ad σ (0, 0) 30 [(0, .ref (ad 0 0)), (1, .int v.1), (2, .int v.2.1), (3, .int v.2.2.1), (4, .int v.2.2.2.1), (5, .int v5), (6, .int v.2.2.2.2)] []) (T := fun e => g_Y gCl X (gC true) ad σ (0, 0) 94 [(0, .ref (ad 0 0)), (1, .int e.1), (2, .int e.2.1), (3, .int e.2.2.1), (4, .int e.2.2.2), (5, .int v5)] []) ?_ n v e h kx
  clear h kx
  clear n v e
  intro v o h kl kx
  obtain ⟨v1, v2, v3, v4, v6⟩ := v
  have h : mB_C1_pairs_30 σ v5 v1 v2 v3 v4 v6 = some o := h
  unfold mB_C1_pairs_30 at h
  show g_Y gCl X (gC true) ad σ (0, 0) 30 [(0, .ref (ad 0 0)), (1, .int v1), (2, .int v2), (3, .int v3), (4, .int v4), (5, .int v5), (6, .int v6)] []
  refine y_iload C dX1_pairs_30 6 rfl ?_
  refine y_iload C dX1_pairs_32 5 rfl ?_
  refine y_icmp_le (tgt := 94) C dX1_pairs_34 rfl (fun hc => ?_) (fun hc => ?_)
  · replace h := g_it h hc
    refine y_sub (vs2 := [(0, .ref (ad 0 0)), (1, .int v1), (2, .int v2), (3, .int v3), (4, .int v4), (5, .int v5)]) [0, 1, 2, 3, 4, 5] rfl ?_
    exact kx _ (Option.some.inj h).symm
  · replace h := g_if h hc
    refine y_aload_n C dX1_pairs_37 0 rfl rfl ?_
    refine y_aload_n C dX1_pairs_38 0 rfl rfl ?_
    refine gf_C_X1_84_0 C nC_0_0 dX1_pairs_39 ?_
    refine y_iload C dX1_pairs_42 5 rfl ?_
    refine y_iload C dX1_pairs_44 6 rfl ?_
    obtain ⟨x3, hc, h⟩ := g_bd h
    refine y_callV C (As := [.ref (ad 4 0), .int v5, .int v6]) (rest := []) (k := 0) (hu := nC_0_0) (hc := (rfl : gCl[0]? = some (RX1, TX1, 31))) (hcell := obC_0) (lk_X1_306_X1_l305 C hR (by decide)) (ct_C1_meet nC_4_0 hc) rfl rfl (Nat.le_of_ble_eq_true rfl) ⟨Nat.zero_le _, Nat.zero_le _⟩ dX1_pairs_46 ?_
    refine y_if_ne (tgt := 55) C dX1_pairs_49 rfl (fun hc => ?_) (fun hc => ?_)
    · replace h := g_if h hc
      obtain ⟨x4, hx4, h⟩ := g_lt h
      refine y_iinc (c := (1 : Int32)) (vs1 := [(1, .int x4), (0, .ref (ad 0 0)), (2, .int v2), (3, .int v3), (4, .int v4), (5, .int v5), (6, .int v6)]) C hx4 (by decide) dX1_pairs_55 1 rfl (g_lL hL rfl) rfl ?_
      refine y_iload_n C dX1_pairs_58 2 rfl rfl ?_
      refine y_aload_n C dX1_pairs_59 1 rfl rfl ?_
      refine y_aload_n C dX1_pairs_60 1 rfl rfl ?_
      refine gf_C_X1_84_0 C nC_0_0 dX1_pairs_61 ?_
      refine y_iload C dX1_pairs_64 5 rfl ?_
      refine y_iload C dX1_pairs_66 6 rfl ?_
      obtain ⟨x5, hc, h⟩ := g_bd h
      refine y_callV C (As := [.ref (ad 4 0), .int v5, .int v6]) (rest := [.int v2]) (k := 0) (hu := nC_0_0) (hc := (rfl : gCl[0]? = some (RX1, TX1, 31))) (hcell := obC_0) (lk_X1_309_X1_l306 C hR (by decide)) (ct_C1_tell nC_4_0 hc) rfl rfl (Nat.le_of_ble_eq_true rfl) ⟨Nat.zero_le _, Nat.zero_le _⟩ dX1_pairs_68 ?_
      refine y_if_eq (tgt := 78) C dX1_pairs_71 rfl (fun hc => ?_) (fun hc => ?_)
      · replace h := g_it h hc
        refine y_iconst (v := (0 : Int32)) C dX1_pairs_78 (by decide) ?_
        refine y_sub (vs2 := [(0, .ref (ad 0 0)), (1, .int x4), (5, .int v5), (6, .int v6)]) [1, 0, 5, 6] rfl ?_
        exact mj_C1_pairs_79 C hR hL h kl kx
      · replace h := g_if h hc
        refine y_iconst (v := (1 : Int32)) C dX1_pairs_74 (by decide) ?_
        refine y_goto (tgt := 79) C dX1_pairs_75 rfl ?_
        refine y_sub (vs2 := [(0, .ref (ad 0 0)), (1, .int x4), (5, .int v5), (6, .int v6)]) [1, 0, 5, 6] rfl ?_
        exact mj_C1_pairs_79 C hR hL h kl kx
    · replace h := g_it h hc
      refine y_goto (tgt := 88) C dX1_pairs_52 rfl ?_
      obtain ⟨x8, hx8, h⟩ := g_lt h
      refine y_iinc (c := (-1 : Int32)) (vs1 := [(6, .int x8), (0, .ref (ad 0 0)), (1, .int v1), (2, .int v2), (3, .int v3), (4, .int v4), (5, .int v5)]) C hx8 (by decide) dX1_pairs_88 6 rfl (g_lL hL rfl) rfl ?_
      refine y_goto (tgt := 30) C dX1_pairs_91 rfl ?_
      refine y_sub (vs2 := [(0, .ref (ad 0 0)), (1, .int v1), (2, .int v2), (3, .int v3), (4, .int v4), (5, .int v5), (6, .int x8)]) [1, 2, 3, 4, 5, 6, 0] rfl ?_
      exact kl _ (Option.some.inj h).symm
theorem ml_C1_pairs_17 {X : g_F} (C : g_M gCl X cX1_pairs RX1 (some .int)) (hR : g_R X = g_rm 307 0 0) (hL : g_nL X = 7) {ad : Nat → Nat → Nat} {σ : g_S} (n : Nat) (v : (Int32 × Int32 × Int32 × Int32 × Int32)) (e : (Int32 × Int32 × Int32 × Int32)) (h : g_lp (fun v => mB_C1_pairs_17 σ v.1 v.2.1 v.2.2.1 v.2.2.2.1 v.2.2.2.2) n v = some e) (kx : g_Y gCl X (gC true) ad σ (0, 0) 100 [(0, .ref (ad 0 0)), (1, .int e.1), (2, .int e.2.1), (3, .int e.2.2.1), (4, .int e.2.2.2)] []) : g_Y gCl X (gC true) ad σ (0, 0) 17 [(0, .ref (ad 0 0)), (1, .int v.1), (2, .int v.2.1), (3, .int v.2.2.1), (4, .int v.2.2.2.1), (5, .int v.2.2.2.2)] [] := by
  refine g_loop (P := fun v => g_Y gCl X (gC true) ad σ (0, 0) 17 [(0, .ref (ad 0 0)), (1, .int v.1), (2, .int v.2.1), (3, .int v.2.2.1), (4, .int v.2.2.2.1), (5, .int v.2.2.2.2)] []) (T := fun e => g_Y gCl X (gC true) ad σ (0, 0) 100 [(0, .ref (ad 0 0)), (1, .int e.1), (2, .int e.2.1), (3, .int e.2.2.1), (4, .int e.2.2.2)] []) ?_ n v e h kx
  clear h kx
  clear n v e
  intro v o h kl kx
  obtain ⟨v1, v2, v3, v4, v5⟩ := v
  have h : mB_C1_pairs_17 σ v1 v2 v3 v4 v5 = some o := h
  unfold mB_C1_pairs_17 at h
  show g_Y gCl X (gC true) ad σ (0, 0) 17 [(0, .ref (ad 0 0)), (1, .int v1), (2, .int v2), (3, .int v3), (4, .int v4), (5, .int v5)] []
  refine y_iload C dX1_pairs_17 5 rfl ?_
  refine y_if_lt (tgt := 100) C dX1_pairs_19 rfl (fun hc => ?_) (fun hc => ?_)
  · replace h := g_it h hc
    refine y_sub (vs2 := [(0, .ref (ad 0 0)), (1, .int v1), (2, .int v2), (3, .int v3), (4, .int v4)]) [0, 1, 2, 3, 4] rfl ?_
    exact kx _ (Option.some.inj h).symm
  · replace h := g_if h hc
    refine y_aload_n C dX1_pairs_22 0 rfl rfl ?_
    refine gf_C_X1_150_0 C nC_0_0 dX1_pairs_23 ?_
    refine y_iconst (v := (1 : Int32)) C dX1_pairs_26 (by decide) ?_
    refine y_isub C dX1_pairs_27 ?_
    obtain ⟨x2, hx2, h⟩ := g_lt h
    refine y_istore (vs1 := [(6, .int x2), (0, .ref (ad 0 0)), (1, .int v1), (2, .int v2), (3, .int v3), (4, .int v4), (5, .int v5)]) C hx2 dX1_pairs_28 (g_lL hL rfl) rfl ?_
    refine y_sub (vs2 := [(0, .ref (ad 0 0)), (1, .int v1), (2, .int v2), (3, .int v3), (4, .int v4), (5, .int v5), (6, .int x2)]) [1, 2, 3, 4, 5, 6, 0] rfl ?_
    obtain ⟨e9, he9, h⟩ := g_bd h
    refine ml_C1_pairs_30 C hR hL (σ := σ) _ _ _ he9 ?_
    obtain ⟨x10, hx10, h⟩ := g_lt h
    refine y_iinc (c := (-1 : Int32)) (vs1 := [(5, .int x10), (0, .ref (ad 0 0)), (1, .int e9.1), (2, .int e9.2.1), (3, .int e9.2.2.1), (4, .int e9.2.2.2)]) C hx10 (by decide) dX1_pairs_94 5 rfl (g_lL hL rfl) rfl ?_
    refine y_goto (tgt := 17) C dX1_pairs_97 rfl ?_
    refine y_sub (vs2 := [(0, .ref (ad 0 0)), (1, .int e9.1), (2, .int e9.2.1), (3, .int e9.2.2.1), (4, .int e9.2.2.2), (5, .int x10)]) [1, 2, 3, 4, 5, 0] rfl ?_
    exact kl _ (Option.some.inj h).symm
theorem mw_C1_pairs {X : g_F} (C : g_M gCl X cX1_pairs RX1 (some .int)) (hR : g_R X = g_rm 307 0 0) (hL : g_nL X = 7) {ad : Nat → Nat → Nat} {σ : g_S} {o : (Int32 × g_S)} (h : mF_C1_pairs σ = some o) (hQ : g_MQ gCl X (gC true) ad o.2 (some (.int o.1)) = g_Q X) : g_Y gCl X (gC true) ad σ (0, 0) 0 [(0, .ref (ad 0 0))] [] := by
  unfold mF_C1_pairs at h
  refine y_iconst (v := (0 : Int32)) C dX1_pairs_0 (by decide) ?_
  refine y_istore_n (vs1 := [(1, .int (0 : Int32)), (0, .ref (ad 0 0))]) C rfl dX1_pairs_1 rfl (g_lL hL rfl) rfl ?_
  refine y_iconst (v := (0 : Int32)) C dX1_pairs_2 (by decide) ?_
  refine y_istore_n (vs1 := [(2, .int (0 : Int32)), (1, .int (0 : Int32)), (0, .ref (ad 0 0))]) C rfl dX1_pairs_3 rfl (g_lL hL rfl) rfl ?_
  refine y_iconst (v := (-1 : Int32)) C dX1_pairs_4 (by decide) ?_
  refine y_istore_n (vs1 := [(3, .int (-1 : Int32)), (2, .int (0 : Int32)), (1, .int (0 : Int32)), (0, .ref (ad 0 0))]) C rfl dX1_pairs_5 rfl (g_lL hL rfl) rfl ?_
  refine y_iconst (v := (-1 : Int32)) C dX1_pairs_6 (by decide) ?_
  refine y_istore (vs1 := [(4, .int (-1 : Int32)), (3, .int (-1 : Int32)), (2, .int (0 : Int32)), (1, .int (0 : Int32)), (0, .ref (ad 0 0))]) C rfl dX1_pairs_7 (g_lL hL rfl) rfl ?_
  refine y_aload_n C dX1_pairs_9 4 rfl rfl ?_
  refine gf_C_X1_150_0 C nC_0_0 dX1_pairs_10 ?_
  refine y_iconst (v := (1 : Int32)) C dX1_pairs_13 (by decide) ?_
  refine y_isub C dX1_pairs_14 ?_
  obtain ⟨x1, hx1, h⟩ := g_lt h
  refine y_istore (vs1 := [(5, .int x1), (4, .int (-1 : Int32)), (3, .int (-1 : Int32)), (2, .int (0 : Int32)), (1, .int (0 : Int32)), (0, .ref (ad 0 0))]) C hx1 dX1_pairs_15 (g_lL hL rfl) rfl ?_
  refine y_sub (vs2 := [(0, .ref (ad 0 0)), (1, .int (0 : Int32)), (2, .int (0 : Int32)), (3, .int (-1 : Int32)), (4, .int (-1 : Int32)), (5, .int x1)]) [5, 4, 3, 2, 1, 0] rfl ?_
  obtain ⟨e11, he11, h⟩ := g_bd h
  refine ml_C1_pairs_17 C hR hL (σ := σ) _ _ _ he11 ?_
  refine y_aload_n C dX1_pairs_100 0 rfl rfl ?_
  refine y_iconst (v := (0 : Int32)) C dX1_pairs_101 (by decide) ?_
  obtain ⟨σ12, hσ12, h⟩ := g_lt h
  refine pf_C_X1_139_0 C nC_0_0 hσ12 dX1_pairs_102 ?_
  refine y_aload_n C dX1_pairs_105 0 rfl rfl ?_
  refine y_iload_n C dX1_pairs_106 2 rfl rfl ?_
  refine y_i2l C dX1_pairs_107 ?_
  obtain ⟨σ13, hc, h⟩ := g_bd h
  refine y_callVv C (As := [.long (e11.2.1.toInt64)]) (rest := []) (k := 0) (hu := nC_0_0) (hc := (rfl : gCl[0]? = some (RX1, TX1, 31))) (hcell := obC_0) (lk_X1_330_X1_l1 C hR (by decide)) (ct_C1_tell_2 hc) rfl rfl (Nat.le_of_ble_eq_true rfl) ⟨Nat.zero_le _, Nat.zero_le _⟩ dX1_pairs_108 ?_
  refine y_iload_n C dX1_pairs_111 1 rfl rfl ?_
  refine y_if_le (tgt := 128) C dX1_pairs_112 rfl (fun hc => ?_) (fun hc => ?_)
  · replace h := g_it h hc
    refine y_iload_n C dX1_pairs_128 1 rfl rfl ?_
    replace h := Option.some.inj h; subst h
    exact y_iret C hQ ⟨Nat.zero_le _, Nat.zero_le _⟩ dX1_pairs_129
  · replace h := g_if h hc
    refine y_aload_n C dX1_pairs_115 0 rfl rfl ?_
    refine y_iload_n C dX1_pairs_116 3 rfl rfl ?_
    refine y_i2l C dX1_pairs_117 ?_
    obtain ⟨σ14, hc, h⟩ := g_bd h
    refine y_callVv C (As := [.long (e11.2.2.1.toInt64)]) (rest := []) (k := 0) (hu := nC_0_0) (hc := (rfl : gCl[0]? = some (RX1, TX1, 31))) (hcell := obC_0) (lk_X1_330_X1_l1 C hR (by decide)) (ct_C1_tell_2 hc) rfl rfl (Nat.le_of_ble_eq_true rfl) ⟨Nat.zero_le _, Nat.zero_le _⟩ dX1_pairs_118 ?_
    refine y_aload_n C dX1_pairs_121 0 rfl rfl ?_
    refine y_iload C dX1_pairs_122 4 rfl ?_
    refine y_i2l C dX1_pairs_124 ?_
    obtain ⟨σ15, hc, h⟩ := g_bd h
    refine y_callVv C (As := [.long (e11.2.2.2.toInt64)]) (rest := []) (k := 0) (hu := nC_0_0) (hc := (rfl : gCl[0]? = some (RX1, TX1, 31))) (hcell := obC_0) (lk_X1_330_X1_l1 C hR (by decide)) (ct_C1_tell_2 hc) rfl rfl (Nat.le_of_ble_eq_true rfl) ⟨Nat.zero_le _, Nat.zero_le _⟩ dX1_pairs_125 ?_
    refine y_iload_n C dX1_pairs_128 1 rfl rfl ?_
    replace h := Option.some.inj h; subst h
    exact y_iret C hQ ⟨Nat.zero_le _, Nat.zero_le _⟩ dX1_pairs_129
theorem ct_C1_pairs {D : va_G} {dA : Nat → ClassId} {A : Nat → Prop} {s0 : State} {b0 : Nat} {l : Launch} {ad : Nat → Nat → Nat} {σ : g_S} {r : Int32} {σ1 : g_S} (h : mF_C1_pairs σ = some (r, σ1)) : g_Met gCl D dA A s0 b0 l yX1_pairs cX1_pairs 7 (some .int) 307 (0, 0) (gC true) ad σ [.ref (ad 0 0)] (gC true) ad σ1 (some (.int r)) :=
  g_Met.of pl_X1 (Nat.le_of_ble_eq_true rfl) (fun X C hQ hR _ _ hL _ es eb => mw_C1_pairs C hR hL h hQ)
theorem ml_C1_behind_14 {X : g_F} (C : g_M gCl X cX1_behind RX1 (some .int)) (hR : g_R X = g_rm 305 0 0) (hL : g_nL X = 4) {ad : Nat → Nat → Nat} {σ : g_S} {v1 : Int32} (n : Nat) (v : (Int32 × Int32)) (e : Int32) (h : g_lp (fun v => mB_C1_behind_14 σ v1 v.1 v.2) n v = some e) (kx : g_Y gCl X (gC true) ad σ (0, 0) 91 [(0, .ref (ad 0 0)), (2, .int e)] []) : g_Y gCl X (gC true) ad σ (0, 0) 14 [(0, .ref (ad 0 0)), (1, .int v1), (2, .int v.1), (3, .int v.2)] [] := by
  refine g_loop (P := fun v => g_Y gCl X (gC true) ad σ (0, 0) 14 [(0, .ref (ad 0 0)), (1, .int v1), (2, .int v.1), (3, .int v.2)] []) (T := fun e => g_Y gCl X (gC true) ad σ (0, 0) 91 [(0, .ref (ad 0 0)), (2, .int e)] []) ?_ n v e h kx
  clear h kx
  clear n v e
  intro v o h kl kx
  obtain ⟨v2, v3⟩ := v
  have h : mB_C1_behind_14 σ v1 v2 v3 = some o := h
  unfold mB_C1_behind_14 at h
  show g_Y gCl X (gC true) ad σ (0, 0) 14 [(0, .ref (ad 0 0)), (1, .int v1), (2, .int v2), (3, .int v3)] []
  refine y_iload_n C dX1_behind_14 3 rfl rfl ?_
  refine y_aload_n C dX1_behind_15 0 rfl rfl ?_
  refine gf_C_X1_150_0 C nC_0_0 dX1_behind_16 ?_
  refine y_icmp_ge (tgt := 91) C dX1_behind_19 rfl (fun hc => ?_) (fun hc => ?_)
  · replace h := g_it h hc
    refine y_sub (vs2 := [(0, .ref (ad 0 0)), (2, .int v2)]) [0, 2] rfl ?_
    exact kx _ (Option.some.inj h).symm
  · replace h := g_if h hc
    refine y_iload_n C dX1_behind_22 2 rfl rfl ?_
    refine y_iload_n C dX1_behind_23 3 rfl rfl ?_
    refine y_iload_n C dX1_behind_24 1 rfl rfl ?_
    refine y_icmp_eq (tgt := 82) C dX1_behind_25 rfl (fun hc => ?_) (fun hc => ?_)
    · replace h := g_it h hc
      refine y_iconst (v := (0 : Int32)) C dX1_behind_82 (by decide) ?_
      refine y_ior C dX1_behind_83 ?_
      obtain ⟨x2, hx2, h⟩ := g_lt h
      refine y_istore_n (vs1 := [(2, .int x2), (0, .ref (ad 0 0)), (1, .int v1), (3, .int v3)]) C hx2 dX1_behind_84 rfl (g_lL hL rfl) rfl ?_
      obtain ⟨x3, hx3, h⟩ := g_lt h
      refine y_iinc (c := (1 : Int32)) (vs1 := [(3, .int x3), (2, .int x2), (0, .ref (ad 0 0)), (1, .int v1)]) C hx3 (by decide) dX1_behind_85 3 rfl (g_lL hL rfl) rfl ?_
      refine y_goto (tgt := 14) C dX1_behind_88 rfl ?_
      refine y_sub (vs2 := [(0, .ref (ad 0 0)), (1, .int v1), (2, .int x2), (3, .int x3)]) [2, 3, 1, 0] rfl ?_
      exact kl _ (Option.some.inj h).symm
    · replace h := g_if h hc
      refine y_aload_n C dX1_behind_28 0 rfl rfl ?_
      refine gf_C_X1_62_0 C nC_0_0 dX1_behind_29 ?_
      refine y_aload_n C dX1_behind_32 0 rfl rfl ?_
      refine gf_C_X1_84_0 C nC_0_0 dX1_behind_33 ?_
      refine y_iload_n C dX1_behind_36 3 rfl rfl ?_
      refine y_aload_n C dX1_behind_37 0 rfl rfl ?_
      refine gf_C_X1_84_0 C nC_0_0 dX1_behind_38 ?_
      refine gf_C_X1_217_4 C nC_4_0 dX1_behind_41 ?_
      refine y_iload_n C dX1_behind_44 1 rfl rfl ?_
      obtain ⟨hg, h⟩ := g_gd h
      refine al_C_5 C nC_5_0 hg dX1_behind_45 ?_
      obtain ⟨x4, hc, h⟩ := g_bd h
      refine y_callV C (As := [.ref (ad 4 0), .int v3, .int (σ.1 5 0 v1.toNatClampNeg)]) (rest := [.int v2]) (k := 1) (hu := nC_1_0) (hc := (rfl : gCl[1]? = some (RX2, TX2, 1))) (hcell := obC_1) (lk_X1_246_X2_l304 C hR (by decide)) (ct_C2_sees_k1_4 nC_4_0 hc) rfl rfl (Nat.le_of_ble_eq_true rfl) ⟨Nat.zero_le _, Nat.zero_le _⟩ dX1_behind_46 ?_
      refine y_if_eq (tgt := 82) C dX1_behind_49 rfl (fun hc => ?_) (fun hc => ?_)
      · replace h := g_it h hc
        refine y_iconst (v := (0 : Int32)) C dX1_behind_82 (by decide) ?_
        refine y_ior C dX1_behind_83 ?_
        obtain ⟨x5, hx5, h⟩ := g_lt h
        refine y_istore_n (vs1 := [(2, .int x5), (0, .ref (ad 0 0)), (1, .int v1), (3, .int v3)]) C hx5 dX1_behind_84 rfl (g_lL hL rfl) rfl ?_
        obtain ⟨x6, hx6, h⟩ := g_lt h
        refine y_iinc (c := (1 : Int32)) (vs1 := [(3, .int x6), (2, .int x5), (0, .ref (ad 0 0)), (1, .int v1)]) C hx6 (by decide) dX1_behind_85 3 rfl (g_lL hL rfl) rfl ?_
        refine y_goto (tgt := 14) C dX1_behind_88 rfl ?_
        refine y_sub (vs2 := [(0, .ref (ad 0 0)), (1, .int v1), (2, .int x5), (3, .int x6)]) [2, 3, 1, 0] rfl ?_
        exact kl _ (Option.some.inj h).symm
      · replace h := g_if h hc
        refine y_aload_n C dX1_behind_52 0 rfl rfl ?_
        refine gf_C_X1_62_0 C nC_0_0 dX1_behind_53 ?_
        refine y_aload_n C dX1_behind_56 0 rfl rfl ?_
        refine gf_C_X1_84_0 C nC_0_0 dX1_behind_57 ?_
        refine y_iload_n C dX1_behind_60 1 rfl rfl ?_
        refine y_aload_n C dX1_behind_61 0 rfl rfl ?_
        refine gf_C_X1_84_0 C nC_0_0 dX1_behind_62 ?_
        refine gf_C_X1_217_4 C nC_4_0 dX1_behind_65 ?_
        refine y_iload_n C dX1_behind_68 3 rfl rfl ?_
        obtain ⟨hg, h⟩ := g_gd h
        refine al_C_5 C nC_5_0 hg dX1_behind_69 ?_
        obtain ⟨x7, hc, h⟩ := g_bd h
        refine y_callV C (As := [.ref (ad 4 0), .int v1, .int (σ.1 5 0 v3.toNatClampNeg)]) (rest := [.int v2]) (k := 1) (hu := nC_1_0) (hc := (rfl : gCl[1]? = some (RX2, TX2, 1))) (hcell := obC_1) (lk_X1_246_X2_l304 C hR (by decide)) (ct_C2_sees_k1_4 nC_4_0 hc) rfl rfl (Nat.le_of_ble_eq_true rfl) ⟨Nat.zero_le _, Nat.zero_le _⟩ dX1_behind_70 ?_
        refine y_if_ne (tgt := 82) C dX1_behind_73 rfl (fun hc => ?_) (fun hc => ?_)
        · replace h := g_if h hc
          refine y_iconst (v := (0 : Int32)) C dX1_behind_82 (by decide) ?_
          refine y_ior C dX1_behind_83 ?_
          obtain ⟨x8, hx8, h⟩ := g_lt h
          refine y_istore_n (vs1 := [(2, .int x8), (0, .ref (ad 0 0)), (1, .int v1), (3, .int v3)]) C hx8 dX1_behind_84 rfl (g_lL hL rfl) rfl ?_
          obtain ⟨x9, hx9, h⟩ := g_lt h
          refine y_iinc (c := (1 : Int32)) (vs1 := [(3, .int x9), (2, .int x8), (0, .ref (ad 0 0)), (1, .int v1)]) C hx9 (by decide) dX1_behind_85 3 rfl (g_lL hL rfl) rfl ?_
          refine y_goto (tgt := 14) C dX1_behind_88 rfl ?_
          refine y_sub (vs2 := [(0, .ref (ad 0 0)), (1, .int v1), (2, .int x8), (3, .int x9)]) [2, 3, 1, 0] rfl ?_
          exact kl _ (Option.some.inj h).symm
        · replace h := g_it h hc
          refine y_iconst (v := (1 : Int32)) C dX1_behind_76 (by decide) ?_
          refine y_iload_n C dX1_behind_77 3 rfl rfl ?_
          refine y_ishl C dX1_behind_78 ?_
          refine y_goto (tgt := 83) C dX1_behind_79 rfl ?_
          refine y_ior C dX1_behind_83 ?_
          obtain ⟨x10, hx10, h⟩ := g_lt h
          refine y_istore_n (vs1 := [(2, .int x10), (0, .ref (ad 0 0)), (1, .int v1), (3, .int v3)]) C hx10 dX1_behind_84 rfl (g_lL hL rfl) rfl ?_
          obtain ⟨x11, hx11, h⟩ := g_lt h
          refine y_iinc (c := (1 : Int32)) (vs1 := [(3, .int x11), (2, .int x10), (0, .ref (ad 0 0)), (1, .int v1)]) C hx11 (by decide) dX1_behind_85 3 rfl (g_lL hL rfl) rfl ?_
          refine y_goto (tgt := 14) C dX1_behind_88 rfl ?_
          refine y_sub (vs2 := [(0, .ref (ad 0 0)), (1, .int v1), (2, .int x10), (3, .int x11)]) [2, 3, 1, 0] rfl ?_
          exact kl _ (Option.some.inj h).symm
theorem mw_C1_behind {X : g_F} (C : g_M gCl X cX1_behind RX1 (some .int)) (hR : g_R X = g_rm 305 0 0) (hL : g_nL X = 4) {ad : Nat → Nat → Nat} {σ : g_S} {v1 : Int32} {o : (Int32 × g_S)} (h : mF_C1_behind σ v1 = some o) (hQ : g_MQ gCl X (gC true) ad o.2 (some (.int o.1)) = g_Q X) : g_Y gCl X (gC true) ad σ (0, 0) 0 [(0, .ref (ad 0 0)), (1, .int v1)] [] := by
  unfold mF_C1_behind at h
  refine y_aload_n C dX1_behind_0 0 rfl rfl ?_
  refine y_iload_n C dX1_behind_1 1 rfl rfl ?_
  obtain ⟨x1, hc, h⟩ := g_bd h
  refine y_callV C (As := [.int v1]) (rest := []) (k := 0) (hu := nC_0_0) (hc := (rfl : gCl[0]? = some (RX1, TX1, 31))) (hcell := obC_0) (lk_X1_250_X1_l2 C hR (by decide)) (ct_C1_isMan hc) rfl rfl (Nat.le_of_ble_eq_true rfl) ⟨Nat.zero_le _, Nat.zero_le _⟩ dX1_behind_2 ?_
  refine y_if_ne (tgt := 10) C dX1_behind_5 rfl (fun hc => ?_) (fun hc => ?_)
  · replace h := g_if h hc
    refine y_iconst (v := (0 : Int32)) C dX1_behind_10 (by decide) ?_
    refine y_istore_n (vs1 := [(2, .int (0 : Int32)), (0, .ref (ad 0 0)), (1, .int v1)]) C rfl dX1_behind_11 rfl (g_lL hL rfl) rfl ?_
    refine y_iconst (v := (0 : Int32)) C dX1_behind_12 (by decide) ?_
    refine y_istore_n (vs1 := [(3, .int (0 : Int32)), (2, .int (0 : Int32)), (0, .ref (ad 0 0)), (1, .int v1)]) C rfl dX1_behind_13 rfl (g_lL hL rfl) rfl ?_
    refine y_sub (vs2 := [(0, .ref (ad 0 0)), (1, .int v1), (2, .int (0 : Int32)), (3, .int (0 : Int32))]) [2, 3, 1, 0] rfl ?_
    obtain ⟨e12, he12, h⟩ := g_bd h
    refine ml_C1_behind_14 C hR hL (σ := σ) _ _ _ he12 ?_
    refine y_aload_n C dX1_behind_91 0 rfl rfl ?_
    refine y_iconst (v := (0 : Int32)) C dX1_behind_92 (by decide) ?_
    obtain ⟨σ13, hσ13, h⟩ := g_lt h
    refine pf_C_X1_139_0 C nC_0_0 hσ13 dX1_behind_93 ?_
    refine y_aload_n C dX1_behind_96 0 rfl rfl ?_
    refine y_iload_n C dX1_behind_97 1 rfl rfl ?_
    obtain ⟨x14, hc, h⟩ := g_bd h
    refine y_callS C (As := [.int e12]) (rest := [.ref (ad 0 0)]) (lk_X1_315_l1 C hR (by decide)) (ct_J8_bitCount hc) rfl rfl (Nat.le_of_ble_eq_true rfl) ⟨Nat.zero_le _, Nat.zero_le _⟩ dX1_behind_98 ?_
    refine y_i2l C dX1_behind_101 ?_
    obtain ⟨σ15, hc, h⟩ := g_bd h
    refine y_callVv C (As := [.long (x14.toInt64)]) (rest := []) (k := 0) (hu := nC_0_0) (hc := (rfl : gCl[0]? = some (RX1, TX1, 31))) (hcell := obC_0) (lk_X1_330_X1_l1 C hR (by decide)) (ct_C1_tell_2 hc) rfl rfl (Nat.le_of_ble_eq_true rfl) ⟨Nat.zero_le _, Nat.zero_le _⟩ dX1_behind_102 ?_
    refine y_iload_n C dX1_behind_105 1 rfl rfl ?_
    replace h := Option.some.inj h; subst h
    exact y_iret C hQ ⟨Nat.zero_le _, Nat.zero_le _⟩ dX1_behind_106
  · replace h := g_it h hc
    refine y_iconst (v := (-1 : Int32)) C dX1_behind_8 (by decide) ?_
    replace h := Option.some.inj h; subst h
    exact y_iret C hQ ⟨Nat.zero_le _, Nat.zero_le _⟩ dX1_behind_9
theorem ct_C1_behind {D : va_G} {dA : Nat → ClassId} {A : Nat → Prop} {s0 : State} {b0 : Nat} {l : Launch} {ad : Nat → Nat → Nat} {σ : g_S} {v1 : Int32} {r : Int32} {σ1 : g_S} (h : mF_C1_behind σ v1 = some (r, σ1)) : g_Met gCl D dA A s0 b0 l yX1_behind cX1_behind 4 (some .int) 305 (0, 0) (gC true) ad σ [.ref (ad 0 0), .int v1] (gC true) ad σ1 (some (.int r)) :=
  g_Met.of pl_X1 (Nat.le_of_ble_eq_true rfl) (fun X C hQ hR _ _ hL _ es eb => mw_C1_behind C hR hL h hQ)
theorem mw_C1_wide {X : g_F} (C : g_M gCl X cX1_wide RX1 (some .int)) (hR : g_R X = g_rm 306 0 0) (hL : g_nL X = 2) {ad : Nat → Nat → Nat} {σ : g_S} {v1 : Int32} {o : Int32} (h : mF_C1_wide σ v1 = some o) (hQ : g_MQ gCl X (gC true) ad σ (some (.int o)) = g_Q X) : g_Y gCl X (gC true) ad σ (0, 0) 0 [(0, .ref (ad 0 0)), (1, .int v1)] [] := by
  unfold mF_C1_wide at h
  refine y_aload_n C dX1_wide_0 0 rfl rfl ?_
  refine gf_C_X1_62_0 C nC_0_0 dX1_wide_1 ?_
  refine y_aload_n C dX1_wide_4 0 rfl rfl ?_
  refine gf_C_X1_84_0 C nC_0_0 dX1_wide_5 ?_
  refine y_iload_n C dX1_wide_8 1 rfl rfl ?_
  obtain ⟨x1, hc, h⟩ := g_bd h
  refine y_callV C (As := [.ref (ad 4 0), .int v1]) (rest := []) (k := 1) (hu := nC_1_0) (hc := (rfl : gCl[1]? = some (RX2, TX2, 1))) (hcell := obC_1) (lk_X1_386_X2_l305 C hR (by decide)) (ct_C2_fields_k1_4 nC_4_0 hc) rfl rfl (Nat.le_of_ble_eq_true rfl) ⟨Nat.zero_le _, Nat.zero_le _⟩ dX1_wide_9 ?_
  obtain ⟨x2, hc, h⟩ := g_bd h
  refine y_callS C (As := [.long x1]) (rest := []) (lk_X1_389_l1 C hR (by decide)) (ct_J12_bitCount hc) rfl rfl (Nat.le_of_ble_eq_true rfl) ⟨Nat.zero_le _, Nat.zero_le _⟩ dX1_wide_12 ?_
  replace h := Option.some.inj h; subst h
  exact y_iret C hQ ⟨Nat.zero_le _, Nat.zero_le _⟩ dX1_wide_15
theorem ct_C1_wide {D : va_G} {dA : Nat → ClassId} {A : Nat → Prop} {s0 : State} {b0 : Nat} {l : Launch} {ad : Nat → Nat → Nat} {σ : g_S} {v1 : Int32} {r : Int32} (h : mF_C1_wide σ v1 = some r) : g_Met gCl D dA A s0 b0 l yX1_wide cX1_wide 2 (some .int) 306 (0, 0) (gC true) ad σ [.ref (ad 0 0), .int v1] (gC true) ad σ (some (.int r)) :=
  g_Met.of pl_X1 (Nat.le_of_ble_eq_true rfl) (fun X C hQ hR _ _ hL _ es eb => mw_C1_wide C hR hL h hQ)
theorem mj_C1_widest_42 {X : g_F} (C : g_M gCl X cX1_widest RX1 (some .int)) (hR : g_R X = g_rm 307 0 0) (hL : g_nL X = 4) {ad : Nat → Nat → Nat} {σ : g_S} {v2 : Int32} {v3 : Int32} {s0 : Int32} {o : ((Int32 × Int32 × Int32) ⊕ (Int32 × Int32))} (h : mJ_C1_widest_42 σ v2 v3 s0 = some o) (kl : ∀ z, o = .inl z → g_Y gCl X (gC true) ad σ (0, 0) 16 [(0, .ref (ad 0 0)), (1, .int z.1), (2, .int z.2.1), (3, .int z.2.2)] []) (kx : ∀ z, o = .inr z → g_Y gCl X (gC true) ad σ (0, 0) 68 [(0, .ref (ad 0 0)), (1, .int z.1), (2, .int z.2)] []) : g_Y gCl X (gC true) ad σ (0, 0) 42 [(0, .ref (ad 0 0)), (2, .int v2), (3, .int v3)] [.int s0] := by
  unfold mJ_C1_widest_42 at h
  refine y_istore_n (vs1 := [(1, .int s0), (0, .ref (ad 0 0)), (2, .int v2), (3, .int v3)]) C rfl dX1_widest_42 rfl (g_lL hL rfl) rfl ?_
  refine y_aload_n C dX1_widest_43 1 rfl rfl ?_
  refine y_iload_n C dX1_widest_44 3 rfl rfl ?_
  obtain ⟨x3, hc, h⟩ := g_bd h
  refine y_callV C (As := [.int v3]) (rest := []) (k := 0) (hu := nC_0_0) (hc := (rfl : gCl[0]? = some (RX1, TX1, 31))) (hcell := obC_0) (lk_X1_409_X1_l306 C hR (by decide)) (ct_C1_wide hc) rfl rfl (Nat.le_of_ble_eq_true rfl) ⟨Nat.zero_le _, Nat.zero_le _⟩ dX1_widest_45 ?_
  refine y_aload_n C dX1_widest_48 1 rfl rfl ?_
  refine y_iload_n C dX1_widest_49 2 rfl rfl ?_
  obtain ⟨x4, hc, h⟩ := g_bd h
  refine y_callV C (As := [.int v2]) (rest := [.int x3]) (k := 0) (hu := nC_0_0) (hc := (rfl : gCl[0]? = some (RX1, TX1, 31))) (hcell := obC_0) (lk_X1_409_X1_l306 C hR (by decide)) (ct_C1_wide hc) rfl rfl (Nat.le_of_ble_eq_true rfl) ⟨Nat.zero_le _, Nat.zero_le _⟩ dX1_widest_50 ?_
  refine y_icmp_ge (tgt := 60) C dX1_widest_53 rfl (fun hc => ?_) (fun hc => ?_)
  · replace h := g_it h hc
    refine y_iload_n C dX1_widest_60 2 rfl rfl ?_
    refine y_istore_n (vs1 := [(2, .int v2), (1, .int s0), (0, .ref (ad 0 0)), (3, .int v3)]) C rfl dX1_widest_61 rfl (g_lL hL rfl) rfl ?_
    obtain ⟨x5, hx5, h⟩ := g_lt h
    refine y_iinc (c := (1 : Int32)) (vs1 := [(3, .int x5), (2, .int v2), (1, .int s0), (0, .ref (ad 0 0))]) C hx5 (by decide) dX1_widest_62 3 rfl (g_lL hL rfl) rfl ?_
    refine y_goto (tgt := 16) C dX1_widest_65 rfl ?_
    refine y_sub (vs2 := [(0, .ref (ad 0 0)), (1, .int s0), (2, .int v2), (3, .int x5)]) [3, 2, 1, 0] rfl ?_
    exact kl _ (Option.some.inj h).symm
  · replace h := g_if h hc
    refine y_iload_n C dX1_widest_56 3 rfl rfl ?_
    refine y_goto (tgt := 61) C dX1_widest_57 rfl ?_
    refine y_istore_n (vs1 := [(2, .int v3), (1, .int s0), (0, .ref (ad 0 0)), (3, .int v3)]) C rfl dX1_widest_61 rfl (g_lL hL rfl) rfl ?_
    obtain ⟨x6, hx6, h⟩ := g_lt h
    refine y_iinc (c := (1 : Int32)) (vs1 := [(3, .int x6), (2, .int v3), (1, .int s0), (0, .ref (ad 0 0))]) C hx6 (by decide) dX1_widest_62 3 rfl (g_lL hL rfl) rfl ?_
    refine y_goto (tgt := 16) C dX1_widest_65 rfl ?_
    refine y_sub (vs2 := [(0, .ref (ad 0 0)), (1, .int s0), (2, .int v3), (3, .int x6)]) [3, 2, 1, 0] rfl ?_
    exact kl _ (Option.some.inj h).symm
theorem ml_C1_widest_16 {X : g_F} (C : g_M gCl X cX1_widest RX1 (some .int)) (hR : g_R X = g_rm 307 0 0) (hL : g_nL X = 4) {ad : Nat → Nat → Nat} {σ : g_S} (n : Nat) (v : (Int32 × Int32 × Int32)) (e : (Int32 × Int32)) (h : g_lp (fun v => mB_C1_widest_16 σ v.1 v.2.1 v.2.2) n v = some e) (kx : g_Y gCl X (gC true) ad σ (0, 0) 68 [(0, .ref (ad 0 0)), (1, .int e.1), (2, .int e.2)] []) : g_Y gCl X (gC true) ad σ (0, 0) 16 [(0, .ref (ad 0 0)), (1, .int v.1), (2, .int v.2.1), (3, .int v.2.2)] [] := by
  refine g_loop (P := fun v => g_Y gCl X (gC true) ad σ (0, 0) 16 [(0, .ref (ad 0 0)), (1, .int v.1), (2, .int v.2.1), (3, .int v.2.2)] []) (T := fun e => g_Y gCl X (gC true) ad σ (0, 0) 68 [(0, .ref (ad 0 0)), (1, .int e.1), (2, .int e.2)] []) ?_ n v e h kx
  clear h kx
  clear n v e
  intro v o h kl kx
  obtain ⟨v1, v2, v3⟩ := v
  have h : mB_C1_widest_16 σ v1 v2 v3 = some o := h
  unfold mB_C1_widest_16 at h
  show g_Y gCl X (gC true) ad σ (0, 0) 16 [(0, .ref (ad 0 0)), (1, .int v1), (2, .int v2), (3, .int v3)] []
  refine y_iload_n C dX1_widest_16 3 rfl rfl ?_
  refine y_aload_n C dX1_widest_17 0 rfl rfl ?_
  refine gf_C_X1_150_0 C nC_0_0 dX1_widest_18 ?_
  refine y_icmp_ge (tgt := 68) C dX1_widest_21 rfl (fun hc => ?_) (fun hc => ?_)
  · replace h := g_it h hc
    refine y_sub (vs2 := [(0, .ref (ad 0 0)), (1, .int v1), (2, .int v2)]) [0, 1, 2] rfl ?_
    exact kx _ (Option.some.inj h).symm
  · replace h := g_if h hc
    refine y_aload_n C dX1_widest_24 0 rfl rfl ?_
    refine y_iload_n C dX1_widest_25 3 rfl rfl ?_
    obtain ⟨x1, hc, h⟩ := g_bd h
    refine y_callV C (As := [.int v3]) (rest := []) (k := 0) (hu := nC_0_0) (hc := (rfl : gCl[0]? = some (RX1, TX1, 31))) (hcell := obC_0) (lk_X1_409_X1_l306 C hR (by decide)) (ct_C1_wide hc) rfl rfl (Nat.le_of_ble_eq_true rfl) ⟨Nat.zero_le _, Nat.zero_le _⟩ dX1_widest_26 ?_
    refine y_aload_n C dX1_widest_29 0 rfl rfl ?_
    refine y_iload_n C dX1_widest_30 1 rfl rfl ?_
    obtain ⟨x2, hc, h⟩ := g_bd h
    refine y_callV C (As := [.int v1]) (rest := [.int x1]) (k := 0) (hu := nC_0_0) (hc := (rfl : gCl[0]? = some (RX1, TX1, 31))) (hcell := obC_0) (lk_X1_409_X1_l306 C hR (by decide)) (ct_C1_wide hc) rfl rfl (Nat.le_of_ble_eq_true rfl) ⟨Nat.zero_le _, Nat.zero_le _⟩ dX1_widest_31 ?_
    refine y_icmp_le (tgt := 41) C dX1_widest_34 rfl (fun hc => ?_) (fun hc => ?_)
    · replace h := g_it h hc
      refine y_iload_n C dX1_widest_41 1 rfl rfl ?_
      refine y_sub (vs2 := [(0, .ref (ad 0 0)), (2, .int v2), (3, .int v3)]) [0, 2, 3] rfl ?_
      exact mj_C1_widest_42 C hR hL h kl kx
    · replace h := g_if h hc
      refine y_iload_n C dX1_widest_37 3 rfl rfl ?_
      refine y_goto (tgt := 42) C dX1_widest_38 rfl ?_
      refine y_sub (vs2 := [(0, .ref (ad 0 0)), (2, .int v2), (3, .int v3)]) [0, 2, 3] rfl ?_
      exact mj_C1_widest_42 C hR hL h kl kx
theorem mw_C1_widest {X : g_F} (C : g_M gCl X cX1_widest RX1 (some .int)) (hR : g_R X = g_rm 307 0 0) (hL : g_nL X = 4) {ad : Nat → Nat → Nat} {σ : g_S} {o : (Int32 × g_S)} (h : mF_C1_widest σ = some o) (hQ : g_MQ gCl X (gC true) ad o.2 (some (.int o.1)) = g_Q X) : g_Y gCl X (gC true) ad σ (0, 0) 0 [(0, .ref (ad 0 0))] [] := by
  unfold mF_C1_widest at h
  refine y_aload_n C dX1_widest_0 0 rfl rfl ?_
  refine gf_C_X1_150_0 C nC_0_0 dX1_widest_1 ?_
  refine y_if_ne (tgt := 10) C dX1_widest_4 rfl (fun hc => ?_) (fun hc => ?_)
  · replace h := g_if h hc
    refine y_iconst (v := (0 : Int32)) C dX1_widest_10 (by decide) ?_
    refine y_istore_n (vs1 := [(1, .int (0 : Int32)), (0, .ref (ad 0 0))]) C rfl dX1_widest_11 rfl (g_lL hL rfl) rfl ?_
    refine y_iconst (v := (0 : Int32)) C dX1_widest_12 (by decide) ?_
    refine y_istore_n (vs1 := [(2, .int (0 : Int32)), (1, .int (0 : Int32)), (0, .ref (ad 0 0))]) C rfl dX1_widest_13 rfl (g_lL hL rfl) rfl ?_
    refine y_iconst (v := (1 : Int32)) C dX1_widest_14 (by decide) ?_
    refine y_istore_n (vs1 := [(3, .int (1 : Int32)), (2, .int (0 : Int32)), (1, .int (0 : Int32)), (0, .ref (ad 0 0))]) C rfl dX1_widest_15 rfl (g_lL hL rfl) rfl ?_
    refine y_sub (vs2 := [(0, .ref (ad 0 0)), (1, .int (0 : Int32)), (2, .int (0 : Int32)), (3, .int (1 : Int32))]) [3, 2, 1, 0] rfl ?_
    obtain ⟨e7, he7, h⟩ := g_bd h
    refine ml_C1_widest_16 C hR hL (σ := σ) _ _ _ he7 ?_
    refine y_aload_n C dX1_widest_68 0 rfl rfl ?_
    refine y_iconst (v := (0 : Int32)) C dX1_widest_69 (by decide) ?_
    obtain ⟨σ8, hσ8, h⟩ := g_lt h
    refine pf_C_X1_139_0 C nC_0_0 hσ8 dX1_widest_70 ?_
    refine y_aload_n C dX1_widest_73 0 rfl rfl ?_
    refine y_aload_n C dX1_widest_74 0 rfl rfl ?_
    refine y_iload_n C dX1_widest_75 1 rfl rfl ?_
    obtain ⟨x9, hc, h⟩ := g_bd h
    refine y_callV C (As := [.int e7.1]) (rest := [.ref (ad 0 0)]) (k := 0) (hu := nC_0_0) (hc := (rfl : gCl[0]? = some (RX1, TX1, 31))) (hcell := obC_0) (lk_X1_409_X1_l306 C hR (by decide)) (ct_C1_wide hc) rfl rfl (Nat.le_of_ble_eq_true rfl) ⟨Nat.zero_le _, Nat.zero_le _⟩ dX1_widest_76 ?_
    refine y_i2l C dX1_widest_79 ?_
    obtain ⟨σ10, hc, h⟩ := g_bd h
    refine y_callVv C (As := [.long (x9.toInt64)]) (rest := []) (k := 0) (hu := nC_0_0) (hc := (rfl : gCl[0]? = some (RX1, TX1, 31))) (hcell := obC_0) (lk_X1_330_X1_l1 C hR (by decide)) (ct_C1_tell_2 hc) rfl rfl (Nat.le_of_ble_eq_true rfl) ⟨Nat.zero_le _, Nat.zero_le _⟩ dX1_widest_80 ?_
    refine y_aload_n C dX1_widest_83 0 rfl rfl ?_
    refine y_iload_n C dX1_widest_84 2 rfl rfl ?_
    refine y_i2l C dX1_widest_85 ?_
    obtain ⟨σ11, hc, h⟩ := g_bd h
    refine y_callVv C (As := [.long (e7.2.toInt64)]) (rest := []) (k := 0) (hu := nC_0_0) (hc := (rfl : gCl[0]? = some (RX1, TX1, 31))) (hcell := obC_0) (lk_X1_330_X1_l1 C hR (by decide)) (ct_C1_tell_2 hc) rfl rfl (Nat.le_of_ble_eq_true rfl) ⟨Nat.zero_le _, Nat.zero_le _⟩ dX1_widest_86 ?_
    refine y_aload_n C dX1_widest_89 0 rfl rfl ?_
    refine y_aload_n C dX1_widest_90 0 rfl rfl ?_
    refine y_iload_n C dX1_widest_91 2 rfl rfl ?_
    obtain ⟨x12, hc, h⟩ := g_bd h
    refine y_callV C (As := [.int e7.2]) (rest := [.ref (ad 0 0)]) (k := 0) (hu := nC_0_0) (hc := (rfl : gCl[0]? = some (RX1, TX1, 31))) (hcell := obC_0) (lk_X1_409_X1_l306 C hR (by decide)) (ct_C1_wide hc) rfl rfl (Nat.le_of_ble_eq_true rfl) ⟨Nat.zero_le _, Nat.zero_le _⟩ dX1_widest_92 ?_
    refine y_i2l C dX1_widest_95 ?_
    obtain ⟨σ13, hc, h⟩ := g_bd h
    refine y_callVv C (As := [.long (x12.toInt64)]) (rest := []) (k := 0) (hu := nC_0_0) (hc := (rfl : gCl[0]? = some (RX1, TX1, 31))) (hcell := obC_0) (lk_X1_330_X1_l1 C hR (by decide)) (ct_C1_tell_2 hc) rfl rfl (Nat.le_of_ble_eq_true rfl) ⟨Nat.zero_le _, Nat.zero_le _⟩ dX1_widest_96 ?_
    refine y_iload_n C dX1_widest_99 1 rfl rfl ?_
    replace h := Option.some.inj h; subst h
    exact y_iret C hQ ⟨Nat.zero_le _, Nat.zero_le _⟩ dX1_widest_100
  · replace h := g_it h hc
    refine y_bipush (v := (-2 : Int32)) C dX1_widest_7 (by decide) ?_
    replace h := Option.some.inj h; subst h
    exact y_iret C hQ ⟨Nat.zero_le _, Nat.zero_le _⟩ dX1_widest_9
theorem ct_C1_widest {D : va_G} {dA : Nat → ClassId} {A : Nat → Prop} {s0 : State} {b0 : Nat} {l : Launch} {ad : Nat → Nat → Nat} {σ : g_S} {r : Int32} {σ1 : g_S} (h : mF_C1_widest σ = some (r, σ1)) : g_Met gCl D dA A s0 b0 l yX1_widest cX1_widest 4 (some .int) 307 (0, 0) (gC true) ad σ [.ref (ad 0 0)] (gC true) ad σ1 (some (.int r)) :=
  g_Met.of pl_X1 (Nat.le_of_ble_eq_true rfl) (fun X C hQ hR _ _ hL _ es eb => mw_C1_widest C hR hL h hQ)
theorem mw_C1_allMen {X : g_F} {hid : Bool} (C : g_M gCl X cX1_allMen RX1 (some .int)) (hR : g_R X = g_rm 1 0 0) (hL : g_nL X = 1) {ad : Nat → Nat → Nat} {σ : g_S} {o : Int32} (h : mF_C1_allMen σ = some o) (hQ : g_MQ gCl X (gC hid) ad σ (some (.int o)) = g_Q X) : g_Y gCl X (gC hid) ad σ (0, 0) 0 [(0, .ref (ad 0 0))] [] := by
  unfold mF_C1_allMen at h
  refine y_iconst (v := (1 : Int32)) C dX1_allMen_0 (by decide) ?_
  refine y_aload_n C dX1_allMen_1 0 rfl rfl ?_
  refine gf_C_X1_150_0 C nC_0_0 dX1_allMen_2 ?_
  refine y_ishl C dX1_allMen_5 ?_
  refine y_iconst (v := (1 : Int32)) C dX1_allMen_6 (by decide) ?_
  refine y_isub C dX1_allMen_7 ?_
  replace h := Option.some.inj h; subst h
  exact y_iret C hQ ⟨Nat.zero_le _, Nat.zero_le _⟩ dX1_allMen_8
theorem ct_C1_allMen {D : va_G} {dA : Nat → ClassId} {A : Nat → Prop} {s0 : State} {b0 : Nat} {l : Launch} {hid : Bool} {ad : Nat → Nat → Nat} {σ : g_S} {r : Int32} (h : mF_C1_allMen σ = some r) : g_Met gCl D dA A s0 b0 l yX1_allMen cX1_allMen 1 (some .int) 1 (0, 0) (gC hid) ad σ [.ref (ad 0 0)] (gC hid) ad σ (some (.int r)) :=
  g_Met.of pl_X1 (Nat.le_of_ble_eq_true rfl) (fun X C hQ hR _ _ hL _ es eb => mw_C1_allMen C hR hL h hQ)
theorem ml_C1_watch_4 {X : g_F} (C : g_M gCl X cX1_watch RX1 (some .int)) (hR : g_R X = g_rm 306 0 0) (hL : g_nL X = 8) {ad : Nat → Nat → Nat} {σ : g_S} (n : Nat) (v : (Int64 × Int32 × g_S)) (e : (Int64 × g_S)) (h : g_lp (fun v => mB_C1_watch_4 v.2.2 v.1 v.2.1) n v = some e) (kx : g_Y gCl X (gC true) ad e.2 (0, 0) 45 [(0, .ref (ad 0 0)), (1, .long e.1)] []) : g_Y gCl X (gC true) ad v.2.2 (0, 0) 4 [(0, .ref (ad 0 0)), (1, .long v.1), (3, .int v.2.1)] [] := by
  refine g_loop (P := fun v => g_Y gCl X (gC true) ad v.2.2 (0, 0) 4 [(0, .ref (ad 0 0)), (1, .long v.1), (3, .int v.2.1)] []) (T := fun e => g_Y gCl X (gC true) ad e.2 (0, 0) 45 [(0, .ref (ad 0 0)), (1, .long e.1)] []) ?_ n v e h kx
  clear h kx
  clear n v e
  intro v o h kl kx
  obtain ⟨v1, v3, σ⟩ := v
  have h : mB_C1_watch_4 σ v1 v3 = some o := h
  unfold mB_C1_watch_4 at h
  show g_Y gCl X (gC true) ad σ (0, 0) 4 [(0, .ref (ad 0 0)), (1, .long v1), (3, .int v3)] []
  refine y_iload_n C dX1_watch_4 2 rfl rfl ?_
  refine y_aload_n C dX1_watch_5 0 rfl rfl ?_
  refine gf_C_X1_150_0 C nC_0_0 dX1_watch_6 ?_
  refine y_icmp_ge (tgt := 45) C dX1_watch_9 rfl (fun hc => ?_) (fun hc => ?_)
  · replace h := g_it h hc
    refine y_sub (vs2 := [(0, .ref (ad 0 0)), (1, .long v1)]) [0, 1] rfl ?_
    exact kx _ (Option.some.inj h).symm
  · replace h := g_if h hc
    refine y_aload_n C dX1_watch_12 0 rfl rfl ?_
    refine gf_C_X1_113_0 C nC_0_0 dX1_watch_13 ?_
    refine y_iload_n C dX1_watch_16 2 rfl rfl ?_
    refine y_aload_n C dX1_watch_17 0 rfl rfl ?_
    refine gf_C_X1_62_0 C nC_0_0 dX1_watch_18 ?_
    refine y_aload_n C dX1_watch_21 0 rfl rfl ?_
    refine gf_C_X1_84_0 C nC_0_0 dX1_watch_22 ?_
    refine y_iload_n C dX1_watch_25 2 rfl rfl ?_
    obtain ⟨x1, hc, h⟩ := g_bd h
    refine y_callV C (As := [.ref (ad 4 0), .int v3]) (rest := [.int v3, .ref (ad 15 0)]) (k := 1) (hu := nC_1_0) (hc := (rfl : gCl[1]? = some (RX2, TX2, 1))) (hcell := obC_1) (lk_X1_386_X2_l305 C hR (by decide)) (ct_C2_fields_k1_4 nC_4_0 hc) rfl rfl (Nat.le_of_ble_eq_true rfl) ⟨Nat.zero_le _, Nat.zero_le _⟩ dX1_watch_26 ?_
    obtain ⟨hg, h⟩ := g_gd h
    obtain ⟨σ2, hσ2, h⟩ := g_lt h
    refine as_C_15 C nC_15_0 hσ2 hg dX1_watch_29 ?_
    refine y_lload_n C dX1_watch_30 1 rfl rfl ?_
    refine y_aload_n C dX1_watch_31 0 rfl rfl ?_
    refine gf_C_X1_113_0 C nC_0_0 dX1_watch_32 ?_
    refine y_iload_n C dX1_watch_35 2 rfl rfl ?_
    obtain ⟨hg, h⟩ := g_gd h
    refine al_C_15 C nC_15_0 hg dX1_watch_36 ?_
    refine y_lor C dX1_watch_37 ?_
    obtain ⟨x3, hx3, h⟩ := g_lt h
    refine y_lstore_n (vs1 := [(1, .long x3), (0, .ref (ad 0 0)), (3, .int v3)]) C hx3 dX1_watch_38 rfl (g_lL hL rfl) rfl ?_
    obtain ⟨x4, hx4, h⟩ := g_lt h
    refine y_iinc (c := (1 : Int32)) (vs1 := [(3, .int x4), (1, .long x3), (0, .ref (ad 0 0))]) C hx4 (by decide) dX1_watch_39 2 rfl (g_lL hL rfl) rfl ?_
    refine y_goto (tgt := 4) C dX1_watch_42 rfl ?_
    refine y_sub (vs2 := [(0, .ref (ad 0 0)), (1, .long x3), (3, .int x4)]) [2, 1, 0] rfl ?_
    exact kl _ (Option.some.inj h).symm
theorem ml_C1_watch_82 {X : g_F} (C : g_M gCl X cX1_watch RX1 (some .int)) (hR : g_R X = g_rm 306 0 0) (hL : g_nL X = 8) {ad : Nat → Nat → Nat} {σ : g_S} {v1 : Int64} {v3 : Int32} {v4 : Int32} (n : Nat) (v : (Int64 × Int32)) (e : Int64) (h : g_lp (fun v => mB_C1_watch_82 σ v1 v3 v4 v.1 v.2) n v = some e) (kx : g_Y gCl X (gC true) ad σ (0, 0) 124 [(0, .ref (ad 0 0)), (1, .long v1), (3, .int v3), (4, .int v4), (5, .long e)] []) : g_Y gCl X (gC true) ad σ (0, 0) 82 [(0, .ref (ad 0 0)), (1, .long v1), (3, .int v3), (4, .int v4), (5, .long v.1), (7, .int v.2)] [] := by
  refine g_loop (P := fun v => g_Y gCl X (gC true) ad σ (0, 0) 82 [(0, .ref (ad 0 0)), (1, .long v1), (3, .int v3), (4, .int v4), (5, .long v.1), (7, .int v.2)] []) (T := fun e => g_Y gCl X (gC true) ad σ (0, 0) 124 [(0, .ref (ad 0 0)), (1, .long v1), (3, .int v3), (4, .int v4), (5, .long e)] []) ?_ n v e h kx
  clear h kx
  clear n v e
  intro v o h kl kx
  obtain ⟨v5, v7⟩ := v
  have h : mB_C1_watch_82 σ v1 v3 v4 v5 v7 = some o := h
  unfold mB_C1_watch_82 at h
  show g_Y gCl X (gC true) ad σ (0, 0) 82 [(0, .ref (ad 0 0)), (1, .long v1), (3, .int v3), (4, .int v4), (5, .long v5), (7, .int v7)] []
  refine y_iload C dX1_watch_82 5 rfl ?_
  refine y_aload_n C dX1_watch_84 0 rfl rfl ?_
  refine gf_C_X1_150_0 C nC_0_0 dX1_watch_85 ?_
  refine y_icmp_ge (tgt := 124) C dX1_watch_88 rfl (fun hc => ?_) (fun hc => ?_)
  · replace h := g_it h hc
    refine y_sub (vs2 := [(0, .ref (ad 0 0)), (1, .long v1), (3, .int v3), (4, .int v4), (5, .long v5)]) [0, 1, 2, 3, 4] rfl ?_
    exact kx _ (Option.some.inj h).symm
  · replace h := g_if h hc
    refine y_lload C dX1_watch_91 4 rfl ?_
    refine y_iload C dX1_watch_93 3 rfl ?_
    refine y_i2l C dX1_watch_95 ?_
    refine y_iload C dX1_watch_96 5 rfl ?_
    obtain ⟨x10, hc, h⟩ := g_bd h
    refine y_callS C (As := [.long (v4.toInt64), .int v7]) (rest := [.long v5]) (lk_X1_26_l1 C hR (by decide)) (ct_C1_has hc) rfl rfl (Nat.le_of_ble_eq_true rfl) ⟨Nat.zero_le _, Nat.zero_le _⟩ dX1_watch_98 ?_
    refine y_if_eq (tgt := 114) C dX1_watch_101 rfl (fun hc => ?_) (fun hc => ?_)
    · replace h := g_it h hc
      refine y_lconst (v := (0 : Int64)) C dX1_watch_114 (by decide) ?_
      refine y_lor C dX1_watch_115 ?_
      obtain ⟨x11, hx11, h⟩ := g_lt h
      refine y_lstore (vs1 := [(5, .long x11), (0, .ref (ad 0 0)), (1, .long v1), (3, .int v3), (4, .int v4), (7, .int v7)]) C hx11 dX1_watch_116 (g_lL hL rfl) rfl ?_
      obtain ⟨x12, hx12, h⟩ := g_lt h
      refine y_iinc (c := (1 : Int32)) (vs1 := [(7, .int x12), (5, .long x11), (0, .ref (ad 0 0)), (1, .long v1), (3, .int v3), (4, .int v4)]) C hx12 (by decide) dX1_watch_118 5 rfl (g_lL hL rfl) rfl ?_
      refine y_goto (tgt := 82) C dX1_watch_121 rfl ?_
      refine y_sub (vs2 := [(0, .ref (ad 0 0)), (1, .long v1), (3, .int v3), (4, .int v4), (5, .long x11), (7, .int x12)]) [2, 3, 4, 5, 1, 0] rfl ?_
      exact kl _ (Option.some.inj h).symm
    · replace h := g_if h hc
      refine y_aload_n C dX1_watch_104 0 rfl rfl ?_
      refine gf_C_X1_113_0 C nC_0_0 dX1_watch_105 ?_
      refine y_iload C dX1_watch_108 5 rfl ?_
      obtain ⟨hg, h⟩ := g_gd h
      refine al_C_15 C nC_15_0 hg dX1_watch_110 ?_
      refine y_goto (tgt := 115) C dX1_watch_111 rfl ?_
      refine y_lor C dX1_watch_115 ?_
      obtain ⟨x13, hx13, h⟩ := g_lt h
      refine y_lstore (vs1 := [(5, .long x13), (0, .ref (ad 0 0)), (1, .long v1), (3, .int v3), (4, .int v4), (7, .int v7)]) C hx13 dX1_watch_116 (g_lL hL rfl) rfl ?_
      obtain ⟨x14, hx14, h⟩ := g_lt h
      refine y_iinc (c := (1 : Int32)) (vs1 := [(7, .int x14), (5, .long x13), (0, .ref (ad 0 0)), (1, .long v1), (3, .int v3), (4, .int v4)]) C hx14 (by decide) dX1_watch_118 5 rfl (g_lL hL rfl) rfl ?_
      refine y_goto (tgt := 82) C dX1_watch_121 rfl ?_
      refine y_sub (vs2 := [(0, .ref (ad 0 0)), (1, .long v1), (3, .int v3), (4, .int v4), (5, .long x13), (7, .int x14)]) [2, 3, 4, 5, 1, 0] rfl ?_
      exact kl _ (Option.some.inj h).symm
theorem ml_C1_watch_56 {X : g_F} (C : g_M gCl X cX1_watch RX1 (some .int)) (hR : g_R X = g_rm 306 0 0) (hL : g_nL X = 8) {ad : Nat → Nat → Nat} {σ : g_S} {v1 : Int64} (n : Nat) (v : (Int32 × Int32)) (e : Int32) (h : g_lp (fun v => mB_C1_watch_56 σ v1 v.1 v.2) n v = some e) (kx : g_Y gCl X (gC true) ad σ (0, 0) 140 [(0, .ref (ad 0 0)), (3, .int e)] []) : g_Y gCl X (gC true) ad σ (0, 0) 56 [(0, .ref (ad 0 0)), (1, .long v1), (3, .int v.1), (4, .int v.2)] [] := by
  refine g_loop (P := fun v => g_Y gCl X (gC true) ad σ (0, 0) 56 [(0, .ref (ad 0 0)), (1, .long v1), (3, .int v.1), (4, .int v.2)] []) (T := fun e => g_Y gCl X (gC true) ad σ (0, 0) 140 [(0, .ref (ad 0 0)), (3, .int e)] []) ?_ n v e h kx
  clear h kx
  clear n v e
  intro v o h kl kx
  obtain ⟨v3, v4⟩ := v
  have h : mB_C1_watch_56 σ v1 v3 v4 = some o := h
  unfold mB_C1_watch_56 at h
  show g_Y gCl X (gC true) ad σ (0, 0) 56 [(0, .ref (ad 0 0)), (1, .long v1), (3, .int v3), (4, .int v4)] []
  refine y_iload C dX1_watch_56 3 rfl ?_
  refine y_if_lt (tgt := 140) C dX1_watch_58 rfl (fun hc => ?_) (fun hc => ?_)
  · replace h := g_it h hc
    refine y_sub (vs2 := [(0, .ref (ad 0 0)), (3, .int v3)]) [0, 2] rfl ?_
    exact kx _ (Option.some.inj h).symm
  · replace h := g_if h hc
    refine y_iload C dX1_watch_61 3 rfl ?_
    obtain ⟨x8, hc, h⟩ := g_bd h
    refine y_callS C (As := [.int v4]) (rest := []) (lk_X1_315_l1 C hR (by decide)) (ct_J8_bitCount hc) rfl rfl (Nat.le_of_ble_eq_true rfl) ⟨Nat.zero_le _, Nat.zero_le _⟩ dX1_watch_63 ?_
    refine y_iload_n C dX1_watch_66 2 rfl rfl ?_
    obtain ⟨x9, hc, h⟩ := g_bd h
    refine y_callS C (As := [.int v3]) (rest := [.int x8]) (lk_X1_315_l1 C hR (by decide)) (ct_J8_bitCount hc) rfl rfl (Nat.le_of_ble_eq_true rfl) ⟨Nat.zero_le _, Nat.zero_le _⟩ dX1_watch_67 ?_
    refine y_icmp_le (tgt := 76) C dX1_watch_70 rfl (fun hc => ?_) (fun hc => ?_)
    · replace h := g_it h hc
      refine y_lconst (v := (0 : Int64)) C dX1_watch_76 (by decide) ?_
      refine y_lstore (vs1 := [(5, .long (0 : Int64)), (0, .ref (ad 0 0)), (1, .long v1), (3, .int v3), (4, .int v4)]) C rfl dX1_watch_77 (g_lL hL rfl) rfl ?_
      refine y_iconst (v := (0 : Int32)) C dX1_watch_79 (by decide) ?_
      refine y_istore (vs1 := [(7, .int (0 : Int32)), (5, .long (0 : Int64)), (0, .ref (ad 0 0)), (1, .long v1), (3, .int v3), (4, .int v4)]) C rfl dX1_watch_80 (g_lL hL rfl) rfl ?_
      refine y_sub (vs2 := [(0, .ref (ad 0 0)), (1, .long v1), (3, .int v3), (4, .int v4), (5, .long (0 : Int64)), (7, .int (0 : Int32))]) [2, 3, 4, 5, 1, 0] rfl ?_
      obtain ⟨e15, he15, h⟩ := g_bd h
      refine ml_C1_watch_82 C hR hL (σ := σ) _ _ _ he15 ?_
      refine y_lload C dX1_watch_124 4 rfl ?_
      refine y_lload_n C dX1_watch_126 1 rfl rfl ?_
      refine y_lcmp C dX1_watch_127 ?_
      refine y_if_ne (tgt := 134) C dX1_watch_128 rfl (fun hc => ?_) (fun hc => ?_)
      · replace h := g_if h hc
        obtain ⟨x16, hx16, h⟩ := g_lt h
        refine y_iinc (c := (-1 : Int32)) (vs1 := [(4, .int x16), (0, .ref (ad 0 0)), (1, .long v1), (3, .int v3), (5, .long e15)]) C hx16 (by decide) dX1_watch_134 3 rfl (g_lL hL rfl) rfl ?_
        refine y_goto (tgt := 56) C dX1_watch_137 rfl ?_
        refine y_sub (vs2 := [(0, .ref (ad 0 0)), (1, .long v1), (3, .int v3), (4, .int x16)]) [1, 2, 3, 0] rfl ?_
        exact kl _ (Option.some.inj h).symm
      · replace h := g_it h hc
        refine y_iload C dX1_watch_131 3 rfl ?_
        refine y_istore_n (vs1 := [(3, .int v4), (0, .ref (ad 0 0)), (1, .long v1), (4, .int v4), (5, .long e15)]) C rfl dX1_watch_133 rfl (g_lL hL rfl) rfl ?_
        obtain ⟨x17, hx17, h⟩ := g_lt h
        refine y_iinc (c := (-1 : Int32)) (vs1 := [(4, .int x17), (3, .int v4), (0, .ref (ad 0 0)), (1, .long v1), (5, .long e15)]) C hx17 (by decide) dX1_watch_134 3 rfl (g_lL hL rfl) rfl ?_
        refine y_goto (tgt := 56) C dX1_watch_137 rfl ?_
        refine y_sub (vs2 := [(0, .ref (ad 0 0)), (1, .long v1), (3, .int v4), (4, .int x17)]) [2, 3, 1, 0] rfl ?_
        exact kl _ (Option.some.inj h).symm
    · replace h := g_if h hc
      refine y_goto (tgt := 134) C dX1_watch_73 rfl ?_
      obtain ⟨x18, hx18, h⟩ := g_lt h
      refine y_iinc (c := (-1 : Int32)) (vs1 := [(4, .int x18), (0, .ref (ad 0 0)), (1, .long v1), (3, .int v3)]) C hx18 (by decide) dX1_watch_134 3 rfl (g_lL hL rfl) rfl ?_
      refine y_goto (tgt := 56) C dX1_watch_137 rfl ?_
      refine y_sub (vs2 := [(0, .ref (ad 0 0)), (1, .long v1), (3, .int v3), (4, .int x18)]) [1, 2, 3, 0] rfl ?_
      exact kl _ (Option.some.inj h).symm
theorem mw_C1_watch {X : g_F} (C : g_M gCl X cX1_watch RX1 (some .int)) (hR : g_R X = g_rm 306 0 0) (hL : g_nL X = 8) {ad : Nat → Nat → Nat} {σ : g_S} {o : (Int32 × g_S)} (h : mF_C1_watch σ = some o) (hQ : g_MQ gCl X (gC true) ad o.2 (some (.int o.1)) = g_Q X) : g_Y gCl X (gC true) ad σ (0, 0) 0 [(0, .ref (ad 0 0))] [] := by
  unfold mF_C1_watch at h
  refine y_lconst (v := (0 : Int64)) C dX1_watch_0 (by decide) ?_
  refine y_lstore_n (vs1 := [(1, .long (0 : Int64)), (0, .ref (ad 0 0))]) C rfl dX1_watch_1 rfl (g_lL hL rfl) rfl ?_
  refine y_iconst (v := (0 : Int32)) C dX1_watch_2 (by decide) ?_
  refine y_istore_n (vs1 := [(3, .int (0 : Int32)), (1, .long (0 : Int64)), (0, .ref (ad 0 0))]) C rfl dX1_watch_3 rfl (g_lL hL rfl) rfl ?_
  refine y_sub (vs2 := [(0, .ref (ad 0 0)), (1, .long (0 : Int64)), (3, .int (0 : Int32))]) [2, 1, 0] rfl ?_
  obtain ⟨e5, he5, h⟩ := g_bd h
  refine ml_C1_watch_4 C hR hL (σ := σ) _ _ _ he5 ?_
  refine y_aload_n C dX1_watch_45 0 rfl rfl ?_
  obtain ⟨x6, hc, h⟩ := g_bd h
  refine y_callV C (As := []) (rest := []) (k := 0) (hu := nC_0_0) (hc := (rfl : gCl[0]? = some (RX1, TX1, 31))) (hcell := obC_0) (lk_X1_412_X1_l1 C hR (by decide)) (ct_C1_allMen hc) rfl rfl (Nat.le_of_ble_eq_true rfl) ⟨Nat.zero_le _, Nat.zero_le _⟩ dX1_watch_46 ?_
  refine y_istore_n (vs1 := [(3, .int x6), (0, .ref (ad 0 0)), (1, .long e5.1)]) C rfl dX1_watch_49 rfl (g_lL hL rfl) rfl ?_
  refine y_aload_n C dX1_watch_50 1 rfl rfl ?_
  obtain ⟨x7, hc, h⟩ := g_bd h
  refine y_callV C (As := []) (rest := []) (k := 0) (hu := nC_0_0) (hc := (rfl : gCl[0]? = some (RX1, TX1, 31))) (hcell := obC_0) (lk_X1_412_X1_l1 C hR (by decide)) (ct_C1_allMen hc) rfl rfl (Nat.le_of_ble_eq_true rfl) ⟨Nat.zero_le _, Nat.zero_le _⟩ dX1_watch_51 ?_
  refine y_istore (vs1 := [(4, .int x7), (3, .int x6), (0, .ref (ad 0 0)), (1, .long e5.1)]) C rfl dX1_watch_54 (g_lL hL rfl) rfl ?_
  refine y_sub (vs2 := [(0, .ref (ad 0 0)), (1, .long e5.1), (3, .int x6), (4, .int x7)]) [2, 3, 1, 0] rfl ?_
  obtain ⟨e19, he19, h⟩ := g_bd h
  refine ml_C1_watch_56 C hR hL (σ := e5.2) _ _ _ he19 ?_
  refine y_aload_n C dX1_watch_140 0 rfl rfl ?_
  refine y_iconst (v := (0 : Int32)) C dX1_watch_141 (by decide) ?_
  obtain ⟨σ20, hσ20, h⟩ := g_lt h
  refine pf_C_X1_139_0 C nC_0_0 hσ20 dX1_watch_142 ?_
  refine y_aload_n C dX1_watch_145 0 rfl rfl ?_
  refine y_iload_n C dX1_watch_146 1 rfl rfl ?_
  refine y_i2l C dX1_watch_147 ?_
  obtain ⟨σ21, hc, h⟩ := g_bd h
  refine y_callVv C (As := [.long (e19.toInt64)]) (rest := []) (k := 0) (hu := nC_0_0) (hc := (rfl : gCl[0]? = some (RX1, TX1, 31))) (hcell := obC_0) (lk_X1_330_X1_l1 C hR (by decide)) (ct_C1_tell_2 hc) rfl rfl (Nat.le_of_ble_eq_true rfl) ⟨Nat.zero_le _, Nat.zero_le _⟩ dX1_watch_148 ?_
  refine y_iload_n C dX1_watch_151 1 rfl rfl ?_
  obtain ⟨x22, hc, h⟩ := g_bd h
  refine y_callS C (As := [.int e19]) (rest := []) (lk_X1_315_l1 C hR (by decide)) (ct_J8_bitCount hc) rfl rfl (Nat.le_of_ble_eq_true rfl) ⟨Nat.zero_le _, Nat.zero_le _⟩ dX1_watch_152 ?_
  replace h := Option.some.inj h; subst h
  exact y_iret C hQ ⟨Nat.zero_le _, Nat.zero_le _⟩ dX1_watch_155
theorem ct_C1_watch {D : va_G} {dA : Nat → ClassId} {A : Nat → Prop} {s0 : State} {b0 : Nat} {l : Launch} {ad : Nat → Nat → Nat} {σ : g_S} {r : Int32} {σ1 : g_S} (h : mF_C1_watch σ = some (r, σ1)) : g_Met gCl D dA A s0 b0 l yX1_watch cX1_watch 8 (some .int) 306 (0, 0) (gC true) ad σ [.ref (ad 0 0)] (gC true) ad σ1 (some (.int r)) :=
  g_Met.of pl_X1 (Nat.le_of_ble_eq_true rfl) (fun X C hQ hR _ _ hL _ es eb => mw_C1_watch C hR hL h hQ)
theorem ml_C1_knowersOf_5 {X : g_F} {hid : Bool} (C : g_M gCl X cX1_knowersOf RX1 (some .int)) (hR : g_R X = g_rm 2 0 0) (hL : g_nL X = 5) {u0 : Nat} (hu_u0 : u0 < g_n (gC hid) 4) {ad : Nat → Nat → Nat} {σ : g_S} {v2 : Int32} (n : Nat) (v : (Int32 × Int32)) (e : Int32) (h : g_lp (fun v => mB_C1_knowersOf_5 σ u0 v2 v.1 v.2) n v = some e) (kx : g_Y gCl X (gC hid) ad σ (0, 0) 46 [(3, .int e)] []) : g_Y gCl X (gC hid) ad σ (0, 0) 5 [(0, .ref (ad 0 0)), (1, .ref (ad 4 u0)), (2, .int v2), (3, .int v.1), (4, .int v.2)] [] := by
  refine g_loop (P := fun v => g_Y gCl X (gC hid) ad σ (0, 0) 5 [(0, .ref (ad 0 0)), (1, .ref (ad 4 u0)), (2, .int v2), (3, .int v.1), (4, .int v.2)] []) (T := fun e => g_Y gCl X (gC hid) ad σ (0, 0) 46 [(3, .int e)] []) ?_ n v e h kx
  clear h kx
  clear n v e
  intro v o h kl kx
  obtain ⟨v3, v4⟩ := v
  have h : mB_C1_knowersOf_5 σ u0 v2 v3 v4 = some o := h
  unfold mB_C1_knowersOf_5 at h
  show g_Y gCl X (gC hid) ad σ (0, 0) 5 [(0, .ref (ad 0 0)), (1, .ref (ad 4 u0)), (2, .int v2), (3, .int v3), (4, .int v4)] []
  refine y_iload C dX1_knowersOf_5 4 rfl ?_
  refine y_aload_n C dX1_knowersOf_7 0 rfl rfl ?_
  refine gf_C_X1_150_0 C nC_0_0 dX1_knowersOf_8 ?_
  refine y_icmp_ge (tgt := 46) C dX1_knowersOf_11 rfl (fun hc => ?_) (fun hc => ?_)
  · replace h := g_it h hc
    refine y_sub (vs2 := [(3, .int v3)]) [3] rfl ?_
    exact kx _ (Option.some.inj h).symm
  · replace h := g_if h hc
    refine y_iload_n C dX1_knowersOf_14 3 rfl rfl ?_
    refine y_aload_n C dX1_knowersOf_15 1 rfl rfl ?_
    refine gf_C_X1_225_4 C hu_u0 dX1_knowersOf_16 ?_
    refine y_iload C dX1_knowersOf_19 4 rfl ?_
    obtain ⟨hg, h⟩ := g_gd h
    refine al_C_8 C hu_u0 hg dX1_knowersOf_21 ?_
    refine y_i2l C dX1_knowersOf_22 ?_
    refine y_iload_n C dX1_knowersOf_23 2 rfl rfl ?_
    obtain ⟨x1, hc, h⟩ := g_bd h
    refine y_callS C (As := [.long ((σ.1 8 u0 v4.toNatClampNeg).toInt64), .int v2]) (rest := [.int v3]) (lk_X1_26_l1 C hR (by decide)) (ct_C1_has hc) rfl rfl (Nat.le_of_ble_eq_true rfl) ⟨Nat.zero_le _, Nat.zero_le _⟩ dX1_knowersOf_24 ?_
    refine y_if_eq (tgt := 37) C dX1_knowersOf_27 rfl (fun hc => ?_) (fun hc => ?_)
    · replace h := g_it h hc
      refine y_iconst (v := (0 : Int32)) C dX1_knowersOf_37 (by decide) ?_
      refine y_ior C dX1_knowersOf_38 ?_
      obtain ⟨x2, hx2, h⟩ := g_lt h
      refine y_istore_n (vs1 := [(3, .int x2), (0, .ref (ad 0 0)), (1, .ref (ad 4 u0)), (2, .int v2), (4, .int v4)]) C hx2 dX1_knowersOf_39 rfl (g_lL hL rfl) rfl ?_
      obtain ⟨x3, hx3, h⟩ := g_lt h
      refine y_iinc (c := (1 : Int32)) (vs1 := [(4, .int x3), (3, .int x2), (0, .ref (ad 0 0)), (1, .ref (ad 4 u0)), (2, .int v2)]) C hx3 (by decide) dX1_knowersOf_40 4 rfl (g_lL hL rfl) rfl ?_
      refine y_goto (tgt := 5) C dX1_knowersOf_43 rfl ?_
      refine y_sub (vs2 := [(0, .ref (ad 0 0)), (1, .ref (ad 4 u0)), (2, .int v2), (3, .int x2), (4, .int x3)]) [2, 3, 4, 1, 0] rfl ?_
      exact kl _ (Option.some.inj h).symm
    · replace h := g_if h hc
      refine y_iconst (v := (1 : Int32)) C dX1_knowersOf_30 (by decide) ?_
      refine y_iload C dX1_knowersOf_31 4 rfl ?_
      refine y_ishl C dX1_knowersOf_33 ?_
      refine y_goto (tgt := 38) C dX1_knowersOf_34 rfl ?_
      refine y_ior C dX1_knowersOf_38 ?_
      obtain ⟨x4, hx4, h⟩ := g_lt h
      refine y_istore_n (vs1 := [(3, .int x4), (0, .ref (ad 0 0)), (1, .ref (ad 4 u0)), (2, .int v2), (4, .int v4)]) C hx4 dX1_knowersOf_39 rfl (g_lL hL rfl) rfl ?_
      obtain ⟨x5, hx5, h⟩ := g_lt h
      refine y_iinc (c := (1 : Int32)) (vs1 := [(4, .int x5), (3, .int x4), (0, .ref (ad 0 0)), (1, .ref (ad 4 u0)), (2, .int v2)]) C hx5 (by decide) dX1_knowersOf_40 4 rfl (g_lL hL rfl) rfl ?_
      refine y_goto (tgt := 5) C dX1_knowersOf_43 rfl ?_
      refine y_sub (vs2 := [(0, .ref (ad 0 0)), (1, .ref (ad 4 u0)), (2, .int v2), (3, .int x4), (4, .int x5)]) [2, 3, 4, 1, 0] rfl ?_
      exact kl _ (Option.some.inj h).symm
theorem mw_C1_knowersOf {X : g_F} {hid : Bool} (C : g_M gCl X cX1_knowersOf RX1 (some .int)) (hR : g_R X = g_rm 2 0 0) (hL : g_nL X = 5) {u0 : Nat} (hu_u0 : u0 < g_n (gC hid) 4) {ad : Nat → Nat → Nat} {σ : g_S} {v2 : Int32} {o : Int32} (h : mF_C1_knowersOf σ u0 v2 = some o) (hQ : g_MQ gCl X (gC hid) ad σ (some (.int o)) = g_Q X) : g_Y gCl X (gC hid) ad σ (0, 0) 0 [(0, .ref (ad 0 0)), (1, .ref (ad 4 u0)), (2, .int v2)] [] := by
  unfold mF_C1_knowersOf at h
  refine y_iconst (v := (0 : Int32)) C dX1_knowersOf_0 (by decide) ?_
  refine y_istore_n (vs1 := [(3, .int (0 : Int32)), (0, .ref (ad 0 0)), (1, .ref (ad 4 u0)), (2, .int v2)]) C rfl dX1_knowersOf_1 rfl (g_lL hL rfl) rfl ?_
  refine y_iconst (v := (0 : Int32)) C dX1_knowersOf_2 (by decide) ?_
  refine y_istore (vs1 := [(4, .int (0 : Int32)), (3, .int (0 : Int32)), (0, .ref (ad 0 0)), (1, .ref (ad 4 u0)), (2, .int v2)]) C rfl dX1_knowersOf_3 (g_lL hL rfl) rfl ?_
  refine y_sub (vs2 := [(0, .ref (ad 0 0)), (1, .ref (ad 4 u0)), (2, .int v2), (3, .int (0 : Int32)), (4, .int (0 : Int32))]) [2, 3, 4, 1, 0] rfl ?_
  obtain ⟨e6, he6, h⟩ := g_bd h
  refine ml_C1_knowersOf_5 C hR hL hu_u0 (σ := σ) _ _ _ he6 ?_
  refine y_iload_n C dX1_knowersOf_46 0 rfl rfl ?_
  replace h := Option.some.inj h; subst h
  exact y_iret C hQ ⟨Nat.zero_le _, Nat.zero_le _⟩ dX1_knowersOf_47
theorem ct_C1_knowersOf {D : va_G} {dA : Nat → ClassId} {A : Nat → Prop} {s0 : State} {b0 : Nat} {l : Launch} {hid : Bool} {u0 : Nat} (hu_u0 : u0 < g_n (gC hid) 4) {ad : Nat → Nat → Nat} {σ : g_S} {v2 : Int32} {r : Int32} (h : mF_C1_knowersOf σ u0 v2 = some r) : g_Met gCl D dA A s0 b0 l yX1_knowersOf cX1_knowersOf 5 (some .int) 2 (0, 0) (gC hid) ad σ [.ref (ad 0 0), .ref (ad 4 u0), .int v2] (gC hid) ad σ (some (.int r)) :=
  g_Met.of pl_X1 (Nat.le_of_ble_eq_true rfl) (fun X C hQ hR _ _ hL _ es eb => mw_C1_knowersOf C hR hL hu_u0 h hQ)
theorem ml_C1_learns_31 {X : g_F} (C : g_M gCl X cX1_learns RX1 (some .int)) (hR : g_R X = g_rm 308 0 0) (hL : g_nL X = 4) {ad : Nat → Nat → Nat} {σ : g_S} {v1 : Int32} {v2 : Int32} (n : Nat) (v : (Int32 × g_S)) (e : ((Int32 × g_S) ⊕ g_S)) (h : g_lp (fun v => mB_C1_learns_31 v.2 v1 v2 v.1) n v = some e) (kx : (∀ y, e = .inl y → g_Y gCl X (gC true) ad y.2 (0, 0) 54 [(0, .ref (ad 0 0)), (2, .int v2), (3, .int y.1)] []) ∧ (∀ y, e = .inr y → g_Y gCl X (gC true) ad y (0, 0) 92 [] [])) : g_Y gCl X (gC true) ad v.2 (0, 0) 31 [(0, .ref (ad 0 0)), (1, .int v1), (2, .int v2), (3, .int v.1)] [] := by
  refine g_loop (P := fun v => g_Y gCl X (gC true) ad v.2 (0, 0) 31 [(0, .ref (ad 0 0)), (1, .int v1), (2, .int v2), (3, .int v.1)] []) (T := fun e => (∀ y, e = .inl y → g_Y gCl X (gC true) ad y.2 (0, 0) 54 [(0, .ref (ad 0 0)), (2, .int v2), (3, .int y.1)] []) ∧ (∀ y, e = .inr y → g_Y gCl X (gC true) ad y (0, 0) 92 [] [])) ?_ n v e h kx
  clear h kx
  clear n v e
  intro v o h kl kx
  obtain ⟨v3, σ⟩ := v
  have h : mB_C1_learns_31 σ v1 v2 v3 = some o := h
  unfold mB_C1_learns_31 at h
  show g_Y gCl X (gC true) ad σ (0, 0) 31 [(0, .ref (ad 0 0)), (1, .int v1), (2, .int v2), (3, .int v3)] []
  refine y_iload_n C dX1_learns_31 3 rfl rfl ?_
  refine y_bipush (v := (99 : Int32)) C dX1_learns_32 (by decide) ?_
  refine y_icmp_gt (tgt := 92) C dX1_learns_34 rfl (fun hc => ?_) (fun hc => ?_)
  · replace h := g_it h hc
    refine y_sub (vs2 := []) [] rfl ?_
    exact (kx _ (Option.some.inj h).symm).2 _ rfl
  · replace h := g_if h hc
    refine y_aload_n C dX1_learns_37 0 rfl rfl ?_
    refine gf_C_X1_91_0 C nC_0_0 dX1_learns_38 ?_
    refine gf_C_X1_225_4 C nC_4_2 dX1_learns_41 ?_
    refine y_iload_n C dX1_learns_44 1 rfl rfl ?_
    obtain ⟨hg, h⟩ := g_gd h
    refine al_C_8 C nC_8_2 hg dX1_learns_45 ?_
    refine y_i2l C dX1_learns_46 ?_
    refine y_iload_n C dX1_learns_47 2 rfl rfl ?_
    obtain ⟨x4, hc, h⟩ := g_bd h
    refine y_callS C (As := [.long ((σ.1 8 2 v1.toNatClampNeg).toInt64), .int v2]) (rest := []) (lk_X1_26_l1 C hR (by decide)) (ct_C1_has hc) rfl rfl (Nat.le_of_ble_eq_true rfl) ⟨Nat.zero_le _, Nat.zero_le _⟩ dX1_learns_48 ?_
    refine y_if_eq (tgt := 78) C dX1_learns_51 rfl (fun hc => ?_) (fun hc => ?_)
    · replace h := g_it h hc
      refine y_aload_n C dX1_learns_78 0 rfl rfl ?_
      refine y_aload_n C dX1_learns_79 0 rfl rfl ?_
      refine gf_C_X1_91_0 C nC_0_0 dX1_learns_80 ?_
      obtain ⟨σ5, hc, h⟩ := g_bd h
      refine y_callVv C (As := [.ref (ad 4 2)]) (rest := []) (k := 0) (hu := nC_0_0) (hc := (rfl : gCl[0]? = some (RX1, TX1, 31))) (hcell := obC_0) (lk_X1_312_X1_l307 C hR (by decide)) (ct_C1_goHour nC_4_2 hc) rfl rfl (Nat.le_of_ble_eq_true rfl) ⟨Nat.zero_le _, Nat.zero_le _⟩ dX1_learns_83 ?_
      obtain ⟨x6, hx6, h⟩ := g_lt h
      refine y_iinc (c := (1 : Int32)) (vs1 := [(3, .int x6), (0, .ref (ad 0 0)), (1, .int v1), (2, .int v2)]) C hx6 (by decide) dX1_learns_86 3 rfl (g_lL hL rfl) rfl ?_
      refine y_goto (tgt := 31) C dX1_learns_89 rfl ?_
      refine y_sub (vs2 := [(0, .ref (ad 0 0)), (1, .int v1), (2, .int v2), (3, .int x6)]) [1, 2, 3, 0] rfl ?_
      exact kl _ (Option.some.inj h).symm
    · replace h := g_if h hc
      refine y_sub (vs2 := [(0, .ref (ad 0 0)), (2, .int v2), (3, .int v3)]) [0, 2, 3] rfl ?_
      exact (kx _ (Option.some.inj h).symm).1 _ rfl
theorem mw_C1_learns {X : g_F} (C : g_M gCl X cX1_learns RX1 (some .int)) (hR : g_R X = g_rm 308 0 0) (hL : g_nL X = 4) {ad : Nat → Nat → Nat} {σ : g_S} {v1 : Int32} {v2 : Int32} {o : (Int32 × g_S)} (h : mF_C1_learns σ v1 v2 = some o) (hQ : g_MQ gCl X (gC true) ad o.2 (some (.int o.1)) = g_Q X) : g_Y gCl X (gC true) ad σ (0, 0) 0 [(0, .ref (ad 0 0)), (1, .int v1), (2, .int v2)] [] := by
  unfold mF_C1_learns at h
  refine y_aload_n C dX1_learns_0 0 rfl rfl ?_
  refine y_iload_n C dX1_learns_1 1 rfl rfl ?_
  obtain ⟨x1, hc, h⟩ := g_bd h
  refine y_callV C (As := [.int v1]) (rest := []) (k := 0) (hu := nC_0_0) (hc := (rfl : gCl[0]? = some (RX1, TX1, 31))) (hcell := obC_0) (lk_X1_250_X1_l2 C hR (by decide)) (ct_C1_isMan hc) rfl rfl (Nat.le_of_ble_eq_true rfl) ⟨Nat.zero_le _, Nat.zero_le _⟩ dX1_learns_2 ?_
  refine y_if_eq (tgt := 16) C dX1_learns_5 rfl (fun hc => ?_) (fun hc => ?_)
  · replace h := g_it h hc
    refine y_iconst (v := (-1 : Int32)) C dX1_learns_16 (by decide) ?_
    replace h := Option.some.inj h; subst h
    exact y_iret C hQ ⟨Nat.zero_le _, Nat.zero_le _⟩ dX1_learns_17
  · replace h := g_if h hc
    refine y_aload_n C dX1_learns_8 0 rfl rfl ?_
    refine y_iload_n C dX1_learns_9 2 rfl rfl ?_
    obtain ⟨x2, hc, h⟩ := g_bd h
    refine y_callV C (As := [.int v2]) (rest := []) (k := 0) (hu := nC_0_0) (hc := (rfl : gCl[0]? = some (RX1, TX1, 31))) (hcell := obC_0) (lk_X1_262_X1_l2 C hR (by decide)) (ct_C1_isThing hc) rfl rfl (Nat.le_of_ble_eq_true rfl) ⟨Nat.zero_le _, Nat.zero_le _⟩ dX1_learns_10 ?_
    refine y_if_ne (tgt := 18) C dX1_learns_13 rfl (fun hc => ?_) (fun hc => ?_)
    · replace h := g_if h hc
      refine y_aload_n C dX1_learns_18 0 rfl rfl ?_
      refine gf_C_X1_91_0 C nC_0_0 dX1_learns_19 ?_
      refine y_aload_n C dX1_learns_22 0 rfl rfl ?_
      refine gf_C_X1_84_0 C nC_0_0 dX1_learns_23 ?_
      obtain ⟨σ3, hc, h⟩ := g_bd h
      refine y_callVv C (As := [.ref (ad 4 0)]) (rest := []) (k := 4) (hu := nC_4_2) (hc := (rfl : gCl[4]? = some (RX5, TX5, 6))) (hcell := obC_4) (lk_X1_298_X5_l1 C hR (by decide)) (ct_C5_be_k4_4 nC_4_2 nC_4_0 hc) rfl rfl (Nat.le_of_ble_eq_true rfl) ⟨Nat.zero_le _, Nat.zero_le _⟩ dX1_learns_26 ?_
      refine y_iconst (v := (0 : Int32)) C dX1_learns_29 (by decide) ?_
      refine y_istore_n (vs1 := [(3, .int (0 : Int32)), (0, .ref (ad 0 0)), (1, .int v1), (2, .int v2)]) C rfl dX1_learns_30 rfl (g_lL hL rfl) rfl ?_
      refine y_sub (vs2 := [(0, .ref (ad 0 0)), (1, .int v1), (2, .int v2), (3, .int (0 : Int32))]) [1, 2, 3, 0] rfl ?_
      obtain ⟨e7, he7, h⟩ := g_bd h
      refine ml_C1_learns_31 C hR hL (σ := σ3) _ _ _ he7 ⟨fun y he => ?_, fun y he => ?_⟩
      · obtain ⟨y8, rfl⟩ : ∃ z, z = y := ⟨_, rfl⟩
        subst he
        dsimp only at h
        refine y_aload_n C dX1_learns_54 0 rfl rfl ?_
        refine y_iconst (v := (0 : Int32)) C dX1_learns_55 (by decide) ?_
        obtain ⟨σ9, hσ9, h⟩ := g_lt h
        refine pf_C_X1_139_0 C nC_0_0 hσ9 dX1_learns_56 ?_
        refine y_aload_n C dX1_learns_59 0 rfl rfl ?_
        refine y_aload_n C dX1_learns_60 0 rfl rfl ?_
        refine y_aload_n C dX1_learns_61 0 rfl rfl ?_
        refine gf_C_X1_91_0 C nC_0_0 dX1_learns_62 ?_
        refine y_iload_n C dX1_learns_65 1 rfl rfl ?_
        obtain ⟨x10, hc, h⟩ := g_bd h
        refine y_callV C (As := [.ref (ad 4 2), .int v2]) (rest := [.ref (ad 0 0)]) (k := 0) (hu := nC_0_0) (hc := (rfl : gCl[0]? = some (RX1, TX1, 31))) (hcell := obC_0) (lk_X1_267_X1_l2 C hR (by decide)) (ct_C1_knowersOf nC_4_2 hc) rfl rfl (Nat.le_of_ble_eq_true rfl) ⟨Nat.zero_le _, Nat.zero_le _⟩ dX1_learns_66 ?_
        obtain ⟨x11, hc, h⟩ := g_bd h
        refine y_callS C (As := [.int x10]) (rest := [.ref (ad 0 0)]) (lk_X1_315_l1 C hR (by decide)) (ct_J8_bitCount hc) rfl rfl (Nat.le_of_ble_eq_true rfl) ⟨Nat.zero_le _, Nat.zero_le _⟩ dX1_learns_69 ?_
        refine y_i2l C dX1_learns_72 ?_
        obtain ⟨σ12, hc, h⟩ := g_bd h
        refine y_callVv C (As := [.long (x11.toInt64)]) (rest := []) (k := 0) (hu := nC_0_0) (hc := (rfl : gCl[0]? = some (RX1, TX1, 31))) (hcell := obC_0) (lk_X1_330_X1_l1 C hR (by decide)) (ct_C1_tell_2 hc) rfl rfl (Nat.le_of_ble_eq_true rfl) ⟨Nat.zero_le _, Nat.zero_le _⟩ dX1_learns_73 ?_
        refine y_iload_n C dX1_learns_76 2 rfl rfl ?_
        replace h := Option.some.inj h; subst h
        exact y_iret C hQ ⟨Nat.zero_le _, Nat.zero_le _⟩ dX1_learns_77
      · obtain ⟨y13, rfl⟩ : ∃ z, z = y := ⟨_, rfl⟩
        subst he
        dsimp only at h
        refine y_bipush (v := (-2 : Int32)) C dX1_learns_92 (by decide) ?_
        replace h := Option.some.inj h; subst h
        exact y_iret C hQ ⟨Nat.zero_le _, Nat.zero_le _⟩ dX1_learns_94
    · replace h := g_it h hc
      refine y_iconst (v := (-1 : Int32)) C dX1_learns_16 (by decide) ?_
      replace h := Option.some.inj h; subst h
      exact y_iret C hQ ⟨Nat.zero_le _, Nat.zero_le _⟩ dX1_learns_17
