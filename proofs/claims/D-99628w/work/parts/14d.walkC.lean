set_option maxRecDepth 100000
theorem ct_C1_again {D : va_G} {dA : Nat → ClassId} {A : Nat → Prop} {s0 : State} {b0 : Nat} {l : Launch} {hid : Bool} {ad : Nat → Nat → Nat} {σ : g_S} {v1 : Int32} {r : Int32} {σ1 : g_S} (h : mF_C1_again σ v1 = some (r, σ1)) : g_Met gCl D dA A s0 b0 l yX1_again cX1_again 2 (some .boolean) 2 (0, 0) (gC hid) ad σ [.ref (ad 0 0), .int v1] (gC hid) ad σ1 (some (.int r)) :=
  g_Met.of pl_X1 (Nat.le_of_ble_eq_true rfl) (fun X C hQ hR _ _ hL _ es eb => mw_C1_again C hR hL h hQ)
theorem mw_C1_count {X : g_F} (C : g_M gCl X cX1_count RX1 (some .int)) (hR : g_R X = g_rm 307 0 0) (hL : g_nL X = 2) {ad : Nat → Nat → Nat} {σ : g_S} {v1 : Int32} {o : Int32} (h : mF_C1_count σ v1 = some o) (hQ : g_MQ gCl X (gC true) ad σ (some (.int o)) = g_Q X) : g_Y gCl X (gC true) ad σ (0, 0) 0 [(0, .ref (ad 0 0)), (1, .int v1)] [] := by
  unfold mF_C1_count at h
  refine y_iload_n C dX1_count_0 1 rfl rfl ?_
  by_cases hc0 : v1 = (0 : Int32)
  · replace h := g_it h hc0
    refine y_tswI (tgt := 68) (off := 67) C dX1_count_1 hc0 (by decide) rfl ?_
    refine y_aload_n C dX1_count_68 0 rfl rfl ?_
    refine gf_C_X1_80_0 C nC_0_0 dX1_count_69 ?_
    replace h := Option.some.inj h; subst h
    exact y_iret C hQ ⟨Nat.zero_le _, Nat.zero_le _⟩ dX1_count_72
  replace h := g_if h hc0
  by_cases hc1 : v1 = (1 : Int32)
  · replace h := g_it h hc1
    refine y_tswI (tgt := 73) (off := 72) C dX1_count_1 hc1 (by decide) rfl ?_
    refine y_aload_n C dX1_count_73 0 rfl rfl ?_
    refine gf_C_X1_13_0 C nC_0_0 dX1_count_74 ?_
    replace h := Option.some.inj h; subst h
    exact y_iret C hQ ⟨Nat.zero_le _, Nat.zero_le _⟩ dX1_count_77
  replace h := g_if h hc1
  by_cases hc2 : v1 = (2 : Int32)
  · replace h := g_it h hc2
    refine y_tswI (tgt := 78) (off := 77) C dX1_count_1 hc2 (by decide) rfl ?_
    refine y_aload_n C dX1_count_78 0 rfl rfl ?_
    refine gf_C_X1_150_0 C nC_0_0 dX1_count_79 ?_
    replace h := Option.some.inj h; subst h
    exact y_iret C hQ ⟨Nat.zero_le _, Nat.zero_le _⟩ dX1_count_82
  replace h := g_if h hc2
  by_cases hc3 : v1 = (3 : Int32)
  · replace h := g_it h hc3
    refine y_tswI (tgt := 83) (off := 82) C dX1_count_1 hc3 (by decide) rfl ?_
    refine y_aload_n C dX1_count_83 0 rfl rfl ?_
    refine gf_C_X1_153_0 C nC_0_0 dX1_count_84 ?_
    replace h := Option.some.inj h; subst h
    exact y_iret C hQ ⟨Nat.zero_le _, Nat.zero_le _⟩ dX1_count_87
  replace h := g_if h hc3
  by_cases hc4 : v1 = (4 : Int32)
  · replace h := g_it h hc4
    refine y_tswI (tgt := 88) (off := 87) C dX1_count_1 hc4 (by decide) rfl ?_
    refine y_aload_n C dX1_count_88 0 rfl rfl ?_
    refine gf_C_X1_84_0 C nC_0_0 dX1_count_89 ?_
    refine gf_C_X1_34_4 C nC_4_0 dX1_count_92 ?_
    replace h := Option.some.inj h; subst h
    exact y_iret C hQ ⟨Nat.zero_le _, Nat.zero_le _⟩ dX1_count_95
  replace h := g_if h hc4
  by_cases hc5 : v1 = (5 : Int32)
  · replace h := g_it h hc5
    refine y_tswI (tgt := 96) (off := 95) C dX1_count_1 hc5 (by decide) rfl ?_
    refine y_aload_n C dX1_count_96 0 rfl rfl ?_
    refine y_aload_n C dX1_count_97 0 rfl rfl ?_
    refine gf_C_X1_84_0 C nC_0_0 dX1_count_98 ?_
    refine gf_C_X1_34_4 C nC_4_0 dX1_count_101 ?_
    obtain ⟨x1, hc, h⟩ := g_bd h
    refine y_callV C (As := [.int (σ.1 4 0 5)]) (rest := []) (k := 0) (hu := nC_0_0) (hc := (rfl : gCl[0]? = some (RX1, TX1, 31))) (hcell := obC_0) (lk_X1_39_X1_l1 C hR (by decide)) (ct_C1_lightOf hc) rfl rfl (Nat.le_of_ble_eq_true rfl) ⟨Nat.zero_le _, Nat.zero_le _⟩ dX1_count_104 ?_
    replace h := Option.some.inj h; subst h
    exact y_iret C hQ ⟨Nat.zero_le _, Nat.zero_le _⟩ dX1_count_107
  replace h := g_if h hc5
  by_cases hc6 : v1 = (6 : Int32)
  · replace h := g_it h hc6
    refine y_tswI (tgt := 108) (off := 107) C dX1_count_1 hc6 (by decide) rfl ?_
    refine y_aload_n C dX1_count_108 0 rfl rfl ?_
    refine y_aload_n C dX1_count_109 0 rfl rfl ?_
    refine gf_C_X1_84_0 C nC_0_0 dX1_count_110 ?_
    obtain ⟨x2, hc, h⟩ := g_bd h
    refine y_callV C (As := [.ref (ad 4 0)]) (rest := []) (k := 0) (hu := nC_0_0) (hc := (rfl : gCl[0]? = some (RX1, TX1, 31))) (hcell := obC_0) (lk_X1_323_X1_l2 C hR (by decide)) (ct_C1_known nC_4_0 hc) rfl rfl (Nat.le_of_ble_eq_true rfl) ⟨Nat.zero_le _, Nat.zero_le _⟩ dX1_count_113 ?_
    replace h := Option.some.inj h; subst h
    exact y_iret C hQ ⟨Nat.zero_le _, Nat.zero_le _⟩ dX1_count_116
  replace h := g_if h hc6
  by_cases hc7 : v1 = (7 : Int32)
  · replace h := g_it h hc7
    refine y_tswI (tgt := 117) (off := 116) C dX1_count_1 hc7 (by decide) rfl ?_
    refine y_aload_n C dX1_count_117 0 rfl rfl ?_
    refine gf_C_X1_22_0 C nC_0_0 dX1_count_118 ?_
    obtain ⟨x3, hc, h⟩ := g_bd h
    refine y_callS C (As := [.long (σ.2.1 0 0 9)]) (rest := []) (lk_X1_389_l1 C hR (by decide)) (ct_J12_bitCount hc) rfl rfl (Nat.le_of_ble_eq_true rfl) ⟨Nat.zero_le _, Nat.zero_le _⟩ dX1_count_121 ?_
    replace h := Option.some.inj h; subst h
    exact y_iret C hQ ⟨Nat.zero_le _, Nat.zero_le _⟩ dX1_count_124
  replace h := g_if h hc7
  by_cases hc8 : v1 = (8 : Int32)
  · replace h := g_it h hc8
    refine y_tswI (tgt := 125) (off := 124) C dX1_count_1 hc8 (by decide) rfl ?_
    refine y_aload_n C dX1_count_125 0 rfl rfl ?_
    refine y_aload_n C dX1_count_126 0 rfl rfl ?_
    refine gf_C_X1_84_0 C nC_0_0 dX1_count_127 ?_
    obtain ⟨x4, hc, h⟩ := g_bd h
    refine y_callV C (As := [.ref (ad 4 0)]) (rest := []) (k := 0) (hu := nC_0_0) (hc := (rfl : gCl[0]? = some (RX1, TX1, 31))) (hcell := obC_0) (lk_X1_405_X1_l306 C hR (by decide)) (ct_C1_seen nC_4_0 hc) rfl rfl (Nat.le_of_ble_eq_true rfl) ⟨Nat.zero_le _, Nat.zero_le _⟩ dX1_count_130 ?_
    obtain ⟨x5, hc, h⟩ := g_bd h
    refine y_callS C (As := [.long x4]) (rest := []) (lk_X1_389_l1 C hR (by decide)) (ct_J12_bitCount hc) rfl rfl (Nat.le_of_ble_eq_true rfl) ⟨Nat.zero_le _, Nat.zero_le _⟩ dX1_count_133 ?_
    replace h := Option.some.inj h; subst h
    exact y_iret C hQ ⟨Nat.zero_le _, Nat.zero_le _⟩ dX1_count_136
  replace h := g_if h hc8
  by_cases hc9 : v1 = (9 : Int32)
  · replace h := g_it h hc9
    refine y_tswI (tgt := 137) (off := 136) C dX1_count_1 hc9 (by decide) rfl ?_
    refine y_aload_n C dX1_count_137 0 rfl rfl ?_
    refine gf_C_X1_190_0 C nC_0_0 dX1_count_138 ?_
    replace h := Option.some.inj h; subst h
    exact y_iret C hQ ⟨Nat.zero_le _, Nat.zero_le _⟩ dX1_count_141
  replace h := g_if h hc9
  by_cases hc10 : v1 = (10 : Int32)
  · replace h := g_it h hc10
    refine y_tswI (tgt := 142) (off := 141) C dX1_count_1 hc10 (by decide) rfl ?_
    refine y_aload_n C dX1_count_142 0 rfl rfl ?_
    refine gf_C_X1_196_0 C nC_0_0 dX1_count_143 ?_
    replace h := Option.some.inj h; subst h
    exact y_iret C hQ ⟨Nat.zero_le _, Nat.zero_le _⟩ dX1_count_146
  replace h := g_if h hc10
  by_cases hc11 : v1 = (11 : Int32)
  · replace h := g_it h hc11
    refine y_tswI (tgt := 147) (off := 146) C dX1_count_1 hc11 (by decide) rfl ?_
    refine y_aload_n C dX1_count_147 0 rfl rfl ?_
    refine gf_C_X1_139_0 C nC_0_0 dX1_count_148 ?_
    replace h := Option.some.inj h; subst h
    exact y_iret C hQ ⟨Nat.zero_le _, Nat.zero_le _⟩ dX1_count_151
  replace h := g_if h hc11
  by_cases hc12 : v1 = (12 : Int32)
  · replace h := g_it h hc12
    refine y_tswI (tgt := 152) (off := 151) C dX1_count_1 hc12 (by decide) rfl ?_
    refine y_aload_n C dX1_count_152 0 rfl rfl ?_
    refine gf_C_X1_160_0 C nC_0_0 dX1_count_153 ?_
    replace h := Option.some.inj h; subst h
    exact y_iret C hQ ⟨Nat.zero_le _, Nat.zero_le _⟩ dX1_count_156
  replace h := g_if h hc12
  refine y_tswO (tgt := 157) C dX1_count_1 (by have e0 := lv_neT hc0 (show (0 : Int32).toInt = 0 by decide); have e1 := lv_neT hc1 (show (1 : Int32).toInt = 1 by decide); have e2 := lv_neT hc2 (show (2 : Int32).toInt = 2 by decide); have e3 := lv_neT hc3 (show (3 : Int32).toInt = 3 by decide); have e4 := lv_neT hc4 (show (4 : Int32).toInt = 4 by decide); have e5 := lv_neT hc5 (show (5 : Int32).toInt = 5 by decide); have e6 := lv_neT hc6 (show (6 : Int32).toInt = 6 by decide); have e7 := lv_neT hc7 (show (7 : Int32).toInt = 7 by decide); have e8 := lv_neT hc8 (show (8 : Int32).toInt = 8 by decide); have e9 := lv_neT hc9 (show (9 : Int32).toInt = 9 by decide); have e10 := lv_neT hc10 (show (10 : Int32).toInt = 10 by decide); have e11 := lv_neT hc11 (show (11 : Int32).toInt = 11 by decide); have e12 := lv_neT hc12 (show (12 : Int32).toInt = 12 by decide); omega) rfl ?_
  refine y_bipush (v := (-100 : Int32)) C dX1_count_157 (by decide) ?_
  replace h := Option.some.inj h; subst h
  exact y_iret C hQ ⟨Nat.zero_le _, Nat.zero_le _⟩ dX1_count_159
theorem ct_C1_count {D : va_G} {dA : Nat → ClassId} {A : Nat → Prop} {s0 : State} {b0 : Nat} {l : Launch} {ad : Nat → Nat → Nat} {σ : g_S} {v1 : Int32} {r : Int32} (h : mF_C1_count σ v1 = some r) : g_Met gCl D dA A s0 b0 l yX1_count cX1_count 2 (some .int) 307 (0, 0) (gC true) ad σ [.ref (ad 0 0), .int v1] (gC true) ad σ (some (.int r)) :=
  g_Met.of pl_X1 (Nat.le_of_ble_eq_true rfl) (fun X C hQ hR _ _ hL _ es eb => mw_C1_count C hR hL h hQ)
theorem mw_C1_person {X : g_F} (C : g_M gCl X cX1_person RX1 (some .int)) (hR : g_R X = g_rm 306 1 6) (hL : g_nL X = 3) (hlt : (g_l X).stackTraces = false) (hT : (g_c X).exceptionTable.toList = []) (hmc : g_mc X = 1 ∧ g_ms X = 6) {ad : Nat → Nat → Nat} {σ : g_S} {v1 : Int32} {v2 : Int32} {o : (Unit ⊕ Int32)} (h : mF_C1_person σ v1 v2 = some o) (hQ : g_MQG gCl X (gC true) (fun v ad2 s2 => ∃ z, o = .inr z ∧ v = some (.int z) ∧ s2 = σ ∧ ad2 = ad) (fun E q ad2 s2 => o = .inl () ∧ E = "java/util/NoSuchElementException" ∧ s2 = σ ∧ ad2 = ad) = g_Q X) : g_Y gCl X (gC true) ad σ (0, 0) 0 [(0, .ref (ad 0 0)), (1, .int v1), (2, .int v2)] [] := by
  unfold mF_C1_person at h
  refine y_aload_n C dX1_person_0 0 rfl rfl ?_
  refine y_iload_n C dX1_person_1 1 rfl rfl ?_
  obtain ⟨x1, hc, h⟩ := g_bd h
  refine y_callV C (As := [.int v1]) (rest := []) (k := 0) (hu := nC_0_0) (hc := (rfl : gCl[0]? = some (RX1, TX1, 31))) (hcell := obC_0) (lk_X1_250_X1_l2 C hR (by decide)) (ct_C1_isMan hc) rfl rfl (Nat.le_of_ble_eq_true rfl) ⟨Nat.zero_le _, Nat.zero_le _⟩ dX1_person_2 ?_
  refine y_if_ne (tgt := 16) C dX1_person_5 rfl (fun hc => ?_) (fun hc => ?_)
  · replace h := g_if h hc
    refine y_iload_n C dX1_person_16 2 rfl rfl ?_
    by_cases hc0 : v2 = (0 : Int32)
    · replace h := g_it h hc0
      refine y_tswI (tgt := 56) (off := 39) C dX1_person_17 hc0 (by decide) rfl ?_
      refine y_aload_n C dX1_person_56 0 rfl rfl ?_
      refine gf_C_X1_84_0 C nC_0_0 dX1_person_57 ?_
      refine gf_C_X1_217_4 C nC_4_0 dX1_person_60 ?_
      refine y_iload_n C dX1_person_63 1 rfl rfl ?_
      obtain ⟨hg, h⟩ := g_gd h
      refine al_C_5 C nC_5_0 hg dX1_person_64 ?_
      replace h := Option.some.inj h; subst h
      exact y_iretG C hQ ⟨_, rfl, rfl, rfl, rfl⟩ ⟨Nat.zero_le _, Nat.zero_le _⟩ dX1_person_65
    replace h := g_if h hc0
    by_cases hc1 : v2 = (1 : Int32)
    · replace h := g_it h hc1
      refine y_tswI (tgt := 66) (off := 49) C dX1_person_17 hc1 (by decide) rfl ?_
      refine y_aload_n C dX1_person_66 0 rfl rfl ?_
      refine gf_C_X1_84_0 C nC_0_0 dX1_person_67 ?_
      refine gf_C_X1_219_4 C nC_4_0 dX1_person_70 ?_
      refine y_iload_n C dX1_person_73 1 rfl rfl ?_
      obtain ⟨hg, h⟩ := g_gd h
      refine al_C_6 C nC_6_0 hg dX1_person_74 ?_
      replace h := Option.some.inj h; subst h
      exact y_iretG C hQ ⟨_, rfl, rfl, rfl, rfl⟩ ⟨Nat.zero_le _, Nat.zero_le _⟩ dX1_person_75
    replace h := g_if h hc1
    by_cases hc2 : v2 = (2 : Int32)
    · replace h := g_it h hc2
      refine y_tswI (tgt := 76) (off := 59) C dX1_person_17 hc2 (by decide) rfl ?_
      refine y_aload_n C dX1_person_76 0 rfl rfl ?_
      refine gf_C_X1_84_0 C nC_0_0 dX1_person_77 ?_
      refine gf_C_X1_222_4 C nC_4_0 dX1_person_80 ?_
      refine y_iload_n C dX1_person_83 1 rfl rfl ?_
      obtain ⟨hg, h⟩ := g_gd h
      refine al_C_7 C nC_7_0 hg dX1_person_84 ?_
      replace h := Option.some.inj h; subst h
      exact y_iretG C hQ ⟨_, rfl, rfl, rfl, rfl⟩ ⟨Nat.zero_le _, Nat.zero_le _⟩ dX1_person_85
    replace h := g_if h hc2
    by_cases hc3 : v2 = (3 : Int32)
    · replace h := g_it h hc3
      refine y_tswI (tgt := 86) (off := 69) C dX1_person_17 hc3 (by decide) rfl ?_
      refine y_aload_n C dX1_person_86 0 rfl rfl ?_
      refine gf_C_X1_84_0 C nC_0_0 dX1_person_87 ?_
      refine gf_C_X1_225_4 C nC_4_0 dX1_person_90 ?_
      refine y_iload_n C dX1_person_93 1 rfl rfl ?_
      obtain ⟨hg, h⟩ := g_gd h
      refine al_C_8 C nC_8_0 hg dX1_person_94 ?_
      replace h := Option.some.inj h; subst h
      exact y_iretG C hQ ⟨_, rfl, rfl, rfl, rfl⟩ ⟨Nat.zero_le _, Nat.zero_le _⟩ dX1_person_95
    replace h := g_if h hc3
    by_cases hc4 : v2 = (4 : Int32)
    · replace h := g_it h hc4
      refine y_tswI (tgt := 96) (off := 79) C dX1_person_17 hc4 (by decide) rfl ?_
      refine y_aload_n C dX1_person_96 0 rfl rfl ?_
      refine gf_C_X1_62_0 C nC_0_0 dX1_person_97 ?_
      refine y_aload_n C dX1_person_100 0 rfl rfl ?_
      refine gf_C_X1_84_0 C nC_0_0 dX1_person_101 ?_
      refine y_iload_n C dX1_person_104 1 rfl rfl ?_
      obtain ⟨x2, hc, h⟩ := g_bd h
      refine y_callV C (As := [.ref (ad 4 0), .int v1]) (rest := []) (k := 1) (hu := nC_1_0) (hc := (rfl : gCl[1]? = some (RX2, TX2, 1))) (hcell := obC_1) (lk_X1_256_X2_l303 C hR (by decide)) (ct_C2_reach_k1_4 nC_4_0 hc) rfl rfl (Nat.le_of_ble_eq_true rfl) ⟨Nat.zero_le _, Nat.zero_le _⟩ dX1_person_105 ?_
      replace h := Option.some.inj h; subst h
      exact y_iretG C hQ ⟨_, rfl, rfl, rfl, rfl⟩ ⟨Nat.zero_le _, Nat.zero_le _⟩ dX1_person_108
    replace h := g_if h hc4
    by_cases hc5 : v2 = (5 : Int32)
    · replace h := g_it h hc5
      refine y_tswI (tgt := 109) (off := 92) C dX1_person_17 hc5 (by decide) rfl ?_
      refine y_aload_n C dX1_person_109 0 rfl rfl ?_
      refine gf_C_X1_62_0 C nC_0_0 dX1_person_110 ?_
      refine y_aload_n C dX1_person_113 0 rfl rfl ?_
      refine gf_C_X1_84_0 C nC_0_0 dX1_person_114 ?_
      refine y_iload_n C dX1_person_117 1 rfl rfl ?_
      obtain ⟨x3, hc, h⟩ := g_bd h
      refine y_callV C (As := [.ref (ad 4 0), .int v1]) (rest := []) (k := 1) (hu := nC_1_0) (hc := (rfl : gCl[1]? = some (RX2, TX2, 1))) (hcell := obC_1) (lk_X1_260_X2_l305 C hR (by decide)) (ct_C2_things_k1_4 nC_4_0 hc) rfl rfl (Nat.le_of_ble_eq_true rfl) ⟨Nat.zero_le _, Nat.zero_le _⟩ dX1_person_118 ?_
      replace h := Option.some.inj h; subst h
      exact y_iretG C hQ ⟨_, rfl, rfl, rfl, rfl⟩ ⟨Nat.zero_le _, Nat.zero_le _⟩ dX1_person_121
    replace h := g_if h hc5
    refine y_tswO (tgt := 122) C dX1_person_17 (by have e0 := lv_neT hc0 (show (0 : Int32).toInt = 0 by decide); have e1 := lv_neT hc1 (show (1 : Int32).toInt = 1 by decide); have e2 := lv_neT hc2 (show (2 : Int32).toInt = 2 by decide); have e3 := lv_neT hc3 (show (3 : Int32).toInt = 3 by decide); have e4 := lv_neT hc4 (show (4 : Int32).toInt = 4 by decide); have e5 := lv_neT hc5 (show (5 : Int32).toInt = 5 by decide); omega) rfl ?_
    replace h := Option.some.inj h; subst h
    exact y_throwN C hlt hT hQ (fun q => ⟨rfl, rfl, rfl, rfl⟩) (by rw [hR]; exact ⟨Nat.le_of_ble_eq_true rfl, Nat.le_of_ble_eq_true rfl⟩) (by rw [hR]; exact ⟨Nat.le_of_ble_eq_true rfl, Nat.le_of_ble_eq_true rfl⟩) (by rw [hmc.1, hmc.2]; exact ⟨Nat.le_of_ble_eq_true rfl, Nat.le_of_ble_eq_true rfl⟩) (by decide) dX1_person_122 dX1_person_125 dX1_person_126 dX1_person_129
  · replace h := g_it h hc
    replace h := Option.some.inj h; subst h
    exact y_throwN C hlt hT hQ (fun q => ⟨rfl, rfl, rfl, rfl⟩) (by rw [hR]; exact ⟨Nat.le_of_ble_eq_true rfl, Nat.le_of_ble_eq_true rfl⟩) (by rw [hR]; exact ⟨Nat.le_of_ble_eq_true rfl, Nat.le_of_ble_eq_true rfl⟩) (by rw [hmc.1, hmc.2]; exact ⟨Nat.le_of_ble_eq_true rfl, Nat.le_of_ble_eq_true rfl⟩) (by decide) dX1_person_8 dX1_person_11 dX1_person_12 dX1_person_15
theorem ct_C1_person {D : va_G} {dA : Nat → ClassId} {A : Nat → Prop} {s0 : State} {b0 : Nat} {l : Launch} (hlt : l.stackTraces = false) {ad : Nat → Nat → Nat} {σ : g_S} {v1 : Int32} {v2 : Int32}{o : (Unit ⊕ Int32)} (h : mF_C1_person σ v1 v2 = some o) : g_MetG gCl D dA A s0 b0 l yX1_person (ws_ yX1_person cX1_person 3 (some .int)) 306 (1, 6) (gC true) ad σ [.ref (ad 0 0), .int v1, .int v2] (gC true) (fun v ad2 s2 => ∃ z, o = .inr z ∧ v = some (.int z) ∧ s2 = σ ∧ ad2 = ad) (fun E q ad2 s2 => o = .inl () ∧ E = "java/util/NoSuchElementException" ∧ s2 = σ ∧ ad2 = ad) :=
  g_MetG.of pl_X1 (Nat.le_of_ble_eq_true rfl) (fun X C hQ hR hmc hms hL hnm es eb el hT => mw_C1_person C hR hL (by rw [el]; exact hlt) hT ⟨hmc, hms⟩ h hQ)
theorem mj_C1_thing_20 {X : g_F} (C : g_M gCl X cX1_thing RX1 (some .int)) (hR : g_R X = g_rm 306 1 6) (hL : g_nL X = 3) (hlt : (g_l X).stackTraces = false) (hT : (g_c X).exceptionTable.toList = []) (hmc : g_mc X = 1 ∧ g_ms X = 6) {ad : Nat → Nat → Nat} {σ : g_S} {o : (Unit ⊕ Int32)} (h : mJ_C1_thing_20 σ = some o) (hQ : g_MQG gCl X (gC true) (fun v ad2 s2 => ∃ z, o = .inr z ∧ v = some (.int z) ∧ s2 = σ ∧ ad2 = ad) (fun E q ad2 s2 => o = .inl () ∧ E = "java/util/NoSuchElementException" ∧ s2 = σ ∧ ad2 = ad) = g_Q X) : g_Y gCl X (gC true) ad σ (0, 0) 20 [] [] := by
  unfold mJ_C1_thing_20 at h
  replace h := Option.some.inj h; subst h
  exact y_throwN C hlt hT hQ (fun q => ⟨rfl, rfl, rfl, rfl⟩) (by rw [hR]; exact ⟨Nat.le_of_ble_eq_true rfl, Nat.le_of_ble_eq_true rfl⟩) (by rw [hR]; exact ⟨Nat.le_of_ble_eq_true rfl, Nat.le_of_ble_eq_true rfl⟩) (by rw [hmc.1, hmc.2]; exact ⟨Nat.le_of_ble_eq_true rfl, Nat.le_of_ble_eq_true rfl⟩) (by decide) dX1_thing_20 dX1_thing_23 dX1_thing_24 dX1_thing_27
theorem mw_C1_thing {X : g_F} (C : g_M gCl X cX1_thing RX1 (some .int)) (hR : g_R X = g_rm 306 1 6) (hL : g_nL X = 3) (hlt : (g_l X).stackTraces = false) (hT : (g_c X).exceptionTable.toList = []) (hmc : g_mc X = 1 ∧ g_ms X = 6) {ad : Nat → Nat → Nat} {σ : g_S} {v1 : Int32} {v2 : Int32} {o : (Unit ⊕ Int32)} (h : mF_C1_thing σ v1 v2 = some o) (hQ : g_MQG gCl X (gC true) (fun v ad2 s2 => ∃ z, o = .inr z ∧ v = some (.int z) ∧ s2 = σ ∧ ad2 = ad) (fun E q ad2 s2 => o = .inl () ∧ E = "java/util/NoSuchElementException" ∧ s2 = σ ∧ ad2 = ad) = g_Q X) : g_Y gCl X (gC true) ad σ (0, 0) 0 [(0, .ref (ad 0 0)), (1, .int v1), (2, .int v2)] [] := by
  unfold mF_C1_thing at h
  refine y_aload_n C dX1_thing_0 0 rfl rfl ?_
  refine y_iload_n C dX1_thing_1 1 rfl rfl ?_
  obtain ⟨x1, hc, h⟩ := g_bd h
  refine y_callV C (As := [.int v1]) (rest := []) (k := 0) (hu := nC_0_0) (hc := (rfl : gCl[0]? = some (RX1, TX1, 31))) (hcell := obC_0) (lk_X1_262_X1_l2 C hR (by decide)) (ct_C1_isThing hc) rfl rfl (Nat.le_of_ble_eq_true rfl) ⟨Nat.zero_le _, Nat.zero_le _⟩ dX1_thing_2 ?_
  refine y_if_eq (tgt := 20) C dX1_thing_5 rfl (fun hc => ?_) (fun hc => ?_)
  · replace h := g_it h hc
    refine y_sub (vs2 := []) [] rfl ?_
    exact mj_C1_thing_20 C hR hL hlt hT hmc h hQ
  · replace h := g_if h hc
    refine y_iload_n C dX1_thing_8 2 rfl rfl ?_
    refine y_i2l C dX1_thing_9 ?_
    refine y_lconst (v := (0 : Int64)) C dX1_thing_10 (by decide) ?_
    refine y_ldc2 (v := (2 : Int64)) C q1179 dX1_thing_11 ?_
    obtain ⟨x2, hc, h⟩ := g_bd h
    refine y_callS C (As := [.long (v2.toInt64), .long (0 : Int64), .long (2 : Int64)]) (rest := []) (lk_X1_146_l1 C hR (by decide)) (ct_C1_in hc) rfl rfl (Nat.le_of_ble_eq_true rfl) ⟨Nat.zero_le _, Nat.zero_le _⟩ dX1_thing_14 ?_
    refine y_if_ne (tgt := 28) C dX1_thing_17 rfl (fun hc => ?_) (fun hc => ?_)
    · replace h := g_if h hc
      refine y_iload_n C dX1_thing_28 2 rfl rfl ?_
      refine y_if_ne (tgt := 44) C dX1_thing_29 rfl (fun hc => ?_) (fun hc => ?_)
      · replace h := g_if h hc
        refine y_iload_n C dX1_thing_44 2 rfl rfl ?_
        refine y_iconst (v := (1 : Int32)) C dX1_thing_45 (by decide) ?_
        refine y_icmp_ne (tgt := 61) C dX1_thing_46 rfl (fun hc => ?_) (fun hc => ?_)
        · replace h := g_if h hc
          refine y_aload_n C dX1_thing_61 0 rfl rfl ?_
          refine y_aload_n C dX1_thing_62 0 rfl rfl ?_
          refine gf_C_X1_84_0 C nC_0_0 dX1_thing_63 ?_
          refine y_aload_n C dX1_thing_66 0 rfl rfl ?_
          refine gf_C_X1_84_0 C nC_0_0 dX1_thing_67 ?_
          refine gf_C_X1_228_4 C nC_4_0 dX1_thing_70 ?_
          refine y_iload_n C dX1_thing_73 1 rfl rfl ?_
          obtain ⟨hg, h⟩ := g_gd h
          refine al_C_9 C nC_9_0 hg dX1_thing_74 ?_
          obtain ⟨x3, hc, h⟩ := g_bd h
          refine y_callV C (As := [.ref (ad 4 0), .int (σ.1 9 0 v1.toNatClampNeg)]) (rest := []) (k := 0) (hu := nC_0_0) (hc := (rfl : gCl[0]? = some (RX1, TX1, 31))) (hcell := obC_0) (lk_X1_270_X1_l305 C hR (by decide)) (ct_C1_seersOf nC_4_0 hc) rfl rfl (Nat.le_of_ble_eq_true rfl) ⟨Nat.zero_le _, Nat.zero_le _⟩ dX1_thing_75 ?_
          replace h := Option.some.inj h; subst h
          exact y_iretG C hQ ⟨_, rfl, rfl, rfl, rfl⟩ ⟨Nat.zero_le _, Nat.zero_le _⟩ dX1_thing_78
        · replace h := g_it h hc
          refine y_aload_n C dX1_thing_49 0 rfl rfl ?_
          refine y_aload_n C dX1_thing_50 0 rfl rfl ?_
          refine gf_C_X1_84_0 C nC_0_0 dX1_thing_51 ?_
          refine y_iload_n C dX1_thing_54 1 rfl rfl ?_
          obtain ⟨x4, hc, h⟩ := g_bd h
          refine y_callV C (As := [.ref (ad 4 0), .int v1]) (rest := []) (k := 0) (hu := nC_0_0) (hc := (rfl : gCl[0]? = some (RX1, TX1, 31))) (hcell := obC_0) (lk_X1_267_X1_l2 C hR (by decide)) (ct_C1_knowersOf nC_4_0 hc) rfl rfl (Nat.le_of_ble_eq_true rfl) ⟨Nat.zero_le _, Nat.zero_le _⟩ dX1_thing_55 ?_
          refine y_goto (tgt := 78) C dX1_thing_58 rfl ?_
          replace h := Option.some.inj h; subst h
          exact y_iretG C hQ ⟨_, rfl, rfl, rfl, rfl⟩ ⟨Nat.zero_le _, Nat.zero_le _⟩ dX1_thing_78
      · replace h := g_it h hc
        refine y_aload_n C dX1_thing_32 0 rfl rfl ?_
        refine gf_C_X1_84_0 C nC_0_0 dX1_thing_33 ?_
        refine gf_C_X1_228_4 C nC_4_0 dX1_thing_36 ?_
        refine y_iload_n C dX1_thing_39 1 rfl rfl ?_
        obtain ⟨hg, h⟩ := g_gd h
        refine al_C_9 C nC_9_0 hg dX1_thing_40 ?_
        refine y_goto (tgt := 78) C dX1_thing_41 rfl ?_
        replace h := Option.some.inj h; subst h
        exact y_iretG C hQ ⟨_, rfl, rfl, rfl, rfl⟩ ⟨Nat.zero_le _, Nat.zero_le _⟩ dX1_thing_78
    · replace h := g_it h hc
      refine y_sub (vs2 := []) [] rfl ?_
      exact mj_C1_thing_20 C hR hL hlt hT hmc h hQ
theorem ct_C1_thing {D : va_G} {dA : Nat → ClassId} {A : Nat → Prop} {s0 : State} {b0 : Nat} {l : Launch} (hlt : l.stackTraces = false) {ad : Nat → Nat → Nat} {σ : g_S} {v1 : Int32} {v2 : Int32}{o : (Unit ⊕ Int32)} (h : mF_C1_thing σ v1 v2 = some o) : g_MetG gCl D dA A s0 b0 l yX1_thing (ws_ yX1_thing cX1_thing 3 (some .int)) 306 (1, 6) (gC true) ad σ [.ref (ad 0 0), .int v1, .int v2] (gC true) (fun v ad2 s2 => ∃ z, o = .inr z ∧ v = some (.int z) ∧ s2 = σ ∧ ad2 = ad) (fun E q ad2 s2 => o = .inl () ∧ E = "java/util/NoSuchElementException" ∧ s2 = σ ∧ ad2 = ad) :=
  g_MetG.of pl_X1 (Nat.le_of_ble_eq_true rfl) (fun X C hQ hR hmc hms hL hnm es eb el hT => mw_C1_thing C hR hL (by rw [el]; exact hlt) hT ⟨hmc, hms⟩ h hQ)
theorem mw_C1_row {X : g_F} {hid : Bool} (C : g_M gCl X cX1_row RX1 (some .long)) (hR : g_R X = g_rm 11 1 6) (hL : g_nL X = 2) (hlt : (g_l X).stackTraces = false) (hT : (g_c X).exceptionTable.toList = []) (hmc : g_mc X = 1 ∧ g_ms X = 6) {ad : Nat → Nat → Nat} {σ : g_S} {v1 : Int32} {o : (Unit ⊕ Int64)} (h : mF_C1_row σ v1 = some o) (hQ : g_MQG gCl X (gC hid) (fun v ad2 s2 => ∃ z, o = .inr z ∧ v = some (.long z) ∧ s2 = σ ∧ ad2 = ad) (fun E q ad2 s2 => o = .inl () ∧ E = "java/util/NoSuchElementException" ∧ s2 = σ ∧ ad2 = ad) = g_Q X) : g_Y gCl X (gC hid) ad σ (0, 0) 0 [(0, .ref (ad 0 0)), (1, .int v1)] [] := by
  unfold mF_C1_row at h
  refine y_iload_n C dX1_row_0 1 rfl rfl ?_
  refine y_i2l C dX1_row_1 ?_
  refine y_lconst (v := (0 : Int64)) C dX1_row_2 (by decide) ?_
  refine y_aload_n C dX1_row_3 0 rfl rfl ?_
  refine gf_C_X1_139_0 C nC_0_0 dX1_row_4 ?_
  refine y_iconst (v := (1 : Int32)) C dX1_row_7 (by decide) ?_
  refine y_isub C dX1_row_8 ?_
  refine y_i2l C dX1_row_9 ?_
  obtain ⟨x1, hc, h⟩ := g_bd h
  refine y_callS C (As := [.long (v1.toInt64), .long (0 : Int64), .long (((σ.1 0 0 18) - (1 : Int32)).toInt64)]) (rest := []) (lk_X1_146_l1 C hR (by decide)) (ct_C1_in hc) rfl rfl (Nat.le_of_ble_eq_true rfl) ⟨Nat.zero_le _, Nat.zero_le _⟩ dX1_row_10 ?_
  refine y_if_ne (tgt := 24) C dX1_row_13 rfl (fun hc => ?_) (fun hc => ?_)
  · replace h := g_if h hc
    refine y_aload_n C dX1_row_24 0 rfl rfl ?_
    refine gf_C_X1_105_0 C nC_0_0 dX1_row_25 ?_
    refine y_iload_n C dX1_row_28 1 rfl rfl ?_
    obtain ⟨hg, h⟩ := g_gd h
    refine al_C_13 C nC_13_0 hg dX1_row_29 ?_
    replace h := Option.some.inj h; subst h
    exact y_lretG C hQ ⟨_, rfl, rfl, rfl, rfl⟩ ⟨Nat.zero_le _, Nat.zero_le _⟩ dX1_row_30
  · replace h := g_it h hc
    replace h := Option.some.inj h; subst h
    exact y_throwN C hlt hT hQ (fun q => ⟨rfl, rfl, rfl, rfl⟩) (by rw [hR]; exact ⟨Nat.le_of_ble_eq_true rfl, Nat.le_of_ble_eq_true rfl⟩) (by rw [hR]; exact ⟨Nat.le_of_ble_eq_true rfl, Nat.le_of_ble_eq_true rfl⟩) (by rw [hmc.1, hmc.2]; exact ⟨Nat.le_of_ble_eq_true rfl, Nat.le_of_ble_eq_true rfl⟩) (by decide) dX1_row_16 dX1_row_19 dX1_row_20 dX1_row_23
theorem ct_C1_row {D : va_G} {dA : Nat → ClassId} {A : Nat → Prop} {s0 : State} {b0 : Nat} {l : Launch} {hid : Bool} (hlt : l.stackTraces = false) {ad : Nat → Nat → Nat} {σ : g_S} {v1 : Int32}{o : (Unit ⊕ Int64)} (h : mF_C1_row σ v1 = some o) : g_MetG gCl D dA A s0 b0 l yX1_row (ws_ yX1_row cX1_row 2 (some .long)) 11 (1, 6) (gC hid) ad σ [.ref (ad 0 0), .int v1] (gC hid) (fun v ad2 s2 => ∃ z, o = .inr z ∧ v = some (.long z) ∧ s2 = σ ∧ ad2 = ad) (fun E q ad2 s2 => o = .inl () ∧ E = "java/util/NoSuchElementException" ∧ s2 = σ ∧ ad2 = ad) :=
  g_MetG.of pl_X1 (Nat.le_of_ble_eq_true rfl) (fun X C hQ hR hmc hms hL hnm es eb el hT => mw_C1_row C hR hL (by rw [el]; exact hlt) hT ⟨hmc, hms⟩ h hQ)
theorem ml_C1_rowOf_94 {X : g_F} {hid : Bool} (C : g_M gCl X cX1_rowOf RX1 (some (.object "java/lang/Object"))) (hR : g_R X = g_rm 1 1 8) (hL : g_nL X = 7) (hmc : g_mc X = 1 ∧ g_ms X = 8) {ad : Nat → Nat → Nat} {σ : g_S} {v1 : Int32} {v3 : Int32} (n : Nat) (v : (Int32 × Int32 × g_S)) (e : g_S) (h : g_lp (fun v => mB_C1_rowOf_94 v.2.2 v1 v3 v.1 v.2.1) n v = some e) (kx : g_Y gCl X (gC hid) ad e (1, 8) 119 [(5, .ref (ad 48 0))] []) : g_Y gCl X (gC hid) ad v.2.2 (1, 8) 94 [(1, .int v1), (3, .int v3), (4, .int v.1), (5, .ref (ad 48 0)), (6, .int v.2.1)] [] := by
  refine g_loop (P := fun v => g_Y gCl X (gC hid) ad v.2.2 (1, 8) 94 [(1, .int v1), (3, .int v3), (4, .int v.1), (5, .ref (ad 48 0)), (6, .int v.2.1)] []) (T := fun e => g_Y gCl X (gC hid) ad e (1, 8) 119 [(5, .ref (ad 48 0))] []) ?_ n v e h kx
  clear h kx
  clear n v e
  intro v o h kl kx
  obtain ⟨v4, v6, σ⟩ := v
  have h : mB_C1_rowOf_94 σ v1 v3 v4 v6 = some o := h
  unfold mB_C1_rowOf_94 at h
  show g_Y gCl X (gC hid) ad σ (1, 8) 94 [(1, .int v1), (3, .int v3), (4, .int v4), (5, .ref (ad 48 0)), (6, .int v6)] []
  refine y_iload C dX1_rowOf_94 4 rfl ?_
  refine y_iload_n C dX1_rowOf_96 0 rfl rfl ?_
  refine y_icmp_ge (tgt := 119) C dX1_rowOf_97 rfl (fun hc => ?_) (fun hc => ?_)
  · replace h := g_it h hc
    refine y_sub (vs2 := [(5, .ref (ad 48 0))]) [3] rfl ?_
    exact kx _ (Option.some.inj h).symm
  · replace h := g_if h hc
    refine y_aload C dX1_rowOf_100 3 rfl ?_
    refine y_iload C dX1_rowOf_102 4 rfl ?_
    refine y_iload C dX1_rowOf_104 2 rfl ?_
    obtain ⟨hg, h⟩ := g_gd h
    obtain ⟨σ3, hσ3, h⟩ := g_lt h
    refine as_C_48_0 C hσ3 hg dX1_rowOf_106 ?_
    obtain ⟨x4, hx4, h⟩ := g_lt h
    refine y_iinc (c := (1 : Int32)) (vs1 := [(6, .int x4), (1, .int v1), (3, .int v3), (4, .int v4), (5, .ref (ad 48 0))]) C hx4 (by decide) dX1_rowOf_107 4 rfl (g_lL hL rfl) rfl ?_
    refine y_iload C dX1_rowOf_110 3 rfl ?_
    refine y_iload_n C dX1_rowOf_112 2 rfl rfl ?_
    refine y_iadd C dX1_rowOf_113 ?_
    obtain ⟨x5, hx5, h⟩ := g_lt h
    refine y_istore (vs1 := [(4, .int x5), (6, .int x4), (1, .int v1), (3, .int v3), (5, .ref (ad 48 0))]) C hx5 dX1_rowOf_114 (g_lL hL rfl) rfl ?_
    refine y_goto (tgt := 94) C dX1_rowOf_116 rfl ?_
    refine y_sub (vs2 := [(1, .int v1), (3, .int v3), (4, .int x5), (5, .ref (ad 48 0)), (6, .int x4)]) [2, 3, 0, 4, 1] rfl ?_
    exact kl _ (Option.some.inj h).symm
theorem ml_C1_rowOf_57 {X : g_F} {hid : Bool} (C : g_M gCl X cX1_rowOf RX1 (some (.object "java/lang/Object"))) (hR : g_R X = g_rm 1 1 8) (hL : g_nL X = 7) (hmc : g_mc X = 1 ∧ g_ms X = 8) {ad : Nat → Nat → Nat} {σ : g_S} {v1 : Int32} {v3 : Int32} (n : Nat) (v : (Int32 × Int32 × g_S)) (e : g_S) (h : g_lp (fun v => mB_C1_rowOf_57 v.2.2 v1 v3 v.1 v.2.1) n v = some e) (kx : g_Y gCl X (gC hid) ad e (1, 8) 83 [(5, .ref (ad 48 0))] []) : g_Y gCl X (gC hid) ad v.2.2 (1, 8) 57 [(1, .int v1), (3, .int v3), (4, .int v.1), (5, .ref (ad 48 0)), (6, .int v.2.1)] [] := by
  refine g_loop (P := fun v => g_Y gCl X (gC hid) ad v.2.2 (1, 8) 57 [(1, .int v1), (3, .int v3), (4, .int v.1), (5, .ref (ad 48 0)), (6, .int v.2.1)] []) (T := fun e => g_Y gCl X (gC hid) ad e (1, 8) 83 [(5, .ref (ad 48 0))] []) ?_ n v e h kx
  clear h kx
  clear n v e
  intro v o h kl kx
  obtain ⟨v4, v6, σ⟩ := v
  have h : mB_C1_rowOf_57 σ v1 v3 v4 v6 = some o := h
  unfold mB_C1_rowOf_57 at h
  show g_Y gCl X (gC hid) ad σ (1, 8) 57 [(1, .int v1), (3, .int v3), (4, .int v4), (5, .ref (ad 48 0)), (6, .int v6)] []
  refine y_iload C dX1_rowOf_57 4 rfl ?_
  refine y_iload_n C dX1_rowOf_59 0 rfl rfl ?_
  refine y_icmp_ge (tgt := 83) C dX1_rowOf_60 rfl (fun hc => ?_) (fun hc => ?_)
  · replace h := g_it h hc
    refine y_sub (vs2 := [(5, .ref (ad 48 0))]) [3] rfl ?_
    exact kx _ (Option.some.inj h).symm
  · replace h := g_if h hc
    refine y_aload C dX1_rowOf_63 3 rfl ?_
    refine y_iload C dX1_rowOf_65 4 rfl ?_
    refine y_iload C dX1_rowOf_67 2 rfl ?_
    refine y_i2s C dX1_rowOf_69 ?_
    obtain ⟨hg, h⟩ := g_gd h
    obtain ⟨σ9, hσ9, h⟩ := g_lt h
    refine as_C_48_2 C hσ9 hg dX1_rowOf_70 ?_
    obtain ⟨x10, hx10, h⟩ := g_lt h
    refine y_iinc (c := (1 : Int32)) (vs1 := [(6, .int x10), (1, .int v1), (3, .int v3), (4, .int v4), (5, .ref (ad 48 0))]) C hx10 (by decide) dX1_rowOf_71 4 rfl (g_lL hL rfl) rfl ?_
    refine y_iload C dX1_rowOf_74 3 rfl ?_
    refine y_iload_n C dX1_rowOf_76 2 rfl rfl ?_
    refine y_iadd C dX1_rowOf_77 ?_
    obtain ⟨x11, hx11, h⟩ := g_lt h
    refine y_istore (vs1 := [(4, .int x11), (6, .int x10), (1, .int v1), (3, .int v3), (5, .ref (ad 48 0))]) C hx11 dX1_rowOf_78 (g_lL hL rfl) rfl ?_
    refine y_goto (tgt := 57) C dX1_rowOf_80 rfl ?_
    refine y_sub (vs2 := [(1, .int v1), (3, .int v3), (4, .int x11), (5, .ref (ad 48 0)), (6, .int x10)]) [2, 3, 0, 4, 1] rfl ?_
    exact kl _ (Option.some.inj h).symm
theorem ml_C1_rowOf_15 {X : g_F} {hid : Bool} (C : g_M gCl X cX1_rowOf RX1 (some (.object "java/lang/Object"))) (hR : g_R X = g_rm 1 1 8) (hL : g_nL X = 7) (hmc : g_mc X = 1 ∧ g_ms X = 8) {ad : Nat → Nat → Nat} {σ : g_S} {v1 : Int32} {v3 : Int32} (n : Nat) (v : (Int32 × Int32 × g_S)) (e : g_S) (h : g_lp (fun v => mB_C1_rowOf_15 v.2.2 v1 v3 v.1 v.2.1) n v = some e) (kx : g_Y gCl X (gC hid) ad e (1, 8) 41 [(5, .ref (ad 48 0))] []) : g_Y gCl X (gC hid) ad v.2.2 (1, 8) 15 [(1, .int v1), (3, .int v3), (4, .int v.1), (5, .ref (ad 48 0)), (6, .int v.2.1)] [] := by
  refine g_loop (P := fun v => g_Y gCl X (gC hid) ad v.2.2 (1, 8) 15 [(1, .int v1), (3, .int v3), (4, .int v.1), (5, .ref (ad 48 0)), (6, .int v.2.1)] []) (T := fun e => g_Y gCl X (gC hid) ad e (1, 8) 41 [(5, .ref (ad 48 0))] []) ?_ n v e h kx
  clear h kx
  clear n v e
  intro v o h kl kx
  obtain ⟨v4, v6, σ⟩ := v
  have h : mB_C1_rowOf_15 σ v1 v3 v4 v6 = some o := h
  unfold mB_C1_rowOf_15 at h
  show g_Y gCl X (gC hid) ad σ (1, 8) 15 [(1, .int v1), (3, .int v3), (4, .int v4), (5, .ref (ad 48 0)), (6, .int v6)] []
  refine y_iload C dX1_rowOf_15 4 rfl ?_
  refine y_iload_n C dX1_rowOf_17 0 rfl rfl ?_
  refine y_icmp_ge (tgt := 41) C dX1_rowOf_18 rfl (fun hc => ?_) (fun hc => ?_)
  · replace h := g_it h hc
    refine y_sub (vs2 := [(5, .ref (ad 48 0))]) [3] rfl ?_
    exact kx _ (Option.some.inj h).symm
  · replace h := g_if h hc
    refine y_aload C dX1_rowOf_21 3 rfl ?_
    refine y_iload C dX1_rowOf_23 4 rfl ?_
    refine y_iload C dX1_rowOf_25 2 rfl ?_
    refine y_i2b C dX1_rowOf_27 ?_
    obtain ⟨hg, h⟩ := g_gd h
    obtain ⟨σ15, hσ15, h⟩ := g_lt h
    refine as_C_48_1 C hσ15 hg dX1_rowOf_28 ?_
    obtain ⟨x16, hx16, h⟩ := g_lt h
    refine y_iinc (c := (1 : Int32)) (vs1 := [(6, .int x16), (1, .int v1), (3, .int v3), (4, .int v4), (5, .ref (ad 48 0))]) C hx16 (by decide) dX1_rowOf_29 4 rfl (g_lL hL rfl) rfl ?_
    refine y_iload C dX1_rowOf_32 3 rfl ?_
    refine y_iload_n C dX1_rowOf_34 2 rfl rfl ?_
    refine y_iadd C dX1_rowOf_35 ?_
    obtain ⟨x17, hx17, h⟩ := g_lt h
    refine y_istore (vs1 := [(4, .int x17), (6, .int x16), (1, .int v1), (3, .int v3), (5, .ref (ad 48 0))]) C hx17 dX1_rowOf_36 (g_lL hL rfl) rfl ?_
    refine y_goto (tgt := 15) C dX1_rowOf_38 rfl ?_
    refine y_sub (vs2 := [(1, .int v1), (3, .int v3), (4, .int x17), (5, .ref (ad 48 0)), (6, .int x16)]) [2, 3, 0, 4, 1] rfl ?_
    exact kl _ (Option.some.inj h).symm
theorem mw_C1_rowOf {X : g_F} {hid : Bool} (C : g_M gCl X cX1_rowOf RX1 (some (.object "java/lang/Object"))) (hR : g_R X = g_rm 1 1 8) (hL : g_nL X = 7) (hmc : g_mc X = 1 ∧ g_ms X = 8) {ad : Nat → Nat → Nat} {σ : g_S} {v0 : Int32} {v1 : Int32} {v2 : Int32} {v3 : Int32} {o : g_S} (h : mF_C1_rowOf σ v0 v1 v2 v3 = some o) (hQ : g_MQG gCl X (gC hid) (fun v ad2 s2 => v = some (.ref (ad2 48 0)) ∧ s2 = o ∧ ∃ q0, ad2 = (g_ua ad 48 0 q0)) (fun _ _ _ _ => False) = g_Q X) : g_Y gCl X (gC hid) ad σ (0, 0) 0 [(0, .int v0), (1, .int v1), (2, .int v2), (3, .int v3)] [] := by
  unfold mF_C1_rowOf at h
  refine y_iload_n C dX1_rowOf_0 2 rfl rfl ?_
  refine y_istore (vs1 := [(4, .int v2), (0, .int v0), (1, .int v1), (2, .int v2), (3, .int v3)]) C rfl dX1_rowOf_1 (g_lL hL rfl) rfl ?_
  refine y_iload_n C dX1_rowOf_3 1 rfl rfl ?_
  refine y_if_ne (tgt := 44) C dX1_rowOf_4 rfl (fun hc => ?_) (fun hc => ?_)
  · replace h := g_if h hc
    refine y_iload_n C dX1_rowOf_44 1 rfl rfl ?_
    refine y_iconst (v := (1 : Int32)) C dX1_rowOf_45 (by decide) ?_
    refine y_icmp_ne (tgt := 86) C dX1_rowOf_46 rfl (fun hc => ?_) (fun hc => ?_)
    · replace h := g_if h hc
      refine y_iload_n C dX1_rowOf_86 2 rfl rfl ?_
      obtain ⟨hp, h⟩ := g_gd h
      obtain ⟨σ1, hσ1, h⟩ := g_lt h
      refine y_newa (atype := .int) (ty := .int) (σ1 := σ1) (a0 := (v1.toNatClampNeg, .inl fun _ => 0)) (t0 := 0) C 48 0 rfl rfl q221 (fun _ => rfl) hp.1 rfl (Nat.le_trans (Nat.mul_le_mul_right _ hp.2) (by decide)) (have h20 := hp.2; have hff : 0 + 1 ≤ (g_R X).cells ∧ 0 + 8 ≤ (g_R X).slots := (by rw [hR]; exact ⟨Nat.le_of_ble_eq_true rfl, Nat.le_of_ble_eq_true rfl⟩); ⟨hff.1, Nat.le_trans (Nat.add_le_add_left h20 _) hff.2⟩) dX1_rowOf_87 (by rw [hσ1]; exact fr_48) (fun q => by rw [hσ1]; exact me_48_0) (fun q2 => ?_)
      refine y_widen (w2 := (1, 8)) ⟨Nat.le_refl _, Nat.add_le_add_left hp.2 _⟩ ?_
      have hq2 : (g_ua ad 48 0 q2) 48 0 = q2 := g_ua_s
      suffices key : g_Y gCl X (gC hid) (g_ua ad 48 0 q2) σ1 (1, 8) 89 [(4, .int v2), (0, .int v0), (1, .int v1), (2, .int v2), (3, .int v3)] [.ref ((g_ua ad 48 0 q2) 48 0)] by rw [hq2] at key; exact key
      refine y_astore (vs1 := [(5, .ref ((g_ua ad 48 0 q2) 48 0)), (4, .int v2), (0, .int v0), (1, .int v1), (2, .int v2), (3, .int v3)]) C rfl dX1_rowOf_89 (g_lL hL rfl) rfl ?_
      refine y_iconst (v := (0 : Int32)) C dX1_rowOf_91 (by decide) ?_
      refine y_istore (vs1 := [(6, .int (0 : Int32)), (5, .ref ((g_ua ad 48 0 q2) 48 0)), (4, .int v2), (0, .int v0), (1, .int v1), (2, .int v2), (3, .int v3)]) C rfl dX1_rowOf_92 (g_lL hL rfl) rfl ?_
      refine y_sub (vs2 := [(1, .int v1), (3, .int v3), (4, .int v2), (5, .ref ((g_ua ad 48 0 q2) 48 0)), (6, .int (0 : Int32))]) [4, 6, 2, 1, 0] rfl ?_
      obtain ⟨e6, he6, h⟩ := g_bd h
      refine ml_C1_rowOf_94 C hR hL hmc (σ := σ1) _ _ _ he6 ?_
      refine y_aload C dX1_rowOf_119 0 rfl ?_
      replace h := Option.some.inj h; subst h
      exact y_aretG C (Or.inl ⟨_, rfl⟩) (Or.inr ⟨_, rfl⟩) hQ ⟨rfl, rfl, _, rfl⟩ (by rw [hmc.1, hmc.2]; exact ⟨Nat.le_of_ble_eq_true rfl, Nat.le_of_ble_eq_true rfl⟩) dX1_rowOf_121
    · replace h := g_it h hc
      refine y_iload_n C dX1_rowOf_49 2 rfl rfl ?_
      obtain ⟨hp, h⟩ := g_gd h
      obtain ⟨σ7, hσ7, h⟩ := g_lt h
      refine y_newa (atype := .short) (ty := .short) (σ1 := σ7) (a0 := (v1.toNatClampNeg, .inl fun _ => 0)) (t0 := 4) C 48 0 rfl rfl q743 (fun _ => rfl) hp.1 rfl (Nat.le_trans (Nat.mul_le_mul_right _ hp.2) (by decide)) (have h20 := hp.2; have hff : 0 + 1 ≤ (g_R X).cells ∧ 0 + 8 ≤ (g_R X).slots := (by rw [hR]; exact ⟨Nat.le_of_ble_eq_true rfl, Nat.le_of_ble_eq_true rfl⟩); ⟨hff.1, Nat.le_trans (Nat.add_le_add_left h20 _) hff.2⟩) dX1_rowOf_50 (by rw [hσ7]; exact fr_48) (fun q => by rw [hσ7]; exact me_48_2) (fun q8 => ?_)
      refine y_widen (w2 := (1, 8)) ⟨Nat.le_refl _, Nat.add_le_add_left hp.2 _⟩ ?_
      have hq8 : (g_ua ad 48 0 q8) 48 0 = q8 := g_ua_s
      suffices key : g_Y gCl X (gC hid) (g_ua ad 48 0 q8) σ7 (1, 8) 52 [(4, .int v2), (0, .int v0), (1, .int v1), (2, .int v2), (3, .int v3)] [.ref ((g_ua ad 48 0 q8) 48 0)] by rw [hq8] at key; exact key
      refine y_astore (vs1 := [(5, .ref ((g_ua ad 48 0 q8) 48 0)), (4, .int v2), (0, .int v0), (1, .int v1), (2, .int v2), (3, .int v3)]) C rfl dX1_rowOf_52 (g_lL hL rfl) rfl ?_
      refine y_iconst (v := (0 : Int32)) C dX1_rowOf_54 (by decide) ?_
      refine y_istore (vs1 := [(6, .int (0 : Int32)), (5, .ref ((g_ua ad 48 0 q8) 48 0)), (4, .int v2), (0, .int v0), (1, .int v1), (2, .int v2), (3, .int v3)]) C rfl dX1_rowOf_55 (g_lL hL rfl) rfl ?_
      refine y_sub (vs2 := [(1, .int v1), (3, .int v3), (4, .int v2), (5, .ref ((g_ua ad 48 0 q8) 48 0)), (6, .int (0 : Int32))]) [4, 6, 2, 1, 0] rfl ?_
      obtain ⟨e12, he12, h⟩ := g_bd h
      refine ml_C1_rowOf_57 C hR hL hmc (σ := σ7) _ _ _ he12 ?_
      refine y_aload C dX1_rowOf_83 0 rfl ?_
      replace h := Option.some.inj h; subst h
      exact y_aretG C (Or.inl ⟨_, rfl⟩) (Or.inr ⟨_, rfl⟩) hQ ⟨rfl, rfl, _, rfl⟩ (by rw [hmc.1, hmc.2]; exact ⟨Nat.le_of_ble_eq_true rfl, Nat.le_of_ble_eq_true rfl⟩) dX1_rowOf_85
  · replace h := g_it h hc
    refine y_iload_n C dX1_rowOf_7 2 rfl rfl ?_
    obtain ⟨hp, h⟩ := g_gd h
    obtain ⟨σ13, hσ13, h⟩ := g_lt h
    refine y_newa (atype := .byte) (ty := .byte) (σ1 := σ13) (a0 := (v1.toNatClampNeg, .inl fun _ => 0)) (t0 := 3) C 48 0 rfl rfl q329 (fun _ => rfl) hp.1 rfl (Nat.le_trans (Nat.mul_le_mul_right _ hp.2) (by decide)) (have h20 := hp.2; have hff : 0 + 1 ≤ (g_R X).cells ∧ 0 + 8 ≤ (g_R X).slots := (by rw [hR]; exact ⟨Nat.le_of_ble_eq_true rfl, Nat.le_of_ble_eq_true rfl⟩); ⟨hff.1, Nat.le_trans (Nat.add_le_add_left h20 _) hff.2⟩) dX1_rowOf_8 (by rw [hσ13]; exact fr_48) (fun q => by rw [hσ13]; exact me_48_1) (fun q14 => ?_)
    refine y_widen (w2 := (1, 8)) ⟨Nat.le_refl _, Nat.add_le_add_left hp.2 _⟩ ?_
    have hq14 : (g_ua ad 48 0 q14) 48 0 = q14 := g_ua_s
    suffices key : g_Y gCl X (gC hid) (g_ua ad 48 0 q14) σ13 (1, 8) 10 [(4, .int v2), (0, .int v0), (1, .int v1), (2, .int v2), (3, .int v3)] [.ref ((g_ua ad 48 0 q14) 48 0)] by rw [hq14] at key; exact key
    refine y_astore (vs1 := [(5, .ref ((g_ua ad 48 0 q14) 48 0)), (4, .int v2), (0, .int v0), (1, .int v1), (2, .int v2), (3, .int v3)]) C rfl dX1_rowOf_10 (g_lL hL rfl) rfl ?_
    refine y_iconst (v := (0 : Int32)) C dX1_rowOf_12 (by decide) ?_
    refine y_istore (vs1 := [(6, .int (0 : Int32)), (5, .ref ((g_ua ad 48 0 q14) 48 0)), (4, .int v2), (0, .int v0), (1, .int v1), (2, .int v2), (3, .int v3)]) C rfl dX1_rowOf_13 (g_lL hL rfl) rfl ?_
    refine y_sub (vs2 := [(1, .int v1), (3, .int v3), (4, .int v2), (5, .ref ((g_ua ad 48 0 q14) 48 0)), (6, .int (0 : Int32))]) [4, 6, 2, 1, 0] rfl ?_
    obtain ⟨e18, he18, h⟩ := g_bd h
    refine ml_C1_rowOf_15 C hR hL hmc (σ := σ13) _ _ _ he18 ?_
    refine y_aload C dX1_rowOf_41 0 rfl ?_
    replace h := Option.some.inj h; subst h
    exact y_aretG C (Or.inl ⟨_, rfl⟩) (Or.inr ⟨_, rfl⟩) hQ ⟨rfl, rfl, _, rfl⟩ (by rw [hmc.1, hmc.2]; exact ⟨Nat.le_of_ble_eq_true rfl, Nat.le_of_ble_eq_true rfl⟩) dX1_rowOf_43
theorem ct_C1_rowOf {D : va_G} {dA : Nat → ClassId} {A : Nat → Prop} {s0 : State} {b0 : Nat} {l : Launch} {hid : Bool} {ad : Nat → Nat → Nat} {σ : g_S} {v0 : Int32} {v1 : Int32} {v2 : Int32} {v3 : Int32}{σ1 : g_S} (h : mF_C1_rowOf σ v0 v1 v2 v3 = some σ1) : g_MetG gCl D dA A s0 b0 l yX1_rowOf (ws_ yX1_rowOf cX1_rowOf 7 (some (.object "java/lang/Object"))) 1 (1, 8) (gC hid) ad σ [.int v0, .int v1, .int v2, .int v3] (gC hid) (fun v ad2 s2 => v = some (.ref (ad2 48 0)) ∧ s2 = σ1 ∧ ∃ q0, ad2 = (g_ua ad 48 0 q0)) (fun _ _ _ _ => False) :=
  g_MetG.of pl_X1 (Nat.le_of_ble_eq_true rfl) (fun X C hQ hR hmc hms hL hnm es eb el hT => mw_C1_rowOf C hR hL ⟨hmc, hms⟩ h hQ)
/-! ===== NegativeArraySizeException ===== -/
theorem g_atZ {cl : List vw_C} {X : g_F} {cc : ByteArray} {own : String} {ret : Option FieldType} (C : g_M cl X cc own ret) : ∀ w ∈ vx_atM "java/lang/NegativeArraySizeException" ["java/lang/RuntimeException", "java/lang/Exception"], w.before (g_as X) (g_s X) = true := by
  intro w hw
  replace hw := (List.mem_filter.mp hw).1
  simp only [Bundle.messageArmAtoms, List.mem_append] at hw
  rcases hw with (((hw | hw) | hw) | hw) | hw
  · exact g_thr C w hw
  · simp only [Bundle.throwableSAtoms, List.mem_cons, List.not_mem_nil, or_false] at hw
    rcases hw with rfl | rfl | rfl | rfl
    · exact C.2.2.2.2.1 _ q712
    · exact C.2.2.2.2.1 _ q713
    · exact C.2.2.2.2.1 _ q452
    · exact C.2.2.2.2.1 _ q419
  · simp only [Bundle.chainSAtoms, Bundle.passSAtoms, List.mem_append, List.mem_cons, List.not_mem_nil, or_false] at hw
    rcases hw with (rfl | rfl | rfl | rfl | rfl) | (rfl | rfl | rfl | rfl | rfl) | (rfl | rfl | rfl | rfl | rfl)
    · exact C.2.2.2.2.1 _ q703
    · exact C.2.2.2.2.1 _ q704
    · exact C.2.2.2.2.1 _ q705
    · exact C.2.2.2.2.1 _ q706
    · exact g_decl C q723
    · exact C.2.2.2.2.1 _ q706
    · exact C.2.2.2.2.1 _ q707
    · exact C.2.2.2.2.1 _ q708
    · exact C.2.2.2.2.1 _ q709
    · exact g_decl C q407
    · exact C.2.2.2.2.1 _ q709
    · exact C.2.2.2.2.1 _ q710
    · exact C.2.2.2.2.1 _ q711
    · exact C.2.2.2.2.1 _ q712
    · exact g_decl C q409
  · simp only [Bundle.stringAtoms, List.mem_cons, List.not_mem_nil, or_false] at hw
    rcases hw with rfl | rfl | rfl | rfl | rfl | rfl | rfl
    · exact C.2.2.2.2.1 _ q121
    · exact C.2.2.2.2.1 _ q725
    · exact C.2.2.2.2.1 _ q329
    · exact C.2.2.2.2.1 _ q726
    · exact C.2.2.2.2.1 _ q728
    · exact C.2.2.2.2.1 _ q727
    · exact C.2.2.2.2.1 _ q729
  · simp only [List.mem_cons, List.not_mem_nil, or_false] at hw
    rcases hw with rfl | rfl | rfl | rfl | rfl | rfl | rfl | rfl | rfl | rfl | rfl | rfl | rfl | rfl
    · exact C.2.2.2.2.1 _ q130
    · exact C.2.2.2.2.1 _ q702
    · exact va_Nw.use rfl (g_nestC C q721)
    · exact C.2.2.2.2.1 _ q724
    · exact C.2.2.2.2.1 _ q434
    · exact C.2.2.2.2.1 _ q716
    · exact C.2.2.2.2.1 _ q717
    · exact C.2.2.2.2.1 _ q719
    · exact C.2.2.2.2.1 _ q715
    · exact vx_isRefq (g_zU C).1
    · exact vx_isRefq (g_zN C).1
    · exact C.2.2.2.2.1 _ q422
    · exact C.2.2.2.2.1 _ q421
    · exact C.2.2.2.2.1 _ q714
theorem g_txN (n : Int32) : (toString n == notModelled) = false ∧ (stringBytes (stringToUtf16 (toString n))).size ≤ 44 := by
  have h1 := int32_print n
  have h2 := stringBytes_size_le (stringToUtf16 (toString n))
  have h3 := utf16_size_le (toString n)
  refine ⟨beq_eq_false_iff_ne.mpr (fun h => ?_), by omega⟩
  rw [h] at h1
  exact absurd h1 (by decide +kernel)
theorem y_newaZ {cl : List vw_C} {X : g_F} {cc : ByteArray} {own : String} {ret : Option FieldType} {LM : g_L} {ad : Nat → Nat → Nat} {σ : g_S} {w : Nat × Nat} {pc : Nat} {vs : List (Nat × Value)} {st : List Value} {Z1 : Option Value → (Nat → Nat → Nat) → g_S → Prop} {Z2 : String → Nat → (Nat → Nat → Nat) → g_S → Prop} {atype : ArrayType} {n : Int32} (C : g_M cl X cc own ret) (h0 : n < 0) (hlt : (g_l X).stackTraces = false) (hT : (g_c X).exceptionTable.toList = []) (hQ : g_MQG cl X LM Z1 Z2 = g_Q X) (hz : ∀ q, Z2 "java/lang/NegativeArraySizeException" q ad σ)
    (hR : 300 ≤ (g_R X).frames ∧ 12000 ≤ (g_R X).locals) (hf : w.1 + 3 ≤ (g_R X).cells ∧ w.2 + (44 + 10) ≤ (g_R X).slots) (hw : w.1 + 3 ≤ g_mc X ∧ w.2 + (44 + 10) ≤ g_ms X) (hcat : (st.map fun v => v.category).sum ≤ 8) (hd : decode cc pc = .ok (.newarray atype, 2)) : g_Y cl X LM ad σ w pc vs (.int n :: st) := by
  intro H locs ls hW hS hl
  refine vx_newarrayZ C.1 C.2.1 h0 hd (fun tx htx => ?_)
  subst htx
  refine vx_vm (names := ["java/lang/RuntimeException", "java/lang/Exception"]) (nb := 44) (A := g_A X) C.1 hlt (by decide +kernel) (by decide +kernel) (by decide +kernel) (by decide +kernel) (g_atZ C) (by decide +kernel) (g_zU C) (g_zN C) hS (hl.1.trans C.2.2.1.symm) (g_txN n).1 (g_txN n).2 (by decide) (by have := hR.1; show 2 + 4 < _; omega) (by have := hR.2; omega) (by decide) hf.1 hf.2 C.2.2.2.2.2.2.1 (fun H1 q9 ce h1 h2 h3 h4 h5 h6 => ?_)
  exact y_outG (w := (w.1 + 3, w.2 + (44 + 10))) C (by rw [hT]; intro x hx; cases hx) hQ (hz q9) hw H1 locs ls st ce (hW.kept (fun q hq _ => h2 q hq)) h3 hl h4 h5 h6
theorem mwx_C1_rowOf {X : g_F} {ck sk : Nat} {hid : Bool} (C : g_M gCl X cX1_rowOf RX1 (some (.object "java/lang/Object"))) (hR : g_R X = g_rm 300 3 54) (hL : g_nL X = 7) (hlt : (g_l X).stackTraces = false) (hT : (g_c X).exceptionTable.toList = []) (hmc : g_mc X = 3 ∧ g_ms X = 54) {ad : Nat → Nat → Nat} {σ : g_S} {v0 v1 v2 v3 : Int32} (h0 : v1 < 0) (hQ : g_MQG gCl X (gC hid) (fun _ _ _ => False) (fun E _ ad2 s2 => E = "java/lang/NegativeArraySizeException" ∧ s2 = σ ∧ ad2 = ad) = g_Q X) : g_Y gCl X (gC hid) ad σ (0, 0) 0 [(0, .int v0), (1, .int v1), (2, .int v2), (3, .int v3)] [] := by
  have hR1 : 300 ≤ (g_R X).frames ∧ 12000 ≤ (g_R X).locals := by rw [hR]; exact ⟨Nat.le_of_ble_eq_true rfl, Nat.le_of_ble_eq_true rfl⟩
  have hf : 0 + 3 ≤ (g_R X).cells ∧ 0 + (44 + 10) ≤ (g_R X).slots := by rw [hR]; exact ⟨Nat.le_of_ble_eq_true rfl, Nat.le_of_ble_eq_true rfl⟩
  have hw : 0 + 3 ≤ g_mc X ∧ 0 + (44 + 10) ≤ g_ms X := by rw [hmc.1, hmc.2]; exact ⟨Nat.le_of_ble_eq_true rfl, Nat.le_of_ble_eq_true rfl⟩
  refine y_iload_n C dX1_rowOf_0 2 rfl rfl ?_
  refine y_istore (vs1 := [(4, .int v2), (0, .int v0), (1, .int v1), (2, .int v2), (3, .int v3)]) C rfl dX1_rowOf_1 (g_lL hL rfl) rfl ?_
  refine y_iload_n C dX1_rowOf_3 1 rfl rfl ?_
  refine y_if_ne (tgt := 44) C dX1_rowOf_4 rfl (fun hc => ?_) (fun hc => ?_)
  · refine y_iload_n C dX1_rowOf_44 1 rfl rfl ?_
    refine y_iconst (v := (1 : Int32)) C dX1_rowOf_45 (by decide) ?_
    refine y_icmp_ne (tgt := 86) C dX1_rowOf_46 rfl (fun hc => ?_) (fun hc => ?_)
    · refine y_iload_n C dX1_rowOf_86 2 rfl rfl ?_
      exact y_newaZ C h0 hlt hT hQ (fun q => ⟨rfl, rfl, rfl⟩) hR1 hf hw (by decide) dX1_rowOf_87
    · refine y_iload_n C dX1_rowOf_49 2 rfl rfl ?_
      exact y_newaZ C h0 hlt hT hQ (fun q => ⟨rfl, rfl, rfl⟩) hR1 hf hw (by decide) dX1_rowOf_50
  · refine y_iload_n C dX1_rowOf_7 2 rfl rfl ?_
    exact y_newaZ C h0 hlt hT hQ (fun q => ⟨rfl, rfl, rfl⟩) hR1 hf hw (by decide) dX1_rowOf_8
theorem ctx_C1_rowOf {D : va_G} {dA : Nat → ClassId} {A : Nat → Prop} {s0 : State} {b0 : Nat} {l : Launch} {hid : Bool} (hlt : l.stackTraces = false) {ad : Nat → Nat → Nat} {σ : g_S} {v0 v1 v2 v3 : Int32} (h0 : v1 < 0) : g_MetG gCl D dA A s0 b0 l yX1_rowOf (ws_ yX1_rowOf cX1_rowOf 7 (some (.object "java/lang/Object"))) 300 (3, 54) (gC hid) ad σ [.int v0, .int v1, .int v2, .int v3] (gC hid) (fun _ _ _ => False) (fun E _ ad2 s2 => E = "java/lang/NegativeArraySizeException" ∧ s2 = σ ∧ ad2 = ad) :=
  g_MetG.of pl_X1 (Nat.le_of_ble_eq_true rfl) (fun X C hQ hR hmc hms hL hnm es eb el hT => mwx_C1_rowOf (ck := 0) (sk := 0) C hR hL (by rw [el]; exact hlt) hT ⟨hmc, hms⟩ h0 hQ)

theorem mj_C1_sheet_n_97 {X : g_F} {hid : Bool} (C : g_M gCl X cX1_sheet RX1 (some .int)) (hR : g_R X = g_rm 2 0 0) (hL : g_nL X = 7) (hlt : (g_l X).stackTraces = false) (hT : (g_c X).exceptionTable.toList = tableOf [((28 : Nat), (38 : Nat), (41 : Nat), (282 : Nat))]) (hmc : g_mc X = 0 ∧ g_ms X = 0) {ad : Nat → Nat → Nat} {σ : g_S} {a0 : Nat} (ha0 : ad 0 0 = a0) {v2 : Int32} {v6 : Int32} {s1 : Int32} {s2 : Int32} {o : ((Int32 × g_S) ⊕ g_S)} (h : mJ_C1_sheet_n_97 σ v2 v6 s1 s2 = some o) (kl : ∀ z, o = .inl z → g_Y gCl X (gC hid) ad z.2 (0, 0) 49 [(0, .ref (ad 0 0)), (2, .int v2), (5, .null), (6, .int z.1)] []) (kx : ∀ z, o = .inr z → g_Y gCl X (gC hid) ad z (0, 0) 104 [(0, .ref (ad 0 0)), (5, .null)] []) : g_Y gCl X (gC hid) ad σ (0, 0) 97 [(0, .ref (ad 0 0)), (2, .int v2), (5, .null), (6, .int v6)] [.int s2, .int s1, .ref (ad 7 0)] := by
  unfold mJ_C1_sheet_n_97 at h
  obtain ⟨hg, h⟩ := g_gd h
  obtain ⟨σ2, hσ2, h⟩ := g_lt h
  refine as_C_7 C nC_7_0 hσ2 hg dX1_sheet_97 ?_
  obtain ⟨x3, hx3, h⟩ := g_lt h
  refine y_iinc (c := (1 : Int32)) (vs1 := [(6, .int x3), (0, .ref (ad 0 0)), (2, .int v2), (5, .null)]) C hx3 (by decide) dX1_sheet_98 3 rfl (g_lL hL rfl) rfl ?_
  refine y_goto (tgt := 49) C dX1_sheet_101 rfl ?_
  refine y_sub (vs2 := [(0, .ref (ad 0 0)), (2, .int v2), (5, .null), (6, .int x3)]) [1, 2, 3, 0] rfl ?_
  exact kl _ (Option.some.inj h).symm
theorem mj_C1_sheet_n_78 {X : g_F} {hid : Bool} (C : g_M gCl X cX1_sheet RX1 (some .int)) (hR : g_R X = g_rm 2 0 0) (hL : g_nL X = 7) (hlt : (g_l X).stackTraces = false) (hT : (g_c X).exceptionTable.toList = tableOf [((28 : Nat), (38 : Nat), (41 : Nat), (282 : Nat))]) (hmc : g_mc X = 0 ∧ g_ms X = 0) {ad : Nat → Nat → Nat} {σ : g_S} {a0 : Nat} (ha0 : ad 0 0 = a0) {v2 : Int32} {v6 : Int32} {s1 : Int32} {o : ((Int32 × g_S) ⊕ g_S)} (h : mJ_C1_sheet_n_78 σ v2 v6 s1 = some o) (kl : ∀ z, o = .inl z → g_Y gCl X (gC hid) ad z.2 (0, 0) 49 [(0, .ref (ad 0 0)), (2, .int v2), (5, .null), (6, .int z.1)] []) (kx : ∀ z, o = .inr z → g_Y gCl X (gC hid) ad z (0, 0) 104 [(0, .ref (ad 0 0)), (5, .null)] []) : g_Y gCl X (gC hid) ad σ (0, 0) 78 [(0, .ref (ad 0 0)), (2, .int v2), (5, .null), (6, .int v6)] [.int s1, .ref (ad 7 0)] := by
  unfold mJ_C1_sheet_n_78 at h
  refine y_iconst (v := (0 : Int32)) C dX1_sheet_78 (by decide) ?_
  refine y_goto (tgt := 97) C dX1_sheet_79 rfl ?_
  exact mj_C1_sheet_n_97 C hR hL hlt hT hmc ha0 h kl kx
theorem ml_C1_sheet_n_49 {X : g_F} {hid : Bool} (C : g_M gCl X cX1_sheet RX1 (some .int)) (hR : g_R X = g_rm 2 0 0) (hL : g_nL X = 7) (hlt : (g_l X).stackTraces = false) (hT : (g_c X).exceptionTable.toList = tableOf [((28 : Nat), (38 : Nat), (41 : Nat), (282 : Nat))]) (hmc : g_mc X = 0 ∧ g_ms X = 0) {ad : Nat → Nat → Nat} {σ : g_S} {a0 : Nat} (ha0 : ad 0 0 = a0) {v2 : Int32} (n : Nat) (v : (Int32 × g_S)) (e : g_S) (h : g_lp (fun v => mB_C1_sheet_n_49 v.2 v2 v.1) n v = some e) (kx : g_Y gCl X (gC hid) ad e (0, 0) 104 [(0, .ref (ad 0 0)), (5, .null)] []) : g_Y gCl X (gC hid) ad v.2 (0, 0) 49 [(0, .ref (ad 0 0)), (2, .int v2), (5, .null), (6, .int v.1)] [] := by
  refine g_loop (P := fun v => g_Y gCl X (gC hid) ad v.2 (0, 0) 49 [(0, .ref (ad 0 0)), (2, .int v2), (5, .null), (6, .int v.1)] []) (T := fun e => g_Y gCl X (gC hid) ad e (0, 0) 104 [(0, .ref (ad 0 0)), (5, .null)] []) ?_ n v e h kx
  clear h kx
  clear n v e
  intro v o h kl kx
  obtain ⟨v6, σ⟩ := v
  have h : mB_C1_sheet_n_49 σ v2 v6 = some o := h
  unfold mB_C1_sheet_n_49 at h
  show g_Y gCl X (gC hid) ad σ (0, 0) 49 [(0, .ref (ad 0 0)), (2, .int v2), (5, .null), (6, .int v6)] []
  refine y_iload C dX1_sheet_49 3 rfl ?_
  refine y_aload_n C dX1_sheet_51 0 rfl rfl ?_
  refine gf_C_X1_150_0 C nC_0_0 dX1_sheet_52 ?_
  refine y_icmp_ge (tgt := 104) C dX1_sheet_55 rfl (fun hc => ?_) (fun hc => ?_)
  · replace h := g_it h hc
    refine y_sub (vs2 := [(0, .ref (ad 0 0)), (5, .null)]) [0, 2] rfl ?_
    exact kx _ (Option.some.inj h).symm
  · replace h := g_if h hc
    refine y_aload_n C dX1_sheet_58 0 rfl rfl ?_
    refine gf_C_X1_84_0 C nC_0_0 dX1_sheet_59 ?_
    refine gf_C_X1_222_4 C nC_4_0 dX1_sheet_62 ?_
    refine y_iload C dX1_sheet_65 3 rfl ?_
    refine y_aloadN C dX1_sheet_67 2 rfl ?_
    refine y_ifnullN (tgt := 78) C dX1_sheet_69 rfl ?_
    exact mj_C1_sheet_n_78 C hR hL hlt hT hmc ha0 h kl kx
theorem mw_C1_sheet_n {X : g_F} {hid : Bool} (C : g_M gCl X cX1_sheet RX1 (some .int)) (hR : g_R X = g_rm 2 0 0) (hL : g_nL X = 7) (hlt : (g_l X).stackTraces = false) (hT : (g_c X).exceptionTable.toList = tableOf [((28 : Nat), (38 : Nat), (41 : Nat), (282 : Nat))]) (hmc : g_mc X = 0 ∧ g_ms X = 0) {ad : Nat → Nat → Nat} {σ : g_S} {a0 : Nat} (ha0 : ad 0 0 = a0) {v1 : Int32} {v2 : Int32} {v3 : Int32} {v4 : Int32} {o : (Int32 × g_S)} (h : mF_C1_sheet_n σ v1 v2 v3 v4 = some o) (hQ : g_MQG gCl X (gC hid) (fun v ad2 s2 => v = some (.int o.1) ∧ s2 = o.2 ∧ ad2 0 0 = a0) (fun _ _ _ _ => False) = g_Q X) : g_Y gCl X (gC hid) ad σ (0, 0) 0 [(0, .ref (ad 0 0)), (1, .int v1), (2, .int v2), (3, .int v3), (4, .int v4)] [] := by
  unfold mF_C1_sheet_n at h
  refine y_iload_n C dX1_sheet_0 1 rfl rfl ?_
  refine y_i2l C dX1_sheet_1 ?_
  refine y_lconst (v := (0 : Int64)) C dX1_sheet_2 (by decide) ?_
  refine y_ldc2 (v := (3 : Int64)) C q730 dX1_sheet_3 ?_
  obtain ⟨x1, hc, h⟩ := g_bd h
  refine y_callS C (As := [.long (v1.toInt64), .long (0 : Int64), .long (3 : Int64)]) (rest := []) (lk_X1_146_l1 C hR (by decide)) (ct_C1_in hc) rfl rfl (Nat.le_of_ble_eq_true rfl) ⟨Nat.zero_le _, Nat.zero_le _⟩ dX1_sheet_6 ?_
  refine y_if_eq (tgt := 18) C dX1_sheet_9 rfl (fun hc => ?_) (fun hc => ?_)
  · replace h := g_it h hc
    refine y_iconst (v := (-1 : Int32)) C dX1_sheet_18 (by decide) ?_
    replace h := Option.some.inj h; subst h
    exact y_iretG C hQ ⟨rfl, rfl, ha0⟩ ⟨Nat.zero_le _, Nat.zero_le _⟩ dX1_sheet_19
  · replace h := g_if h hc
    refine y_iload_n C dX1_sheet_12 2 rfl rfl ?_
    refine y_bipush (v := (8 : Int32)) C dX1_sheet_13 (by decide) ?_
    refine y_icmp_le (tgt := 20) C dX1_sheet_15 rfl (fun hc => ?_) (fun hc => ?_)
    · replace h := g_it h hc
      refine y_null C dX1_sheet_20 ?_
      refine y_astoreN (vs1 := [(5, .null), (0, .ref (ad 0 0)), (1, .int v1), (2, .int v2), (3, .int v3), (4, .int v4)]) C dX1_sheet_21 (g_lL hL rfl) rfl ?_
      refine y_iload_n C dX1_sheet_23 2 rfl rfl ?_
      refine y_iconst (v := (3 : Int32)) C dX1_sheet_24 (by decide) ?_
      refine y_icmp_ge (tgt := 46) C dX1_sheet_25 rfl (fun hc => ?_) (fun hc => ?_)
      · replace h := g_it h hc
        refine y_iconst (v := (0 : Int32)) C dX1_sheet_46 (by decide) ?_
        refine y_istore (vs1 := [(6, .int (0 : Int32)), (5, .null), (0, .ref (ad 0 0)), (1, .int v1), (2, .int v2), (3, .int v3), (4, .int v4)]) C rfl dX1_sheet_47 (g_lL hL rfl) rfl ?_
        refine y_sub (vs2 := [(0, .ref (ad 0 0)), (2, .int v2), (5, .null), (6, .int (0 : Int32))]) [2, 4, 1, 0] rfl ?_
        obtain ⟨e4, he4, h⟩ := g_bd h
        refine ml_C1_sheet_n_49 C hR hL hlt hT hmc ha0 (σ := σ) _ _ _ he4 ?_
        refine y_aloadN C dX1_sheet_104 1 rfl ?_
        refine y_ifnonnullN C dX1_sheet_106 ?_
        refine y_bipush (v := (-3 : Int32)) C dX1_sheet_109 (by decide) ?_
        refine y_goto (tgt := 122) C dX1_sheet_111 rfl ?_
        replace h := Option.some.inj h; subst h
        exact y_iretG C hQ ⟨rfl, rfl, ha0⟩ ⟨Nat.zero_le _, Nat.zero_le _⟩ dX1_sheet_122
      · replace h := g_if h hc
        cases h
    · replace h := g_if h hc
      refine y_iconst (v := (-1 : Int32)) C dX1_sheet_18 (by decide) ?_
      replace h := Option.some.inj h; subst h
      exact y_iretG C hQ ⟨rfl, rfl, ha0⟩ ⟨Nat.zero_le _, Nat.zero_le _⟩ dX1_sheet_19
theorem ct_C1_sheet_n {D : va_G} {dA : Nat → ClassId} {A : Nat → Prop} {s0 : State} {b0 : Nat} {l : Launch} {hid : Bool} (hlt : l.stackTraces = false) {ad : Nat → Nat → Nat} {σ : g_S} {v1 : Int32} {v2 : Int32} {v3 : Int32} {v4 : Int32}{r : Int32} {σ1 : g_S} (h : mF_C1_sheet_n σ v1 v2 v3 v4 = some (r, σ1)) : g_MetG gCl D dA A s0 b0 l yX1_sheet (wsW_ yX1_sheet cX1_sheet 7 (some .int)  [((28 : Nat), (38 : Nat), (41 : Nat), (282 : Nat))]) 2 (0, 0) (gC hid) ad σ [.ref (ad 0 0), .int v1, .int v2, .int v3, .int v4] (gC hid) (fun v ad2 s2 => v = some (.int r) ∧ s2 = σ1 ∧ ad2 0 0 = (ad 0 0)) (fun _ _ _ _ => False) :=
  g_MetG.ofH pl_X1 (Nat.le_of_ble_eq_true rfl) (fun X C hQ hR hmc hms hL hnm es eb el hT => mw_C1_sheet_n C hR hL (by rw [el]; exact hlt) hT ⟨hmc, hms⟩ rfl h hQ)
theorem mw_C1_entry {X : g_F} {hid : Bool} (C : g_M gCl X cX1_entry RX1 (some .int)) (hR : g_R X = g_rm 1 0 0) (hL : g_nL X = 2) {ad : Nat → Nat → Nat} {σ : g_S} {v1 : Int32} {o : Int32} (h : mF_C1_entry σ v1 = some o) (hQ : g_MQ gCl X (gC hid) ad σ (some (.int o)) = g_Q X) : g_Y gCl X (gC hid) ad σ (0, 0) 0 [(0, .ref (ad 48 0)), (1, .int v1)] [] := by
  unfold mF_C1_entry at h
  refine y_aload_n C dX1_entry_0 0 rfl rfl ?_
  by_cases hp : ¬ (σ.2.2 48 0 200) = 0 ∧ (σ.2.2 48 0 1) = 1
  · replace h := g_it h hp
    refine y_instA C nC_48_0 (c48_1 hp) (g_nmB C) q524 dX1_entry_1 ?_
    refine y_if_eq (tgt := 14) C dX1_entry_4 rfl (fun hc => absurd hc (by decide)) (fun hc => ?_)
    refine y_aload_n C dX1_entry_7 0 rfl rfl ?_
    obtain ⟨hp, h⟩ := g_gd h
    refine y_castB C nC_48_0 (c48_1 hp) q524 dX1_entry_8 ?_
    refine y_iload_n C dX1_entry_11 1 rfl rfl ?_
    obtain ⟨hg, h⟩ := g_gd h
    refine al_C_48_1 C hg dX1_entry_12 ?_
    replace h := Option.some.inj h; subst h
    exact y_iret C hQ ⟨Nat.zero_le _, Nat.zero_le _⟩ dX1_entry_13
  replace h := g_if h hp
  by_cases hp : ¬ (σ.2.2 48 0 200) = 0 ∧ (σ.2.2 48 0 1) = 2
  · replace h := g_it h hp
    refine y_instNo C nC_48_0 (c48_2 hp) (g_nmS C) (g_nc C (flat_of_before _ C.2.2.2.2.2.2.2.2.2.1.2 _ (by decide +kernel))) q524 dX1_entry_1 ?_
    refine y_if_eq (tgt := 14) C dX1_entry_4 rfl (fun hc => ?_) (fun hc => absurd hc (by decide))
    refine y_aload_n C dX1_entry_14 0 rfl rfl ?_
    by_cases hp : ¬ (σ.2.2 48 0 200) = 0 ∧ (σ.2.2 48 0 1) = 1
    · replace h := g_it h hp
      refine y_instNo C nC_48_0 (c48_1 hp) (g_nmB C) (g_nc C (flat_of_before _ C.2.2.2.2.2.2.2.2.2.1.2 _ (by decide +kernel))) q737 dX1_entry_15 ?_
      refine y_if_eq (tgt := 30) C dX1_entry_18 rfl (fun hc => ?_) (fun hc => absurd hc (by decide))
      refine y_aload_n C dX1_entry_30 0 rfl rfl ?_
      obtain ⟨hp, h⟩ := g_gd h
      refine y_castI C nC_48_0 (c48_0 hp) q738 dX1_entry_31 ?_
      refine y_iload_n C dX1_entry_34 1 rfl rfl ?_
      obtain ⟨hg, h⟩ := g_gd h
      refine al_C_48_0 C hg dX1_entry_35 ?_
      replace h := Option.some.inj h; subst h
      exact y_iret C hQ ⟨Nat.zero_le _, Nat.zero_le _⟩ dX1_entry_36
    replace h := g_if h hp
    by_cases hp : ¬ (σ.2.2 48 0 200) = 0 ∧ (σ.2.2 48 0 1) = 2
    · replace h := g_it h hp
      refine y_instA C nC_48_0 (c48_2 hp) (g_nmS C) q737 dX1_entry_15 ?_
      refine y_if_eq (tgt := 30) C dX1_entry_18 rfl (fun hc => absurd hc (by decide)) (fun hc => ?_)
      refine y_aload_n C dX1_entry_21 0 rfl rfl ?_
      obtain ⟨hp, h⟩ := g_gd h
      refine y_castSh C nC_48_0 (c48_2 hp) q737 dX1_entry_22 ?_
      refine y_iload_n C dX1_entry_25 1 rfl rfl ?_
      obtain ⟨hg, h⟩ := g_gd h
      refine al_C_48_2 C hg dX1_entry_26 ?_
      refine y_goto (tgt := 36) C dX1_entry_27 rfl ?_
      replace h := Option.some.inj h; subst h
      exact y_iret C hQ ⟨Nat.zero_le _, Nat.zero_le _⟩ dX1_entry_36
    replace h := g_if h hp
    by_cases hp : ¬ (σ.2.2 48 0 200) = 0 ∧ (σ.2.2 48 0 1) = 0
    · replace h := g_it h hp
      refine y_instNo C nC_48_0 (c48_0 hp) (g_nmI C) (g_nc C (flat_of_before _ C.2.2.2.2.2.2.2.2.2.1.2 _ (by decide +kernel))) q737 dX1_entry_15 ?_
      refine y_if_eq (tgt := 30) C dX1_entry_18 rfl (fun hc => ?_) (fun hc => absurd hc (by decide))
      refine y_aload_n C dX1_entry_30 0 rfl rfl ?_
      obtain ⟨hp, h⟩ := g_gd h
      refine y_castI C nC_48_0 (c48_0 hp) q738 dX1_entry_31 ?_
      refine y_iload_n C dX1_entry_34 1 rfl rfl ?_
      obtain ⟨hg, h⟩ := g_gd h
      refine al_C_48_0 C hg dX1_entry_35 ?_
      replace h := Option.some.inj h; subst h
      exact y_iret C hQ ⟨Nat.zero_le _, Nat.zero_le _⟩ dX1_entry_36
    replace h := g_if h hp
    cases h
  replace h := g_if h hp
  by_cases hp : ¬ (σ.2.2 48 0 200) = 0 ∧ (σ.2.2 48 0 1) = 0
  · replace h := g_it h hp
    refine y_instNo C nC_48_0 (c48_0 hp) (g_nmI C) (g_nc C (flat_of_before _ C.2.2.2.2.2.2.2.2.2.1.2 _ (by decide +kernel))) q524 dX1_entry_1 ?_
    refine y_if_eq (tgt := 14) C dX1_entry_4 rfl (fun hc => ?_) (fun hc => absurd hc (by decide))
    refine y_aload_n C dX1_entry_14 0 rfl rfl ?_
    by_cases hp : ¬ (σ.2.2 48 0 200) = 0 ∧ (σ.2.2 48 0 1) = 1
    · replace h := g_it h hp
      refine y_instNo C nC_48_0 (c48_1 hp) (g_nmB C) (g_nc C (flat_of_before _ C.2.2.2.2.2.2.2.2.2.1.2 _ (by decide +kernel))) q737 dX1_entry_15 ?_
      refine y_if_eq (tgt := 30) C dX1_entry_18 rfl (fun hc => ?_) (fun hc => absurd hc (by decide))
      refine y_aload_n C dX1_entry_30 0 rfl rfl ?_
      obtain ⟨hp, h⟩ := g_gd h
      refine y_castI C nC_48_0 (c48_0 hp) q738 dX1_entry_31 ?_
      refine y_iload_n C dX1_entry_34 1 rfl rfl ?_
      obtain ⟨hg, h⟩ := g_gd h
      refine al_C_48_0 C hg dX1_entry_35 ?_
      replace h := Option.some.inj h; subst h
      exact y_iret C hQ ⟨Nat.zero_le _, Nat.zero_le _⟩ dX1_entry_36
    replace h := g_if h hp
    by_cases hp : ¬ (σ.2.2 48 0 200) = 0 ∧ (σ.2.2 48 0 1) = 2
    · replace h := g_it h hp
      refine y_instA C nC_48_0 (c48_2 hp) (g_nmS C) q737 dX1_entry_15 ?_
      refine y_if_eq (tgt := 30) C dX1_entry_18 rfl (fun hc => absurd hc (by decide)) (fun hc => ?_)
      refine y_aload_n C dX1_entry_21 0 rfl rfl ?_
      obtain ⟨hp, h⟩ := g_gd h
      refine y_castSh C nC_48_0 (c48_2 hp) q737 dX1_entry_22 ?_
      refine y_iload_n C dX1_entry_25 1 rfl rfl ?_
      obtain ⟨hg, h⟩ := g_gd h
      refine al_C_48_2 C hg dX1_entry_26 ?_
      refine y_goto (tgt := 36) C dX1_entry_27 rfl ?_
      replace h := Option.some.inj h; subst h
      exact y_iret C hQ ⟨Nat.zero_le _, Nat.zero_le _⟩ dX1_entry_36
    replace h := g_if h hp
    by_cases hp : ¬ (σ.2.2 48 0 200) = 0 ∧ (σ.2.2 48 0 1) = 0
    · replace h := g_it h hp
      refine y_instNo C nC_48_0 (c48_0 hp) (g_nmI C) (g_nc C (flat_of_before _ C.2.2.2.2.2.2.2.2.2.1.2 _ (by decide +kernel))) q737 dX1_entry_15 ?_
      refine y_if_eq (tgt := 30) C dX1_entry_18 rfl (fun hc => ?_) (fun hc => absurd hc (by decide))
      refine y_aload_n C dX1_entry_30 0 rfl rfl ?_
      obtain ⟨hp, h⟩ := g_gd h
      refine y_castI C nC_48_0 (c48_0 hp) q738 dX1_entry_31 ?_
      refine y_iload_n C dX1_entry_34 1 rfl rfl ?_
      obtain ⟨hg, h⟩ := g_gd h
      refine al_C_48_0 C hg dX1_entry_35 ?_
      replace h := Option.some.inj h; subst h
      exact y_iret C hQ ⟨Nat.zero_le _, Nat.zero_le _⟩ dX1_entry_36
    replace h := g_if h hp
    cases h
  replace h := g_if h hp
  cases h
theorem ct_C1_entry {D : va_G} {dA : Nat → ClassId} {A : Nat → Prop} {s0 : State} {b0 : Nat} {l : Launch} {hid : Bool} {ad : Nat → Nat → Nat} {σ : g_S} {v1 : Int32} {r : Int32} (h : mF_C1_entry σ v1 = some r) : g_Met gCl D dA A s0 b0 l yX1_entry cX1_entry 2 (some .int) 1 (0, 0) (gC hid) ad σ [.ref (ad 48 0), .int v1] (gC hid) ad σ (some (.int r)) :=
  g_Met.of pl_X1 (Nat.le_of_ble_eq_true rfl) (fun X C hQ hR _ _ hL _ es eb => mw_C1_entry C hR hL h hQ)
theorem mj_C1_sheet_r_97 {X : g_F} {hid : Bool} (C : g_M gCl X cX1_sheet RX1 (some .int)) (hR : g_R X = g_rm 2 1 8) (hL : g_nL X = 7) (hlt : (g_l X).stackTraces = false) (hT : (g_c X).exceptionTable.toList = tableOf [((28 : Nat), (38 : Nat), (41 : Nat), (282 : Nat))]) (hmc : g_mc X = 1 ∧ g_ms X = 8) {ad : Nat → Nat → Nat} {σ : g_S} {a0 : Nat} (ha0 : ad 0 0 = a0) {v2 : Int32} {v6 : Int32} {s1 : Int32} {s2 : Int32} {o : ((Int32 × g_S) ⊕ g_S)} (h : mJ_C1_sheet_r_97 σ v2 v6 s1 s2 = some o) (kl : ∀ z, o = .inl z → g_Y gCl X (gC hid) ad z.2 (1, 8) 49 [(0, .ref (ad 0 0)), (2, .int v2), (5, .ref (ad 48 0)), (6, .int z.1)] []) (kx : ∀ z, o = .inr z → g_Y gCl X (gC hid) ad z (1, 8) 104 [(0, .ref (ad 0 0)), (5, .ref (ad 48 0))] []) : g_Y gCl X (gC hid) ad σ (1, 8) 97 [(0, .ref (ad 0 0)), (2, .int v2), (5, .ref (ad 48 0)), (6, .int v6)] [.int s2, .int s1, .ref (ad 7 0)] := by
  unfold mJ_C1_sheet_r_97 at h
  obtain ⟨hg, h⟩ := g_gd h
  obtain ⟨σ5, hσ5, h⟩ := g_lt h
  refine as_C_7 C nC_7_0 hσ5 hg dX1_sheet_97 ?_
  obtain ⟨x6, hx6, h⟩ := g_lt h
  refine y_iinc (c := (1 : Int32)) (vs1 := [(6, .int x6), (0, .ref (ad 0 0)), (2, .int v2), (5, .ref (ad 48 0))]) C hx6 (by decide) dX1_sheet_98 3 rfl (g_lL hL rfl) rfl ?_
  refine y_goto (tgt := 49) C dX1_sheet_101 rfl ?_
  refine y_sub (vs2 := [(0, .ref (ad 0 0)), (2, .int v2), (5, .ref (ad 48 0)), (6, .int x6)]) [1, 2, 3, 0] rfl ?_
  exact kl _ (Option.some.inj h).symm
theorem mj_C1_sheet_r_78 {X : g_F} {hid : Bool} (C : g_M gCl X cX1_sheet RX1 (some .int)) (hR : g_R X = g_rm 2 1 8) (hL : g_nL X = 7) (hlt : (g_l X).stackTraces = false) (hT : (g_c X).exceptionTable.toList = tableOf [((28 : Nat), (38 : Nat), (41 : Nat), (282 : Nat))]) (hmc : g_mc X = 1 ∧ g_ms X = 8) {ad : Nat → Nat → Nat} {σ : g_S} {a0 : Nat} (ha0 : ad 0 0 = a0) {v2 : Int32} {v6 : Int32} {s1 : Int32} {o : ((Int32 × g_S) ⊕ g_S)} (h : mJ_C1_sheet_r_78 σ v2 v6 s1 = some o) (kl : ∀ z, o = .inl z → g_Y gCl X (gC hid) ad z.2 (1, 8) 49 [(0, .ref (ad 0 0)), (2, .int v2), (5, .ref (ad 48 0)), (6, .int z.1)] []) (kx : ∀ z, o = .inr z → g_Y gCl X (gC hid) ad z (1, 8) 104 [(0, .ref (ad 0 0)), (5, .ref (ad 48 0))] []) : g_Y gCl X (gC hid) ad σ (1, 8) 78 [(0, .ref (ad 0 0)), (2, .int v2), (5, .ref (ad 48 0)), (6, .int v6)] [.int s1, .ref (ad 7 0)] := by
  unfold mJ_C1_sheet_r_78 at h
  refine y_iconst (v := (0 : Int32)) C dX1_sheet_78 (by decide) ?_
  refine y_goto (tgt := 97) C dX1_sheet_79 rfl ?_
  exact mj_C1_sheet_r_97 C hR hL hlt hT hmc ha0 h kl kx
theorem ml_C1_sheet_r_49 {X : g_F} {hid : Bool} (C : g_M gCl X cX1_sheet RX1 (some .int)) (hR : g_R X = g_rm 2 1 8) (hL : g_nL X = 7) (hlt : (g_l X).stackTraces = false) (hT : (g_c X).exceptionTable.toList = tableOf [((28 : Nat), (38 : Nat), (41 : Nat), (282 : Nat))]) (hmc : g_mc X = 1 ∧ g_ms X = 8) {ad : Nat → Nat → Nat} {σ : g_S} {a0 : Nat} (ha0 : ad 0 0 = a0) {v2 : Int32} (n : Nat) (v : (Int32 × g_S)) (e : g_S) (h : g_lp (fun v => mB_C1_sheet_r_49 v.2 v2 v.1) n v = some e) (kx : g_Y gCl X (gC hid) ad e (1, 8) 104 [(0, .ref (ad 0 0)), (5, .ref (ad 48 0))] []) : g_Y gCl X (gC hid) ad v.2 (1, 8) 49 [(0, .ref (ad 0 0)), (2, .int v2), (5, .ref (ad 48 0)), (6, .int v.1)] [] := by
  refine g_loop (P := fun v => g_Y gCl X (gC hid) ad v.2 (1, 8) 49 [(0, .ref (ad 0 0)), (2, .int v2), (5, .ref (ad 48 0)), (6, .int v.1)] []) (T := fun e => g_Y gCl X (gC hid) ad e (1, 8) 104 [(0, .ref (ad 0 0)), (5, .ref (ad 48 0))] []) ?_ n v e h kx
  clear h kx
  clear n v e
  intro v o h kl kx
  obtain ⟨v6, σ⟩ := v
  have h : mB_C1_sheet_r_49 σ v2 v6 = some o := h
  unfold mB_C1_sheet_r_49 at h
  show g_Y gCl X (gC hid) ad σ (1, 8) 49 [(0, .ref (ad 0 0)), (2, .int v2), (5, .ref (ad 48 0)), (6, .int v6)] []
  refine y_iload C dX1_sheet_49 3 rfl ?_
  refine y_aload_n C dX1_sheet_51 0 rfl rfl ?_
  refine gf_C_X1_150_0 C nC_0_0 dX1_sheet_52 ?_
  refine y_icmp_ge (tgt := 104) C dX1_sheet_55 rfl (fun hc => ?_) (fun hc => ?_)
  · replace h := g_it h hc
    refine y_sub (vs2 := [(0, .ref (ad 0 0)), (5, .ref (ad 48 0))]) [0, 2] rfl ?_
    exact kx _ (Option.some.inj h).symm
  · replace h := g_if h hc
    refine y_aload_n C dX1_sheet_58 0 rfl rfl ?_
    refine gf_C_X1_84_0 C nC_0_0 dX1_sheet_59 ?_
    refine gf_C_X1_222_4 C nC_4_0 dX1_sheet_62 ?_
    refine y_iload C dX1_sheet_65 3 rfl ?_
    refine y_aload C dX1_sheet_67 2 rfl ?_
    refine y_ifnull C dX1_sheet_69 ?_
    refine y_iload C dX1_sheet_72 3 rfl ?_
    refine y_iload_n C dX1_sheet_74 1 rfl rfl ?_
    refine y_icmp_lt (tgt := 82) C dX1_sheet_75 rfl (fun hc => ?_) (fun hc => ?_)
    · replace h := g_it h hc
      refine y_iconst (v := (0 : Int32)) C dX1_sheet_82 (by decide) ?_
      refine y_iconst (v := (4 : Int32)) C dX1_sheet_83 (by decide) ?_
      refine y_aload C dX1_sheet_84 2 rfl ?_
      refine y_iload C dX1_sheet_86 3 rfl ?_
      obtain ⟨x4, hc, h⟩ := g_bd h
      refine y_callS C (As := [.ref (ad 48 0), .int v6]) (rest := [.int (4 : Int32), .int (0 : Int32), .int v6, .ref (ad 7 0)]) (lk_X1_284_l1 C hR (by decide)) (ct_C1_entry hc) rfl rfl (Nat.le_of_ble_eq_true rfl) (by rw [hR]; exact ⟨Nat.le_of_ble_eq_true rfl, Nat.le_of_ble_eq_true rfl⟩) dX1_sheet_88 ?_
      refine y_mmin C q509 (g_rmM hR (by decide)) (Nat.le_of_ble_eq_true rfl) (by rw [hR]; exact ⟨Nat.le_of_ble_eq_true rfl, Nat.le_of_ble_eq_true rfl⟩) dX1_sheet_91 ?_
      refine y_mmax C q510 (g_rmM hR (by decide)) (Nat.le_of_ble_eq_true rfl) (by rw [hR]; exact ⟨Nat.le_of_ble_eq_true rfl, Nat.le_of_ble_eq_true rfl⟩) dX1_sheet_94 ?_
      exact mj_C1_sheet_r_97 C hR hL hlt hT hmc ha0 h kl kx
    · replace h := g_if h hc
      exact mj_C1_sheet_r_78 C hR hL hlt hT hmc ha0 h kl kx
theorem mw_C1_sheet_r {X : g_F} {hid : Bool} (C : g_M gCl X cX1_sheet RX1 (some .int)) (hR : g_R X = g_rm 2 1 8) (hL : g_nL X = 7) (hlt : (g_l X).stackTraces = false) (hT : (g_c X).exceptionTable.toList = tableOf [((28 : Nat), (38 : Nat), (41 : Nat), (282 : Nat))]) (hmc : g_mc X = 1 ∧ g_ms X = 8) {ad : Nat → Nat → Nat} {σ : g_S} {a0 : Nat} (ha0 : ad 0 0 = a0) {v1 : Int32} {v2 : Int32} {v3 : Int32} {v4 : Int32} {o : (Int32 × g_S)} (h : mF_C1_sheet_r σ v1 v2 v3 v4 = some o) (hQ : g_MQG gCl X (gC hid) (fun v ad2 s2 => v = some (.int o.1) ∧ s2 = o.2 ∧ ad2 0 0 = a0) (fun _ _ _ _ => False) = g_Q X) : g_Y gCl X (gC hid) ad σ (0, 0) 0 [(0, .ref (ad 0 0)), (1, .int v1), (2, .int v2), (3, .int v3), (4, .int v4)] [] := by
  unfold mF_C1_sheet_r at h
  refine y_iload_n C dX1_sheet_0 1 rfl rfl ?_
  refine y_i2l C dX1_sheet_1 ?_
  refine y_lconst (v := (0 : Int64)) C dX1_sheet_2 (by decide) ?_
  refine y_ldc2 (v := (3 : Int64)) C q730 dX1_sheet_3 ?_
  obtain ⟨x1, hc, h⟩ := g_bd h
  refine y_callS C (As := [.long (v1.toInt64), .long (0 : Int64), .long (3 : Int64)]) (rest := []) (lk_X1_146_l1 C hR (by decide)) (ct_C1_in hc) rfl rfl (Nat.le_of_ble_eq_true rfl) ⟨Nat.zero_le _, Nat.zero_le _⟩ dX1_sheet_6 ?_
  refine y_if_eq (tgt := 18) C dX1_sheet_9 rfl (fun hc => ?_) (fun hc => ?_)
  · replace h := g_it h hc
    refine y_iconst (v := (-1 : Int32)) C dX1_sheet_18 (by decide) ?_
    replace h := Option.some.inj h; subst h
    exact y_iretG C hQ ⟨rfl, rfl, ha0⟩ ⟨Nat.zero_le _, Nat.zero_le _⟩ dX1_sheet_19
  · replace h := g_if h hc
    refine y_iload_n C dX1_sheet_12 2 rfl rfl ?_
    refine y_bipush (v := (8 : Int32)) C dX1_sheet_13 (by decide) ?_
    refine y_icmp_le (tgt := 20) C dX1_sheet_15 rfl (fun hc => ?_) (fun hc => ?_)
    · replace h := g_it h hc
      refine y_null C dX1_sheet_20 ?_
      refine y_astoreN (vs1 := [(5, .null), (0, .ref (ad 0 0)), (1, .int v1), (2, .int v2), (3, .int v3), (4, .int v4)]) C dX1_sheet_21 (g_lL hL rfl) rfl ?_
      refine y_iload_n C dX1_sheet_23 2 rfl rfl ?_
      refine y_iconst (v := (3 : Int32)) C dX1_sheet_24 (by decide) ?_
      refine y_icmp_ge (tgt := 46) C dX1_sheet_25 rfl (fun hc => ?_) (fun hc => ?_)
      · replace h := g_it h hc
        cases h
      · replace h := g_if h hc
        refine y_iload_n C dX1_sheet_28 2 rfl rfl ?_
        refine y_iload_n C dX1_sheet_29 3 rfl rfl ?_
        refine y_iload_n C dX1_sheet_30 4 rfl rfl ?_
        refine y_iload C dX1_sheet_31 5 rfl ?_
        obtain ⟨σ2, hc, h⟩ := g_bd h
        refine y_callSG C (As := [.int v1, .int v2, .int v3, .int v4]) (rest := []) (lk_X1_278_l1 C hR (by decide)) (ct_C1_rowOf hc) rfl rfl (Nat.le_of_ble_eq_true rfl) (by rw [hR]; exact ⟨Nat.le_of_ble_eq_true rfl, Nat.le_of_ble_eq_true rfl⟩) dX1_sheet_33 (fun v ad9 σ9 hz => ?_) (fun E q ad9 σ9 hz => hz.elim)
        obtain ⟨e1, e2, q3, e3⟩ := hz
        subst e1
        rw [e2, e3]
        clear e2 e3
        show g_Y gCl X (gC hid) (g_ua ad 48 0 q3) σ2 (1, 8) 36 [(5, .null), (0, .ref ((g_ua ad 48 0 q3) 0 0)), (1, .int v1), (2, .int v2), (3, .int v3), (4, .int v4)] [.ref ((g_ua ad 48 0 q3) 48 0)]
        refine y_astore (vs1 := [(5, .ref ((g_ua ad 48 0 q3) 48 0)), (0, .ref ((g_ua ad 48 0 q3) 0 0)), (1, .int v1), (2, .int v2), (3, .int v3), (4, .int v4)]) C rfl dX1_sheet_36 (g_lL hL rfl) rfl ?_
        refine y_goto (tgt := 46) C dX1_sheet_38 rfl ?_
        refine y_iconst (v := (0 : Int32)) C dX1_sheet_46 (by decide) ?_
        refine y_istore (vs1 := [(6, .int (0 : Int32)), (5, .ref ((g_ua ad 48 0 q3) 48 0)), (0, .ref ((g_ua ad 48 0 q3) 0 0)), (1, .int v1), (2, .int v2), (3, .int v3), (4, .int v4)]) C rfl dX1_sheet_47 (g_lL hL rfl) rfl ?_
        refine y_sub (vs2 := [(0, .ref ((g_ua ad 48 0 q3) 0 0)), (2, .int v2), (5, .ref ((g_ua ad 48 0 q3) 48 0)), (6, .int (0 : Int32))]) [2, 4, 1, 0] rfl ?_
        obtain ⟨e7, he7, h⟩ := g_bd h
        refine ml_C1_sheet_r_49 C hR hL hlt hT hmc (show (g_ua ad 48 0 q3) 0 0 = a0 from ha0) (σ := σ2) _ _ _ he7 ?_
        refine y_aload C dX1_sheet_104 1 rfl ?_
        refine y_ifnonnull (tgt := 114) C dX1_sheet_106 rfl ?_
        refine y_aload_n C dX1_sheet_114 0 rfl rfl ?_
        refine y_aload_n C dX1_sheet_115 0 rfl rfl ?_
        refine gf_C_X1_84_0 C nC_0_0 dX1_sheet_116 ?_
        obtain ⟨x8, hc, h⟩ := g_bd h
        refine y_callV C (As := [.ref ((g_ua ad 48 0 q3) 4 0)]) (rest := []) (k := 0) (hu := nC_0_0) (hc := (rfl : gCl[0]? = some (RX1, TX1, 31))) (hcell := obC_0) (lk_X1_288_X1_l1 C hR (by decide)) (ct_C1_brims nC_4_0 hc) rfl rfl (Nat.le_of_ble_eq_true rfl) (by rw [hR]; exact ⟨Nat.le_of_ble_eq_true rfl, Nat.le_of_ble_eq_true rfl⟩) dX1_sheet_119 ?_
        replace h := Option.some.inj h; subst h
        exact y_iretG C hQ ⟨rfl, rfl, ha0⟩ (by rw [hmc.1, hmc.2]; exact ⟨Nat.le_of_ble_eq_true rfl, Nat.le_of_ble_eq_true rfl⟩) dX1_sheet_122
    · replace h := g_if h hc
      refine y_iconst (v := (-1 : Int32)) C dX1_sheet_18 (by decide) ?_
      replace h := Option.some.inj h; subst h
      exact y_iretG C hQ ⟨rfl, rfl, ha0⟩ ⟨Nat.zero_le _, Nat.zero_le _⟩ dX1_sheet_19
theorem ct_C1_sheet_r {D : va_G} {dA : Nat → ClassId} {A : Nat → Prop} {s0 : State} {b0 : Nat} {l : Launch} {hid : Bool} (hlt : l.stackTraces = false) {ad : Nat → Nat → Nat} {σ : g_S} {v1 : Int32} {v2 : Int32} {v3 : Int32} {v4 : Int32}{r : Int32} {σ1 : g_S} (h : mF_C1_sheet_r σ v1 v2 v3 v4 = some (r, σ1)) : g_MetG gCl D dA A s0 b0 l yX1_sheet (wsW_ yX1_sheet cX1_sheet 7 (some .int)  [((28 : Nat), (38 : Nat), (41 : Nat), (282 : Nat))]) 2 (1, 8) (gC hid) ad σ [.ref (ad 0 0), .int v1, .int v2, .int v3, .int v4] (gC hid) (fun v ad2 s2 => v = some (.int r) ∧ s2 = σ1 ∧ ad2 0 0 = (ad 0 0)) (fun _ _ _ _ => False) :=
  g_MetG.ofH pl_X1 (Nat.le_of_ble_eq_true rfl) (fun X C hQ hR hmc hms hL hnm es eb el hT => mw_C1_sheet_r C hR hL (by rw [el]; exact hlt) hT ⟨hmc, hms⟩ rfl h hQ)
theorem mw_C1_sheet_x {X : g_F} {hid : Bool} (C : g_M gCl X cX1_sheet RX1 (some .int)) (hR : g_R X = g_rm 301 3 54) (hL : g_nL X = 7) (hlt : (g_l X).stackTraces = false) (hT : (g_c X).exceptionTable.toList = tableOf [((28 : Nat), (38 : Nat), (41 : Nat), (282 : Nat))]) (hmc : g_mc X = 3 ∧ g_ms X = 54) {ad : Nat → Nat → Nat} {σ : g_S} {a0 : Nat} (ha0 : ad 0 0 = a0) {v1 : Int32} {v2 : Int32} {v3 : Int32} {v4 : Int32} {o : (Int32 × g_S)} (h : mF_C1_sheet_x σ v1 v2 v3 v4 = some o) (hQ : g_MQG gCl X (gC hid) (fun v ad2 s2 => v = some (.int o.1) ∧ s2 = o.2 ∧ ad2 0 0 = a0) (fun _ _ _ _ => False) = g_Q X) : g_Y gCl X (gC hid) ad σ (0, 0) 0 [(0, .ref (ad 0 0)), (1, .int v1), (2, .int v2), (3, .int v3), (4, .int v4)] [] := by
  unfold mF_C1_sheet_x at h
  refine y_iload_n C dX1_sheet_0 1 rfl rfl ?_
  refine y_i2l C dX1_sheet_1 ?_
  refine y_lconst (v := (0 : Int64)) C dX1_sheet_2 (by decide) ?_
  refine y_ldc2 (v := (3 : Int64)) C q730 dX1_sheet_3 ?_
  obtain ⟨x1, hc, h⟩ := g_bd h
  refine y_callS C (As := [.long (v1.toInt64), .long (0 : Int64), .long (3 : Int64)]) (rest := []) (lk_X1_146_l1 C hR (by decide)) (ct_C1_in hc) rfl rfl (Nat.le_of_ble_eq_true rfl) ⟨Nat.zero_le _, Nat.zero_le _⟩ dX1_sheet_6 ?_
  refine y_if_eq (tgt := 18) C dX1_sheet_9 rfl (fun hc => ?_) (fun hc => ?_)
  · replace h := g_it h hc
    refine y_iconst (v := (-1 : Int32)) C dX1_sheet_18 (by decide) ?_
    replace h := Option.some.inj h; subst h
    exact y_iretG C hQ ⟨rfl, rfl, ha0⟩ ⟨Nat.zero_le _, Nat.zero_le _⟩ dX1_sheet_19
  · replace h := g_if h hc
    refine y_iload_n C dX1_sheet_12 2 rfl rfl ?_
    refine y_bipush (v := (8 : Int32)) C dX1_sheet_13 (by decide) ?_
    refine y_icmp_le (tgt := 20) C dX1_sheet_15 rfl (fun hc => ?_) (fun hc => ?_)
    · replace h := g_it h hc
      refine y_null C dX1_sheet_20 ?_
      refine y_astoreN (vs1 := [(5, .null), (0, .ref (ad 0 0)), (1, .int v1), (2, .int v2), (3, .int v3), (4, .int v4)]) C dX1_sheet_21 (g_lL hL rfl) rfl ?_
      refine y_iload_n C dX1_sheet_23 2 rfl rfl ?_
      refine y_iconst (v := (3 : Int32)) C dX1_sheet_24 (by decide) ?_
      refine y_icmp_ge (tgt := 46) C dX1_sheet_25 rfl (fun hc => ?_) (fun hc => ?_)
      · replace h := g_it h hc
        cases h
      · replace h := g_if h hc
        refine y_iload_n C dX1_sheet_28 2 rfl rfl ?_
        refine y_iload_n C dX1_sheet_29 3 rfl rfl ?_
        refine y_iload_n C dX1_sheet_30 4 rfl rfl ?_
        refine y_iload C dX1_sheet_31 5 rfl ?_
        obtain ⟨hxc, h⟩ := g_gd h
        refine y_callSG C (As := [.int v1, .int v2, .int v3, .int v4]) (rest := []) (lk_X1_278_l300 C hR (by decide)) (ctx_C1_rowOf hlt hxc) rfl rfl (Nat.le_of_ble_eq_true rfl) (by rw [hR]; exact ⟨Nat.le_of_ble_eq_true rfl, Nat.le_of_ble_eq_true rfl⟩) dX1_sheet_33 (fun v ad9 σ9 hz => hz.elim) (fun E q ad9 σ9 hz => ?_)
        obtain ⟨e1, e2, e3⟩ := hz
        rw [e1, e2, e3]
        clear e1 e2 e3
        refine y_catchX C hT rfl (by decide) (by decide) q701 q721 ?_
        show g_Y gCl X (gC hid) ad σ (3, 54) 41 [(5, .null), (0, .ref (ad 0 0)), (1, .int v1), (2, .int v2), (3, .int v3), (4, .int v4)] [.ref q]
        refine y_astore (vs1 := [(6, .ref q), (5, .null), (0, .ref (ad 0 0)), (1, .int v1), (2, .int v2), (3, .int v3), (4, .int v4)]) C rfl dX1_sheet_41 (g_lL hL rfl) rfl ?_
        refine y_bipush (v := (-2 : Int32)) C dX1_sheet_43 (by decide) ?_
        replace h := Option.some.inj h; subst h
        exact y_iretG C hQ ⟨rfl, rfl, ha0⟩ (by rw [hmc.1, hmc.2]; exact ⟨Nat.le_of_ble_eq_true rfl, Nat.le_of_ble_eq_true rfl⟩) dX1_sheet_45
    · replace h := g_if h hc
      refine y_iconst (v := (-1 : Int32)) C dX1_sheet_18 (by decide) ?_
      replace h := Option.some.inj h; subst h
      exact y_iretG C hQ ⟨rfl, rfl, ha0⟩ ⟨Nat.zero_le _, Nat.zero_le _⟩ dX1_sheet_19
theorem ct_C1_sheet_x {D : va_G} {dA : Nat → ClassId} {A : Nat → Prop} {s0 : State} {b0 : Nat} {l : Launch} {hid : Bool} (hlt : l.stackTraces = false) {ad : Nat → Nat → Nat} {σ : g_S} {v1 : Int32} {v2 : Int32} {v3 : Int32} {v4 : Int32}{r : Int32} {σ1 : g_S} (h : mF_C1_sheet_x σ v1 v2 v3 v4 = some (r, σ1)) : g_MetG gCl D dA A s0 b0 l yX1_sheet (wsW_ yX1_sheet cX1_sheet 7 (some .int)  [((28 : Nat), (38 : Nat), (41 : Nat), (282 : Nat))]) 301 (3, 54) (gC hid) ad σ [.ref (ad 0 0), .int v1, .int v2, .int v3, .int v4] (gC hid) (fun v ad2 s2 => v = some (.int r) ∧ s2 = σ1 ∧ ad2 0 0 = (ad 0 0)) (fun _ _ _ _ => False) :=
  g_MetG.ofH pl_X1 (Nat.le_of_ble_eq_true rfl) (fun X C hQ hR hmc hms hL hnm es eb el hT => mw_C1_sheet_x C hR hL (by rw [el]; exact hlt) hT ⟨hmc, hms⟩ rfl h hQ)
