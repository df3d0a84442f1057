set_option maxRecDepth 100000
theorem ddKC_X2_init : yX2_init.cls = RX2 ∧ yX2_init.cls ≠ "java/lang/invoke/MethodHandle" ∧ yX2_init.cls ≠ "java/lang/invoke/VarHandle" ∧ (parseMethodDescriptor yX2_init.desc).map (fun d => d.parameters.length) = some 1 := by decide +kernel
theorem ddK_X2_init : yX2_init.cls ≠ "java/lang/invoke/MethodHandle" ∧ yX2_init.cls ≠ "java/lang/invoke/VarHandle" ∧ (parseMethodDescriptor yX2_init.desc).map (fun d => d.parameters.length) = some 1 := by decide +kernel
theorem ddKC_X3_init : yX3_init.cls = RX3 ∧ yX3_init.cls ≠ "java/lang/invoke/MethodHandle" ∧ yX3_init.cls ≠ "java/lang/invoke/VarHandle" ∧ (parseMethodDescriptor yX3_init.desc).map (fun d => d.parameters.length) = some 1 := by decide +kernel
theorem ddK_X3_init : yX3_init.cls ≠ "java/lang/invoke/MethodHandle" ∧ yX3_init.cls ≠ "java/lang/invoke/VarHandle" ∧ (parseMethodDescriptor yX3_init.desc).map (fun d => d.parameters.length) = some 1 := by decide +kernel
theorem ddKC_X4_init : yX4_init.cls = RX4 ∧ yX4_init.cls ≠ "java/lang/invoke/MethodHandle" ∧ yX4_init.cls ≠ "java/lang/invoke/VarHandle" ∧ (parseMethodDescriptor yX4_init.desc).map (fun d => d.parameters.length) = some 1 := by decide +kernel
theorem ddK_X4_init : yX4_init.cls ≠ "java/lang/invoke/MethodHandle" ∧ yX4_init.cls ≠ "java/lang/invoke/VarHandle" ∧ (parseMethodDescriptor yX4_init.desc).map (fun d => d.parameters.length) = some 1 := by decide +kernel
theorem ddKC_X5_init : yX5_init.cls = RX5 ∧ yX5_init.cls ≠ "java/lang/invoke/MethodHandle" ∧ yX5_init.cls ≠ "java/lang/invoke/VarHandle" ∧ (parseMethodDescriptor yX5_init.desc).map (fun d => d.parameters.length) = some 0 := by decide +kernel
theorem ddK_X5_init : yX5_init.cls ≠ "java/lang/invoke/MethodHandle" ∧ yX5_init.cls ≠ "java/lang/invoke/VarHandle" ∧ (parseMethodDescriptor yX5_init.desc).map (fun d => d.parameters.length) = some 0 := by decide +kernel
theorem lkK_X3_7_l1 {X : g_F} {cc : ByteArray} {ret : Option FieldType} (C : g_M gCl X cc RX3 ret) {nn ck sk : Nat} (hR : g_R X = g_rm nn ck sk) (hn : 1 + 1 ≤ nn ∧ 8 + (2 + 11) + 40 * 1 ≤ 40 * nn) : va_CN (g_R X) (g_s X) (g_as X) RX3 7 yX2_init "BonnetValley" cX2_init 2 none (ws_ yX2_init cX2_init 2 none) (g_rm 1 0 0) 0 0 1 ∧ yX2_init.name = "<init>" ∧ (Cond.instanceMethod yX2_init).before (g_as X) (g_s X) = true :=
  ⟨va_cnB 1 C.2.2.2.2.1 (lw_meth q148) rfl rfl rfl (g_nestM C q159) (C.2.2.2.2.1 _ q111) ddK_X2_init (by rw [hR]; exact hn), rfl, C.2.2.2.2.1 _ q147⟩
theorem lkK_X4_7_l1 {X : g_F} {cc : ByteArray} {ret : Option FieldType} (C : g_M gCl X cc RX4 ret) {nn ck sk : Nat} (hR : g_R X = g_rm nn ck sk) (hn : 1 + 1 ≤ nn ∧ 8 + (2 + 11) + 40 * 1 ≤ 40 * nn) : va_CN (g_R X) (g_s X) (g_as X) RX4 7 yX2_init "BonnetValley" cX2_init 2 none (ws_ yX2_init cX2_init 2 none) (g_rm 1 0 0) 0 0 1 ∧ yX2_init.name = "<init>" ∧ (Cond.instanceMethod yX2_init).before (g_as X) (g_s X) = true :=
  ⟨va_cnB 1 C.2.2.2.2.1 (lw_meth q148) rfl rfl rfl (g_nestM C q173) (C.2.2.2.2.1 _ q111) ddK_X2_init (by rw [hR]; exact hn), rfl, C.2.2.2.2.1 _ q147⟩
theorem lkK_X1_59_l1 {X : g_F} {cc : ByteArray} {ret : Option FieldType} (C : g_M gCl X cc RX1 ret) {nn ck sk : Nat} (hR : g_R X = g_rm nn ck sk) (hn : 1 + 1 ≤ nn ∧ 8 + (2 + 11) + 40 * 1 ≤ 40 * nn) : va_CN (g_R X) (g_s X) (g_as X) RX1 59 yX2_init "BonnetValley" cX2_init 2 none (ws_ yX2_init cX2_init 2 none) (g_rm 1 0 0) 0 0 1 ∧ yX2_init.name = "<init>" ∧ (Cond.instanceMethod yX2_init).before (g_as X) (g_s X) = true :=
  ⟨va_cnB 1 C.2.2.2.2.1 (lw_meth q148) rfl rfl rfl (g_nestM C q146) (C.2.2.2.2.1 _ q111) ddK_X2_init (by rw [hR]; exact hn), rfl, C.2.2.2.2.1 _ q147⟩
theorem lkK_X1_68_l2 {X : g_F} {cc : ByteArray} {ret : Option FieldType} (C : g_M gCl X cc RX1 ret) {nn ck sk : Nat} (hR : g_R X = g_rm nn ck sk) (hn : 2 + 1 ≤ nn ∧ 8 + (2 + 11) + 40 * 2 ≤ 40 * nn) : va_CN (g_R X) (g_s X) (g_as X) RX1 68 yX3_init "BonnetValley" cX3_init 2 none (ws_ yX3_init cX3_init 2 none) (g_rm 2 0 0) 0 0 1 ∧ yX3_init.name = "<init>" ∧ (Cond.instanceMethod yX3_init).before (g_as X) (g_s X) = true :=
  ⟨va_cnB 1 C.2.2.2.2.1 (lw_meth q158) rfl rfl rfl (g_nestM C q156) (C.2.2.2.2.1 _ q112) ddK_X3_init (by rw [hR]; exact hn), rfl, C.2.2.2.2.1 _ q157⟩
theorem lkK_X1_75_l2 {X : g_F} {cc : ByteArray} {ret : Option FieldType} (C : g_M gCl X cc RX1 ret) {nn ck sk : Nat} (hR : g_R X = g_rm nn ck sk) (hn : 2 + 1 ≤ nn ∧ 8 + (2 + 11) + 40 * 2 ≤ 40 * nn) : va_CN (g_R X) (g_s X) (g_as X) RX1 75 yX4_init "BonnetValley" cX4_init 2 none (ws_ yX4_init cX4_init 2 none) (g_rm 2 0 0) 0 0 1 ∧ yX4_init.name = "<init>" ∧ (Cond.instanceMethod yX4_init).before (g_as X) (g_s X) = true :=
  ⟨va_cnB 1 C.2.2.2.2.1 (lw_meth q172) rfl rfl rfl (g_nestM C q170) (C.2.2.2.2.1 _ q113) ddK_X4_init (by rw [hR]; exact hn), rfl, C.2.2.2.2.1 _ q171⟩
theorem lkK_X1_83_l1 {X : g_F} {cc : ByteArray} {ret : Option FieldType} (C : g_M gCl X cc RX1 ret) {nn ck sk : Nat} (hR : g_R X = g_rm nn ck sk) (hn : 1 + 1 ≤ nn ∧ 8 + (1 + 11) + 40 * 1 ≤ 40 * nn) : va_CN (g_R X) (g_s X) (g_as X) RX1 83 yX5_init "BonnetValley" cX5_init 1 none (ws_ yX5_init cX5_init 1 none) (g_rm 1 5 40) 5 40 0 ∧ yX5_init.name = "<init>" ∧ (Cond.instanceMethod yX5_init).before (g_as X) (g_s X) = true :=
  ⟨va_cnB 0 C.2.2.2.2.1 (lw_meth q186) rfl rfl rfl (g_nestM C q184) (C.2.2.2.2.1 _ q114) ddK_X5_init (by rw [hR]; exact hn), rfl, C.2.2.2.2.1 _ q185⟩
theorem mw_K2_1 {X : g_F} (C : g_M gCl X cX2_init RX2 none) (hR : g_R X = g_rm 1 0 0) (hL : g_nL X = 2) (hnm : (g_me X).name = "<init>") {ad : Nat → Nat → Nat} {σ : g_S} {b : Nat} (hQ : g_MQ gCl X (g_fL [1] (g_fs (g_fs (fun _ _ => none) 0 0 (.inr (1, [.null]))) 0 0 (.inr (1, [.ref b])))) ad σ none = g_Q X) : g_Y gCl X (g_fL [1] (g_fs (fun _ _ => none) 0 0 (.inr (1, [.null])))) ad σ (0, 0) 0 [(0, .ref (ad 0 0)), (1, .ref b)] [] := by
  refine y_aload_n C dX2_init_0 0 rfl rfl ?_
  refine y_aload_n C dX2_init_1 1 rfl rfl ?_
  refine z_putF (v := .ref b) C (Nat.zero_lt_one) rfl rfl in_X2 (rfl : gCl[1]? = _) tyX2 tyX2_ok nmX2 0 (by decide) rfl q150 rfl hnm rfl rfl rfl rfl (Nat.le_of_ble_eq_true rfl) dX2_init_2 ?_
  refine y_aload_n C dX2_init_5 0 rfl rfl ?_
  refine y_objInit C q149 q142 q143 dX2_init_6 (g_rmM hR (Nat.le_of_ble_eq_true rfl)).1 (Nat.le_trans (by decide) (g_rmM hR (Nat.le_of_ble_eq_true rfl)).2) (by decide) ?_
  exact y_vret C hQ ⟨Nat.zero_le _, Nat.zero_le _⟩ dX2_init_9
theorem ct_K2_1 {D : va_G} {dA : Nat → ClassId} {A : Nat → Prop} {s0 : State} {b0 : Nat} {l : Launch} {ad : Nat → Nat → Nat} {σ : g_S} {b : Nat} : g_Met gCl D dA A s0 b0 l yX2_init cX2_init 2 none 1 (0, 0) (g_fL [1] (g_fs (fun _ _ => none) 0 0 (.inr (1, [.null])))) ad σ [.ref (ad 0 0), .ref b] (g_fL [1] (g_fs (g_fs (fun _ _ => none) 0 0 (.inr (1, [.null]))) 0 0 (.inr (1, [.ref b])))) ad σ none :=
  g_Met.of pl_X2 (Nat.le_of_ble_eq_true rfl) (fun X C hQ hR _ _ hL hnm es eb => mw_K2_1 C hR hL hnm hQ)
theorem mw_K2_2 {X : g_F} (C : g_M gCl X cX2_init RX2 none) (hR : g_R X = g_rm 1 0 0) (hL : g_nL X = 2) (hnm : (g_me X).name = "<init>") {ad : Nat → Nat → Nat} {σ : g_S} {b : Nat} {x : Value} (hQ : g_MQ gCl X (g_fL [1] (g_fs (g_fs (fun _ _ => none) 0 0 (.inr (2, [x, .int 0, .ref b]))) 0 0 (.inr (2, [.ref b, .int 0, .ref b])))) ad σ none = g_Q X) : g_Y gCl X (g_fL [1] (g_fs (fun _ _ => none) 0 0 (.inr (2, [x, .int 0, .ref b])))) ad σ (0, 0) 0 [(0, .ref (ad 0 0)), (1, .ref b)] [] := by
  refine y_aload_n C dX2_init_0 0 rfl rfl ?_
  refine y_aload_n C dX2_init_1 1 rfl rfl ?_
  refine z_putS (v := .ref b) C (Nat.zero_lt_one) rfl rfl in_X3 (rfl : gCl[2]? = _) tyX3 tyX3_ok 0 2 (by decide) (by decide) (fun z hz h0 h2 => by rcases (show z = 1 by omega) with rfl; decide) rfl q150 rfl hnm rfl rfl rfl rfl (Nat.le_of_ble_eq_true rfl) (Nat.le_of_ble_eq_true rfl) dX2_init_2 ?_ ?_
  all_goals (refine y_aload_n C dX2_init_5 0 rfl rfl ?_; refine y_objInit C q149 q142 q143 dX2_init_6 (g_rmM hR (Nat.le_of_ble_eq_true rfl)).1 (Nat.le_trans (by decide) (g_rmM hR (Nat.le_of_ble_eq_true rfl)).2) (by decide) ?_; exact y_vret C hQ ⟨Nat.zero_le _, Nat.zero_le _⟩ dX2_init_9)
theorem ct_K2_2 {D : va_G} {dA : Nat → ClassId} {A : Nat → Prop} {s0 : State} {b0 : Nat} {l : Launch} {ad : Nat → Nat → Nat} {σ : g_S} {b : Nat} {x : Value} : g_Met gCl D dA A s0 b0 l yX2_init cX2_init 2 none 1 (0, 0) (g_fL [1] (g_fs (fun _ _ => none) 0 0 (.inr (2, [x, .int 0, .ref b])))) ad σ [.ref (ad 0 0), .ref b] (g_fL [1] (g_fs (g_fs (fun _ _ => none) 0 0 (.inr (2, [x, .int 0, .ref b]))) 0 0 (.inr (2, [.ref b, .int 0, .ref b])))) ad σ none :=
  g_Met.of pl_X2 (Nat.le_of_ble_eq_true rfl) (fun X C hQ hR _ _ hL hnm es eb => mw_K2_2 C hR hL hnm hQ)
theorem mw_K2_3 {X : g_F} (C : g_M gCl X cX2_init RX2 none) (hR : g_R X = g_rm 1 0 0) (hL : g_nL X = 2) (hnm : (g_me X).name = "<init>") {ad : Nat → Nat → Nat} {σ : g_S} {b : Nat} {x : Value} (hQ : g_MQ gCl X (g_fL [1] (g_fs (g_fs (fun _ _ => none) 0 0 (.inr (3, [x, .int 0, .ref b]))) 0 0 (.inr (3, [.ref b, .int 0, .ref b])))) ad σ none = g_Q X) : g_Y gCl X (g_fL [1] (g_fs (fun _ _ => none) 0 0 (.inr (3, [x, .int 0, .ref b])))) ad σ (0, 0) 0 [(0, .ref (ad 0 0)), (1, .ref b)] [] := by
  refine y_aload_n C dX2_init_0 0 rfl rfl ?_
  refine y_aload_n C dX2_init_1 1 rfl rfl ?_
  refine z_putS (v := .ref b) C (Nat.zero_lt_one) rfl rfl in_X4 (rfl : gCl[3]? = _) tyX4 tyX4_ok 0 2 (by decide) (by decide) (fun z hz h0 h2 => by rcases (show z = 1 by omega) with rfl; decide) rfl q150 rfl hnm rfl rfl rfl rfl (Nat.le_of_ble_eq_true rfl) (Nat.le_of_ble_eq_true rfl) dX2_init_2 ?_ ?_
  all_goals (refine y_aload_n C dX2_init_5 0 rfl rfl ?_; refine y_objInit C q149 q142 q143 dX2_init_6 (g_rmM hR (Nat.le_of_ble_eq_true rfl)).1 (Nat.le_trans (by decide) (g_rmM hR (Nat.le_of_ble_eq_true rfl)).2) (by decide) ?_; exact y_vret C hQ ⟨Nat.zero_le _, Nat.zero_le _⟩ dX2_init_9)
theorem ct_K2_3 {D : va_G} {dA : Nat → ClassId} {A : Nat → Prop} {s0 : State} {b0 : Nat} {l : Launch} {ad : Nat → Nat → Nat} {σ : g_S} {b : Nat} {x : Value} : g_Met gCl D dA A s0 b0 l yX2_init cX2_init 2 none 1 (0, 0) (g_fL [1] (g_fs (fun _ _ => none) 0 0 (.inr (3, [x, .int 0, .ref b])))) ad σ [.ref (ad 0 0), .ref b] (g_fL [1] (g_fs (g_fs (fun _ _ => none) 0 0 (.inr (3, [x, .int 0, .ref b]))) 0 0 (.inr (3, [.ref b, .int 0, .ref b])))) ad σ none :=
  g_Met.of pl_X2 (Nat.le_of_ble_eq_true rfl) (fun X C hQ hR _ _ hL hnm es eb => mw_K2_3 C hR hL hnm hQ)
theorem mw_K3 {X : g_F} (C : g_M gCl X cX3_init RX3 none) (hR : g_R X = g_rm 2 0 0) (hL : g_nL X = 2) (hnm : (g_me X).name = "<init>") {ad : Nat → Nat → Nat} {σ : g_S} {b : Nat} (hQ : g_MQ gCl X (g_fL [1] (g_fs (fun _ _ => none) 0 0 (.inr (2, [.ref b, .int 0, .ref b])))) ad σ none = g_Q X) : g_Y gCl X (g_fL [1] (g_fs (fun _ _ => none) 0 0 (.inr (2, [.null, .int 0, .null])))) ad σ (0, 0) 0 [(0, .ref (ad 0 0)), (1, .ref b)] [] := by
  refine y_aload_n C dX3_init_0 0 rfl rfl ?_
  refine y_aload_n C dX3_init_1 1 rfl rfl ?_
  refine z_putS (v := .ref b) C (Nat.zero_lt_one) rfl rfl in_X3 (rfl : gCl[2]? = _) tyX3 tyX3_ok 2 0 (by decide) (by decide) (fun z hz h0 h2 => by rcases (show z = 1 by omega) with rfl; decide) rfl q161 rfl hnm rfl rfl rfl rfl (Nat.le_of_ble_eq_true rfl) (Nat.le_of_ble_eq_true rfl) dX3_init_2 ?_ ?_
  · refine y_aload_n C dX3_init_5 0 rfl rfl ?_
    refine y_aload_n C dX3_init_6 1 rfl rfl ?_
    refine z_callI0 (As := [.ref b]) (rest := []) C (Nat.zero_lt_one) rfl rfl (Or.inr (lkK_X3_7_l1 C hR (by decide))) (fun A1 => ct_K2_2 (ad := fun _ _ => ad 0 0) (x := .null)) rfl rfl rfl rfl (by decide) ⟨Nat.zero_le _, Nat.zero_le _⟩ dX3_init_7 ?_
    refine y_relayI (fun H hW => g_fid (fun k u hu => ?_) hW) (y_vret C hQ ⟨Nat.zero_le _, Nat.zero_le _⟩ dX3_init_10)
    obtain ⟨rfl, rfl⟩ := g_one01 hu
    rfl
  · refine y_aload_n C dX3_init_5 0 rfl rfl ?_
    refine y_aload_n C dX3_init_6 1 rfl rfl ?_
    refine z_callI0 (As := [.ref b]) (rest := []) C (Nat.zero_lt_one) rfl rfl (Or.inr (lkK_X3_7_l1 C hR (by decide))) (fun A1 => ct_K2_2 (ad := fun _ _ => ad 0 0) (x := .ref b)) rfl rfl rfl rfl (by decide) ⟨Nat.zero_le _, Nat.zero_le _⟩ dX3_init_7 ?_
    refine y_relayI (fun H hW => g_fid (fun k u hu => ?_) hW) (y_vret C hQ ⟨Nat.zero_le _, Nat.zero_le _⟩ dX3_init_10)
    obtain ⟨rfl, rfl⟩ := g_one01 hu
    rfl
theorem ct_K3 {D : va_G} {dA : Nat → ClassId} {A : Nat → Prop} {s0 : State} {b0 : Nat} {l : Launch} {ad : Nat → Nat → Nat} {σ : g_S} {b : Nat} : g_Met gCl D dA A s0 b0 l yX3_init cX3_init 2 none 2 (0, 0) (g_fL [1] (g_fs (fun _ _ => none) 0 0 (.inr (2, [.null, .int 0, .null])))) ad σ [.ref (ad 0 0), .ref b] (g_fL [1] (g_fs (fun _ _ => none) 0 0 (.inr (2, [.ref b, .int 0, .ref b])))) ad σ none :=
  g_Met.of pl_X3 (Nat.le_of_ble_eq_true rfl) (fun X C hQ hR _ _ hL hnm es eb => mw_K3 C hR hL hnm hQ)
theorem mw_K4 {X : g_F} (C : g_M gCl X cX4_init RX4 none) (hR : g_R X = g_rm 2 0 0) (hL : g_nL X = 2) (hnm : (g_me X).name = "<init>") {ad : Nat → Nat → Nat} {σ : g_S} {b : Nat} (hQ : g_MQ gCl X (g_fL [1] (g_fs (fun _ _ => none) 0 0 (.inr (3, [.ref b, .int 0, .ref b])))) ad σ none = g_Q X) : g_Y gCl X (g_fL [1] (g_fs (fun _ _ => none) 0 0 (.inr (3, [.null, .int 0, .null])))) ad σ (0, 0) 0 [(0, .ref (ad 0 0)), (1, .ref b)] [] := by
  refine y_aload_n C dX4_init_0 0 rfl rfl ?_
  refine y_aload_n C dX4_init_1 1 rfl rfl ?_
  refine z_putS (v := .ref b) C (Nat.zero_lt_one) rfl rfl in_X4 (rfl : gCl[3]? = _) tyX4 tyX4_ok 2 0 (by decide) (by decide) (fun z hz h0 h2 => by rcases (show z = 1 by omega) with rfl; decide) rfl q175 rfl hnm rfl rfl rfl rfl (Nat.le_of_ble_eq_true rfl) (Nat.le_of_ble_eq_true rfl) dX4_init_2 ?_ ?_
  · refine y_aload_n C dX4_init_5 0 rfl rfl ?_
    refine y_aload_n C dX4_init_6 1 rfl rfl ?_
    refine z_callI0 (As := [.ref b]) (rest := []) C (Nat.zero_lt_one) rfl rfl (Or.inr (lkK_X4_7_l1 C hR (by decide))) (fun A1 => ct_K2_3 (ad := fun _ _ => ad 0 0) (x := .null)) rfl rfl rfl rfl (by decide) ⟨Nat.zero_le _, Nat.zero_le _⟩ dX4_init_7 ?_
    refine y_relayI (fun H hW => g_fid (fun k u hu => ?_) hW) (y_vret C hQ ⟨Nat.zero_le _, Nat.zero_le _⟩ dX4_init_10)
    obtain ⟨rfl, rfl⟩ := g_one01 hu
    rfl
  · refine y_aload_n C dX4_init_5 0 rfl rfl ?_
    refine y_aload_n C dX4_init_6 1 rfl rfl ?_
    refine z_callI0 (As := [.ref b]) (rest := []) C (Nat.zero_lt_one) rfl rfl (Or.inr (lkK_X4_7_l1 C hR (by decide))) (fun A1 => ct_K2_3 (ad := fun _ _ => ad 0 0) (x := .ref b)) rfl rfl rfl rfl (by decide) ⟨Nat.zero_le _, Nat.zero_le _⟩ dX4_init_7 ?_
    refine y_relayI (fun H hW => g_fid (fun k u hu => ?_) hW) (y_vret C hQ ⟨Nat.zero_le _, Nat.zero_le _⟩ dX4_init_10)
    obtain ⟨rfl, rfl⟩ := g_one01 hu
    rfl
theorem ct_K4 {D : va_G} {dA : Nat → ClassId} {A : Nat → Prop} {s0 : State} {b0 : Nat} {l : Launch} {ad : Nat → Nat → Nat} {σ : g_S} {b : Nat} : g_Met gCl D dA A s0 b0 l yX4_init cX4_init 2 none 2 (0, 0) (g_fL [1] (g_fs (fun _ _ => none) 0 0 (.inr (3, [.null, .int 0, .null])))) ad σ [.ref (ad 0 0), .ref b] (g_fL [1] (g_fs (fun _ _ => none) 0 0 (.inr (3, [.ref b, .int 0, .ref b])))) ad σ none :=
  g_Met.of pl_X4 (Nat.le_of_ble_eq_true rfl) (fun X C hQ hR _ _ hL hnm es eb => mw_K4 C hR hL hnm hQ)
/-- an upland and its arrays -/
def gUcell (dA : Nat → ClassId) (ad : Nat → Nat → Nat) (k _ : Nat) (_ : Nat → Int32) (_ : Nat → Int64) (_ : Nat → Nat) : g_C := match k with
  | 0 => .inl (.inr (4, [.ref (ad 1 0), .ref (ad 2 0), .ref (ad 3 0), .ref (ad 4 0), .ref (ad 5 0), .int 0]))
  | 1 => .inl (.inl (dA 0, 8, .inl fun _ => 0))
  | 2 => .inl (.inl (dA 0, 8, .inl fun _ => 0))
  | 3 => .inl (.inl (dA 0, 8, .inl fun _ => 0))
  | 4 => .inl (.inl (dA 0, 8, .inl fun _ => 0))
  | 5 => .inl (.inl (dA 0, 8, .inl fun _ => 0))
  | _ => .inr (.inr ())
def gU : g_L := (gUcell, [1, 1, 1, 1, 1, 1])
theorem g_one6 {k u : Nat} (h : u < g_n gU k) : u = 0 ∧ (k = 0 ∨ k = 1 ∨ k = 2 ∨ k = 3 ∨ k = 4 ∨ k = 5) := by
  match k, h with
  | 0, h => have : u < 1 := h; omega
  | 1, h => have : u < 1 := h; omega
  | 2, h => have : u < 1 := h; omega
  | 3, h => have : u < 1 := h; omega
  | 4, h => have : u < 1 := h; omega
  | 5, h => have : u < 1 := h; omega
  | k + 6, h => exact absurd h (by show ¬ u < 0; omega)
theorem mw_K5 {X : g_F} (C : g_M gCl X cX5_init RX5 none) (hR : g_R X = g_rm 1 5 40) (hL : g_nL X = 1) (hnm : (g_me X).name = "<init>") (hmc : g_mc X = 5 ∧ g_ms X = 40) {ad : Nat → Nat → Nat} {σ : g_S} {a : Nat} (ha : ad 0 0 = a) (hQ : g_MQG gCl X gU (fun v ad2 _ => v = none ∧ ad2 0 0 = a) (fun _ _ _ _ => False) = g_Q X) : g_Y gCl X (g_fL [1, 1, 1, 1, 1, 1] (g_fs (fun _ _ => none) 0 0 (.inr (4, [.null, .null, .null, .null, .null, .int 0])))) ad σ (0, 0) 0 [(0, .ref a)] [] := by
  subst ha
  obtain ⟨a, ha⟩ : ∃ a, ad 0 0 = a := ⟨_, rfl⟩
  rw [ha] at hQ ⊢
  refine y_aload_n C dX5_init_0 0 rfl rfl ?_
  refine y_objInit C q187 q142 q143 dX5_init_1 (g_rmM hR (Nat.le_of_ble_eq_true rfl)).1 (Nat.le_trans (by decide) (g_rmM hR (Nat.le_of_ble_eq_true rfl)).2) (by decide) ?_
  refine y_aload_n C dX5_init_4 0 rfl rfl ?_
  refine y_bipush (v := (8 : Int32)) C dX5_init_5 (by decide) ?_
  refine z_newa (atype := .int) (ty := .int) (a0 := (8, .inl fun _ => 0)) (t0 := 0) C 1 0 rfl rfl q221 (fun _ => rfl) (by decide) rfl (by decide) (by rw [hR]; exact ⟨Nat.le_of_ble_eq_true rfl, Nat.le_of_ble_eq_true rfl⟩) dX5_init_7 (fun q1 => ?_)
  show g_Y gCl X _ _ σ (1, 8) 9 [(0, .ref a)] [.ref q1, .ref a]
  refine z_putF (v := .ref q1) (k := 0) (u := 0) C (Nat.zero_lt_one) rfl ha in_X5 (rfl : gCl[4]? = _) tyX5 tyX5_ok nmX5 0 (by decide) rfl q188 rfl hnm rfl rfl rfl rfl (Nat.le_of_ble_eq_true rfl) dX5_init_9 ?_
  refine y_aload_n C dX5_init_12 0 rfl rfl ?_
  refine y_bipush (v := (8 : Int32)) C dX5_init_13 (by decide) ?_
  refine z_newa (atype := .int) (ty := .int) (a0 := (8, .inl fun _ => 0)) (t0 := 0) C 2 0 rfl rfl q221 (fun _ => rfl) (by decide) rfl (by decide) (by rw [hR]; exact ⟨Nat.le_of_ble_eq_true rfl, Nat.le_of_ble_eq_true rfl⟩) dX5_init_15 (fun q2 => ?_)
  show g_Y gCl X _ _ σ (2, 16) 17 [(0, .ref a)] [.ref q2, .ref a]
  refine z_putF (v := .ref q2) (k := 0) (u := 0) C (Nat.zero_lt_one) rfl ha in_X5 (rfl : gCl[4]? = _) tyX5 tyX5_ok nmX5 1 (by decide) rfl q192 rfl hnm rfl rfl rfl rfl (Nat.le_of_ble_eq_true rfl) dX5_init_17 ?_
  refine y_aload_n C dX5_init_20 0 rfl rfl ?_
  refine y_bipush (v := (8 : Int32)) C dX5_init_21 (by decide) ?_
  refine z_newa (atype := .int) (ty := .int) (a0 := (8, .inl fun _ => 0)) (t0 := 0) C 3 0 rfl rfl q221 (fun _ => rfl) (by decide) rfl (by decide) (by rw [hR]; exact ⟨Nat.le_of_ble_eq_true rfl, Nat.le_of_ble_eq_true rfl⟩) dX5_init_23 (fun q3 => ?_)
  show g_Y gCl X _ _ σ (3, 24) 25 [(0, .ref a)] [.ref q3, .ref a]
  refine z_putF (v := .ref q3) (k := 0) (u := 0) C (Nat.zero_lt_one) rfl ha in_X5 (rfl : gCl[4]? = _) tyX5 tyX5_ok nmX5 2 (by decide) rfl q196 rfl hnm rfl rfl rfl rfl (Nat.le_of_ble_eq_true rfl) dX5_init_25 ?_
  refine y_aload_n C dX5_init_28 0 rfl rfl ?_
  refine y_bipush (v := (8 : Int32)) C dX5_init_29 (by decide) ?_
  refine z_newa (atype := .int) (ty := .int) (a0 := (8, .inl fun _ => 0)) (t0 := 0) C 4 0 rfl rfl q221 (fun _ => rfl) (by decide) rfl (by decide) (by rw [hR]; exact ⟨Nat.le_of_ble_eq_true rfl, Nat.le_of_ble_eq_true rfl⟩) dX5_init_31 (fun q4 => ?_)
  show g_Y gCl X _ _ σ (4, 32) 33 [(0, .ref a)] [.ref q4, .ref a]
  refine z_putF (v := .ref q4) (k := 0) (u := 0) C (Nat.zero_lt_one) rfl ha in_X5 (rfl : gCl[4]? = _) tyX5 tyX5_ok nmX5 3 (by decide) rfl q199 rfl hnm rfl rfl rfl rfl (Nat.le_of_ble_eq_true rfl) dX5_init_33 ?_
  refine y_aload_n C dX5_init_36 0 rfl rfl ?_
  refine y_bipush (v := (8 : Int32)) C dX5_init_37 (by decide) ?_
  refine z_newa (atype := .int) (ty := .int) (a0 := (8, .inl fun _ => 0)) (t0 := 0) C 5 0 rfl rfl q221 (fun _ => rfl) (by decide) rfl (by decide) (by rw [hR]; exact ⟨Nat.le_of_ble_eq_true rfl, Nat.le_of_ble_eq_true rfl⟩) dX5_init_39 (fun q5 => ?_)
  show g_Y gCl X _ _ σ (5, 40) 41 [(0, .ref a)] [.ref q5, .ref a]
  refine z_putF (v := .ref q5) (k := 0) (u := 0) C (Nat.zero_lt_one) rfl ha in_X5 (rfl : gCl[4]? = _) tyX5 tyX5_ok nmX5 4 (by decide) rfl q202 rfl hnm rfl rfl rfl rfl (Nat.le_of_ble_eq_true rfl) dX5_init_41 ?_
  show g_Y gCl X _ _ σ (5, 40) 44 [(0, .ref a)] []
  refine y_relayI (LM2 := gU) (σ2 := σ) (fun H hW => g_fid (fun k u hu => ?_) hW) (y_vretG C hQ ⟨rfl, ha⟩ (by rw [hmc.1, hmc.2]; exact ⟨Nat.le_of_ble_eq_true rfl, Nat.le_of_ble_eq_true rfl⟩) dX5_init_44)
  obtain ⟨rfl, hk⟩ := g_one6 hu
  rcases hk with rfl | rfl | rfl | rfl | rfl | rfl <;> rfl
theorem ct_K5 {D : va_G} {dA : Nat → ClassId} {A : Nat → Prop} {s0 : State} {b0 : Nat} {l : Launch} {ad : Nat → Nat → Nat} {σ : g_S} : g_MetG gCl D dA A s0 b0 l yX5_init (ws_ yX5_init cX5_init 1 none) 1 (5, 40) (g_fL [1, 1, 1, 1, 1, 1] (g_fs (fun _ _ => none) 0 0 (.inr (4, [.null, .null, .null, .null, .null, .int 0])))) ad σ [.ref (ad 0 0)] gU (fun v ad2 _ => v = none ∧ ad2 0 0 = ad 0 0) (fun _ _ _ _ => False) :=
  g_MetG.of pl_X5 (Nat.le_of_ble_eq_true rfl) (fun X C hQ hR hmc hms hL hnm es eb el hT => mw_K5 C hR hL hnm ⟨hmc, hms⟩ rfl hQ)
theorem z_callUp {X : g_F} {cc : ByteArray} {own : String} {ret : Option FieldType} {cn : List Nat} {f : Nat → Nat → Option va_E} {ad : Nat → Nat → Nat} {σ : g_S} {w : Nat × Nat} {pc : Nat} {vs : List (Nat × Value)} {st : List Value} {index : Nat} {host : String} {rest : List Value} {u a : Nat} (C : g_M gCl X cc own ret) (hu : u < cn.getD 4 0) (hf : f 4 u = some (.inr (4, [.null, .null, .null, .null, .null, .int 0]))) (haa : ad 4 u = a)
    (cw : va_CN (g_R X) (g_s X) (g_as X) own index yX5_init host cX5_init 1 none (ws_ yX5_init cX5_init 1 none) (g_rm 1 5 40) 5 40 0 ∧ yX5_init.name = "<init>" ∧ (Cond.instanceMethod yX5_init).before (g_as X) (g_s X) = true) (hst : st = .ref a :: rest) (hcat : (rest.map fun v => v.category).sum ≤ 8) (hff : w.1 + 5 ≤ (g_R X).cells ∧ w.2 + 40 ≤ (g_R X).slots) (hd : decode cc pc = .ok (.invokespecial index, 3))
    (kk : ∀ q1 q2 q3 q4 q5 : Nat, g_Y gCl X (g_fL cn (g_fs (g_fs (g_fs (g_fs (g_fs (g_fs f 5 u (.inl (g_dA X 0, 8, .inl fun _ => 0))) 6 u (.inl (g_dA X 0, 8, .inl fun _ => 0))) 7 u (.inl (g_dA X 0, 8, .inl fun _ => 0))) 8 u (.inl (g_dA X 0, 8, .inl fun _ => 0))) 9 u (.inl (g_dA X 0, 8, .inl fun _ => 0))) 4 u (.inr (4, [.ref q1, .ref q2, .ref q3, .ref q4, .ref q5, .int 0])))) (g_ua (g_ua (g_ua (g_ua (g_ua ad 5 u q1) 6 u q2) 7 u q3) 8 u q4) 9 u q5) σ (w.1 + 5, w.2 + 40) (pc + 3) vs rest) : g_Y gCl X (g_fL cn f) ad σ w pc vs st := by
  intro H locs ls hW hS hl
  subst hst
  subst haa
  have hAA : ∀ q, (fun q => q = ad 4 u ∨ H.size ≤ q) q → g_A X q := fun q hq => hq.elim (fun z => by rw [z]; exact hW.2.2 4 u hu (g_fpi hf)) (fun z => C.2.2.2.2.2.2.2.1 q (Nat.le_trans hS.1 z))
  have six : ∀ k' u', u' < [1, 1, 1, 1, 1, 1].getD k' 0 → u' = 0 := fun k' u' h => (g_one6 (k := k') (u := u') h).1
  have hc : g_W gCl (g_D X) (g_dA X) (g_fL [1, 1, 1, 1, 1, 1] (g_fs (fun _ _ => none) 0 0 (.inr (4, [.null, .null, .null, .null, .null, .int 0])))) (fun _ _ => ad 4 u) σ (fun q => q = ad 4 u ∨ H.size ≤ q) H := by
    refine ⟨fun k' u' h => ?_, fun k1 u1 k2 u2 h1 h2 p1 p2 _ => ?_, fun _ _ _ _ => Or.inl rfl⟩
    · by_cases hk : k' = 0 ∧ u' = 0
      · obtain ⟨rfl, rfl⟩ := hk
        rw [g_fc g_fs_s]
        have h0 := hW.1 4 u hu
        rw [g_fc hf] at h0
        exact h0
      · rw [g_fc0 (g_fs_n hk)]; trivial
    · have z : ∀ k' u', g_pr (g_cell (g_fL [1, 1, 1, 1, 1, 1] (g_fs (fun _ _ => none) 0 0 (.inr (4, [.null, .null, .null, .null, .null, .int 0])))) (g_dA X) (fun _ _ => ad 4 u) σ k' u') → k' = 0 ∧ u' = 0 := fun k' u' hp => by
        by_cases hk : k' = 0 ∧ u' = 0
        · exact hk
        · rw [g_fc0 (g_fs_n hk)] at hp; exact hp.elim
      exact ⟨(z k1 u1 p1).1.trans (z k2 u2 p2).1.symm, (z k1 u1 p1).2.trans (z k2 u2 p2).2.symm⟩
  have hstart : ∀ U : State, U.heap = H → (g_s X).WarmedH U.vm → va_Pc [.ref (ad 4 u)] (g_B gCl (g_D X) (g_dA X) (g_fL [1, 1, 1, 1, 1, 1] (g_fs (fun _ _ => none) 0 0 (.inr (4, [.null, .null, .null, .null, .null, .int 0])))) (fun _ _ => ad 4 u) σ (fun q => q = ad 4 u ∨ H.size ≤ q) (g_s0 X) (g_b0 X)) (Value.ref (ad 4 u) :: []).toArray U := by
    intro U hU hWm
    subst hU
    exact ⟨rfl, hc, (C.2.2.2.2.2.2.2.2.moved hS hWm).sub hAA, fun q hq => Or.inr hq⟩
  refine g_goF (vx_runIN (As := []) ⟨C.1, C.2.1, C.2.2.1, C.2.2.2.1, C.2.2.2.2.1⟩ (ct_K5 (ad := fun _ _ => ad 4 u)) cw ⟨g_blind, hstart⟩ rfl rfl hl.1 rfl (lv_room hcat) hd hff) hS hAA (fun v ad2 σ2 H1 locs1 hz hB hsz hk hS1 => ?_) (fun _ _ _ _ _ _ _ hz => hz.elim)
  obtain ⟨rfl, ha2⟩ := hz
  refine kk (ad2 1 0) (ad2 2 0) (ad2 3 0) (ad2 4 0) (ad2 5 0) H1 locs1 ls (g_frame (fun k' u' => if u' = u ∧ 4 ≤ k' ∧ k' ≤ 9 then .inr (k' - 4, 0) else .inl (k', u')) hW hB hk hAA (fun k' u' hu' hp => ?_) (fun k1 u1 k2 u2 _ _ _ _ h3 => ?_)) hS1 hl
  · by_cases hkk : u' = u ∧ 4 ≤ k' ∧ k' ≤ 9
    · refine Or.inr ⟨k' - 4, 0, if_pos hkk, ?_, ?_⟩
      · rcases (show k' = 4 ∨ k' = 5 ∨ k' = 6 ∨ k' = 7 ∨ k' = 8 ∨ k' = 9 by omega) with rfl | rfl | rfl | rfl | rfl | rfl <;> exact Nat.zero_lt_one
      · obtain ⟨rfl, h4, h9⟩ := hkk
        rcases (show k' = 4 ∨ k' = 5 ∨ k' = 6 ∨ k' = 7 ∨ k' = 8 ∨ k' = 9 by omega) with rfl | rfl | rfl | rfl | rfl | rfl
        · refine ⟨?_, ?_⟩
          · rw [g_ua_n (by omega), g_ua_n (by omega), g_ua_n (by omega), g_ua_n (by omega), g_ua_n (by omega)]; exact ha2.symm
          · rw [g_fc g_fs_s]; rfl
        all_goals first
          | (refine ⟨by rw [g_ua_s], ?_⟩; rw [g_fc (by rw [g_fs_n (by omega), g_fs_s])]; rfl)
          | (refine ⟨by rw [g_ua_n (by omega), g_ua_s], ?_⟩; rw [g_fc (by rw [g_fs_n (by omega), g_fs_n (by omega), g_fs_s])]; rfl)
          | (refine ⟨by rw [g_ua_n (by omega), g_ua_n (by omega), g_ua_s], ?_⟩; rw [g_fc (by rw [g_fs_n (by omega), g_fs_n (by omega), g_fs_n (by omega), g_fs_s])]; rfl)
          | (refine ⟨by rw [g_ua_n (by omega), g_ua_n (by omega), g_ua_n (by omega), g_ua_s], ?_⟩; rw [g_fc (by rw [g_fs_n (by omega), g_fs_n (by omega), g_fs_n (by omega), g_fs_n (by omega), g_fs_s])]; rfl)
          | (refine ⟨by rw [g_ua_n (by omega), g_ua_n (by omega), g_ua_n (by omega), g_ua_n (by omega), g_ua_s], ?_⟩; rw [g_fc (by rw [g_fs_n (by omega), g_fs_n (by omega), g_fs_n (by omega), g_fs_n (by omega), g_fs_n (by omega), g_fs_s])]; rfl)
    · obtain ⟨e2, h2⟩ := g_fp hp
      have h2' : f k' u' = some e2 := by rw [← h2, g_fs_n (by omega), g_fs_n (by omega), g_fs_n (by omega), g_fs_n (by omega), g_fs_n (by omega), g_fs_n (by omega)]
      refine Or.inl ⟨k', u', if_neg hkk, hu', fun hq => ?_, by rw [g_ua_n (by omega), g_ua_n (by omega), g_ua_n (by omega), g_ua_n (by omega), g_ua_n (by omega)], by rw [g_fc h2, g_fc h2']⟩
      rcases hq with hq | hq
      · obtain ⟨z1, z2⟩ := hW.2.1 k' u' 4 u hu' hu (g_fpi h2') (g_fpi hf) hq
        exact hkk ⟨z2, by omega, by omega⟩
      · exact absurd ((hW.1 k' u' hu').lt (g_fpi h2')) (Nat.not_lt.mpr hq)
  · by_cases g1 : u1 = u ∧ 4 ≤ k1 ∧ k1 ≤ 9 <;> by_cases g2 : u2 = u ∧ 4 ≤ k2 ∧ k2 ≤ 9
    · simp only [if_pos g1, if_pos g2] at h3
      have := congrArg Prod.fst (Sum.inr.inj h3)
      exact ⟨by simp only at this; omega, g1.1.trans g2.1.symm⟩
    · simp only [if_pos g1, if_neg g2] at h3; cases h3
    · simp only [if_neg g1, if_pos g2] at h3; cases h3
    · simp only [if_neg g1, if_neg g2] at h3; cases h3; exact ⟨rfl, rfl⟩
/-- a component under construction: the first part done -/
def gS1 (dA : Nat → ClassId) (ad : Nat → Nat → Nat) (k u : Nat) : Option va_E := match k with
  | 0 => some (.inr (0, [.ref (ad 1 0), .ref (ad 2 0), .ref (ad 3 0), .int 3, .int 3, .int 0, .int 0, .int 0, .int 0, .long 0, .ref (ad 4 0), .ref (ad 4 1), .ref (ad 4 2), .null, .null, .null, .int 0, .null, .int 0, .null, .null, .null, .null, .null, .null, .null, .int 0, .int 0, .null, .int 0, .null]))
  | 1 => some (.inr (1, [.ref (ad 0 0)]))
  | 2 => some (.inr (2, [.ref (ad 0 0), .int 0, .ref (ad 0 0)]))
  | 3 => some (.inr (3, [.ref (ad 0 0), .int 0, .ref (ad 0 0)]))
  | 4 => if u < 3 then some (.inr (4, [.ref (ad 5 u), .ref (ad 6 u), .ref (ad 7 u), .ref (ad 8 u), .ref (ad 9 u), .int 0])) else none
  | 5 => if u < 3 then some (.inl (dA 0, 8, .inl fun _ => 0)) else none
  | 6 => if u < 3 then some (.inl (dA 0, 8, .inl fun _ => 0)) else none
  | 7 => if u < 3 then some (.inl (dA 0, 8, .inl fun _ => 0)) else none
  | 8 => if u < 3 then some (.inl (dA 0, 8, .inl fun _ => 0)) else none
  | 9 => if u < 3 then some (.inl (dA 0, 8, .inl fun _ => 0)) else none
  | _ => none
/-- all but the last j of ahead -/
def gS2 (j : Nat) (dA : Nat → ClassId) (ad : Nat → Nat → Nat) (k u : Nat) : Option va_E := match k with
  | 0 => some (.inr (0, [.ref (ad 1 0), .ref (ad 2 0), .ref (ad 3 0), .int 3, .int 3, .int 0, .int 0, .int 0, .int 0, .long 0, .ref (ad 4 0), .ref (ad 4 1), .ref (ad 4 2), .ref (ad 10 0), .ref (ad 11 0), .ref (ad 12 0), .int 0, .ref (ad 13 0), .int 0, .null, .ref (ad 14 0), .ref (ad 15 0), .ref (ad 16 0), .ref (ad 18 0), .ref (ad 20 0), .ref (ad 23 0), .int 0, .int 0, .ref (ad 21 0), .int 0, .ref (ad 24 0)]))
  | 1 => some (.inr (1, [.ref (ad 0 0)]))
  | 2 => some (.inr (2, [.ref (ad 0 0), .int 0, .ref (ad 0 0)]))
  | 3 => some (.inr (3, [.ref (ad 0 0), .int 0, .ref (ad 0 0)]))
  | 4 => if u < 3 + j then some (.inr (4, [.ref (ad 5 u), .ref (ad 6 u), .ref (ad 7 u), .ref (ad 8 u), .ref (ad 9 u), .int 0])) else none
  | 5 => if u < 3 + j then some (.inl (dA 0, 8, .inl fun _ => 0)) else none
  | 6 => if u < 3 + j then some (.inl (dA 0, 8, .inl fun _ => 0)) else none
  | 7 => if u < 3 + j then some (.inl (dA 0, 8, .inl fun _ => 0)) else none
  | 8 => if u < 3 + j then some (.inl (dA 0, 8, .inl fun _ => 0)) else none
  | 9 => if u < 3 + j then some (.inl (dA 0, 8, .inl fun _ => 0)) else none
  | 10 => some (.inl (dA 6, 15, .inr (.inr (.inr (.inr fun i => if i < j then some (ad 4 (3 + i)) else none)))))
  | 11 => if u = 0 then some (.inl (dA 3, 1, .inl (upd (fun _ => 0) (0 : Int32).toNatClampNeg (vp_nar .byte (9 : Int32))))) else none
  | 12 => some (.inl (dA 3, 80, .inl fun _ => 0))
  | 13 => some (.inl (dA 1, 64, .inr (.inl fun _ => 0)))
  | 14 => some (.inl (dA 0, 8, .inl fun _ => 0))
  | 15 => some (.inl (dA 1, 8, .inr (.inl fun _ => 0)))
  | 16 => some (.inl (dA 7, 8, .inr (.inr (.inr (.inr fun i => some (ad 17 i))))))
  | 17 => some (.inl (dA 0, 8, .inl fun _ => 0))
  | 18 => some (.inl (dA 7, 9, .inr (.inr (.inr (.inr fun i => some (ad 19 i))))))
  | 19 => some (.inl (dA 0, 256, .inl fun _ => 0))
  | 20 => some (.inl (dA 0, 49, .inl fun _ => 0))
  | 21 => some (.inl (dA 7, 61, .inr (.inr (.inr (.inr fun i => some (ad 22 i))))))
  | 22 => some (.inl (dA 0, 10, .inl fun _ => 0))
  | 23 => some (.inl (dA 0, 10, .inl fun _ => 0))
  | 24 => some (.inl (dA 8, 3, .inr (.inr (.inr (.inr fun _ => none)))))
  | _ => none
/-- the component as it is born -/
def g_iC : g_S := (fun k _ => match k with
  | 0 => fun j => if j = 3 ∨ j = 4 then 3 else 0
  | 11 => upd (fun _ => 0) (0 : Int32).toNatClampNeg (vp_nar .byte (9 : Int32))
  | _ => fun _ => 0, fun _ _ _ => 0, fun k u => match k with
  | 10 => fun j => 3 + j
  | 11 => match u with
    | 0 => fun j => if j = 0 then 1 else 0
    | _ => fun _ => 0
  | _ => fun _ => 0)
theorem g_arq {c : ClassId} {n : Nat} {f f' : Nat → Option Nat} (h : ∀ j, j < n → f j = f' j) : vp_cell c (n, .inr (.inr (.inr (.inr f)))) = vp_cell c (n, .inr (.inr (.inr (.inr f')))) := by
  show arrV c n (fun j => va_rf (f j)) = arrV c n (fun j => va_rf (f' j))
  unfold arrV
  congr 1
  apply congrArg Array.ofFn
  funext j
  show va_rf (f j.1) = va_rf (f' j.1)
  rw [h j.1 j.2]
def gCN : List Nat := [1, 1, 1, 1, 18, 18, 18, 18, 18, 18, 1, 2, 1, 1, 1, 1, 1, 8, 1, 9, 1, 1, 61, 1, 1, 4, 2, 2, 0, 0, 0, 0, 0, 0, 4, 4, 4, 4, 4, 4, 1, 1, 8, 1, 1, 1, 1, 1, 1, 0, 0, 1, 1, 1]
/-- worlds cell by cell, the cells alike -/
theorem y_fid {X : g_F} {f f2 : Nat → Nat → Option va_E} {ad : Nat → Nat → Nat} {σ : g_S} {w : Nat × Nat} {pc : Nat} {vs : List (Nat × Value)} {st : List Value} (h : ∀ k u, u < gCN.getD k 0 → f2 k u = f k u) (kk : g_Y gCl X (g_fL gCN f2) ad σ w pc vs st) : g_Y gCl X (g_fL gCN f) ad σ w pc vs st :=
  y_relayI (LM2 := g_fL gCN f2) (σ2 := σ) (fun H hW => g_fid (fun k u hu => by
    show (match f2 k u with | some e => Sum.inl e | none => Sum.inr (Sum.inr ())) = (match f k u with | some e => Sum.inl e | none => Sum.inr (Sum.inr ()))
    rw [h k u hu]) hW) kk
theorem mw_K1a {X : g_F} (C : g_M gCl X cX1_init RX1 none) (hR : g_R X = g_rm 3 201 4129) (hL : g_nL X = 2) (hnm : (g_me X).name = "<init>") {ad : Nat → Nat → Nat} {σ : g_S} (kk : ∀ ad1 : Nat → Nat → Nat, ad1 0 0 = ad 0 0 → g_Y gCl X (g_fL gCN (gS1 (g_dA X) ad1)) ad1 σ (21, 145) 83 [(0, .ref (ad1 0 0))] []) : g_Y gCl X (g_fL gCN (g_fs (fun _ _ => none) 0 0 (.inr (0, [.null, .null, .null, .int 0, .int 0, .int 0, .int 0, .int 0, .int 0, .long 0, .null, .null, .null, .null, .null, .null, .int 0, .null, .int 0, .null, .null, .null, .null, .null, .null, .null, .int 0, .int 0, .null, .int 0, .null])))) ad σ (0, 0) 0 [(0, .ref (ad 0 0))] [] := by
  refine y_aload_n C dX1_init_0 0 rfl rfl ?_
  refine y_objInit C q141 q142 q143 dX1_init_1 (g_rmM hR (Nat.le_of_ble_eq_true rfl)).1 (Nat.le_trans (by decide) (g_rmM hR (Nat.le_of_ble_eq_true rfl)).2) (by decide) ?_
  refine y_aload_n C dX1_init_4 0 rfl rfl ?_
  refine z_new (fs := [.null]) C 1 0 in_X2 tyX2 tyX2_ok q144 q145 q111 (rfl : gCl[1]? = _) (fun j hj => by rcases (show j = 0 by omega) with rfl <;> rfl) (by rw [hR]; exact ⟨Nat.le_of_ble_eq_true rfl, Nat.le_of_ble_eq_true rfl⟩) dX1_init_5 (fun q1 => ?_)
  show g_Y gCl X _ _ σ (1, 1) 8 [(0, .ref (ad 0 0))] [.ref q1, .ref (ad 0 0)]
  refine y_dup C dX1_init_8 rfl ?_
  refine y_aload_n C dX1_init_9 0 rfl rfl ?_
  refine z_callI0 (k := 1) (u := 0) (As := [.ref (ad 0 0)]) C (Nat.le_of_ble_eq_true rfl) rfl rfl (Or.inr (lkK_X1_59_l1 C hR (by decide))) (fun A1 => ct_K2_1 (ad := fun _ _ => q1)) rfl rfl rfl rfl (Nat.le_of_ble_eq_true rfl) (by rw [hR]; exact ⟨Nat.le_of_ble_eq_true rfl, Nat.le_of_ble_eq_true rfl⟩) dX1_init_10 ?_
  refine z_putF (v := .ref q1) (k := 0) (u := 0) C (Nat.le_of_ble_eq_true rfl) rfl rfl in_X1 (rfl : gCl[0]? = _) tyX1 tyX1_ok nmX1 0 (by decide) rfl q227 rfl hnm rfl rfl rfl rfl (Nat.le_of_ble_eq_true rfl) dX1_init_13 ?_
  refine y_aload_n C dX1_init_16 0 rfl rfl ?_
  refine z_new (fs := [.null, .int 0, .null]) C 2 0 in_X3 tyX3 tyX3_ok q154 q155 q112 (rfl : gCl[2]? = _) (fun j hj => by rcases (show j = 0 ∨ j = 1 ∨ j = 2 by omega) with rfl | rfl | rfl <;> rfl) (by rw [hR]; exact ⟨Nat.le_of_ble_eq_true rfl, Nat.le_of_ble_eq_true rfl⟩) dX1_init_17 (fun q2 => ?_)
  show g_Y gCl X _ _ σ (2, 4) 20 [(0, .ref (ad 0 0))] [.ref q2, .ref (ad 0 0)]
  refine y_dup C dX1_init_20 rfl ?_
  refine y_aload_n C dX1_init_21 0 rfl rfl ?_
  refine z_callI0 (k := 2) (u := 0) (As := [.ref (ad 0 0)]) C (Nat.le_of_ble_eq_true rfl) rfl rfl (Or.inr (lkK_X1_68_l2 C hR (by decide))) (fun A1 => ct_K3 (ad := fun _ _ => q2)) rfl rfl rfl rfl (Nat.le_of_ble_eq_true rfl) (by rw [hR]; exact ⟨Nat.le_of_ble_eq_true rfl, Nat.le_of_ble_eq_true rfl⟩) dX1_init_22 ?_
  refine z_putF (v := .ref q2) (k := 0) (u := 0) C (Nat.le_of_ble_eq_true rfl) rfl rfl in_X1 (rfl : gCl[0]? = _) tyX1 tyX1_ok nmX1 1 (by decide) rfl q228 rfl hnm rfl rfl rfl rfl (Nat.le_of_ble_eq_true rfl) dX1_init_25 ?_
  refine y_aload_n C dX1_init_28 0 rfl rfl ?_
  refine z_new (fs := [.null, .int 0, .null]) C 3 0 in_X4 tyX4 tyX4_ok q168 q169 q113 (rfl : gCl[3]? = _) (fun j hj => by rcases (show j = 0 ∨ j = 1 ∨ j = 2 by omega) with rfl | rfl | rfl <;> rfl) (by rw [hR]; exact ⟨Nat.le_of_ble_eq_true rfl, Nat.le_of_ble_eq_true rfl⟩) dX1_init_29 (fun q3 => ?_)
  show g_Y gCl X _ _ σ (3, 7) 32 [(0, .ref (ad 0 0))] [.ref q3, .ref (ad 0 0)]
  refine y_dup C dX1_init_32 rfl ?_
  refine y_aload_n C dX1_init_33 0 rfl rfl ?_
  refine z_callI0 (k := 3) (u := 0) (As := [.ref (ad 0 0)]) C (Nat.le_of_ble_eq_true rfl) rfl rfl (Or.inr (lkK_X1_75_l2 C hR (by decide))) (fun A1 => ct_K4 (ad := fun _ _ => q3)) rfl rfl rfl rfl (Nat.le_of_ble_eq_true rfl) (by rw [hR]; exact ⟨Nat.le_of_ble_eq_true rfl, Nat.le_of_ble_eq_true rfl⟩) dX1_init_34 ?_
  refine z_putF (v := .ref q3) (k := 0) (u := 0) C (Nat.le_of_ble_eq_true rfl) rfl rfl in_X1 (rfl : gCl[0]? = _) tyX1 tyX1_ok nmX1 2 (by decide) rfl q229 rfl hnm rfl rfl rfl rfl (Nat.le_of_ble_eq_true rfl) dX1_init_37 ?_
  refine y_aload_n C dX1_init_40 0 rfl rfl ?_
  refine y_iconst (v := (3 : Int32)) C dX1_init_41 (by decide) ?_
  refine z_put (v := .int (3 : Int32)) (k := 0) (u := 0) C (Nat.le_of_ble_eq_true rfl) rfl rfl in_X1 (rfl : gCl[0]? = _) tyX1 tyX1_ok nmX1 3 (by decide) rfl q232 rfl rfl rfl rfl (Nat.le_of_ble_eq_true rfl) dX1_init_42 ?_
  refine y_aload_n C dX1_init_45 0 rfl rfl ?_
  refine y_iconst (v := (3 : Int32)) C dX1_init_46 (by decide) ?_
  refine z_put (v := .int (3 : Int32)) (k := 0) (u := 0) C (Nat.le_of_ble_eq_true rfl) rfl rfl in_X1 (rfl : gCl[0]? = _) tyX1 tyX1_ok nmX1 4 (by decide) rfl q234 rfl rfl rfl rfl (Nat.le_of_ble_eq_true rfl) dX1_init_47 ?_
  refine y_aload_n C dX1_init_50 0 rfl rfl ?_
  refine z_new (fs := [.null, .null, .null, .null, .null, .int 0]) C 4 0 in_X5 tyX5 tyX5_ok q182 q183 q114 (rfl : gCl[4]? = _) (fun j hj => by rcases (show j = 0 ∨ j = 1 ∨ j = 2 ∨ j = 3 ∨ j = 4 ∨ j = 5 by omega) with rfl | rfl | rfl | rfl | rfl | rfl <;> rfl) (by rw [hR]; exact ⟨Nat.le_of_ble_eq_true rfl, Nat.le_of_ble_eq_true rfl⟩) dX1_init_51 (fun q4 => ?_)
  show g_Y gCl X _ _ σ (4, 13) 54 [(0, .ref (ad 0 0))] [.ref q4, .ref (ad 0 0)]
  refine y_dup C dX1_init_54 rfl ?_
  refine z_callUp C (u := 0) (Nat.le_of_ble_eq_true rfl) rfl rfl (lkK_X1_83_l1 C hR (by decide)) rfl (Nat.le_of_ble_eq_true rfl) (by rw [hR]; exact ⟨Nat.le_of_ble_eq_true rfl, Nat.le_of_ble_eq_true rfl⟩) dX1_init_55 (fun q5 q6 q7 q8 q9 => ?_)
  show g_Y gCl X _ _ σ (9, 53) 58 [(0, .ref (ad 0 0))] [.ref q4, .ref (ad 0 0)]
  refine z_putF (v := .ref q4) (k := 0) (u := 0) C (Nat.le_of_ble_eq_true rfl) rfl rfl in_X1 (rfl : gCl[0]? = _) tyX1 tyX1_ok nmX1 10 (by decide) rfl q245 rfl hnm rfl rfl rfl rfl (Nat.le_of_ble_eq_true rfl) dX1_init_58 ?_
  refine y_aload_n C dX1_init_61 0 rfl rfl ?_
  refine z_new (fs := [.null, .null, .null, .null, .null, .int 0]) C 4 1 in_X5 tyX5 tyX5_ok q182 q183 q114 (rfl : gCl[4]? = _) (fun j hj => by rcases (show j = 0 ∨ j = 1 ∨ j = 2 ∨ j = 3 ∨ j = 4 ∨ j = 5 by omega) with rfl | rfl | rfl | rfl | rfl | rfl <;> rfl) (by rw [hR]; exact ⟨Nat.le_of_ble_eq_true rfl, Nat.le_of_ble_eq_true rfl⟩) dX1_init_62 (fun q10 => ?_)
  show g_Y gCl X _ _ σ (10, 59) 65 [(0, .ref (ad 0 0))] [.ref q10, .ref (ad 0 0)]
  refine y_dup C dX1_init_65 rfl ?_
  refine z_callUp C (u := 1) (Nat.le_of_ble_eq_true rfl) rfl rfl (lkK_X1_83_l1 C hR (by decide)) rfl (Nat.le_of_ble_eq_true rfl) (by rw [hR]; exact ⟨Nat.le_of_ble_eq_true rfl, Nat.le_of_ble_eq_true rfl⟩) dX1_init_66 (fun q11 q12 q13 q14 q15 => ?_)
  show g_Y gCl X _ _ σ (15, 99) 69 [(0, .ref (ad 0 0))] [.ref q10, .ref (ad 0 0)]
  refine z_putF (v := .ref q10) (k := 0) (u := 0) C (Nat.le_of_ble_eq_true rfl) rfl rfl in_X1 (rfl : gCl[0]? = _) tyX1 tyX1_ok nmX1 11 (by decide) rfl q246 rfl hnm rfl rfl rfl rfl (Nat.le_of_ble_eq_true rfl) dX1_init_69 ?_
  refine y_aload_n C dX1_init_72 0 rfl rfl ?_
  refine z_new (fs := [.null, .null, .null, .null, .null, .int 0]) C 4 2 in_X5 tyX5 tyX5_ok q182 q183 q114 (rfl : gCl[4]? = _) (fun j hj => by rcases (show j = 0 ∨ j = 1 ∨ j = 2 ∨ j = 3 ∨ j = 4 ∨ j = 5 by omega) with rfl | rfl | rfl | rfl | rfl | rfl <;> rfl) (by rw [hR]; exact ⟨Nat.le_of_ble_eq_true rfl, Nat.le_of_ble_eq_true rfl⟩) dX1_init_73 (fun q16 => ?_)
  show g_Y gCl X _ _ σ (16, 105) 76 [(0, .ref (ad 0 0))] [.ref q16, .ref (ad 0 0)]
  refine y_dup C dX1_init_76 rfl ?_
  refine z_callUp C (u := 2) (Nat.le_of_ble_eq_true rfl) rfl rfl (lkK_X1_83_l1 C hR (by decide)) rfl (Nat.le_of_ble_eq_true rfl) (by rw [hR]; exact ⟨Nat.le_of_ble_eq_true rfl, Nat.le_of_ble_eq_true rfl⟩) dX1_init_77 (fun q17 q18 q19 q20 q21 => ?_)
  show g_Y gCl X _ _ σ (21, 145) 80 [(0, .ref (ad 0 0))] [.ref q16, .ref (ad 0 0)]
  refine z_putF (v := .ref q16) (k := 0) (u := 0) C (Nat.le_of_ble_eq_true rfl) rfl rfl in_X1 (rfl : gCl[0]? = _) tyX1 tyX1_ok nmX1 12 (by decide) rfl q247 rfl hnm rfl rfl rfl rfl (Nat.le_of_ble_eq_true rfl) dX1_init_80 ?_
  refine y_fid (f2 := gS1 (g_dA X) _) (fun k u hu => ?_) (kk _ rfl)
  match k, hu with
  | 0, hu => have hz : u = 0 := (by have z : u < 1 := hu; omega); subst hz; rfl
  | 1, hu => have hz : u = 0 := (by have z : u < 1 := hu; omega); subst hz; rfl
  | 2, hu => have hz : u = 0 := (by have z : u < 1 := hu; omega); subst hz; rfl
  | 3, hu => have hz : u = 0 := (by have z : u < 1 := hu; omega); subst hz; rfl
  | 4, hu => exact (match u with | 0 => rfl | 1 => rfl | 2 => rfl | n + 3 => rfl)
  | 5, hu => exact (match u with | 0 => rfl | 1 => rfl | 2 => rfl | n + 3 => rfl)
  | 6, hu => exact (match u with | 0 => rfl | 1 => rfl | 2 => rfl | n + 3 => rfl)
  | 7, hu => exact (match u with | 0 => rfl | 1 => rfl | 2 => rfl | n + 3 => rfl)
  | 8, hu => exact (match u with | 0 => rfl | 1 => rfl | 2 => rfl | n + 3 => rfl)
  | 9, hu => exact (match u with | 0 => rfl | 1 => rfl | 2 => rfl | n + 3 => rfl)
  | 10, hu => have hz : u = 0 := (by have z : u < 1 := hu; omega); subst hz; rfl
  | 11, hu => rfl
  | 12, hu => have hz : u = 0 := (by have z : u < 1 := hu; omega); subst hz; rfl
  | 13, hu => have hz : u = 0 := (by have z : u < 1 := hu; omega); subst hz; rfl
  | 14, hu => have hz : u = 0 := (by have z : u < 1 := hu; omega); subst hz; rfl
  | 15, hu => have hz : u = 0 := (by have z : u < 1 := hu; omega); subst hz; rfl
  | 16, hu => have hz : u = 0 := (by have z : u < 1 := hu; omega); subst hz; rfl
  | 17, hu => rfl
  | 18, hu => have hz : u = 0 := (by have z : u < 1 := hu; omega); subst hz; rfl
  | 19, hu => rfl
  | 20, hu => have hz : u = 0 := (by have z : u < 1 := hu; omega); subst hz; rfl
  | 21, hu => have hz : u = 0 := (by have z : u < 1 := hu; omega); subst hz; rfl
  | 22, hu => rfl
  | 23, hu => have hz : u = 0 := (by have z : u < 1 := hu; omega); subst hz; rfl
  | 24, hu => have hz : u = 0 := (by have z : u < 1 := hu; omega); subst hz; rfl
  | 25, hu => rfl
  | 26, hu => rfl
  | 27, hu => rfl
  | 28, hu => exact absurd hu (Nat.not_lt_zero _)
  | 29, hu => exact absurd hu (Nat.not_lt_zero _)
  | 30, hu => exact absurd hu (Nat.not_lt_zero _)
  | 31, hu => exact absurd hu (Nat.not_lt_zero _)
  | 32, hu => exact absurd hu (Nat.not_lt_zero _)
  | 33, hu => exact absurd hu (Nat.not_lt_zero _)
  | 34, hu => rfl
  | 35, hu => rfl
  | 36, hu => rfl
  | 37, hu => rfl
  | 38, hu => rfl
  | 39, hu => rfl
  | 40, hu => have hz : u = 0 := (by have z : u < 1 := hu; omega); subst hz; rfl
  | 41, hu => have hz : u = 0 := (by have z : u < 1 := hu; omega); subst hz; rfl
  | 42, hu => rfl
  | 43, hu => have hz : u = 0 := (by have z : u < 1 := hu; omega); subst hz; rfl
  | 44, hu => have hz : u = 0 := (by have z : u < 1 := hu; omega); subst hz; rfl
  | 45, hu => have hz : u = 0 := (by have z : u < 1 := hu; omega); subst hz; rfl
  | 46, hu => have hz : u = 0 := (by have z : u < 1 := hu; omega); subst hz; rfl
  | 47, hu => have hz : u = 0 := (by have z : u < 1 := hu; omega); subst hz; rfl
  | 48, hu => have hz : u = 0 := (by have z : u < 1 := hu; omega); subst hz; rfl
  | 49, hu => exact absurd hu (Nat.not_lt_zero _)
  | 50, hu => exact absurd hu (Nat.not_lt_zero _)
  | 51, hu => have hz : u = 0 := (by have z : u < 1 := hu; omega); subst hz; rfl
  | 52, hu => have hz : u = 0 := (by have z : u < 1 := hu; omega); subst hz; rfl
  | 53, hu => have hz : u = 0 := (by have z : u < 1 := hu; omega); subst hz; rfl
  | n + 54, hu => exact absurd hu (Nat.not_lt_zero _)
theorem mw_K1b {X : g_F} (C : g_M gCl X cX1_init RX1 none) (hR : g_R X = g_rm 3 201 4129) (hL : g_nL X = 2) (hnm : (g_me X).name = "<init>") {ad : Nat → Nat → Nat} {σ : g_S} (kk : ∀ ad1 : Nat → Nat → Nat, ad1 0 0 = ad 0 0 → g_Y gCl X (g_fL gCN (gS2 0 (g_dA X) ad1)) ad1 σ (111, 3439) 199 [(1, .int 0), (0, .ref (ad1 0 0))] []) : g_Y gCl X (g_fL gCN (gS1 (g_dA X) ad)) ad σ (21, 145) 83 [(0, .ref (ad 0 0))] [] := by
  refine y_aload_n C dX1_init_83 0 rfl rfl ?_
  refine y_bipush (v := (15 : Int32)) C dX1_init_84 (by decide) ?_
  refine z_newq (t0 := 6) C 10 0 rfl q182 (va_AO.moved C.2.2.2.2.2.2.2.2.2.2.1.alike (va_AO.of (C.2.2.2.2.2.2.2.2.2.1.1 _ q222))) (by decide) rfl (by decide) (by rw [hR]; exact ⟨Nat.le_of_ble_eq_true rfl, Nat.le_of_ble_eq_true rfl⟩) dX1_init_86 (fun q101 => ?_)
  show g_Y gCl X _ _ σ (22, 160) 89 [(0, .ref (ad 0 0))] [.ref q101, .ref (ad 0 0)]
  refine z_putF (v := .ref q101) (k := 0) (u := 0) C (Nat.le_of_ble_eq_true rfl) rfl rfl in_X1 (rfl : gCl[0]? = _) tyX1 tyX1_ok nmX1 13 (by decide) rfl q248 rfl hnm rfl rfl rfl rfl (Nat.le_of_ble_eq_true rfl) dX1_init_89 ?_
  refine y_aload_n C dX1_init_92 0 rfl rfl ?_
  refine y_iconst (v := (1 : Int32)) C dX1_init_93 (by decide) ?_
  refine z_newa (atype := .byte) (ty := .byte) (a0 := (1, .inl fun _ => 0)) (t0 := 3) C 11 0 rfl rfl q329 (fun _ => rfl) (by decide) rfl (by decide) (by rw [hR]; exact ⟨Nat.le_of_ble_eq_true rfl, Nat.le_of_ble_eq_true rfl⟩) dX1_init_94 (fun q102 => ?_)
  show g_Y gCl X _ _ σ (23, 161) 96 [(0, .ref (ad 0 0))] [.ref q102, .ref (ad 0 0)]
  refine y_dup C dX1_init_96 rfl ?_
  refine y_iconst (v := (0 : Int32)) C dX1_init_97 (by decide) ?_
  refine y_bipush (v := (9 : Int32)) C dX1_init_98 (by decide) ?_
  refine z_bast (k := 11) (u := 0) (n := 1) C (Nat.le_of_ble_eq_true rfl) rfl rfl (by decide) dX1_init_100 ?_
  refine z_put (v := .ref q102) (k := 0) (u := 0) C (Nat.le_of_ble_eq_true rfl) rfl rfl in_X1 (rfl : gCl[0]? = _) tyX1 tyX1_ok nmX1 14 (by decide) rfl q249 rfl rfl rfl rfl (Nat.le_of_ble_eq_true rfl) dX1_init_101 ?_
  refine y_aload_n C dX1_init_104 0 rfl rfl ?_
  refine y_bipush (v := (80 : Int32)) C dX1_init_105 (by decide) ?_
  refine z_newa (atype := .byte) (ty := .byte) (a0 := (80, .inl fun _ => 0)) (t0 := 3) C 12 0 rfl rfl q329 (fun _ => rfl) (by decide) rfl (by decide) (by rw [hR]; exact ⟨Nat.le_of_ble_eq_true rfl, Nat.le_of_ble_eq_true rfl⟩) dX1_init_107 (fun q103 => ?_)
  show g_Y gCl X _ _ σ (24, 241) 109 [(0, .ref (ad 0 0))] [.ref q103, .ref (ad 0 0)]
  refine z_putF (v := .ref q103) (k := 0) (u := 0) C (Nat.le_of_ble_eq_true rfl) rfl rfl in_X1 (rfl : gCl[0]? = _) tyX1 tyX1_ok nmX1 15 (by decide) rfl q250 rfl hnm rfl rfl rfl rfl (Nat.le_of_ble_eq_true rfl) dX1_init_109 ?_
  refine y_aload_n C dX1_init_112 0 rfl rfl ?_
  refine y_bipush (v := (64 : Int32)) C dX1_init_113 (by decide) ?_
  refine z_newa (atype := .long) (ty := .long) (a0 := (64, .inr (.inl fun _ => 0))) (t0 := 1) C 13 0 rfl rfl q330 (fun _ => rfl) (by decide) rfl (by decide) (by rw [hR]; exact ⟨Nat.le_of_ble_eq_true rfl, Nat.le_of_ble_eq_true rfl⟩) dX1_init_115 (fun q104 => ?_)
  show g_Y gCl X _ _ σ (25, 305) 117 [(0, .ref (ad 0 0))] [.ref q104, .ref (ad 0 0)]
  refine z_putF (v := .ref q104) (k := 0) (u := 0) C (Nat.le_of_ble_eq_true rfl) rfl rfl in_X1 (rfl : gCl[0]? = _) tyX1 tyX1_ok nmX1 17 (by decide) rfl q252 rfl hnm rfl rfl rfl rfl (Nat.le_of_ble_eq_true rfl) dX1_init_117 ?_
  refine y_aload_n C dX1_init_120 0 rfl rfl ?_
  refine y_bipush (v := (8 : Int32)) C dX1_init_121 (by decide) ?_
  refine z_newa (atype := .int) (ty := .int) (a0 := (8, .inl fun _ => 0)) (t0 := 0) C 14 0 rfl rfl q221 (fun _ => rfl) (by decide) rfl (by decide) (by rw [hR]; exact ⟨Nat.le_of_ble_eq_true rfl, Nat.le_of_ble_eq_true rfl⟩) dX1_init_123 (fun q105 => ?_)
  show g_Y gCl X _ _ σ (26, 313) 125 [(0, .ref (ad 0 0))] [.ref q105, .ref (ad 0 0)]
  refine z_putF (v := .ref q105) (k := 0) (u := 0) C (Nat.le_of_ble_eq_true rfl) rfl rfl in_X1 (rfl : gCl[0]? = _) tyX1 tyX1_ok nmX1 20 (by decide) rfl q255 rfl hnm rfl rfl rfl rfl (Nat.le_of_ble_eq_true rfl) dX1_init_125 ?_
  refine y_aload_n C dX1_init_128 0 rfl rfl ?_
  refine y_bipush (v := (8 : Int32)) C dX1_init_129 (by decide) ?_
  refine z_newa (atype := .long) (ty := .long) (a0 := (8, .inr (.inl fun _ => 0))) (t0 := 1) C 15 0 rfl rfl q330 (fun _ => rfl) (by decide) rfl (by decide) (by rw [hR]; exact ⟨Nat.le_of_ble_eq_true rfl, Nat.le_of_ble_eq_true rfl⟩) dX1_init_131 (fun q106 => ?_)
  show g_Y gCl X _ _ σ (27, 321) 133 [(0, .ref (ad 0 0))] [.ref q106, .ref (ad 0 0)]
  refine z_putF (v := .ref q106) (k := 0) (u := 0) C (Nat.le_of_ble_eq_true rfl) rfl rfl in_X1 (rfl : gCl[0]? = _) tyX1 tyX1_ok nmX1 21 (by decide) rfl q256 rfl hnm rfl rfl rfl rfl (Nat.le_of_ble_eq_true rfl) dX1_init_133 ?_
  refine y_aload_n C dX1_init_136 0 rfl rfl ?_
  refine y_bipush (v := (8 : Int32)) C dX1_init_137 (by decide) ?_
  refine y_bipush (v := (8 : Int32)) C dX1_init_139 (by decide) ?_
  refine z_mnew (N := 8) (M := 8) C 16 17 (by decide) rfl q223 (by decide) (by decide) rfl rfl (by decide) (by decide) (by rw [hR]; exact ⟨Nat.le_of_ble_eq_true rfl, Nat.le_of_ble_eq_true rfl⟩) dX1_init_141 (fun q107 => ?_)
  show g_Y gCl X _ _ σ (36, 393) 145 [(0, .ref (ad 0 0))] [.ref q107, .ref (ad 0 0)]
  refine z_putF (v := .ref q107) (k := 0) (u := 0) C (Nat.le_of_ble_eq_true rfl) rfl rfl in_X1 (rfl : gCl[0]? = _) tyX1 tyX1_ok nmX1 22 (by decide) rfl q257 rfl hnm rfl rfl rfl rfl (Nat.le_of_ble_eq_true rfl) dX1_init_145 ?_
  refine y_aload_n C dX1_init_148 0 rfl rfl ?_
  refine y_bipush (v := (9 : Int32)) C dX1_init_149 (by decide) ?_
  refine y_sipush (v := (256 : Int32)) C dX1_init_151 (by decide) ?_
  refine z_mnew (N := 9) (M := 256) C 18 19 (by decide) rfl q223 (by decide) (by decide) rfl rfl (by decide) (by decide) (by rw [hR]; exact ⟨Nat.le_of_ble_eq_true rfl, Nat.le_of_ble_eq_true rfl⟩) dX1_init_154 (fun q108 => ?_)
  show g_Y gCl X _ _ σ (46, 2706) 158 [(0, .ref (ad 0 0))] [.ref q108, .ref (ad 0 0)]
  refine z_putF (v := .ref q108) (k := 0) (u := 0) C (Nat.le_of_ble_eq_true rfl) rfl rfl in_X1 (rfl : gCl[0]? = _) tyX1 tyX1_ok nmX1 23 (by decide) rfl q258 rfl hnm rfl rfl rfl rfl (Nat.le_of_ble_eq_true rfl) dX1_init_158 ?_
  refine y_aload_n C dX1_init_161 0 rfl rfl ?_
  refine y_bipush (v := (49 : Int32)) C dX1_init_162 (by decide) ?_
  refine z_newa (atype := .int) (ty := .int) (a0 := (49, .inl fun _ => 0)) (t0 := 0) C 20 0 rfl rfl q221 (fun _ => rfl) (by decide) rfl (by decide) (by rw [hR]; exact ⟨Nat.le_of_ble_eq_true rfl, Nat.le_of_ble_eq_true rfl⟩) dX1_init_164 (fun q109 => ?_)
  show g_Y gCl X _ _ σ (47, 2755) 166 [(0, .ref (ad 0 0))] [.ref q109, .ref (ad 0 0)]
  refine z_putF (v := .ref q109) (k := 0) (u := 0) C (Nat.le_of_ble_eq_true rfl) rfl rfl in_X1 (rfl : gCl[0]? = _) tyX1 tyX1_ok nmX1 24 (by decide) rfl q259 rfl hnm rfl rfl rfl rfl (Nat.le_of_ble_eq_true rfl) dX1_init_166 ?_
  refine y_aload_n C dX1_init_169 0 rfl rfl ?_
  refine y_bipush (v := (10 : Int32)) C dX1_init_170 (by decide) ?_
  refine z_newa (atype := .int) (ty := .int) (a0 := (10, .inl fun _ => 0)) (t0 := 0) C 23 0 rfl rfl q221 (fun _ => rfl) (by decide) rfl (by decide) (by rw [hR]; exact ⟨Nat.le_of_ble_eq_true rfl, Nat.le_of_ble_eq_true rfl⟩) dX1_init_172 (fun q110 => ?_)
  show g_Y gCl X _ _ σ (48, 2765) 174 [(0, .ref (ad 0 0))] [.ref q110, .ref (ad 0 0)]
  refine z_putF (v := .ref q110) (k := 0) (u := 0) C (Nat.le_of_ble_eq_true rfl) rfl rfl in_X1 (rfl : gCl[0]? = _) tyX1 tyX1_ok nmX1 25 (by decide) rfl q260 rfl hnm rfl rfl rfl rfl (Nat.le_of_ble_eq_true rfl) dX1_init_174 ?_
  refine y_aload_n C dX1_init_177 0 rfl rfl ?_
  refine y_bipush (v := (61 : Int32)) C dX1_init_178 (by decide) ?_
  refine y_bipush (v := (10 : Int32)) C dX1_init_180 (by decide) ?_
  refine z_mnew (N := 61) (M := 10) C 21 22 (by decide) rfl q223 (by decide) (by decide) rfl rfl (by decide) (by decide) (by rw [hR]; exact ⟨Nat.le_of_ble_eq_true rfl, Nat.le_of_ble_eq_true rfl⟩) dX1_init_182 (fun q111 => ?_)
  show g_Y gCl X _ _ σ (110, 3436) 186 [(0, .ref (ad 0 0))] [.ref q111, .ref (ad 0 0)]
  refine z_putF (v := .ref q111) (k := 0) (u := 0) C (Nat.le_of_ble_eq_true rfl) rfl rfl in_X1 (rfl : gCl[0]? = _) tyX1 tyX1_ok nmX1 28 (by decide) rfl q263 rfl hnm rfl rfl rfl rfl (Nat.le_of_ble_eq_true rfl) dX1_init_186 ?_
  refine y_aload_n C dX1_init_189 0 rfl rfl ?_
  refine y_iconst (v := (3 : Int32)) C dX1_init_190 (by decide) ?_
  refine z_newq (t0 := 8) C 24 0 rfl q225 (va_AO.moved C.2.2.2.2.2.2.2.2.2.2.1.alike (va_AO.of (C.2.2.2.2.2.2.2.2.2.1.1 _ q226))) (by decide) rfl (by decide) (by rw [hR]; exact ⟨Nat.le_of_ble_eq_true rfl, Nat.le_of_ble_eq_true rfl⟩) dX1_init_191 (fun q112 => ?_)
  show g_Y gCl X _ _ σ (111, 3439) 194 [(0, .ref (ad 0 0))] [.ref q112, .ref (ad 0 0)]
  refine z_putF (v := .ref q112) (k := 0) (u := 0) C (Nat.le_of_ble_eq_true rfl) rfl rfl in_X1 (rfl : gCl[0]? = _) tyX1 tyX1_ok nmX1 30 (by decide) rfl q265 rfl hnm rfl rfl rfl rfl (Nat.le_of_ble_eq_true rfl) dX1_init_194 ?_
  refine y_iconst (v := (0 : Int32)) C dX1_init_197 (by decide) ?_
  refine y_istore_n (vs1 := [(1, .int (0 : Int32)), (0, .ref (ad 0 0))]) C rfl dX1_init_198 rfl (g_lL hL rfl) rfl ?_
  refine y_fid (f2 := gS2 0 (g_dA X) _) (fun k u hu => ?_) (kk _ rfl)
  match k, hu with
  | 0, hu => have hz : u = 0 := (by have z : u < 1 := hu; omega); subst hz; rfl
  | 1, hu => have hz : u = 0 := (by have z : u < 1 := hu; omega); subst hz; rfl
  | 2, hu => have hz : u = 0 := (by have z : u < 1 := hu; omega); subst hz; rfl
  | 3, hu => have hz : u = 0 := (by have z : u < 1 := hu; omega); subst hz; rfl
  | 4, hu => rfl
  | 5, hu => rfl
  | 6, hu => rfl
  | 7, hu => rfl
  | 8, hu => rfl
  | 9, hu => rfl
  | 10, hu => have hz : u = 0 := (by have z : u < 1 := hu; omega); subst hz; exact congrArg (fun g => some (Sum.inl (g_dA X 6, 15, Sum.inr (Sum.inr (Sum.inr (Sum.inr g)))))) (funext fun i => if_neg (Nat.not_lt_zero _))
  | 11, hu => exact (match u, hu with | 0, _ => rfl | 1, _ => rfl | n + 2, h => absurd h (by show ¬ n + 2 < 2; omega))
  | 12, hu => have hz : u = 0 := (by have z : u < 1 := hu; omega); subst hz; rfl
  | 13, hu => have hz : u = 0 := (by have z : u < 1 := hu; omega); subst hz; rfl
  | 14, hu => have hz : u = 0 := (by have z : u < 1 := hu; omega); subst hz; rfl
  | 15, hu => have hz : u = 0 := (by have z : u < 1 := hu; omega); subst hz; rfl
  | 16, hu => have hz : u = 0 := (by have z : u < 1 := hu; omega); subst hz; rfl
  | 17, hu => rfl
  | 18, hu => have hz : u = 0 := (by have z : u < 1 := hu; omega); subst hz; rfl
  | 19, hu => rfl
  | 20, hu => have hz : u = 0 := (by have z : u < 1 := hu; omega); subst hz; rfl
  | 21, hu => have hz : u = 0 := (by have z : u < 1 := hu; omega); subst hz; rfl
  | 22, hu => rfl
  | 23, hu => have hz : u = 0 := (by have z : u < 1 := hu; omega); subst hz; rfl
  | 24, hu => have hz : u = 0 := (by have z : u < 1 := hu; omega); subst hz; rfl
  | 25, hu => rfl
  | 26, hu => rfl
  | 27, hu => rfl
  | 28, hu => exact absurd hu (Nat.not_lt_zero _)
  | 29, hu => exact absurd hu (Nat.not_lt_zero _)
  | 30, hu => exact absurd hu (Nat.not_lt_zero _)
  | 31, hu => exact absurd hu (Nat.not_lt_zero _)
  | 32, hu => exact absurd hu (Nat.not_lt_zero _)
  | 33, hu => exact absurd hu (Nat.not_lt_zero _)
  | 34, hu => rfl
  | 35, hu => rfl
  | 36, hu => rfl
  | 37, hu => rfl
  | 38, hu => rfl
  | 39, hu => rfl
  | 40, hu => have hz : u = 0 := (by have z : u < 1 := hu; omega); subst hz; rfl
  | 41, hu => have hz : u = 0 := (by have z : u < 1 := hu; omega); subst hz; rfl
  | 42, hu => rfl
  | 43, hu => have hz : u = 0 := (by have z : u < 1 := hu; omega); subst hz; rfl
  | 44, hu => have hz : u = 0 := (by have z : u < 1 := hu; omega); subst hz; rfl
  | 45, hu => have hz : u = 0 := (by have z : u < 1 := hu; omega); subst hz; rfl
  | 46, hu => have hz : u = 0 := (by have z : u < 1 := hu; omega); subst hz; rfl
  | 47, hu => have hz : u = 0 := (by have z : u < 1 := hu; omega); subst hz; rfl
  | 48, hu => have hz : u = 0 := (by have z : u < 1 := hu; omega); subst hz; rfl
  | 49, hu => exact absurd hu (Nat.not_lt_zero _)
  | 50, hu => exact absurd hu (Nat.not_lt_zero _)
  | 51, hu => have hz : u = 0 := (by have z : u < 1 := hu; omega); subst hz; rfl
  | 52, hu => have hz : u = 0 := (by have z : u < 1 := hu; omega); subst hz; rfl
  | 53, hu => have hz : u = 0 := (by have z : u < 1 := hu; omega); subst hz; rfl
  | n + 54, hu => exact absurd hu (Nat.not_lt_zero _)
theorem g_upl4 {dA : Nat → ClassId} {ad : Nat → Nat → Nat} {k u x q0 q1 q2 q3 q4 q5 : Nat} : gS2 (k + 1) dA (g_ua (g_ua (g_ua (g_ua (g_ua (g_ua ad 4 (3 + k) q0) 5 (3 + k) q1) 6 (3 + k) q2) 7 (3 + k) q3) 8 (3 + k) q4) 9 (3 + k) q5) 4 u = (g_fs (g_fs (g_fs (g_fs (g_fs (g_fs (g_fs (g_fs (gS2 k dA ad) 4 (3 + k) (.inr (4, [.null, .null, .null, .null, .null, .int 0]))) 5 (3 + k) (.inl (dA 0, 8, .inl fun _ => 0))) 6 (3 + k) (.inl (dA 0, 8, .inl fun _ => 0))) 7 (3 + k) (.inl (dA 0, 8, .inl fun _ => 0))) 8 (3 + k) (.inl (dA 0, 8, .inl fun _ => 0))) 9 (3 + k) (.inl (dA 0, 8, .inl fun _ => 0))) 4 (3 + k) (.inr (4, [.ref q1, .ref q2, .ref q3, .ref q4, .ref q5, .int 0]))) 10 0 (.inl (dA 6, 15, .inr (.inr (.inr (.inr (va_up (fun i => if i < k then some (ad 4 (3 + i)) else none) x (some q0)))))))) 4 u := by
  by_cases h : u = 3 + k
  · subst h
    refine (if_pos (by omega)).trans ?_
    refine Eq.symm ((g_fs_n (by omega)).trans ?_)
    rw [g_fs_s]
    rw [show (g_ua (g_ua (g_ua (g_ua (g_ua (g_ua ad 4 (3 + k) q0) 5 (3 + k) q1) 6 (3 + k) q2) 7 (3 + k) q3) 8 (3 + k) q4) 9 (3 + k) q5) 5 (3 + k) = q1 from by repeat first | rw [g_ua_s] | rw [g_ua_n (by omega)], show (g_ua (g_ua (g_ua (g_ua (g_ua (g_ua ad 4 (3 + k) q0) 5 (3 + k) q1) 6 (3 + k) q2) 7 (3 + k) q3) 8 (3 + k) q4) 9 (3 + k) q5) 6 (3 + k) = q2 from by repeat first | rw [g_ua_s] | rw [g_ua_n (by omega)], show (g_ua (g_ua (g_ua (g_ua (g_ua (g_ua ad 4 (3 + k) q0) 5 (3 + k) q1) 6 (3 + k) q2) 7 (3 + k) q3) 8 (3 + k) q4) 9 (3 + k) q5) 7 (3 + k) = q3 from by repeat first | rw [g_ua_s] | rw [g_ua_n (by omega)], show (g_ua (g_ua (g_ua (g_ua (g_ua (g_ua ad 4 (3 + k) q0) 5 (3 + k) q1) 6 (3 + k) q2) 7 (3 + k) q3) 8 (3 + k) q4) 9 (3 + k) q5) 8 (3 + k) = q4 from by repeat first | rw [g_ua_s] | rw [g_ua_n (by omega)], show (g_ua (g_ua (g_ua (g_ua (g_ua (g_ua ad 4 (3 + k) q0) 5 (3 + k) q1) 6 (3 + k) q2) 7 (3 + k) q3) 8 (3 + k) q4) 9 (3 + k) q5) 9 (3 + k) = q5 from by repeat first | rw [g_ua_s] | rw [g_ua_n (by omega)]]
  · have e : (g_fs (g_fs (g_fs (g_fs (g_fs (g_fs (g_fs (g_fs (gS2 k dA ad) 4 (3 + k) (.inr (4, [.null, .null, .null, .null, .null, .int 0]))) 5 (3 + k) (.inl (dA 0, 8, .inl fun _ => 0))) 6 (3 + k) (.inl (dA 0, 8, .inl fun _ => 0))) 7 (3 + k) (.inl (dA 0, 8, .inl fun _ => 0))) 8 (3 + k) (.inl (dA 0, 8, .inl fun _ => 0))) 9 (3 + k) (.inl (dA 0, 8, .inl fun _ => 0))) 4 (3 + k) (.inr (4, [.ref q1, .ref q2, .ref q3, .ref q4, .ref q5, .int 0]))) 10 0 (.inl (dA 6, 15, .inr (.inr (.inr (.inr (va_up (fun i => if i < k then some (ad 4 (3 + i)) else none) x (some q0)))))))) 4 u = gS2 k dA ad 4 u := by
      repeat rw [g_fs_n (by omega)]
    rw [e]
    have c : ∀ z, z ≠ 0 → (g_ua (g_ua (g_ua (g_ua (g_ua (g_ua ad 4 (3 + k) q0) 5 (3 + k) q1) 6 (3 + k) q2) 7 (3 + k) q3) 8 (3 + k) q4) 9 (3 + k) q5) z u = ad z u := fun z _ => by repeat rw [g_ua_n (by omega)]
    show (if u < 3 + (k + 1) then _ else _) = (if u < 3 + k then _ else _)
    by_cases h2 : u < 3 + k
    · rw [if_pos (by omega), if_pos h2, c 5 (by decide), c 6 (by decide), c 7 (by decide), c 8 (by decide), c 9 (by decide)]
    · rw [if_neg (by omega), if_neg h2]
theorem g_upl5 {dA : Nat → ClassId} {ad : Nat → Nat → Nat} {k u x q0 q1 q2 q3 q4 q5 : Nat} : gS2 (k + 1) dA (g_ua (g_ua (g_ua (g_ua (g_ua (g_ua ad 4 (3 + k) q0) 5 (3 + k) q1) 6 (3 + k) q2) 7 (3 + k) q3) 8 (3 + k) q4) 9 (3 + k) q5) 5 u = (g_fs (g_fs (g_fs (g_fs (g_fs (g_fs (g_fs (g_fs (gS2 k dA ad) 4 (3 + k) (.inr (4, [.null, .null, .null, .null, .null, .int 0]))) 5 (3 + k) (.inl (dA 0, 8, .inl fun _ => 0))) 6 (3 + k) (.inl (dA 0, 8, .inl fun _ => 0))) 7 (3 + k) (.inl (dA 0, 8, .inl fun _ => 0))) 8 (3 + k) (.inl (dA 0, 8, .inl fun _ => 0))) 9 (3 + k) (.inl (dA 0, 8, .inl fun _ => 0))) 4 (3 + k) (.inr (4, [.ref q1, .ref q2, .ref q3, .ref q4, .ref q5, .int 0]))) 10 0 (.inl (dA 6, 15, .inr (.inr (.inr (.inr (va_up (fun i => if i < k then some (ad 4 (3 + i)) else none) x (some q0)))))))) 5 u := by
  by_cases h : u = 3 + k
  · subst h
    refine (if_pos (by omega)).trans ?_
    refine Eq.symm ((g_fs_n (by omega)).trans ?_)
    repeat first | rw [g_fs_s] | rw [g_fs_n (by omega)]
  · have e : (g_fs (g_fs (g_fs (g_fs (g_fs (g_fs (g_fs (g_fs (gS2 k dA ad) 4 (3 + k) (.inr (4, [.null, .null, .null, .null, .null, .int 0]))) 5 (3 + k) (.inl (dA 0, 8, .inl fun _ => 0))) 6 (3 + k) (.inl (dA 0, 8, .inl fun _ => 0))) 7 (3 + k) (.inl (dA 0, 8, .inl fun _ => 0))) 8 (3 + k) (.inl (dA 0, 8, .inl fun _ => 0))) 9 (3 + k) (.inl (dA 0, 8, .inl fun _ => 0))) 4 (3 + k) (.inr (4, [.ref q1, .ref q2, .ref q3, .ref q4, .ref q5, .int 0]))) 10 0 (.inl (dA 6, 15, .inr (.inr (.inr (.inr (va_up (fun i => if i < k then some (ad 4 (3 + i)) else none) x (some q0)))))))) 5 u = gS2 k dA ad 5 u := by
      repeat rw [g_fs_n (by omega)]
    rw [e]
    have c : ∀ z, z ≠ 0 → (g_ua (g_ua (g_ua (g_ua (g_ua (g_ua ad 4 (3 + k) q0) 5 (3 + k) q1) 6 (3 + k) q2) 7 (3 + k) q3) 8 (3 + k) q4) 9 (3 + k) q5) z u = ad z u := fun z _ => by repeat rw [g_ua_n (by omega)]
    show (if u < 3 + (k + 1) then _ else _) = (if u < 3 + k then _ else _)
    by_cases h2 : u < 3 + k
    · rw [if_pos (by omega), if_pos h2]
    · rw [if_neg (by omega), if_neg h2]
theorem g_upl6 {dA : Nat → ClassId} {ad : Nat → Nat → Nat} {k u x q0 q1 q2 q3 q4 q5 : Nat} : gS2 (k + 1) dA (g_ua (g_ua (g_ua (g_ua (g_ua (g_ua ad 4 (3 + k) q0) 5 (3 + k) q1) 6 (3 + k) q2) 7 (3 + k) q3) 8 (3 + k) q4) 9 (3 + k) q5) 6 u = (g_fs (g_fs (g_fs (g_fs (g_fs (g_fs (g_fs (g_fs (gS2 k dA ad) 4 (3 + k) (.inr (4, [.null, .null, .null, .null, .null, .int 0]))) 5 (3 + k) (.inl (dA 0, 8, .inl fun _ => 0))) 6 (3 + k) (.inl (dA 0, 8, .inl fun _ => 0))) 7 (3 + k) (.inl (dA 0, 8, .inl fun _ => 0))) 8 (3 + k) (.inl (dA 0, 8, .inl fun _ => 0))) 9 (3 + k) (.inl (dA 0, 8, .inl fun _ => 0))) 4 (3 + k) (.inr (4, [.ref q1, .ref q2, .ref q3, .ref q4, .ref q5, .int 0]))) 10 0 (.inl (dA 6, 15, .inr (.inr (.inr (.inr (va_up (fun i => if i < k then some (ad 4 (3 + i)) else none) x (some q0)))))))) 6 u := by
  by_cases h : u = 3 + k
  · subst h
    refine (if_pos (by omega)).trans ?_
    refine Eq.symm ((g_fs_n (by omega)).trans ?_)
    repeat first | rw [g_fs_s] | rw [g_fs_n (by omega)]
  · have e : (g_fs (g_fs (g_fs (g_fs (g_fs (g_fs (g_fs (g_fs (gS2 k dA ad) 4 (3 + k) (.inr (4, [.null, .null, .null, .null, .null, .int 0]))) 5 (3 + k) (.inl (dA 0, 8, .inl fun _ => 0))) 6 (3 + k) (.inl (dA 0, 8, .inl fun _ => 0))) 7 (3 + k) (.inl (dA 0, 8, .inl fun _ => 0))) 8 (3 + k) (.inl (dA 0, 8, .inl fun _ => 0))) 9 (3 + k) (.inl (dA 0, 8, .inl fun _ => 0))) 4 (3 + k) (.inr (4, [.ref q1, .ref q2, .ref q3, .ref q4, .ref q5, .int 0]))) 10 0 (.inl (dA 6, 15, .inr (.inr (.inr (.inr (va_up (fun i => if i < k then some (ad 4 (3 + i)) else none) x (some q0)))))))) 6 u = gS2 k dA ad 6 u := by
      repeat rw [g_fs_n (by omega)]
    rw [e]
    have c : ∀ z, z ≠ 0 → (g_ua (g_ua (g_ua (g_ua (g_ua (g_ua ad 4 (3 + k) q0) 5 (3 + k) q1) 6 (3 + k) q2) 7 (3 + k) q3) 8 (3 + k) q4) 9 (3 + k) q5) z u = ad z u := fun z _ => by repeat rw [g_ua_n (by omega)]
    show (if u < 3 + (k + 1) then _ else _) = (if u < 3 + k then _ else _)
    by_cases h2 : u < 3 + k
    · rw [if_pos (by omega), if_pos h2]
    · rw [if_neg (by omega), if_neg h2]
theorem g_upl7 {dA : Nat → ClassId} {ad : Nat → Nat → Nat} {k u x q0 q1 q2 q3 q4 q5 : Nat} : gS2 (k + 1) dA (g_ua (g_ua (g_ua (g_ua (g_ua (g_ua ad 4 (3 + k) q0) 5 (3 + k) q1) 6 (3 + k) q2) 7 (3 + k) q3) 8 (3 + k) q4) 9 (3 + k) q5) 7 u = (g_fs (g_fs (g_fs (g_fs (g_fs (g_fs (g_fs (g_fs (gS2 k dA ad) 4 (3 + k) (.inr (4, [.null, .null, .null, .null, .null, .int 0]))) 5 (3 + k) (.inl (dA 0, 8, .inl fun _ => 0))) 6 (3 + k) (.inl (dA 0, 8, .inl fun _ => 0))) 7 (3 + k) (.inl (dA 0, 8, .inl fun _ => 0))) 8 (3 + k) (.inl (dA 0, 8, .inl fun _ => 0))) 9 (3 + k) (.inl (dA 0, 8, .inl fun _ => 0))) 4 (3 + k) (.inr (4, [.ref q1, .ref q2, .ref q3, .ref q4, .ref q5, .int 0]))) 10 0 (.inl (dA 6, 15, .inr (.inr (.inr (.inr (va_up (fun i => if i < k then some (ad 4 (3 + i)) else none) x (some q0)))))))) 7 u := by
  by_cases h : u = 3 + k
  · subst h
    refine (if_pos (by omega)).trans ?_
    refine Eq.symm ((g_fs_n (by omega)).trans ?_)
    repeat first | rw [g_fs_s] | rw [g_fs_n (by omega)]
  · have e : (g_fs (g_fs (g_fs (g_fs (g_fs (g_fs (g_fs (g_fs (gS2 k dA ad) 4 (3 + k) (.inr (4, [.null, .null, .null, .null, .null, .int 0]))) 5 (3 + k) (.inl (dA 0, 8, .inl fun _ => 0))) 6 (3 + k) (.inl (dA 0, 8, .inl fun _ => 0))) 7 (3 + k) (.inl (dA 0, 8, .inl fun _ => 0))) 8 (3 + k) (.inl (dA 0, 8, .inl fun _ => 0))) 9 (3 + k) (.inl (dA 0, 8, .inl fun _ => 0))) 4 (3 + k) (.inr (4, [.ref q1, .ref q2, .ref q3, .ref q4, .ref q5, .int 0]))) 10 0 (.inl (dA 6, 15, .inr (.inr (.inr (.inr (va_up (fun i => if i < k then some (ad 4 (3 + i)) else none) x (some q0)))))))) 7 u = gS2 k dA ad 7 u := by
      repeat rw [g_fs_n (by omega)]
    rw [e]
    have c : ∀ z, z ≠ 0 → (g_ua (g_ua (g_ua (g_ua (g_ua (g_ua ad 4 (3 + k) q0) 5 (3 + k) q1) 6 (3 + k) q2) 7 (3 + k) q3) 8 (3 + k) q4) 9 (3 + k) q5) z u = ad z u := fun z _ => by repeat rw [g_ua_n (by omega)]
    show (if u < 3 + (k + 1) then _ else _) = (if u < 3 + k then _ else _)
    by_cases h2 : u < 3 + k
    · rw [if_pos (by omega), if_pos h2]
    · rw [if_neg (by omega), if_neg h2]
theorem g_upl8 {dA : Nat → ClassId} {ad : Nat → Nat → Nat} {k u x q0 q1 q2 q3 q4 q5 : Nat} : gS2 (k + 1) dA (g_ua (g_ua (g_ua (g_ua (g_ua (g_ua ad 4 (3 + k) q0) 5 (3 + k) q1) 6 (3 + k) q2) 7 (3 + k) q3) 8 (3 + k) q4) 9 (3 + k) q5) 8 u = (g_fs (g_fs (g_fs (g_fs (g_fs (g_fs (g_fs (g_fs (gS2 k dA ad) 4 (3 + k) (.inr (4, [.null, .null, .null, .null, .null, .int 0]))) 5 (3 + k) (.inl (dA 0, 8, .inl fun _ => 0))) 6 (3 + k) (.inl (dA 0, 8, .inl fun _ => 0))) 7 (3 + k) (.inl (dA 0, 8, .inl fun _ => 0))) 8 (3 + k) (.inl (dA 0, 8, .inl fun _ => 0))) 9 (3 + k) (.inl (dA 0, 8, .inl fun _ => 0))) 4 (3 + k) (.inr (4, [.ref q1, .ref q2, .ref q3, .ref q4, .ref q5, .int 0]))) 10 0 (.inl (dA 6, 15, .inr (.inr (.inr (.inr (va_up (fun i => if i < k then some (ad 4 (3 + i)) else none) x (some q0)))))))) 8 u := by
  by_cases h : u = 3 + k
  · subst h
    refine (if_pos (by omega)).trans ?_
    refine Eq.symm ((g_fs_n (by omega)).trans ?_)
    repeat first | rw [g_fs_s] | rw [g_fs_n (by omega)]
  · have e : (g_fs (g_fs (g_fs (g_fs (g_fs (g_fs (g_fs (g_fs (gS2 k dA ad) 4 (3 + k) (.inr (4, [.null, .null, .null, .null, .null, .int 0]))) 5 (3 + k) (.inl (dA 0, 8, .inl fun _ => 0))) 6 (3 + k) (.inl (dA 0, 8, .inl fun _ => 0))) 7 (3 + k) (.inl (dA 0, 8, .inl fun _ => 0))) 8 (3 + k) (.inl (dA 0, 8, .inl fun _ => 0))) 9 (3 + k) (.inl (dA 0, 8, .inl fun _ => 0))) 4 (3 + k) (.inr (4, [.ref q1, .ref q2, .ref q3, .ref q4, .ref q5, .int 0]))) 10 0 (.inl (dA 6, 15, .inr (.inr (.inr (.inr (va_up (fun i => if i < k then some (ad 4 (3 + i)) else none) x (some q0)))))))) 8 u = gS2 k dA ad 8 u := by
      repeat rw [g_fs_n (by omega)]
    rw [e]
    have c : ∀ z, z ≠ 0 → (g_ua (g_ua (g_ua (g_ua (g_ua (g_ua ad 4 (3 + k) q0) 5 (3 + k) q1) 6 (3 + k) q2) 7 (3 + k) q3) 8 (3 + k) q4) 9 (3 + k) q5) z u = ad z u := fun z _ => by repeat rw [g_ua_n (by omega)]
    show (if u < 3 + (k + 1) then _ else _) = (if u < 3 + k then _ else _)
    by_cases h2 : u < 3 + k
    · rw [if_pos (by omega), if_pos h2]
    · rw [if_neg (by omega), if_neg h2]
theorem g_upl9 {dA : Nat → ClassId} {ad : Nat → Nat → Nat} {k u x q0 q1 q2 q3 q4 q5 : Nat} : gS2 (k + 1) dA (g_ua (g_ua (g_ua (g_ua (g_ua (g_ua ad 4 (3 + k) q0) 5 (3 + k) q1) 6 (3 + k) q2) 7 (3 + k) q3) 8 (3 + k) q4) 9 (3 + k) q5) 9 u = (g_fs (g_fs (g_fs (g_fs (g_fs (g_fs (g_fs (g_fs (gS2 k dA ad) 4 (3 + k) (.inr (4, [.null, .null, .null, .null, .null, .int 0]))) 5 (3 + k) (.inl (dA 0, 8, .inl fun _ => 0))) 6 (3 + k) (.inl (dA 0, 8, .inl fun _ => 0))) 7 (3 + k) (.inl (dA 0, 8, .inl fun _ => 0))) 8 (3 + k) (.inl (dA 0, 8, .inl fun _ => 0))) 9 (3 + k) (.inl (dA 0, 8, .inl fun _ => 0))) 4 (3 + k) (.inr (4, [.ref q1, .ref q2, .ref q3, .ref q4, .ref q5, .int 0]))) 10 0 (.inl (dA 6, 15, .inr (.inr (.inr (.inr (va_up (fun i => if i < k then some (ad 4 (3 + i)) else none) x (some q0)))))))) 9 u := by
  by_cases h : u = 3 + k
  · subst h
    refine (if_pos (by omega)).trans ?_
    refine Eq.symm ((g_fs_n (by omega)).trans ?_)
    repeat first | rw [g_fs_s] | rw [g_fs_n (by omega)]
  · have e : (g_fs (g_fs (g_fs (g_fs (g_fs (g_fs (g_fs (g_fs (gS2 k dA ad) 4 (3 + k) (.inr (4, [.null, .null, .null, .null, .null, .int 0]))) 5 (3 + k) (.inl (dA 0, 8, .inl fun _ => 0))) 6 (3 + k) (.inl (dA 0, 8, .inl fun _ => 0))) 7 (3 + k) (.inl (dA 0, 8, .inl fun _ => 0))) 8 (3 + k) (.inl (dA 0, 8, .inl fun _ => 0))) 9 (3 + k) (.inl (dA 0, 8, .inl fun _ => 0))) 4 (3 + k) (.inr (4, [.ref q1, .ref q2, .ref q3, .ref q4, .ref q5, .int 0]))) 10 0 (.inl (dA 6, 15, .inr (.inr (.inr (.inr (va_up (fun i => if i < k then some (ad 4 (3 + i)) else none) x (some q0)))))))) 9 u = gS2 k dA ad 9 u := by
      repeat rw [g_fs_n (by omega)]
    rw [e]
    have c : ∀ z, z ≠ 0 → (g_ua (g_ua (g_ua (g_ua (g_ua (g_ua ad 4 (3 + k) q0) 5 (3 + k) q1) 6 (3 + k) q2) 7 (3 + k) q3) 8 (3 + k) q4) 9 (3 + k) q5) z u = ad z u := fun z _ => by repeat rw [g_ua_n (by omega)]
    show (if u < 3 + (k + 1) then _ else _) = (if u < 3 + k then _ else _)
    by_cases h2 : u < 3 + k
    · rw [if_pos (by omega), if_pos h2]
    · rw [if_neg (by omega), if_neg h2]
theorem g_upa {dA : Nat → ClassId} {ad : Nat → Nat → Nat} {k u x q0 q1 q2 q3 q4 q5 : Nat} (hx : x = k) : gS2 (k + 1) dA (g_ua (g_ua (g_ua (g_ua (g_ua (g_ua ad 4 (3 + k) q0) 5 (3 + k) q1) 6 (3 + k) q2) 7 (3 + k) q3) 8 (3 + k) q4) 9 (3 + k) q5) 10 0 = (g_fs (g_fs (g_fs (g_fs (g_fs (g_fs (g_fs (g_fs (gS2 k dA ad) 4 (3 + k) (.inr (4, [.null, .null, .null, .null, .null, .int 0]))) 5 (3 + k) (.inl (dA 0, 8, .inl fun _ => 0))) 6 (3 + k) (.inl (dA 0, 8, .inl fun _ => 0))) 7 (3 + k) (.inl (dA 0, 8, .inl fun _ => 0))) 8 (3 + k) (.inl (dA 0, 8, .inl fun _ => 0))) 9 (3 + k) (.inl (dA 0, 8, .inl fun _ => 0))) 4 (3 + k) (.inr (4, [.ref q1, .ref q2, .ref q3, .ref q4, .ref q5, .int 0]))) 10 0 (.inl (dA 6, 15, .inr (.inr (.inr (.inr (va_up (fun i => if i < k then some (ad 4 (3 + i)) else none) x (some q0)))))))) 10 0 := by
  subst hx
  rw [g_fs_s]
  refine congrArg (fun g => some (Sum.inl (dA 6, 15, Sum.inr (Sum.inr (Sum.inr (Sum.inr g)))))) (funext fun i => ?_)
  unfold va_up
  by_cases h : i = x
  · subst h
    rw [if_pos rfl, if_pos (by omega)]
    repeat first | rw [g_ua_s] | rw [g_ua_n (by omega)]
  · rw [if_neg h]
    show (if i < x + 1 then _ else _) = (if i < x then _ else _)
    by_cases h2 : i < x
    · rw [if_pos h2, if_pos (by omega)]
      repeat rw [g_ua_n (by omega)]
    · rw [if_neg h2, if_neg (by omega)]
theorem g_up0 {dA : Nat → ClassId} {ad : Nat → Nat → Nat} {k u x q0 q1 q2 q3 q4 q5 : Nat} : gS2 (k + 1) dA (g_ua (g_ua (g_ua (g_ua (g_ua (g_ua ad 4 (3 + k) q0) 5 (3 + k) q1) 6 (3 + k) q2) 7 (3 + k) q3) 8 (3 + k) q4) 9 (3 + k) q5) 0 0 = (g_fs (g_fs (g_fs (g_fs (g_fs (g_fs (g_fs (g_fs (gS2 k dA ad) 4 (3 + k) (.inr (4, [.null, .null, .null, .null, .null, .int 0]))) 5 (3 + k) (.inl (dA 0, 8, .inl fun _ => 0))) 6 (3 + k) (.inl (dA 0, 8, .inl fun _ => 0))) 7 (3 + k) (.inl (dA 0, 8, .inl fun _ => 0))) 8 (3 + k) (.inl (dA 0, 8, .inl fun _ => 0))) 9 (3 + k) (.inl (dA 0, 8, .inl fun _ => 0))) 4 (3 + k) (.inr (4, [.ref q1, .ref q2, .ref q3, .ref q4, .ref q5, .int 0]))) 10 0 (.inl (dA 6, 15, .inr (.inr (.inr (.inr (va_up (fun i => if i < k then some (ad 4 (3 + i)) else none) x (some q0)))))))) 0 0 := by
  have e : ∀ z, z < 3 → (g_ua (g_ua (g_ua (g_ua (g_ua (g_ua ad 4 (3 + k) q0) 5 (3 + k) q1) 6 (3 + k) q2) 7 (3 + k) q3) 8 (3 + k) q4) 9 (3 + k) q5) 4 z = ad 4 z := fun z hz => by repeat rw [g_ua_n (by omega)]
  have h : gS2 (k + 1) dA (g_ua (g_ua (g_ua (g_ua (g_ua (g_ua ad 4 (3 + k) q0) 5 (3 + k) q1) 6 (3 + k) q2) 7 (3 + k) q3) 8 (3 + k) q4) 9 (3 + k) q5) 0 0 = gS2 k dA ad 0 0 := by
    simp only [gS2, e 0 (by decide), e 1 (by decide), e 2 (by decide)]
    first | done | rfl
  rw [h]
  repeat rw [g_fs_n (by omega)]
theorem mw_K1c {X : g_F} (C : g_M gCl X cX1_init RX1 none) (hR : g_R X = g_rm 3 201 4129) (hL : g_nL X = 2) (hnm : (g_me X).name = "<init>") {ad : Nat → Nat → Nat} {σ : g_S} {k : Nat} (hk : k < 15) (kk : ∀ ad1 : Nat → Nat → Nat, ad1 0 0 = ad 0 0 → g_Y gCl X (g_fL gCN (gS2 (k + 1) (g_dA X) ad1)) ad1 σ (111 + 6 * (k + 1), 3439 + 46 * (k + 1)) 199 [(1, .int (Int32.ofNat (k + 1))), (0, .ref (ad1 0 0))] []) : g_Y gCl X (g_fL gCN (gS2 k (g_dA X) ad)) ad σ (111 + 6 * k, 3439 + 46 * k) 199 [(1, .int (Int32.ofNat k)), (0, .ref (ad 0 0))] [] := by
  refine y_iload_n C dX1_init_199 0 rfl rfl ?_
  refine y_bipush (v := (15 : Int32)) C dX1_init_200 (by decide) ?_
  have hk0 : (Int32.ofNat k).toInt = k := (by rw [Int32.toInt_ofNat_of_lt (by omega)])
  refine y_icmp_ge (tgt := 224) C dX1_init_202 rfl (fun hc => absurd (Int32.le_iff_toInt_le.mp hc) (by rw [hk0]; show ¬ (15 : Int) ≤ _; omega)) (fun hc => ?_)
  refine y_aload_n C dX1_init_205 1 rfl rfl ?_
  refine z_get (v := .ref (ad 10 0)) (k := 0) (u := 0) C (Nat.le_of_ble_eq_true rfl) rfl rfl in_X1 (rfl : gCl[0]? = _) 13 (by decide) rfl q248 rfl dX1_init_206 ?_
  refine y_iload_n C dX1_init_209 0 rfl rfl ?_
  refine z_new (fs := [.null, .null, .null, .null, .null, .int 0]) C 4 (3 + k) in_X5 tyX5 tyX5_ok q182 q183 q114 (rfl : gCl[4]? = _) (fun j hj => by rcases (show j = 0 ∨ j = 1 ∨ j = 2 ∨ j = 3 ∨ j = 4 ∨ j = 5 by omega) with rfl | rfl | rfl | rfl | rfl | rfl <;> rfl) (by rw [hR]; exact ⟨by show 111 + 6 * k + 1 ≤ 201; omega, by show 3439 + 46 * k + 6 ≤ 4129; omega⟩) dX1_init_210 (fun q0 => ?_)
  refine y_dup C dX1_init_213 rfl ?_
  refine z_callUp C (u := 3 + k) (by show 3 + k < 18; omega) g_fs_s g_ua_s (lkK_X1_83_l1 C hR (by decide)) rfl (Nat.le_of_ble_eq_true rfl) (by rw [hR]; exact ⟨by show 111 + 6 * k + 1 + 5 ≤ 201; omega, by show 3439 + 46 * k + 6 + 40 ≤ 4129; omega⟩) dX1_init_214 (fun q1 q2 q3 q4 q5 => ?_)
  have hin : g_in (Int32.ofNat k) 15 = true := by
    unfold g_in
    rw [hk0]
    exact decide_eq_true ⟨by omega, by omega⟩
  have hcl : (Int32.ofNat k).toNatClampNeg = k := by
    show (Int32.ofNat k).toInt.toNat = k
    rw [hk0]; rfl
  refine z_astq (t0 := 6) (r := (RX5, TX5, 6)) (n := 15) C (Nat.le_of_ble_eq_true rfl) (k := 10) (u := 0) rfl rfl (k2 := 4) (u2 := 3 + k) (by show 3 + k < 18; omega) g_fs_s ?_ rfl rfl hin dX1_init_217 ?_
  · rw [g_ua_n (by omega), g_ua_n (by omega), g_ua_n (by omega), g_ua_n (by omega), g_ua_n (by omega), g_ua_s]
  refine y_iinc (c := (1 : Int32)) (vs1 := [(1, .int (Int32.ofNat (k + 1))), (0, .ref (ad 0 0))]) C (v := Int32.ofNat (k + 1)) (by rw [Int32.ofNat_add]; rfl) (by decide) dX1_init_218 0 rfl (g_lL hL rfl) rfl ?_
  refine y_goto (tgt := 199) C dX1_init_221 rfl ?_
  have kk' := kk (g_ua (g_ua (g_ua (g_ua (g_ua (g_ua ad 4 (3 + k) q0) 5 (3 + k) q1) 6 (3 + k) q2) 7 (3 + k) q3) 8 (3 + k) q4) 9 (3 + k) q5) rfl
  refine y_fid (f2 := gS2 (k + 1) (g_dA X) _) (fun k' u hu => ?_) kk'
  have hne : ∀ x, x < 3 + k → ¬ (x = 3 + k) := fun x hx => by omega
  match k', hu with
  | 0, hu => have hz : u = 0 := (by have z : u < 1 := hu; omega); subst hz; exact g_up0 (u := 0)
  | 1, hu => have hz : u = 0 := (by have z : u < 1 := hu; omega); subst hz; rfl
  | 2, hu => have hz : u = 0 := (by have z : u < 1 := hu; omega); subst hz; rfl
  | 3, hu => have hz : u = 0 := (by have z : u < 1 := hu; omega); subst hz; rfl
  | 4, hu => exact g_upl4
  | 5, hu => exact g_upl5
  | 6, hu => exact g_upl6
  | 7, hu => exact g_upl7
  | 8, hu => exact g_upl8
  | 9, hu => exact g_upl9
  | 10, hu => have hz : u = 0 := (by have z : u < 1 := hu; omega); subst hz; exact g_upa (u := 0) hcl
  | 11, hu => rfl
  | 12, hu => have hz : u = 0 := (by have z : u < 1 := hu; omega); subst hz; rfl
  | 13, hu => have hz : u = 0 := (by have z : u < 1 := hu; omega); subst hz; rfl
  | 14, hu => have hz : u = 0 := (by have z : u < 1 := hu; omega); subst hz; rfl
  | 15, hu => have hz : u = 0 := (by have z : u < 1 := hu; omega); subst hz; rfl
  | 16, hu => have hz : u = 0 := (by have z : u < 1 := hu; omega); subst hz; rfl
  | 17, hu => rfl
  | 18, hu => have hz : u = 0 := (by have z : u < 1 := hu; omega); subst hz; rfl
  | 19, hu => rfl
  | 20, hu => have hz : u = 0 := (by have z : u < 1 := hu; omega); subst hz; rfl
  | 21, hu => have hz : u = 0 := (by have z : u < 1 := hu; omega); subst hz; rfl
  | 22, hu => rfl
  | 23, hu => have hz : u = 0 := (by have z : u < 1 := hu; omega); subst hz; rfl
  | 24, hu => have hz : u = 0 := (by have z : u < 1 := hu; omega); subst hz; rfl
  | 25, hu => rfl
  | 26, hu => rfl
  | 27, hu => rfl
  | 28, hu => exact absurd hu (Nat.not_lt_zero _)
  | 29, hu => exact absurd hu (Nat.not_lt_zero _)
  | 30, hu => exact absurd hu (Nat.not_lt_zero _)
  | 31, hu => exact absurd hu (Nat.not_lt_zero _)
  | 32, hu => exact absurd hu (Nat.not_lt_zero _)
  | 33, hu => exact absurd hu (Nat.not_lt_zero _)
  | 34, hu => rfl
  | 35, hu => rfl
  | 36, hu => rfl
  | 37, hu => rfl
  | 38, hu => rfl
  | 39, hu => rfl
  | 40, hu => have hz : u = 0 := (by have z : u < 1 := hu; omega); subst hz; rfl
  | 41, hu => have hz : u = 0 := (by have z : u < 1 := hu; omega); subst hz; rfl
  | 42, hu => rfl
  | 43, hu => have hz : u = 0 := (by have z : u < 1 := hu; omega); subst hz; rfl
  | 44, hu => have hz : u = 0 := (by have z : u < 1 := hu; omega); subst hz; rfl
  | 45, hu => have hz : u = 0 := (by have z : u < 1 := hu; omega); subst hz; rfl
  | 46, hu => have hz : u = 0 := (by have z : u < 1 := hu; omega); subst hz; rfl
  | 47, hu => have hz : u = 0 := (by have z : u < 1 := hu; omega); subst hz; rfl
  | 48, hu => have hz : u = 0 := (by have z : u < 1 := hu; omega); subst hz; rfl
  | 49, hu => exact absurd hu (Nat.not_lt_zero _)
  | 50, hu => exact absurd hu (Nat.not_lt_zero _)
  | 51, hu => have hz : u = 0 := (by have z : u < 1 := hu; omega); subst hz; rfl
  | 52, hu => have hz : u = 0 := (by have z : u < 1 := hu; omega); subst hz; rfl
  | 53, hu => have hz : u = 0 := (by have z : u < 1 := hu; omega); subst hz; rfl
  | n + 54, hu => exact absurd hu (Nat.not_lt_zero _)
theorem mw_K1d {X : g_F} (C : g_M gCl X cX1_init RX1 none) (hL : g_nL X = 2) (hmc : g_mc X = 201 ∧ g_ms X = 4129) {ad : Nat → Nat → Nat} {σ : g_S} {a : Nat} (ha : ad 0 0 = a) (hQ : g_MQG gCl X (gC true) (fun v ad2 s2 => v = none ∧ s2 = g_iC ∧ ad2 0 0 = a) (fun _ _ _ _ => False) = g_Q X) : g_Y gCl X (g_fL gCN (gS2 15 (g_dA X) ad)) ad σ (111 + 6 * 15, 3439 + 46 * 15) 199 [(1, .int (Int32.ofNat 15)), (0, .ref (ad 0 0))] [] := by
  refine y_iload_n C dX1_init_199 0 rfl rfl ?_
  refine y_bipush (v := (15 : Int32)) C dX1_init_200 (by decide) ?_
  refine y_icmp_ge (tgt := 224) C dX1_init_202 rfl (fun hc => ?_) (fun hc => absurd (by decide) hc)
  refine y_relayI (LM2 := gC true) (σ2 := g_iC) (fun H hW => g_relay (fun k u => (k, u)) hW (fun k u hu hp => ?_) (fun _ _ _ _ _ _ _ _ h => ⟨congrArg Prod.fst h, congrArg Prod.snd h⟩)) (y_vretG C hQ ⟨rfl, rfl, ha⟩ (by rw [hmc.1, hmc.2]; exact ⟨Nat.le_of_ble_eq_true rfl, Nat.le_of_ble_eq_true rfl⟩) dX1_init_224)
  by_cases h10 : k = 10
  · subst h10
    have hz : u = 0 := (by have z : u < 1 := hu; omega)
    subst hz
    refine ⟨hu, trivial, rfl, fun a h => Eq.trans h (congrArg some (g_arq (fun j hj => if_pos hj)))⟩
  by_cases h24 : k = 24
  · subst h24
    have hz : u = 0 := (by have z : u < 1 := hu; omega)
    subst hz
    refine ⟨hu, trivial, rfl, fun a h => Eq.trans h (congrArg some (g_arq (fun j hj => (if_pos hj).symm)))⟩
  have hne : (k = 10 → False) ∧ (k = 24 → False) := ⟨h10, h24⟩
  suffices key : g_cell (g_fL gCN (gS2 15 (g_dA X) ad)) (g_dA X) ad σ k u = g_cell (gC true) (g_dA X) ad g_iC k u by exact ⟨hu, by rw [key]; exact hp, rfl, fun a h => by rw [key] at h; exact h⟩
  match k, hu, hp with
  | 0, hu, _ => have hz : u = 0 := (by have z : u < 1 := hu; omega); subst hz; rfl
  | 1, hu, _ => have hz : u = 0 := (by have z : u < 1 := hu; omega); subst hz; rfl
  | 2, hu, _ => have hz : u = 0 := (by have z : u < 1 := hu; omega); subst hz; rfl
  | 3, hu, _ => have hz : u = 0 := (by have z : u < 1 := hu; omega); subst hz; rfl
  | 4, hu, _ => exact g_fc (if_pos (by have z : u < 18 := hu; omega))
  | 5, hu, _ => exact g_fc (if_pos (by have z : u < 18 := hu; omega))
  | 6, hu, _ => exact g_fc (if_pos (by have z : u < 18 := hu; omega))
  | 7, hu, _ => exact g_fc (if_pos (by have z : u < 18 := hu; omega))
  | 8, hu, _ => exact g_fc (if_pos (by have z : u < 18 := hu; omega))
  | 9, hu, _ => exact g_fc (if_pos (by have z : u < 18 := hu; omega))
  | 10, _, _ => exact (hne.1 rfl).elim
  | 11, hu, hp => exact (match u, hu, hp with | 0, _, _ => rfl | 1, _, hp => False.elim hp | n + 2, h, _ => absurd h (by show ¬ n + 2 < 2; omega))
  | 12, hu, _ => have hz : u = 0 := (by have z : u < 1 := hu; omega); subst hz; rfl
  | 13, hu, _ => have hz : u = 0 := (by have z : u < 1 := hu; omega); subst hz; rfl
  | 14, hu, _ => have hz : u = 0 := (by have z : u < 1 := hu; omega); subst hz; rfl
  | 15, hu, _ => have hz : u = 0 := (by have z : u < 1 := hu; omega); subst hz; rfl
  | 16, hu, _ => have hz : u = 0 := (by have z : u < 1 := hu; omega); subst hz; rfl
  | 17, _, _ => rfl
  | 18, hu, _ => have hz : u = 0 := (by have z : u < 1 := hu; omega); subst hz; rfl
  | 19, _, _ => rfl
  | 20, hu, _ => have hz : u = 0 := (by have z : u < 1 := hu; omega); subst hz; rfl
  | 21, hu, _ => have hz : u = 0 := (by have z : u < 1 := hu; omega); subst hz; rfl
  | 22, _, _ => rfl
  | 23, hu, _ => have hz : u = 0 := (by have z : u < 1 := hu; omega); subst hz; rfl
  | 24, _, _ => exact (hne.2 rfl).elim
  | 25, _, hp => exact False.elim hp
  | 26, _, hp => exact False.elim hp
  | 27, _, hp => exact False.elim hp
  | 28, hu, _ => exact absurd hu (Nat.not_lt_zero _)
  | 29, hu, _ => exact absurd hu (Nat.not_lt_zero _)
  | 30, hu, _ => exact absurd hu (Nat.not_lt_zero _)
  | 31, hu, _ => exact absurd hu (Nat.not_lt_zero _)
  | 32, hu, _ => exact absurd hu (Nat.not_lt_zero _)
  | 33, hu, _ => exact absurd hu (Nat.not_lt_zero _)
  | 34, _, hp => exact False.elim hp
  | 35, _, hp => exact False.elim hp
  | 36, _, hp => exact False.elim hp
  | 37, _, hp => exact False.elim hp
  | 38, _, hp => exact False.elim hp
  | 39, _, hp => exact False.elim hp
  | 40, _, hp => exact False.elim hp
  | 41, _, hp => exact False.elim hp
  | 42, _, hp => exact False.elim hp
  | 43, _, hp => exact False.elim hp
  | 44, _, hp => exact False.elim hp
  | 45, _, hp => exact False.elim hp
  | 46, _, hp => exact False.elim hp
  | 47, _, hp => exact False.elim hp
  | 48, _, hp => exact False.elim hp
  | 49, hu, _ => exact absurd hu (Nat.not_lt_zero _)
  | 50, hu, _ => exact absurd hu (Nat.not_lt_zero _)
  | 51, _, hp => exact False.elim hp
  | 52, _, hp => exact False.elim hp
  | 53, _, hp => exact False.elim hp
  | n + 54, hu, _ => exact absurd hu (Nat.not_lt_zero _)
theorem mw_K1l {X : g_F} (C : g_M gCl X cX1_init RX1 none) (hR : g_R X = g_rm 3 201 4129) (hL : g_nL X = 2) (hnm : (g_me X).name = "<init>") (hmc : g_mc X = 201 ∧ g_ms X = 4129) {σ : g_S} {a : Nat} (hQ : g_MQG gCl X (gC true) (fun v ad2 s2 => v = none ∧ s2 = g_iC ∧ ad2 0 0 = a) (fun _ _ _ _ => False) = g_Q X) : ∀ (n : Nat) {ad : Nat → Nat → Nat} (_ : ad 0 0 = a) (k : Nat) (_ : k + n = 15), g_Y gCl X (g_fL gCN (gS2 k (g_dA X) ad)) ad σ (111 + 6 * k, 3439 + 46 * k) 199 [(1, .int (Int32.ofNat k)), (0, .ref (ad 0 0))] [] := by
  intro n
  induction n with
  | zero =>
    intro ad ha k hk
    have hz : k = 15 := by omega
    subst hz
    exact mw_K1d C hL hmc ha hQ
  | succ n ih =>
    intro ad ha k hk
    exact mw_K1c C hR hL hnm (by omega) (fun ad1 h1 => ih (h1.trans ha) (k + 1) (by omega))
theorem mw_K1 {X : g_F} (C : g_M gCl X cX1_init RX1 none) (hR : g_R X = g_rm 3 201 4129) (hL : g_nL X = 2) (hnm : (g_me X).name = "<init>") (hmc : g_mc X = 201 ∧ g_ms X = 4129) {ad : Nat → Nat → Nat} {σ : g_S} (hQ : g_MQG gCl X (gC true) (fun v ad2 s2 => v = none ∧ s2 = g_iC ∧ ad2 0 0 = ad 0 0) (fun _ _ _ _ => False) = g_Q X) : g_Y gCl X (g_fL [1] (g_fs (fun _ _ => none) 0 0 (.inr (0, [.null, .null, .null, .int 0, .int 0, .int 0, .int 0, .int 0, .int 0, .long 0, .null, .null, .null, .null, .null, .null, .int 0, .null, .int 0, .null, .null, .null, .null, .null, .null, .null, .int 0, .int 0, .null, .int 0, .null])))) ad σ (0, 0) 0 [(0, .ref (ad 0 0))] [] := by
  refine y_relayI (LM2 := g_fL gCN (g_fs (fun _ _ => none) 0 0 (.inr (0, [.null, .null, .null, .int 0, .int 0, .int 0, .int 0, .int 0, .int 0, .long 0, .null, .null, .null, .null, .null, .null, .int 0, .null, .int 0, .null, .null, .null, .null, .null, .null, .null, .int 0, .int 0, .null, .int 0, .null])))) (σ2 := σ) (fun H hW => g_relay (fun k u => (k, u)) hW (fun k u hu hp => ?_) (fun _ _ _ _ _ _ _ _ h => ⟨congrArg Prod.fst h, congrArg Prod.snd h⟩)) ?_
  · obtain ⟨e, he⟩ := g_fp hp
    by_cases hk : k = 0 ∧ u = 0
    · obtain ⟨rfl, rfl⟩ := hk
      exact ⟨Nat.zero_lt_one, hp, rfl, fun a h => h⟩
    · rw [g_fs_n hk] at he; cases he
  exact mw_K1a C hR hL hnm (fun ad1 h1 => mw_K1b C hR hL hnm (fun ad2 h2 => mw_K1l C hR hL hnm hmc hQ 15 (h2.trans h1) 0 rfl))
theorem ct_K1 {D : va_G} {dA : Nat → ClassId} {A : Nat → Prop} {s0 : State} {b0 : Nat} {l : Launch} {ad : Nat → Nat → Nat} {σ : g_S} : g_MetG gCl D dA A s0 b0 l yX1_init (ws_ yX1_init cX1_init 2 none) 3 (201, 4129) (g_fL [1] (g_fs (fun _ _ => none) 0 0 (.inr (0, [.null, .null, .null, .int 0, .int 0, .int 0, .int 0, .int 0, .int 0, .long 0, .null, .null, .null, .null, .null, .null, .int 0, .null, .int 0, .null, .null, .null, .null, .null, .null, .null, .int 0, .int 0, .null, .int 0, .null])))) ad σ [.ref (ad 0 0)] (gC true) (fun v ad2 s2 => v = none ∧ s2 = g_iC ∧ ad2 0 0 = ad 0 0) (fun _ _ _ _ => False) :=
  g_MetG.of pl_X1 (Nat.le_of_ble_eq_true rfl) (fun X C hQ hR hmc hms hL hnm es eb el hT => mw_K1 C hR hL hnm ⟨hmc, hms⟩ hQ)
/-- the model as it is born -/
def g_iM : g_S := (fun k _ => match k with
  | 0 => fun j => if j = 3 ∨ j = 4 then 3 else if j = 8 then 1 else 0
  | 4 => upd (fun _ => 0) (0 : Int32).toNatClampNeg (9 : Int32)
  | _ => fun _ => 0, fun _ _ _ => 0, fun _ _ _ => 0)
def gCNM : List Nat := [1, 2, 1, 1, 1, 1, 1, 1, 3, 1, 1, 1, 1, 1, 1, 1, 1, 1, 1, 1, 1, 1, 1, 1, 1, 1, 1, 1]
theorem y_fidM {X : g_F} {f f2 : Nat → Nat → Option va_E} {ad : Nat → Nat → Nat} {σ : g_S} {w : Nat × Nat} {pc : Nat} {vs : List (Nat × Value)} {st : List Value} (h : ∀ k u, u < gCNM.getD k 0 → f2 k u = f k u) (kk : g_Y gCl X (g_fL gCNM f2) ad σ w pc vs st) : g_Y gCl X (g_fL gCNM f) ad σ w pc vs st :=
  y_relayI (LM2 := g_fL gCNM f2) (σ2 := σ) (fun H hW => g_fid (fun k u hu => by
    show (match f2 k u with | some e => Sum.inl e | none => Sum.inr (Sum.inr ())) = (match f k u with | some e => Sum.inl e | none => Sum.inr (Sum.inr ()))
    rw [h k u hu]) hW) kk
def gSM1 (dA : Nat → ClassId) (ad : Nat → Nat → Nat) (k u : Nat) : Option va_E := match k with
  | 0 => some (.inr (5, [.int 0, .int 0, .ref (ad 2 0), .int 3, .int 3, .int 0, .int 0, .int 0, .int 1, .ref (ad 3 0), .ref (ad 4 0), .ref (ad 1 0), .ref (ad 1 1), .ref (ad 5 0), .int 0, .int 0, .int 0, .int 0, .null, .null, .int 0, .null, .null, .int 0, .int 0, .null, .null, .int 0, .null, .null, .null, .null, .null, .null, .int 0, .null, .null, .null, .null, .int 0, .null, .null, .null, .null, .null, .int 0, .null, .null, .null]))
  | 1 => some (.inl (dA 0, 41, .inl fun _ => 0))
  | 2 => some (.inl (dA 1, 53, .inr (.inl fun _ => 0)))
  | 3 => some (.inl (dA 2, 49, .inl fun _ => 0))
  | 4 => some (.inl (dA 0, 20, .inl fun _ => 0))
  | 5 => some (.inl (dA 0, 80, .inl fun _ => 0))
  | _ => none
theorem mw_KM0 {X : g_F} (C : g_M gCl X cX6_init RX6 none) (hR : g_R X = g_rm 2 30 4783) (hL : g_nL X = 1) (hnm : (g_me X).name = "<init>") {ad : Nat → Nat → Nat} {σ : g_S} (kk : ∀ ad1 : Nat → Nat → Nat, ad1 0 0 = ad 0 0 → g_Y gCl X (g_fL gCNM (gSM1 (g_dA X) ad1)) ad1 σ (6, 284) 67 [(0, .ref (ad1 0 0))] []) : g_Y gCl X (g_fL gCNM (g_fs (fun _ _ => none) 0 0 (.inr (5, [.int 0, .int 0, .null, .int 0, .int 0, .int 0, .int 0, .int 0, .int 0, .null, .null, .null, .null, .null, .int 0, .int 0, .int 0, .int 0, .null, .null, .int 0, .null, .null, .int 0, .int 0, .null, .null, .int 0, .null, .null, .null, .null, .null, .null, .int 0, .null, .null, .null, .null, .int 0, .null, .null, .null, .null, .null, .int 0, .null, .null, .null])))) ad σ (0, 0) 0 [(0, .ref (ad 0 0))] [] := by
  refine y_aload_n C dX6_init_0 0 rfl rfl ?_
  refine y_objInit C q1287 q142 q143 dX6_init_1 (g_rmM hR (Nat.le_of_ble_eq_true rfl)).1 (Nat.le_trans (by decide) (g_rmM hR (Nat.le_of_ble_eq_true rfl)).2) (by decide) ?_
  refine y_aload_n C dX6_init_4 0 rfl rfl ?_
  refine y_bipush (v := (53 : Int32)) C dX6_init_5 (by decide) ?_
  refine z_newa (atype := .long) (ty := .long) (a0 := (53, .inr (.inl fun _ => 0))) (t0 := 1) C 2 0 rfl rfl q330 (fun _ => rfl) (by decide) rfl (by decide) (by rw [hR]; exact ⟨Nat.le_of_ble_eq_true rfl, Nat.le_of_ble_eq_true rfl⟩) dX6_init_7 (fun q1 => ?_)
  show g_Y gCl X _ _ σ (1, 53) 9 [(0, .ref (ad 0 0))] [.ref q1, .ref (ad 0 0)]
  refine z_putF (v := .ref q1) (k := 0) (u := 0) C (Nat.le_of_ble_eq_true rfl) rfl rfl in_X6 (rfl : gCl[5]? = _) tyX6 tyX6_ok nmX6 2 (by decide) rfl q1290 rfl hnm rfl rfl rfl rfl (Nat.le_of_ble_eq_true rfl) dX6_init_9 ?_
  refine y_aload_n C dX6_init_12 0 rfl rfl ?_
  refine y_iconst (v := (3 : Int32)) C dX6_init_13 (by decide) ?_
  refine z_put (v := .int (3 : Int32)) (k := 0) (u := 0) C (Nat.le_of_ble_eq_true rfl) rfl rfl in_X6 (rfl : gCl[5]? = _) tyX6 tyX6_ok nmX6 3 (by decide) rfl q1291 rfl rfl rfl rfl (Nat.le_of_ble_eq_true rfl) dX6_init_14 ?_
  refine y_aload_n C dX6_init_17 0 rfl rfl ?_
  refine y_iconst (v := (3 : Int32)) C dX6_init_18 (by decide) ?_
  refine z_put (v := .int (3 : Int32)) (k := 0) (u := 0) C (Nat.le_of_ble_eq_true rfl) rfl rfl in_X6 (rfl : gCl[5]? = _) tyX6 tyX6_ok nmX6 4 (by decide) rfl q1292 rfl rfl rfl rfl (Nat.le_of_ble_eq_true rfl) dX6_init_19 ?_
  refine y_aload_n C dX6_init_22 0 rfl rfl ?_
  refine y_iconst (v := (1 : Int32)) C dX6_init_23 (by decide) ?_
  refine z_put (v := .int (1 : Int32)) (k := 0) (u := 0) C (Nat.le_of_ble_eq_true rfl) rfl rfl in_X6 (rfl : gCl[5]? = _) tyX6 tyX6_ok nmX6 8 (by decide) rfl q1296 rfl rfl rfl rfl (Nat.le_of_ble_eq_true rfl) dX6_init_24 ?_
  refine y_aload_n C dX6_init_27 0 rfl rfl ?_
  refine y_bipush (v := (49 : Int32)) C dX6_init_28 (by decide) ?_
  refine z_newa (atype := .boolean) (ty := .boolean) (a0 := (49, .inl fun _ => 0)) (t0 := 2) C 3 0 rfl rfl q1436 (fun _ => rfl) (by decide) rfl (by decide) (by rw [hR]; exact ⟨Nat.le_of_ble_eq_true rfl, Nat.le_of_ble_eq_true rfl⟩) dX6_init_30 (fun q2 => ?_)
  show g_Y gCl X _ _ σ (2, 102) 32 [(0, .ref (ad 0 0))] [.ref q2, .ref (ad 0 0)]
  refine z_putF (v := .ref q2) (k := 0) (u := 0) C (Nat.le_of_ble_eq_true rfl) rfl rfl in_X6 (rfl : gCl[5]? = _) tyX6 tyX6_ok nmX6 9 (by decide) rfl q1297 rfl hnm rfl rfl rfl rfl (Nat.le_of_ble_eq_true rfl) dX6_init_32 ?_
  refine y_aload_n C dX6_init_35 0 rfl rfl ?_
  refine y_bipush (v := (20 : Int32)) C dX6_init_36 (by decide) ?_
  refine z_newa (atype := .int) (ty := .int) (a0 := (20, .inl fun _ => 0)) (t0 := 0) C 4 0 rfl rfl q221 (fun _ => rfl) (by decide) rfl (by decide) (by rw [hR]; exact ⟨Nat.le_of_ble_eq_true rfl, Nat.le_of_ble_eq_true rfl⟩) dX6_init_38 (fun q3 => ?_)
  show g_Y gCl X _ _ σ (3, 122) 40 [(0, .ref (ad 0 0))] [.ref q3, .ref (ad 0 0)]
  refine z_putF (v := .ref q3) (k := 0) (u := 0) C (Nat.le_of_ble_eq_true rfl) rfl rfl in_X6 (rfl : gCl[5]? = _) tyX6 tyX6_ok nmX6 10 (by decide) rfl q1298 rfl hnm rfl rfl rfl rfl (Nat.le_of_ble_eq_true rfl) dX6_init_40 ?_
  refine y_aload_n C dX6_init_43 0 rfl rfl ?_
  refine y_bipush (v := (41 : Int32)) C dX6_init_44 (by decide) ?_
  refine z_newa (atype := .int) (ty := .int) (a0 := (41, .inl fun _ => 0)) (t0 := 0) C 1 0 rfl rfl q221 (fun _ => rfl) (by decide) rfl (by decide) (by rw [hR]; exact ⟨Nat.le_of_ble_eq_true rfl, Nat.le_of_ble_eq_true rfl⟩) dX6_init_46 (fun q4 => ?_)
  show g_Y gCl X _ _ σ (4, 163) 48 [(0, .ref (ad 0 0))] [.ref q4, .ref (ad 0 0)]
  refine z_putF (v := .ref q4) (k := 0) (u := 0) C (Nat.le_of_ble_eq_true rfl) rfl rfl in_X6 (rfl : gCl[5]? = _) tyX6 tyX6_ok nmX6 11 (by decide) rfl q1299 rfl hnm rfl rfl rfl rfl (Nat.le_of_ble_eq_true rfl) dX6_init_48 ?_
  refine y_aload_n C dX6_init_51 0 rfl rfl ?_
  refine y_bipush (v := (41 : Int32)) C dX6_init_52 (by decide) ?_
  refine z_newa (atype := .int) (ty := .int) (a0 := (41, .inl fun _ => 0)) (t0 := 0) C 1 1 rfl rfl q221 (fun _ => rfl) (by decide) rfl (by decide) (by rw [hR]; exact ⟨Nat.le_of_ble_eq_true rfl, Nat.le_of_ble_eq_true rfl⟩) dX6_init_54 (fun q5 => ?_)
  show g_Y gCl X _ _ σ (5, 204) 56 [(0, .ref (ad 0 0))] [.ref q5, .ref (ad 0 0)]
  refine z_putF (v := .ref q5) (k := 0) (u := 0) C (Nat.le_of_ble_eq_true rfl) rfl rfl in_X6 (rfl : gCl[5]? = _) tyX6 tyX6_ok nmX6 12 (by decide) rfl q1300 rfl hnm rfl rfl rfl rfl (Nat.le_of_ble_eq_true rfl) dX6_init_56 ?_
  refine y_aload_n C dX6_init_59 0 rfl rfl ?_
  refine y_bipush (v := (80 : Int32)) C dX6_init_60 (by decide) ?_
  refine z_newa (atype := .int) (ty := .int) (a0 := (80, .inl fun _ => 0)) (t0 := 0) C 5 0 rfl rfl q221 (fun _ => rfl) (by decide) rfl (by decide) (by rw [hR]; exact ⟨Nat.le_of_ble_eq_true rfl, Nat.le_of_ble_eq_true rfl⟩) dX6_init_62 (fun q6 => ?_)
  show g_Y gCl X _ _ σ (6, 284) 64 [(0, .ref (ad 0 0))] [.ref q6, .ref (ad 0 0)]
  refine z_putF (v := .ref q6) (k := 0) (u := 0) C (Nat.le_of_ble_eq_true rfl) rfl rfl in_X6 (rfl : gCl[5]? = _) tyX6 tyX6_ok nmX6 13 (by decide) rfl q1301 rfl hnm rfl rfl rfl rfl (Nat.le_of_ble_eq_true rfl) dX6_init_64 ?_
  refine y_fidM (f2 := gSM1 (g_dA X) _) (fun k u hu => ?_) (kk _ rfl)
  match k, hu with
  | 0, hu => have hz : u = 0 := (by have z : u < 1 := hu; omega); subst hz; rfl
  | 1, hu => exact (match u, hu with | 0, _ => rfl | 1, _ => rfl | n + 2, h => absurd h (by show ¬ n + 2 < 2; omega))
  | 2, hu => have hz : u = 0 := (by have z : u < 1 := hu; omega); subst hz; rfl
  | 3, hu => have hz : u = 0 := (by have z : u < 1 := hu; omega); subst hz; rfl
  | 4, hu => have hz : u = 0 := (by have z : u < 1 := hu; omega); subst hz; rfl
  | 5, hu => have hz : u = 0 := (by have z : u < 1 := hu; omega); subst hz; rfl
  | 6, hu => have hz : u = 0 := (by have z : u < 1 := hu; omega); subst hz; rfl
  | 7, hu => have hz : u = 0 := (by have z : u < 1 := hu; omega); subst hz; rfl
  | 8, hu => exact (match u, hu with | 0, _ => rfl | 1, _ => rfl | 2, _ => rfl | n + 3, h => absurd h (by show ¬ n + 3 < 3; omega))
  | 9, hu => have hz : u = 0 := (by have z : u < 1 := hu; omega); subst hz; rfl
  | 10, hu => have hz : u = 0 := (by have z : u < 1 := hu; omega); subst hz; rfl
  | 11, hu => have hz : u = 0 := (by have z : u < 1 := hu; omega); subst hz; rfl
  | 12, hu => have hz : u = 0 := (by have z : u < 1 := hu; omega); subst hz; rfl
  | 13, hu => have hz : u = 0 := (by have z : u < 1 := hu; omega); subst hz; rfl
  | 14, hu => have hz : u = 0 := (by have z : u < 1 := hu; omega); subst hz; rfl
  | 15, hu => have hz : u = 0 := (by have z : u < 1 := hu; omega); subst hz; rfl
  | 16, hu => have hz : u = 0 := (by have z : u < 1 := hu; omega); subst hz; rfl
  | 17, hu => have hz : u = 0 := (by have z : u < 1 := hu; omega); subst hz; rfl
  | 18, hu => have hz : u = 0 := (by have z : u < 1 := hu; omega); subst hz; rfl
  | 19, hu => have hz : u = 0 := (by have z : u < 1 := hu; omega); subst hz; rfl
  | 20, hu => have hz : u = 0 := (by have z : u < 1 := hu; omega); subst hz; rfl
  | 21, hu => have hz : u = 0 := (by have z : u < 1 := hu; omega); subst hz; rfl
  | 22, hu => have hz : u = 0 := (by have z : u < 1 := hu; omega); subst hz; rfl
  | 23, hu => have hz : u = 0 := (by have z : u < 1 := hu; omega); subst hz; rfl
  | 24, hu => have hz : u = 0 := (by have z : u < 1 := hu; omega); subst hz; rfl
  | 25, hu => have hz : u = 0 := (by have z : u < 1 := hu; omega); subst hz; rfl
  | 26, hu => have hz : u = 0 := (by have z : u < 1 := hu; omega); subst hz; rfl
  | 27, hu => have hz : u = 0 := (by have z : u < 1 := hu; omega); subst hz; rfl
  | n + 28, hu => exact absurd hu (Nat.not_lt_zero _)
def gSM2 (dA : Nat → ClassId) (ad : Nat → Nat → Nat) (k u : Nat) : Option va_E := match k with
  | 0 => some (.inr (5, [.int 0, .int 0, .ref (ad 2 0), .int 3, .int 3, .int 0, .int 0, .int 0, .int 1, .ref (ad 3 0), .ref (ad 4 0), .ref (ad 1 0), .ref (ad 1 1), .ref (ad 5 0), .int 0, .int 0, .int 0, .int 0, .ref (ad 6 0), .ref (ad 7 0), .int 0, .ref (ad 8 0), .ref (ad 8 1), .int 0, .int 0, .ref (ad 9 0), .ref (ad 10 0), .int 0, .ref (ad 11 0), .ref (ad 12 0), .null, .null, .null, .null, .int 0, .null, .null, .null, .null, .int 0, .null, .null, .null, .null, .null, .int 0, .null, .null, .null]))
  | 1 => some (.inl (dA 0, 41, .inl fun _ => 0))
  | 2 => some (.inl (dA 1, 53, .inr (.inl fun _ => 0)))
  | 3 => some (.inl (dA 2, 49, .inl fun _ => 0))
  | 4 => some (.inl (dA 0, 20, .inl fun _ => 0))
  | 5 => some (.inl (dA 0, 80, .inl fun _ => 0))
  | 6 => some (.inl (dA 2, 49, .inl fun _ => 0))
  | 7 => some (.inl (dA 0, 24, .inl fun _ => 0))
  | 8 => match u with | 0 => some (.inl (dA 0, 80, .inl fun _ => 0)) | 1 => some (.inl (dA 0, 80, .inl fun _ => 0)) | _ => none
  | 9 => some (.inl (dA 0, 80, .inl fun _ => 0))
  | 10 => some (.inl (dA 0, 8, .inl fun _ => 0))
  | 11 => some (.inl (dA 0, 656, .inl fun _ => 0))
  | 12 => some (.inl (dA 0, 8, .inl fun _ => 0))
  | _ => none
theorem mw_KM1 {X : g_F} (C : g_M gCl X cX6_init RX6 none) (hR : g_R X = g_rm 2 30 4783) (hL : g_nL X = 1) (hnm : (g_me X).name = "<init>") {ad : Nat → Nat → Nat} {σ : g_S} (kk : ∀ ad1 : Nat → Nat → Nat, ad1 0 0 = ad 0 0 → g_Y gCl X (g_fL gCNM (gSM2 (g_dA X) ad1)) ad1 σ (14, 1269) 132 [(0, .ref (ad1 0 0))] []) : g_Y gCl X (g_fL gCNM (gSM1 (g_dA X) ad)) ad σ (6, 284) 67 [(0, .ref (ad 0 0))] [] := by
  refine y_aload_n C dX6_init_67 0 rfl rfl ?_
  refine y_bipush (v := (49 : Int32)) C dX6_init_68 (by decide) ?_
  refine z_newa (atype := .boolean) (ty := .boolean) (a0 := (49, .inl fun _ => 0)) (t0 := 2) C 6 0 rfl rfl q1436 (fun _ => rfl) (by decide) rfl (by decide) (by rw [hR]; exact ⟨Nat.le_of_ble_eq_true rfl, Nat.le_of_ble_eq_true rfl⟩) dX6_init_70 (fun q68 => ?_)
  show g_Y gCl X _ _ σ (7, 333) 72 [(0, .ref (ad 0 0))] [.ref q68, .ref (ad 0 0)]
  refine z_putF (v := .ref q68) (k := 0) (u := 0) C (Nat.le_of_ble_eq_true rfl) rfl rfl in_X6 (rfl : gCl[5]? = _) tyX6 tyX6_ok nmX6 18 (by decide) rfl q1306 rfl hnm rfl rfl rfl rfl (Nat.le_of_ble_eq_true rfl) dX6_init_72 ?_
  refine y_aload_n C dX6_init_75 0 rfl rfl ?_
  refine y_bipush (v := (24 : Int32)) C dX6_init_76 (by decide) ?_
  refine z_newa (atype := .int) (ty := .int) (a0 := (24, .inl fun _ => 0)) (t0 := 0) C 7 0 rfl rfl q221 (fun _ => rfl) (by decide) rfl (by decide) (by rw [hR]; exact ⟨Nat.le_of_ble_eq_true rfl, Nat.le_of_ble_eq_true rfl⟩) dX6_init_78 (fun q69 => ?_)
  show g_Y gCl X _ _ σ (8, 357) 80 [(0, .ref (ad 0 0))] [.ref q69, .ref (ad 0 0)]
  refine z_putF (v := .ref q69) (k := 0) (u := 0) C (Nat.le_of_ble_eq_true rfl) rfl rfl in_X6 (rfl : gCl[5]? = _) tyX6 tyX6_ok nmX6 19 (by decide) rfl q1307 rfl hnm rfl rfl rfl rfl (Nat.le_of_ble_eq_true rfl) dX6_init_80 ?_
  refine y_aload_n C dX6_init_83 0 rfl rfl ?_
  refine y_bipush (v := (80 : Int32)) C dX6_init_84 (by decide) ?_
  refine z_newa (atype := .int) (ty := .int) (a0 := (80, .inl fun _ => 0)) (t0 := 0) C 8 0 rfl rfl q221 (fun _ => rfl) (by decide) rfl (by decide) (by rw [hR]; exact ⟨Nat.le_of_ble_eq_true rfl, Nat.le_of_ble_eq_true rfl⟩) dX6_init_86 (fun q70 => ?_)
  show g_Y gCl X _ _ σ (9, 437) 88 [(0, .ref (ad 0 0))] [.ref q70, .ref (ad 0 0)]
  refine z_putF (v := .ref q70) (k := 0) (u := 0) C (Nat.le_of_ble_eq_true rfl) rfl rfl in_X6 (rfl : gCl[5]? = _) tyX6 tyX6_ok nmX6 21 (by decide) rfl q1309 rfl hnm rfl rfl rfl rfl (Nat.le_of_ble_eq_true rfl) dX6_init_88 ?_
  refine y_aload_n C dX6_init_91 0 rfl rfl ?_
  refine y_bipush (v := (80 : Int32)) C dX6_init_92 (by decide) ?_
  refine z_newa (atype := .int) (ty := .int) (a0 := (80, .inl fun _ => 0)) (t0 := 0) C 8 1 rfl rfl q221 (fun _ => rfl) (by decide) rfl (by decide) (by rw [hR]; exact ⟨Nat.le_of_ble_eq_true rfl, Nat.le_of_ble_eq_true rfl⟩) dX6_init_94 (fun q71 => ?_)
  show g_Y gCl X _ _ σ (10, 517) 96 [(0, .ref (ad 0 0))] [.ref q71, .ref (ad 0 0)]
  refine z_putF (v := .ref q71) (k := 0) (u := 0) C (Nat.le_of_ble_eq_true rfl) rfl rfl in_X6 (rfl : gCl[5]? = _) tyX6 tyX6_ok nmX6 22 (by decide) rfl q1310 rfl hnm rfl rfl rfl rfl (Nat.le_of_ble_eq_true rfl) dX6_init_96 ?_
  refine y_aload_n C dX6_init_99 0 rfl rfl ?_
  refine y_bipush (v := (80 : Int32)) C dX6_init_100 (by decide) ?_
  refine z_newa (atype := .int) (ty := .int) (a0 := (80, .inl fun _ => 0)) (t0 := 0) C 9 0 rfl rfl q221 (fun _ => rfl) (by decide) rfl (by decide) (by rw [hR]; exact ⟨Nat.le_of_ble_eq_true rfl, Nat.le_of_ble_eq_true rfl⟩) dX6_init_102 (fun q72 => ?_)
  show g_Y gCl X _ _ σ (11, 597) 104 [(0, .ref (ad 0 0))] [.ref q72, .ref (ad 0 0)]
  refine z_putF (v := .ref q72) (k := 0) (u := 0) C (Nat.le_of_ble_eq_true rfl) rfl rfl in_X6 (rfl : gCl[5]? = _) tyX6 tyX6_ok nmX6 25 (by decide) rfl q1313 rfl hnm rfl rfl rfl rfl (Nat.le_of_ble_eq_true rfl) dX6_init_104 ?_
  refine y_aload_n C dX6_init_107 0 rfl rfl ?_
  refine y_bipush (v := (8 : Int32)) C dX6_init_108 (by decide) ?_
  refine z_newa (atype := .int) (ty := .int) (a0 := (8, .inl fun _ => 0)) (t0 := 0) C 10 0 rfl rfl q221 (fun _ => rfl) (by decide) rfl (by decide) (by rw [hR]; exact ⟨Nat.le_of_ble_eq_true rfl, Nat.le_of_ble_eq_true rfl⟩) dX6_init_110 (fun q73 => ?_)
  show g_Y gCl X _ _ σ (12, 605) 112 [(0, .ref (ad 0 0))] [.ref q73, .ref (ad 0 0)]
  refine z_putF (v := .ref q73) (k := 0) (u := 0) C (Nat.le_of_ble_eq_true rfl) rfl rfl in_X6 (rfl : gCl[5]? = _) tyX6 tyX6_ok nmX6 26 (by decide) rfl q1314 rfl hnm rfl rfl rfl rfl (Nat.le_of_ble_eq_true rfl) dX6_init_112 ?_
  refine y_aload_n C dX6_init_115 0 rfl rfl ?_
  refine y_sipush (v := (656 : Int32)) C dX6_init_116 (by decide) ?_
  refine z_newa (atype := .int) (ty := .int) (a0 := (656, .inl fun _ => 0)) (t0 := 0) C 11 0 rfl rfl q221 (fun _ => rfl) (by decide) rfl (by decide) (by rw [hR]; exact ⟨Nat.le_of_ble_eq_true rfl, Nat.le_of_ble_eq_true rfl⟩) dX6_init_119 (fun q74 => ?_)
  show g_Y gCl X _ _ σ (13, 1261) 121 [(0, .ref (ad 0 0))] [.ref q74, .ref (ad 0 0)]
  refine z_putF (v := .ref q74) (k := 0) (u := 0) C (Nat.le_of_ble_eq_true rfl) rfl rfl in_X6 (rfl : gCl[5]? = _) tyX6 tyX6_ok nmX6 28 (by decide) rfl q1316 rfl hnm rfl rfl rfl rfl (Nat.le_of_ble_eq_true rfl) dX6_init_121 ?_
  refine y_aload_n C dX6_init_124 0 rfl rfl ?_
  refine y_bipush (v := (8 : Int32)) C dX6_init_125 (by decide) ?_
  refine z_newa (atype := .int) (ty := .int) (a0 := (8, .inl fun _ => 0)) (t0 := 0) C 12 0 rfl rfl q221 (fun _ => rfl) (by decide) rfl (by decide) (by rw [hR]; exact ⟨Nat.le_of_ble_eq_true rfl, Nat.le_of_ble_eq_true rfl⟩) dX6_init_127 (fun q75 => ?_)
  show g_Y gCl X _ _ σ (14, 1269) 129 [(0, .ref (ad 0 0))] [.ref q75, .ref (ad 0 0)]
  refine z_putF (v := .ref q75) (k := 0) (u := 0) C (Nat.le_of_ble_eq_true rfl) rfl rfl in_X6 (rfl : gCl[5]? = _) tyX6 tyX6_ok nmX6 29 (by decide) rfl q1317 rfl hnm rfl rfl rfl rfl (Nat.le_of_ble_eq_true rfl) dX6_init_129 ?_
  refine y_fidM (f2 := gSM2 (g_dA X) _) (fun k u hu => ?_) (kk _ rfl)
  match k, hu with
  | 0, hu => have hz : u = 0 := (by have z : u < 1 := hu; omega); subst hz; rfl
  | 1, hu => exact (match u, hu with | 0, _ => rfl | 1, _ => rfl | n + 2, h => absurd h (by show ¬ n + 2 < 2; omega))
  | 2, hu => have hz : u = 0 := (by have z : u < 1 := hu; omega); subst hz; rfl
  | 3, hu => have hz : u = 0 := (by have z : u < 1 := hu; omega); subst hz; rfl
  | 4, hu => have hz : u = 0 := (by have z : u < 1 := hu; omega); subst hz; rfl
  | 5, hu => have hz : u = 0 := (by have z : u < 1 := hu; omega); subst hz; rfl
  | 6, hu => have hz : u = 0 := (by have z : u < 1 := hu; omega); subst hz; rfl
  | 7, hu => have hz : u = 0 := (by have z : u < 1 := hu; omega); subst hz; rfl
  | 8, hu => exact (match u, hu with | 0, _ => rfl | 1, _ => rfl | 2, _ => rfl | n + 3, h => absurd h (by show ¬ n + 3 < 3; omega))
  | 9, hu => have hz : u = 0 := (by have z : u < 1 := hu; omega); subst hz; rfl
  | 10, hu => have hz : u = 0 := (by have z : u < 1 := hu; omega); subst hz; rfl
  | 11, hu => have hz : u = 0 := (by have z : u < 1 := hu; omega); subst hz; rfl
  | 12, hu => have hz : u = 0 := (by have z : u < 1 := hu; omega); subst hz; rfl
  | 13, hu => have hz : u = 0 := (by have z : u < 1 := hu; omega); subst hz; rfl
  | 14, hu => have hz : u = 0 := (by have z : u < 1 := hu; omega); subst hz; rfl
  | 15, hu => have hz : u = 0 := (by have z : u < 1 := hu; omega); subst hz; rfl
  | 16, hu => have hz : u = 0 := (by have z : u < 1 := hu; omega); subst hz; rfl
  | 17, hu => have hz : u = 0 := (by have z : u < 1 := hu; omega); subst hz; rfl
  | 18, hu => have hz : u = 0 := (by have z : u < 1 := hu; omega); subst hz; rfl
  | 19, hu => have hz : u = 0 := (by have z : u < 1 := hu; omega); subst hz; rfl
  | 20, hu => have hz : u = 0 := (by have z : u < 1 := hu; omega); subst hz; rfl
  | 21, hu => have hz : u = 0 := (by have z : u < 1 := hu; omega); subst hz; rfl
  | 22, hu => have hz : u = 0 := (by have z : u < 1 := hu; omega); subst hz; rfl
  | 23, hu => have hz : u = 0 := (by have z : u < 1 := hu; omega); subst hz; rfl
  | 24, hu => have hz : u = 0 := (by have z : u < 1 := hu; omega); subst hz; rfl
  | 25, hu => have hz : u = 0 := (by have z : u < 1 := hu; omega); subst hz; rfl
  | 26, hu => have hz : u = 0 := (by have z : u < 1 := hu; omega); subst hz; rfl
  | 27, hu => have hz : u = 0 := (by have z : u < 1 := hu; omega); subst hz; rfl
  | n + 28, hu => exact absurd hu (Nat.not_lt_zero _)
def gSM3 (dA : Nat → ClassId) (ad : Nat → Nat → Nat) (k u : Nat) : Option va_E := match k with
  | 0 => some (.inr (5, [.int 0, .int 0, .ref (ad 2 0), .int 3, .int 3, .int 0, .int 0, .int 0, .int 1, .ref (ad 3 0), .ref (ad 4 0), .ref (ad 1 0), .ref (ad 1 1), .ref (ad 5 0), .int 0, .int 0, .int 0, .int 0, .ref (ad 6 0), .ref (ad 7 0), .int 0, .ref (ad 8 0), .ref (ad 8 1), .int 0, .int 0, .ref (ad 9 0), .ref (ad 10 0), .int 0, .ref (ad 11 0), .ref (ad 12 0), .ref (ad 13 0), .ref (ad 14 0), .ref (ad 15 0), .ref (ad 16 0), .int 0, .ref (ad 17 0), .ref (ad 18 0), .ref (ad 19 0), .null, .int 0, .null, .null, .null, .null, .null, .int 0, .null, .null, .null]))
  | 1 => some (.inl (dA 0, 41, .inl fun _ => 0))
  | 2 => some (.inl (dA 1, 53, .inr (.inl fun _ => 0)))
  | 3 => some (.inl (dA 2, 49, .inl fun _ => 0))
  | 4 => some (.inl (dA 0, 20, .inl fun _ => 0))
  | 5 => some (.inl (dA 0, 80, .inl fun _ => 0))
  | 6 => some (.inl (dA 2, 49, .inl fun _ => 0))
  | 7 => some (.inl (dA 0, 24, .inl fun _ => 0))
  | 8 => match u with | 0 => some (.inl (dA 0, 80, .inl fun _ => 0)) | 1 => some (.inl (dA 0, 80, .inl fun _ => 0)) | _ => none
  | 9 => some (.inl (dA 0, 80, .inl fun _ => 0))
  | 10 => some (.inl (dA 0, 8, .inl fun _ => 0))
  | 11 => some (.inl (dA 0, 656, .inl fun _ => 0))
  | 12 => some (.inl (dA 0, 8, .inl fun _ => 0))
  | 13 => some (.inl (dA 0, 60, .inl fun _ => 0))
  | 14 => some (.inl (dA 0, 60, .inl fun _ => 0))
  | 15 => some (.inl (dA 0, 60, .inl fun _ => 0))
  | 16 => some (.inl (dA 0, 60, .inl fun _ => 0))
  | 17 => some (.inl (dA 1, 8, .inr (.inl fun _ => 0)))
  | 18 => some (.inl (dA 0, 64, .inl fun _ => 0))
  | 19 => some (.inl (dA 0, 2304, .inl fun _ => 0))
  | _ => none
theorem mw_KM2 {X : g_F} (C : g_M gCl X cX6_init RX6 none) (hR : g_R X = g_rm 2 30 4783) (hL : g_nL X = 1) (hnm : (g_me X).name = "<init>") {ad : Nat → Nat → Nat} {σ : g_S} (kk : ∀ ad1 : Nat → Nat → Nat, ad1 0 0 = ad 0 0 → g_Y gCl X (g_fL gCNM (gSM3 (g_dA X) ad1)) ad1 σ (21, 3885) 189 [(0, .ref (ad1 0 0))] []) : g_Y gCl X (g_fL gCNM (gSM2 (g_dA X) ad)) ad σ (14, 1269) 132 [(0, .ref (ad 0 0))] [] := by
  refine y_aload_n C dX6_init_132 0 rfl rfl ?_
  refine y_bipush (v := (60 : Int32)) C dX6_init_133 (by decide) ?_
  refine z_newa (atype := .int) (ty := .int) (a0 := (60, .inl fun _ => 0)) (t0 := 0) C 13 0 rfl rfl q221 (fun _ => rfl) (by decide) rfl (by decide) (by rw [hR]; exact ⟨Nat.le_of_ble_eq_true rfl, Nat.le_of_ble_eq_true rfl⟩) dX6_init_135 (fun q133 => ?_)
  show g_Y gCl X _ _ σ (15, 1329) 137 [(0, .ref (ad 0 0))] [.ref q133, .ref (ad 0 0)]
  refine z_putF (v := .ref q133) (k := 0) (u := 0) C (Nat.le_of_ble_eq_true rfl) rfl rfl in_X6 (rfl : gCl[5]? = _) tyX6 tyX6_ok nmX6 30 (by decide) rfl q1318 rfl hnm rfl rfl rfl rfl (Nat.le_of_ble_eq_true rfl) dX6_init_137 ?_
  refine y_aload_n C dX6_init_140 0 rfl rfl ?_
  refine y_bipush (v := (60 : Int32)) C dX6_init_141 (by decide) ?_
  refine z_newa (atype := .int) (ty := .int) (a0 := (60, .inl fun _ => 0)) (t0 := 0) C 14 0 rfl rfl q221 (fun _ => rfl) (by decide) rfl (by decide) (by rw [hR]; exact ⟨Nat.le_of_ble_eq_true rfl, Nat.le_of_ble_eq_true rfl⟩) dX6_init_143 (fun q134 => ?_)
  show g_Y gCl X _ _ σ (16, 1389) 145 [(0, .ref (ad 0 0))] [.ref q134, .ref (ad 0 0)]
  refine z_putF (v := .ref q134) (k := 0) (u := 0) C (Nat.le_of_ble_eq_true rfl) rfl rfl in_X6 (rfl : gCl[5]? = _) tyX6 tyX6_ok nmX6 31 (by decide) rfl q1319 rfl hnm rfl rfl rfl rfl (Nat.le_of_ble_eq_true rfl) dX6_init_145 ?_
  refine y_aload_n C dX6_init_148 0 rfl rfl ?_
  refine y_bipush (v := (60 : Int32)) C dX6_init_149 (by decide) ?_
  refine z_newa (atype := .int) (ty := .int) (a0 := (60, .inl fun _ => 0)) (t0 := 0) C 15 0 rfl rfl q221 (fun _ => rfl) (by decide) rfl (by decide) (by rw [hR]; exact ⟨Nat.le_of_ble_eq_true rfl, Nat.le_of_ble_eq_true rfl⟩) dX6_init_151 (fun q135 => ?_)
  show g_Y gCl X _ _ σ (17, 1449) 153 [(0, .ref (ad 0 0))] [.ref q135, .ref (ad 0 0)]
  refine z_putF (v := .ref q135) (k := 0) (u := 0) C (Nat.le_of_ble_eq_true rfl) rfl rfl in_X6 (rfl : gCl[5]? = _) tyX6 tyX6_ok nmX6 32 (by decide) rfl q1320 rfl hnm rfl rfl rfl rfl (Nat.le_of_ble_eq_true rfl) dX6_init_153 ?_
  refine y_aload_n C dX6_init_156 0 rfl rfl ?_
  refine y_bipush (v := (60 : Int32)) C dX6_init_157 (by decide) ?_
  refine z_newa (atype := .int) (ty := .int) (a0 := (60, .inl fun _ => 0)) (t0 := 0) C 16 0 rfl rfl q221 (fun _ => rfl) (by decide) rfl (by decide) (by rw [hR]; exact ⟨Nat.le_of_ble_eq_true rfl, Nat.le_of_ble_eq_true rfl⟩) dX6_init_159 (fun q136 => ?_)
  show g_Y gCl X _ _ σ (18, 1509) 161 [(0, .ref (ad 0 0))] [.ref q136, .ref (ad 0 0)]
  refine z_putF (v := .ref q136) (k := 0) (u := 0) C (Nat.le_of_ble_eq_true rfl) rfl rfl in_X6 (rfl : gCl[5]? = _) tyX6 tyX6_ok nmX6 33 (by decide) rfl q1321 rfl hnm rfl rfl rfl rfl (Nat.le_of_ble_eq_true rfl) dX6_init_161 ?_
  refine y_aload_n C dX6_init_164 0 rfl rfl ?_
  refine y_bipush (v := (8 : Int32)) C dX6_init_165 (by decide) ?_
  refine z_newa (atype := .long) (ty := .long) (a0 := (8, .inr (.inl fun _ => 0))) (t0 := 1) C 17 0 rfl rfl q330 (fun _ => rfl) (by decide) rfl (by decide) (by rw [hR]; exact ⟨Nat.le_of_ble_eq_true rfl, Nat.le_of_ble_eq_true rfl⟩) dX6_init_167 (fun q137 => ?_)
  show g_Y gCl X _ _ σ (19, 1517) 169 [(0, .ref (ad 0 0))] [.ref q137, .ref (ad 0 0)]
  refine z_putF (v := .ref q137) (k := 0) (u := 0) C (Nat.le_of_ble_eq_true rfl) rfl rfl in_X6 (rfl : gCl[5]? = _) tyX6 tyX6_ok nmX6 35 (by decide) rfl q1323 rfl hnm rfl rfl rfl rfl (Nat.le_of_ble_eq_true rfl) dX6_init_169 ?_
  refine y_aload_n C dX6_init_172 0 rfl rfl ?_
  refine y_bipush (v := (64 : Int32)) C dX6_init_173 (by decide) ?_
  refine z_newa (atype := .int) (ty := .int) (a0 := (64, .inl fun _ => 0)) (t0 := 0) C 18 0 rfl rfl q221 (fun _ => rfl) (by decide) rfl (by decide) (by rw [hR]; exact ⟨Nat.le_of_ble_eq_true rfl, Nat.le_of_ble_eq_true rfl⟩) dX6_init_175 (fun q138 => ?_)
  show g_Y gCl X _ _ σ (20, 1581) 177 [(0, .ref (ad 0 0))] [.ref q138, .ref (ad 0 0)]
  refine z_putF (v := .ref q138) (k := 0) (u := 0) C (Nat.le_of_ble_eq_true rfl) rfl rfl in_X6 (rfl : gCl[5]? = _) tyX6 tyX6_ok nmX6 36 (by decide) rfl q1324 rfl hnm rfl rfl rfl rfl (Nat.le_of_ble_eq_true rfl) dX6_init_177 ?_
  refine y_aload_n C dX6_init_180 0 rfl rfl ?_
  refine y_sipush (v := (2304 : Int32)) C dX6_init_181 (by decide) ?_
  refine z_newa (atype := .int) (ty := .int) (a0 := (2304, .inl fun _ => 0)) (t0 := 0) C 19 0 rfl rfl q221 (fun _ => rfl) (by decide) rfl (by decide) (by rw [hR]; exact ⟨Nat.le_of_ble_eq_true rfl, Nat.le_of_ble_eq_true rfl⟩) dX6_init_184 (fun q139 => ?_)
  show g_Y gCl X _ _ σ (21, 3885) 186 [(0, .ref (ad 0 0))] [.ref q139, .ref (ad 0 0)]
  refine z_putF (v := .ref q139) (k := 0) (u := 0) C (Nat.le_of_ble_eq_true rfl) rfl rfl in_X6 (rfl : gCl[5]? = _) tyX6 tyX6_ok nmX6 37 (by decide) rfl q1325 rfl hnm rfl rfl rfl rfl (Nat.le_of_ble_eq_true rfl) dX6_init_186 ?_
  refine y_fidM (f2 := gSM3 (g_dA X) _) (fun k u hu => ?_) (kk _ rfl)
  match k, hu with
  | 0, hu => have hz : u = 0 := (by have z : u < 1 := hu; omega); subst hz; rfl
  | 1, hu => exact (match u, hu with | 0, _ => rfl | 1, _ => rfl | n + 2, h => absurd h (by show ¬ n + 2 < 2; omega))
  | 2, hu => have hz : u = 0 := (by have z : u < 1 := hu; omega); subst hz; rfl
  | 3, hu => have hz : u = 0 := (by have z : u < 1 := hu; omega); subst hz; rfl
  | 4, hu => have hz : u = 0 := (by have z : u < 1 := hu; omega); subst hz; rfl
  | 5, hu => have hz : u = 0 := (by have z : u < 1 := hu; omega); subst hz; rfl
  | 6, hu => have hz : u = 0 := (by have z : u < 1 := hu; omega); subst hz; rfl
  | 7, hu => have hz : u = 0 := (by have z : u < 1 := hu; omega); subst hz; rfl
  | 8, hu => exact (match u, hu with | 0, _ => rfl | 1, _ => rfl | 2, _ => rfl | n + 3, h => absurd h (by show ¬ n + 3 < 3; omega))
  | 9, hu => have hz : u = 0 := (by have z : u < 1 := hu; omega); subst hz; rfl
  | 10, hu => have hz : u = 0 := (by have z : u < 1 := hu; omega); subst hz; rfl
  | 11, hu => have hz : u = 0 := (by have z : u < 1 := hu; omega); subst hz; rfl
  | 12, hu => have hz : u = 0 := (by have z : u < 1 := hu; omega); subst hz; rfl
  | 13, hu => have hz : u = 0 := (by have z : u < 1 := hu; omega); subst hz; rfl
  | 14, hu => have hz : u = 0 := (by have z : u < 1 := hu; omega); subst hz; rfl
  | 15, hu => have hz : u = 0 := (by have z : u < 1 := hu; omega); subst hz; rfl
  | 16, hu => have hz : u = 0 := (by have z : u < 1 := hu; omega); subst hz; rfl
  | 17, hu => have hz : u = 0 := (by have z : u < 1 := hu; omega); subst hz; rfl
  | 18, hu => have hz : u = 0 := (by have z : u < 1 := hu; omega); subst hz; rfl
  | 19, hu => have hz : u = 0 := (by have z : u < 1 := hu; omega); subst hz; rfl
  | 20, hu => have hz : u = 0 := (by have z : u < 1 := hu; omega); subst hz; rfl
  | 21, hu => have hz : u = 0 := (by have z : u < 1 := hu; omega); subst hz; rfl
  | 22, hu => have hz : u = 0 := (by have z : u < 1 := hu; omega); subst hz; rfl
  | 23, hu => have hz : u = 0 := (by have z : u < 1 := hu; omega); subst hz; rfl
  | 24, hu => have hz : u = 0 := (by have z : u < 1 := hu; omega); subst hz; rfl
  | 25, hu => have hz : u = 0 := (by have z : u < 1 := hu; omega); subst hz; rfl
  | 26, hu => have hz : u = 0 := (by have z : u < 1 := hu; omega); subst hz; rfl
  | 27, hu => have hz : u = 0 := (by have z : u < 1 := hu; omega); subst hz; rfl
  | n + 28, hu => exact absurd hu (Nat.not_lt_zero _)
def gSM4 (dA : Nat → ClassId) (ad : Nat → Nat → Nat) (k u : Nat) : Option va_E := match k with
  | 0 => some (.inr (5, [.int 0, .int 0, .ref (ad 2 0), .int 3, .int 3, .int 0, .int 0, .int 0, .int 1, .ref (ad 3 0), .ref (ad 4 0), .ref (ad 1 0), .ref (ad 1 1), .ref (ad 5 0), .int 0, .int 0, .int 0, .int 0, .ref (ad 6 0), .ref (ad 7 0), .int 0, .ref (ad 8 0), .ref (ad 8 1), .int 0, .int 0, .ref (ad 9 0), .ref (ad 10 0), .int 0, .ref (ad 11 0), .ref (ad 12 0), .ref (ad 13 0), .ref (ad 14 0), .ref (ad 15 0), .ref (ad 16 0), .int 0, .ref (ad 17 0), .ref (ad 18 0), .ref (ad 19 0), .ref (ad 20 0), .int 0, .ref (ad 21 0), .ref (ad 22 0), .ref (ad 23 0), .ref (ad 24 0), .ref (ad 8 2), .int 0, .null, .null, .null]))
  | 1 => some (.inl (dA 0, 41, .inl fun _ => 0))
  | 2 => some (.inl (dA 1, 53, .inr (.inl fun _ => 0)))
  | 3 => some (.inl (dA 2, 49, .inl fun _ => 0))
  | 4 => some (.inl (dA 0, 20, .inl fun _ => 0))
  | 5 => some (.inl (dA 0, 80, .inl fun _ => 0))
  | 6 => some (.inl (dA 2, 49, .inl fun _ => 0))
  | 7 => some (.inl (dA 0, 24, .inl fun _ => 0))
  | 8 => some (.inl (dA 0, 80, .inl fun _ => 0))
  | 9 => some (.inl (dA 0, 80, .inl fun _ => 0))
  | 10 => some (.inl (dA 0, 8, .inl fun _ => 0))
  | 11 => some (.inl (dA 0, 656, .inl fun _ => 0))
  | 12 => some (.inl (dA 0, 8, .inl fun _ => 0))
  | 13 => some (.inl (dA 0, 60, .inl fun _ => 0))
  | 14 => some (.inl (dA 0, 60, .inl fun _ => 0))
  | 15 => some (.inl (dA 0, 60, .inl fun _ => 0))
  | 16 => some (.inl (dA 0, 60, .inl fun _ => 0))
  | 17 => some (.inl (dA 1, 8, .inr (.inl fun _ => 0)))
  | 18 => some (.inl (dA 0, 64, .inl fun _ => 0))
  | 19 => some (.inl (dA 0, 2304, .inl fun _ => 0))
  | 20 => some (.inl (dA 0, 49, .inl fun _ => 0))
  | 21 => some (.inl (dA 0, 10, .inl fun _ => 0))
  | 22 => some (.inl (dA 0, 10, .inl fun _ => 0))
  | 23 => some (.inl (dA 1, 10, .inr (.inl fun _ => 0)))
  | 24 => some (.inl (dA 0, 610, .inl fun _ => 0))
  | _ => none
theorem mw_KM3 {X : g_F} (C : g_M gCl X cX6_init RX6 none) (hR : g_R X = g_rm 2 30 4783) (hL : g_nL X = 1) (hnm : (g_me X).name = "<init>") {ad : Nat → Nat → Nat} {σ : g_S} (kk : ∀ ad1 : Nat → Nat → Nat, ad1 0 0 = ad 0 0 → g_Y gCl X (g_fL gCNM (gSM4 (g_dA X) ad1)) ad1 σ (27, 4654) 238 [(0, .ref (ad1 0 0))] []) : g_Y gCl X (g_fL gCNM (gSM3 (g_dA X) ad)) ad σ (21, 3885) 189 [(0, .ref (ad 0 0))] [] := by
  refine y_aload_n C dX6_init_189 0 rfl rfl ?_
  refine y_bipush (v := (49 : Int32)) C dX6_init_190 (by decide) ?_
  refine z_newa (atype := .int) (ty := .int) (a0 := (49, .inl fun _ => 0)) (t0 := 0) C 20 0 rfl rfl q221 (fun _ => rfl) (by decide) rfl (by decide) (by rw [hR]; exact ⟨Nat.le_of_ble_eq_true rfl, Nat.le_of_ble_eq_true rfl⟩) dX6_init_192 (fun q190 => ?_)
  show g_Y gCl X _ _ σ (22, 3934) 194 [(0, .ref (ad 0 0))] [.ref q190, .ref (ad 0 0)]
  refine z_putF (v := .ref q190) (k := 0) (u := 0) C (Nat.le_of_ble_eq_true rfl) rfl rfl in_X6 (rfl : gCl[5]? = _) tyX6 tyX6_ok nmX6 38 (by decide) rfl q1326 rfl hnm rfl rfl rfl rfl (Nat.le_of_ble_eq_true rfl) dX6_init_194 ?_
  refine y_aload_n C dX6_init_197 0 rfl rfl ?_
  refine y_bipush (v := (10 : Int32)) C dX6_init_198 (by decide) ?_
  refine z_newa (atype := .int) (ty := .int) (a0 := (10, .inl fun _ => 0)) (t0 := 0) C 21 0 rfl rfl q221 (fun _ => rfl) (by decide) rfl (by decide) (by rw [hR]; exact ⟨Nat.le_of_ble_eq_true rfl, Nat.le_of_ble_eq_true rfl⟩) dX6_init_200 (fun q191 => ?_)
  show g_Y gCl X _ _ σ (23, 3944) 202 [(0, .ref (ad 0 0))] [.ref q191, .ref (ad 0 0)]
  refine z_putF (v := .ref q191) (k := 0) (u := 0) C (Nat.le_of_ble_eq_true rfl) rfl rfl in_X6 (rfl : gCl[5]? = _) tyX6 tyX6_ok nmX6 40 (by decide) rfl q1328 rfl hnm rfl rfl rfl rfl (Nat.le_of_ble_eq_true rfl) dX6_init_202 ?_
  refine y_aload_n C dX6_init_205 0 rfl rfl ?_
  refine y_bipush (v := (10 : Int32)) C dX6_init_206 (by decide) ?_
  refine z_newa (atype := .int) (ty := .int) (a0 := (10, .inl fun _ => 0)) (t0 := 0) C 22 0 rfl rfl q221 (fun _ => rfl) (by decide) rfl (by decide) (by rw [hR]; exact ⟨Nat.le_of_ble_eq_true rfl, Nat.le_of_ble_eq_true rfl⟩) dX6_init_208 (fun q192 => ?_)
  show g_Y gCl X _ _ σ (24, 3954) 210 [(0, .ref (ad 0 0))] [.ref q192, .ref (ad 0 0)]
  refine z_putF (v := .ref q192) (k := 0) (u := 0) C (Nat.le_of_ble_eq_true rfl) rfl rfl in_X6 (rfl : gCl[5]? = _) tyX6 tyX6_ok nmX6 41 (by decide) rfl q1329 rfl hnm rfl rfl rfl rfl (Nat.le_of_ble_eq_true rfl) dX6_init_210 ?_
  refine y_aload_n C dX6_init_213 0 rfl rfl ?_
  refine y_bipush (v := (10 : Int32)) C dX6_init_214 (by decide) ?_
  refine z_newa (atype := .long) (ty := .long) (a0 := (10, .inr (.inl fun _ => 0))) (t0 := 1) C 23 0 rfl rfl q330 (fun _ => rfl) (by decide) rfl (by decide) (by rw [hR]; exact ⟨Nat.le_of_ble_eq_true rfl, Nat.le_of_ble_eq_true rfl⟩) dX6_init_216 (fun q193 => ?_)
  show g_Y gCl X _ _ σ (25, 3964) 218 [(0, .ref (ad 0 0))] [.ref q193, .ref (ad 0 0)]
  refine z_putF (v := .ref q193) (k := 0) (u := 0) C (Nat.le_of_ble_eq_true rfl) rfl rfl in_X6 (rfl : gCl[5]? = _) tyX6 tyX6_ok nmX6 42 (by decide) rfl q1330 rfl hnm rfl rfl rfl rfl (Nat.le_of_ble_eq_true rfl) dX6_init_218 ?_
  refine y_aload_n C dX6_init_221 0 rfl rfl ?_
  refine y_sipush (v := (610 : Int32)) C dX6_init_222 (by decide) ?_
  refine z_newa (atype := .int) (ty := .int) (a0 := (610, .inl fun _ => 0)) (t0 := 0) C 24 0 rfl rfl q221 (fun _ => rfl) (by decide) rfl (by decide) (by rw [hR]; exact ⟨Nat.le_of_ble_eq_true rfl, Nat.le_of_ble_eq_true rfl⟩) dX6_init_225 (fun q194 => ?_)
  show g_Y gCl X _ _ σ (26, 4574) 227 [(0, .ref (ad 0 0))] [.ref q194, .ref (ad 0 0)]
  refine z_putF (v := .ref q194) (k := 0) (u := 0) C (Nat.le_of_ble_eq_true rfl) rfl rfl in_X6 (rfl : gCl[5]? = _) tyX6 tyX6_ok nmX6 43 (by decide) rfl q1331 rfl hnm rfl rfl rfl rfl (Nat.le_of_ble_eq_true rfl) dX6_init_227 ?_
  refine y_aload_n C dX6_init_230 0 rfl rfl ?_
  refine y_bipush (v := (80 : Int32)) C dX6_init_231 (by decide) ?_
  refine z_newa (atype := .int) (ty := .int) (a0 := (80, .inl fun _ => 0)) (t0 := 0) C 8 2 rfl rfl q221 (fun _ => rfl) (by decide) rfl (by decide) (by rw [hR]; exact ⟨Nat.le_of_ble_eq_true rfl, Nat.le_of_ble_eq_true rfl⟩) dX6_init_233 (fun q195 => ?_)
  show g_Y gCl X _ _ σ (27, 4654) 235 [(0, .ref (ad 0 0))] [.ref q195, .ref (ad 0 0)]
  refine z_putF (v := .ref q195) (k := 0) (u := 0) C (Nat.le_of_ble_eq_true rfl) rfl rfl in_X6 (rfl : gCl[5]? = _) tyX6 tyX6_ok nmX6 44 (by decide) rfl q1332 rfl hnm rfl rfl rfl rfl (Nat.le_of_ble_eq_true rfl) dX6_init_235 ?_
  refine y_fidM (f2 := gSM4 (g_dA X) _) (fun k u hu => ?_) (kk _ rfl)
  match k, hu with
  | 0, hu => have hz : u = 0 := (by have z : u < 1 := hu; omega); subst hz; rfl
  | 1, hu => exact (match u, hu with | 0, _ => rfl | 1, _ => rfl | n + 2, h => absurd h (by show ¬ n + 2 < 2; omega))
  | 2, hu => have hz : u = 0 := (by have z : u < 1 := hu; omega); subst hz; rfl
  | 3, hu => have hz : u = 0 := (by have z : u < 1 := hu; omega); subst hz; rfl
  | 4, hu => have hz : u = 0 := (by have z : u < 1 := hu; omega); subst hz; rfl
  | 5, hu => have hz : u = 0 := (by have z : u < 1 := hu; omega); subst hz; rfl
  | 6, hu => have hz : u = 0 := (by have z : u < 1 := hu; omega); subst hz; rfl
  | 7, hu => have hz : u = 0 := (by have z : u < 1 := hu; omega); subst hz; rfl
  | 8, hu => exact (match u, hu with | 0, _ => rfl | 1, _ => rfl | 2, _ => rfl | n + 3, h => absurd h (by show ¬ n + 3 < 3; omega))
  | 9, hu => have hz : u = 0 := (by have z : u < 1 := hu; omega); subst hz; rfl
  | 10, hu => have hz : u = 0 := (by have z : u < 1 := hu; omega); subst hz; rfl
  | 11, hu => have hz : u = 0 := (by have z : u < 1 := hu; omega); subst hz; rfl
  | 12, hu => have hz : u = 0 := (by have z : u < 1 := hu; omega); subst hz; rfl
  | 13, hu => have hz : u = 0 := (by have z : u < 1 := hu; omega); subst hz; rfl
  | 14, hu => have hz : u = 0 := (by have z : u < 1 := hu; omega); subst hz; rfl
  | 15, hu => have hz : u = 0 := (by have z : u < 1 := hu; omega); subst hz; rfl
  | 16, hu => have hz : u = 0 := (by have z : u < 1 := hu; omega); subst hz; rfl
  | 17, hu => have hz : u = 0 := (by have z : u < 1 := hu; omega); subst hz; rfl
  | 18, hu => have hz : u = 0 := (by have z : u < 1 := hu; omega); subst hz; rfl
  | 19, hu => have hz : u = 0 := (by have z : u < 1 := hu; omega); subst hz; rfl
  | 20, hu => have hz : u = 0 := (by have z : u < 1 := hu; omega); subst hz; rfl
  | 21, hu => have hz : u = 0 := (by have z : u < 1 := hu; omega); subst hz; rfl
  | 22, hu => have hz : u = 0 := (by have z : u < 1 := hu; omega); subst hz; rfl
  | 23, hu => have hz : u = 0 := (by have z : u < 1 := hu; omega); subst hz; rfl
  | 24, hu => have hz : u = 0 := (by have z : u < 1 := hu; omega); subst hz; rfl
  | 25, hu => have hz : u = 0 := (by have z : u < 1 := hu; omega); subst hz; rfl
  | 26, hu => have hz : u = 0 := (by have z : u < 1 := hu; omega); subst hz; rfl
  | 27, hu => have hz : u = 0 := (by have z : u < 1 := hu; omega); subst hz; rfl
  | n + 28, hu => exact absurd hu (Nat.not_lt_zero _)
theorem mw_KM4 {X : g_F} (C : g_M gCl X cX6_init RX6 none) (hR : g_R X = g_rm 2 30 4783) (hL : g_nL X = 1) (hnm : (g_me X).name = "<init>") {ad : Nat → Nat → Nat} {σ : g_S} (hmc : g_mc X = 30 ∧ g_ms X = 4783) {a : Nat} (ha : ad 0 0 = a) (hQ : g_MQG gCl X (gM false) (fun v ad2 s2 => v = none ∧ s2 = g_iM ∧ ad2 0 0 = a) (fun _ _ _ _ => False) = g_Q X) : g_Y gCl X (g_fL gCNM (gSM4 (g_dA X) ad)) ad σ (27, 4654) 238 [(0, .ref (ad 0 0))] [] := by
  refine y_aload_n C dX6_init_238 0 rfl rfl ?_
  refine y_iconst (v := (3 : Int32)) C dX6_init_239 (by decide) ?_
  refine z_newa (atype := .boolean) (ty := .boolean) (a0 := (3, .inl fun _ => 0)) (t0 := 2) C 25 0 rfl rfl q1436 (fun _ => rfl) (by decide) rfl (by decide) (by rw [hR]; exact ⟨Nat.le_of_ble_eq_true rfl, Nat.le_of_ble_eq_true rfl⟩) dX6_init_240 (fun q239 => ?_)
  show g_Y gCl X _ _ σ (28, 4657) 242 [(0, .ref (ad 0 0))] [.ref q239, .ref (ad 0 0)]
  refine z_putF (v := .ref q239) (k := 0) (u := 0) C (Nat.le_of_ble_eq_true rfl) rfl rfl in_X6 (rfl : gCl[5]? = _) tyX6 tyX6_ok nmX6 46 (by decide) rfl q1334 rfl hnm rfl rfl rfl rfl (Nat.le_of_ble_eq_true rfl) dX6_init_242 ?_
  refine y_aload_n C dX6_init_245 0 rfl rfl ?_
  refine y_iconst (v := (3 : Int32)) C dX6_init_246 (by decide) ?_
  refine z_newa (atype := .int) (ty := .int) (a0 := (3, .inl fun _ => 0)) (t0 := 0) C 26 0 rfl rfl q221 (fun _ => rfl) (by decide) rfl (by decide) (by rw [hR]; exact ⟨Nat.le_of_ble_eq_true rfl, Nat.le_of_ble_eq_true rfl⟩) dX6_init_247 (fun q240 => ?_)
  show g_Y gCl X _ _ σ (29, 4660) 249 [(0, .ref (ad 0 0))] [.ref q240, .ref (ad 0 0)]
  refine z_putF (v := .ref q240) (k := 0) (u := 0) C (Nat.le_of_ble_eq_true rfl) rfl rfl in_X6 (rfl : gCl[5]? = _) tyX6 tyX6_ok nmX6 47 (by decide) rfl q1335 rfl hnm rfl rfl rfl rfl (Nat.le_of_ble_eq_true rfl) dX6_init_249 ?_
  refine y_aload_n C dX6_init_252 0 rfl rfl ?_
  refine y_bipush (v := (123 : Int32)) C dX6_init_253 (by decide) ?_
  refine z_newa (atype := .int) (ty := .int) (a0 := (123, .inl fun _ => 0)) (t0 := 0) C 27 0 rfl rfl q221 (fun _ => rfl) (by decide) rfl (by decide) (by rw [hR]; exact ⟨Nat.le_of_ble_eq_true rfl, Nat.le_of_ble_eq_true rfl⟩) dX6_init_255 (fun q241 => ?_)
  show g_Y gCl X _ _ σ (30, 4783) 257 [(0, .ref (ad 0 0))] [.ref q241, .ref (ad 0 0)]
  refine z_putF (v := .ref q241) (k := 0) (u := 0) C (Nat.le_of_ble_eq_true rfl) rfl rfl in_X6 (rfl : gCl[5]? = _) tyX6 tyX6_ok nmX6 48 (by decide) rfl q1336 rfl hnm rfl rfl rfl rfl (Nat.le_of_ble_eq_true rfl) dX6_init_257 ?_
  refine y_aload_n C dX6_init_260 0 rfl rfl ?_
  refine z_get (v := .ref (ad 4 0)) (k := 0) (u := 0) C (Nat.le_of_ble_eq_true rfl) rfl rfl in_X6 (rfl : gCl[5]? = _) 10 (by decide) rfl q1298 rfl dX6_init_261 ?_
  refine y_iconst (v := (0 : Int32)) C dX6_init_264 (by decide) ?_
  refine y_bipush (v := (9 : Int32)) C dX6_init_265 (by decide) ?_
  refine z_iast (k := 4) (u := 0) (n := 20) C (Nat.le_of_ble_eq_true rfl) rfl rfl (by decide) dX6_init_267 ?_
  show g_Y gCl X _ _ σ (30, 4783) 268 [(0, .ref (ad 0 0))] []
  refine y_relayI (LM2 := gM false) (σ2 := g_iM) (fun H hW => g_fid (fun k u hu => ?_) hW) (y_vretG C hQ ⟨rfl, rfl, ha⟩ (by rw [hmc.1, hmc.2]; exact ⟨Nat.le_of_ble_eq_true rfl, Nat.le_of_ble_eq_true rfl⟩) dX6_init_268)
  match k, hu with
  | 0, hu => have hz : u = 0 := (by have z : u < 1 := hu; omega); subst hz; rfl
  | 1, hu => exact (match u, hu with | 0, _ => rfl | 1, _ => rfl | n + 2, h => absurd h (by show ¬ n + 2 < 2; omega))
  | 2, hu => have hz : u = 0 := (by have z : u < 1 := hu; omega); subst hz; rfl
  | 3, hu => have hz : u = 0 := (by have z : u < 1 := hu; omega); subst hz; rfl
  | 4, hu => have hz : u = 0 := (by have z : u < 1 := hu; omega); subst hz; rfl
  | 5, hu => have hz : u = 0 := (by have z : u < 1 := hu; omega); subst hz; rfl
  | 6, hu => have hz : u = 0 := (by have z : u < 1 := hu; omega); subst hz; rfl
  | 7, hu => have hz : u = 0 := (by have z : u < 1 := hu; omega); subst hz; rfl
  | 8, hu => exact (match u, hu with | 0, _ => rfl | 1, _ => rfl | 2, _ => rfl | n + 3, h => absurd h (by show ¬ n + 3 < 3; omega))
  | 9, hu => have hz : u = 0 := (by have z : u < 1 := hu; omega); subst hz; rfl
  | 10, hu => have hz : u = 0 := (by have z : u < 1 := hu; omega); subst hz; rfl
  | 11, hu => have hz : u = 0 := (by have z : u < 1 := hu; omega); subst hz; rfl
  | 12, hu => have hz : u = 0 := (by have z : u < 1 := hu; omega); subst hz; rfl
  | 13, hu => have hz : u = 0 := (by have z : u < 1 := hu; omega); subst hz; rfl
  | 14, hu => have hz : u = 0 := (by have z : u < 1 := hu; omega); subst hz; rfl
  | 15, hu => have hz : u = 0 := (by have z : u < 1 := hu; omega); subst hz; rfl
  | 16, hu => have hz : u = 0 := (by have z : u < 1 := hu; omega); subst hz; rfl
  | 17, hu => have hz : u = 0 := (by have z : u < 1 := hu; omega); subst hz; rfl
  | 18, hu => have hz : u = 0 := (by have z : u < 1 := hu; omega); subst hz; rfl
  | 19, hu => have hz : u = 0 := (by have z : u < 1 := hu; omega); subst hz; rfl
  | 20, hu => have hz : u = 0 := (by have z : u < 1 := hu; omega); subst hz; rfl
  | 21, hu => have hz : u = 0 := (by have z : u < 1 := hu; omega); subst hz; rfl
  | 22, hu => have hz : u = 0 := (by have z : u < 1 := hu; omega); subst hz; rfl
  | 23, hu => have hz : u = 0 := (by have z : u < 1 := hu; omega); subst hz; rfl
  | 24, hu => have hz : u = 0 := (by have z : u < 1 := hu; omega); subst hz; rfl
  | 25, hu => have hz : u = 0 := (by have z : u < 1 := hu; omega); subst hz; rfl
  | 26, hu => have hz : u = 0 := (by have z : u < 1 := hu; omega); subst hz; rfl
  | 27, hu => have hz : u = 0 := (by have z : u < 1 := hu; omega); subst hz; rfl
  | n + 28, hu => exact absurd hu (Nat.not_lt_zero _)
theorem mw_KM {X : g_F} (C : g_M gCl X cX6_init RX6 none) (hR : g_R X = g_rm 2 30 4783) (hL : g_nL X = 1) (hnm : (g_me X).name = "<init>") (hmc : g_mc X = 30 ∧ g_ms X = 4783) {ad : Nat → Nat → Nat} {σ : g_S} (hQ : g_MQG gCl X (gM false) (fun v ad2 s2 => v = none ∧ s2 = g_iM ∧ ad2 0 0 = ad 0 0) (fun _ _ _ _ => False) = g_Q X) : g_Y gCl X (g_fL [1] (g_fs (fun _ _ => none) 0 0 (.inr (5, [.int 0, .int 0, .null, .int 0, .int 0, .int 0, .int 0, .int 0, .int 0, .null, .null, .null, .null, .null, .int 0, .int 0, .int 0, .int 0, .null, .null, .int 0, .null, .null, .int 0, .int 0, .null, .null, .int 0, .null, .null, .null, .null, .null, .null, .int 0, .null, .null, .null, .null, .int 0, .null, .null, .null, .null, .null, .int 0, .null, .null, .null])))) ad σ (0, 0) 0 [(0, .ref (ad 0 0))] [] := by
  refine y_relayI (LM2 := g_fL gCNM (g_fs (fun _ _ => none) 0 0 (.inr (5, [.int 0, .int 0, .null, .int 0, .int 0, .int 0, .int 0, .int 0, .int 0, .null, .null, .null, .null, .null, .int 0, .int 0, .int 0, .int 0, .null, .null, .int 0, .null, .null, .int 0, .int 0, .null, .null, .int 0, .null, .null, .null, .null, .null, .null, .int 0, .null, .null, .null, .null, .int 0, .null, .null, .null, .null, .null, .int 0, .null, .null, .null])))) (σ2 := σ) (fun H hW => g_relay (fun k u => (k, u)) hW (fun k u hu hp => ?_) (fun _ _ _ _ _ _ _ _ h => ⟨congrArg Prod.fst h, congrArg Prod.snd h⟩)) ?_
  · obtain ⟨e, he⟩ := g_fp hp
    by_cases hk : k = 0 ∧ u = 0
    · obtain ⟨rfl, rfl⟩ := hk
      exact ⟨Nat.zero_lt_one, hp, rfl, fun a h => h⟩
    · rw [g_fs_n hk] at he; cases he
  exact mw_KM0 C hR hL hnm (fun ad0 h0 => mw_KM1 C hR hL hnm (fun ad1 h1 => mw_KM2 C hR hL hnm (fun ad2 h2 => mw_KM3 C hR hL hnm (fun ad3 h3 => mw_KM4 C hR hL hnm hmc (h3.trans (h2.trans (h1.trans h0))) hQ))))
theorem ct_KM {D : va_G} {dA : Nat → ClassId} {A : Nat → Prop} {s0 : State} {b0 : Nat} {l : Launch} {ad : Nat → Nat → Nat} {σ : g_S} : g_MetG gCl D dA A s0 b0 l yX6_init (ws_ yX6_init cX6_init 1 none) 2 (30, 4783) (g_fL [1] (g_fs (fun _ _ => none) 0 0 (.inr (5, [.int 0, .int 0, .null, .int 0, .int 0, .int 0, .int 0, .int 0, .int 0, .null, .null, .null, .null, .null, .int 0, .int 0, .int 0, .int 0, .null, .null, .int 0, .null, .null, .int 0, .int 0, .null, .null, .int 0, .null, .null, .null, .null, .null, .null, .int 0, .null, .null, .null, .null, .int 0, .null, .null, .null, .null, .null, .int 0, .null, .null, .null])))) ad σ [.ref (ad 0 0)] (gM false) (fun v ad2 s2 => v = none ∧ s2 = g_iM ∧ ad2 0 0 = ad 0 0) (fun _ _ _ _ => False) :=
  g_MetG.of pl_X6 (Nat.le_of_ble_eq_true rfl) (fun X C hQ hR hmc hms hL hnm es eb el hT => mw_KM C hR hL hnm ⟨hmc, hms⟩ hQ)
