set_option maxRecDepth 100000
theorem ddC_X1_person : yX1_person.cls = RX1 ∧ yX1_person.cls ≠ "java/lang/invoke/MethodHandle" ∧ yX1_person.cls ≠ "java/lang/invoke/VarHandle" ∧ (parseMethodDescriptor yX1_person.desc).map (fun d => d.parameters.length) = some 2 := by decide +kernel
theorem ddC_X1_thing : yX1_thing.cls = RX1 ∧ yX1_thing.cls ≠ "java/lang/invoke/MethodHandle" ∧ yX1_thing.cls ≠ "java/lang/invoke/VarHandle" ∧ (parseMethodDescriptor yX1_thing.desc).map (fun d => d.parameters.length) = some 2 := by decide +kernel
theorem ddC_X1_row : yX1_row.cls = RX1 ∧ yX1_row.cls ≠ "java/lang/invoke/MethodHandle" ∧ yX1_row.cls ≠ "java/lang/invoke/VarHandle" ∧ (parseMethodDescriptor yX1_row.desc).map (fun d => d.parameters.length) = some 1 := by decide +kernel
theorem lkL_X0_7_X1_l306 {X : g_F} {cc : ByteArray} {ret : Option FieldType} (C : g_M gCl X cc RX0 ret) {nn ck sk : Nat} (hR : g_R X = g_rm nn ck sk) (hn : 306 + 1 ≤ nn ∧ 8 + (3 + 11) + 40 * 306 ≤ 40 * nn) : CallW (g_R X) (g_s X) (g_as X) RX0 RX1 7 yX1_person cX1_person 3 (some .int) (ws_ yX1_person cX1_person 3 (some .int)) (g_rm 306 1 6) 1 6 2 :=
  cwV 2 C.2.2.2.2.1 (lw_V q1241 q1242 q1243 q110 q1244) rfl rfl rfl ddC_X1_person (by rw [hR]; exact hn)
theorem lkL_X0_15_X1_l306 {X : g_F} {cc : ByteArray} {ret : Option FieldType} (C : g_M gCl X cc RX0 ret) {nn ck sk : Nat} (hR : g_R X = g_rm nn ck sk) (hn : 306 + 1 ≤ nn ∧ 8 + (3 + 11) + 40 * 306 ≤ 40 * nn) : CallW (g_R X) (g_s X) (g_as X) RX0 RX1 15 yX1_thing cX1_thing 3 (some .int) (ws_ yX1_thing cX1_thing 3 (some .int)) (g_rm 306 1 6) 1 6 2 :=
  cwV 2 C.2.2.2.2.1 (lw_V q1267 q1268 q1269 q110 q1270) rfl rfl rfl ddC_X1_thing (by rw [hR]; exact hn)
theorem lkL_X0_18_X1_l11 {X : g_F} {cc : ByteArray} {ret : Option FieldType} (C : g_M gCl X cc RX0 ret) {nn ck sk : Nat} (hR : g_R X = g_rm nn ck sk) (hn : 11 + 1 ≤ nn ∧ 8 + (2 + 11) + 40 * 11 ≤ 40 * nn) : CallW (g_R X) (g_s X) (g_as X) RX0 RX1 18 yX1_row cX1_row 2 (some .long) (ws_ yX1_row cX1_row 2 (some .long)) (g_rm 11 1 6) 1 6 1 :=
  cwV 1 C.2.2.2.2.1 (lw_V q1274 q1275 q1276 q110 q1277) rfl rfl rfl ddC_X1_row (by rw [hR]; exact hn)
theorem ct_X0_person_t {D : va_G} {dA : Nat → ClassId} {A : Nat → Prop} {s0 : State} {b0 : Nat} {l : Launch} (hlt : l.stackTraces = false) {ax am ao : Nat} {σC σM : g_S} {o : Int64} {v1 v2 : Int32} (h : mF_C1_person σC v1 v2 = some (.inl ())) : g_MP D dA A s0 b0 l yX0_person (wsW_ yX0_person cX0_person 5 (some .int)  [((0 : Nat), (10 : Nat), (13 : Nat), (13 : Nat))]) 307 (1, 6) (g_P2 D dA A ax am ao σC σM o) [.ref ax, .int v1, .int v2, .ref ao] (fun v H => v = some (.int 1) ∧ g_P2 D dA A ax am ao σC σM o H) := by
  refine g_MP.ofH (cc := cX0_person) pl_X0 (Nat.le_of_ble_eq_true rfl) (fun X C hQ hR hmc hms hnL hl hD hdA hA hT => ?_)
  subst hl hD hdA hA
  show g_YP X _ (0, 0) 0 [(0, .ref ax), (1, .int v1), (2, .int v2), (3, .ref ao)] []
  refine p_aload_n C dX0_person_0 3 rfl rfl ?_
  refine p_iconst (v := 0) C dX0_person_1 rfl ?_
  refine p_aload_n C dX0_person_2 0 rfl rfl ?_
  refine p_iload_n C dX0_person_3 1 rfl rfl ?_
  refine p_iload_n C dX0_person_4 2 rfl rfl ?_
  refine p_callVT (Z := (fun _ _ => False)) (Z2 := (fun E _ s2 => E = "java/util/NoSuchElementException" ∧ s2 = σC)) (As := [.int v1, .int v2]) (w1 := (1, 6)) C g_splC rfl (by decide) (fun _ => ⟨_, rfl⟩) (lkL_X0_7_X1_l306 C hR (by decide)) (fun ad A1 => ct_C1_person hlt h) (fun _ _ _ _ hh => by obtain ⟨z1, e1, -⟩ := hh; cases e1) (fun _ _ _ _ _ hh => ⟨⟨hh.2.1, hh.2.2.1⟩, by rw [hh.2.2.2]⟩) rfl rfl (by show (1 + (1 + 0) : Nat) ≤ 8; decide) (by rw [hR]; decide) dX0_person_5 ?_ ?_
  · exact fun _ _ hh => hh.elim
  · rintro _ q _ ⟨rfl, rfl⟩
    refine p_catch C hT rfl (by decide) (by decide) q1240 q1247 ?_
    show g_YP X _ _ 13 _ _
    refine p_astore C rfl dX0_person_13 (by rw [hnL]; decide) rfl ?_
    refine p_iconst (v := 1) C dX0_person_15 rfl ?_
    exact p_retP C hQ (fun H hH => ⟨rfl, hH⟩) ⟨by rw [hmc]; decide, by rw [hms]; decide⟩ dX0_person_16
theorem ct_X0_person_r {D : va_G} {dA : Nat → ClassId} {A : Nat → Prop} {s0 : State} {b0 : Nat} {l : Launch} (hlt : l.stackTraces = false) {ax am ao : Nat} {σC σM : g_S} {o : Int64} {v1 v2 : Int32} {z : Int32} (h : mF_C1_person σC v1 v2 = some (.inr z)) : g_MP D dA A s0 b0 l yX0_person (wsW_ yX0_person cX0_person 5 (some .int)  [((0 : Nat), (10 : Nat), (13 : Nat), (13 : Nat))]) 307 (1, 6) (g_P2 D dA A ax am ao σC σM o) [.ref ax, .int v1, .int v2, .ref ao] (fun v H => v = some (.int 0) ∧ g_P2 D dA A ax am ao σC σM (z.toInt64) H) := by
  refine g_MP.ofH (cc := cX0_person) pl_X0 (Nat.le_of_ble_eq_true rfl) (fun X C hQ hR hmc hms hnL hl hD hdA hA hT => ?_)
  subst hl hD hdA hA
  show g_YP X _ (0, 0) 0 [(0, .ref ax), (1, .int v1), (2, .int v2), (3, .ref ao)] []
  refine p_aload_n C dX0_person_0 3 rfl rfl ?_
  refine p_iconst (v := 0) C dX0_person_1 rfl ?_
  refine p_aload_n C dX0_person_2 0 rfl rfl ?_
  refine p_iload_n C dX0_person_3 1 rfl rfl ?_
  refine p_iload_n C dX0_person_4 2 rfl rfl ?_
  refine p_callVT (Z := (fun v s2 => v = some (.int z) ∧ s2 = σC)) (Z2 := (fun _ _ _ => False)) (As := [.int v1, .int v2]) (w1 := (1, 6)) C g_splC rfl (by decide) (fun _ => ⟨_, rfl⟩) (lkL_X0_7_X1_l306 C hR (by decide)) (fun ad A1 => ct_C1_person hlt h) (fun _ _ _ _ hh => by obtain ⟨z1, e1, e2, e3, e4⟩ := hh; cases e1; exact ⟨⟨e2, e3⟩, by rw [e4]⟩) (fun _ _ _ _ _ hh => nomatch hh.1) rfl rfl (by show (1 + (1 + 0) : Nat) ≤ 8; decide) (by rw [hR]; decide) dX0_person_5 ?_ ?_
  · rintro _ _ ⟨rfl, rfl⟩
    refine p_i2l C dX0_person_8 ?_
    refine p_last C dX0_person_9 ?_
    refine p_goto (tgt := 17) C dX0_person_10 rfl ?_
    refine p_iconst (v := 0) C dX0_person_17 rfl ?_
    exact p_retP C hQ (fun H hH => ⟨rfl, hH⟩) ⟨by rw [hmc]; decide, by rw [hms]; decide⟩ dX0_person_18
  · exact fun _ _ _ hh => hh.elim
theorem ct_X0_thing_t {D : va_G} {dA : Nat → ClassId} {A : Nat → Prop} {s0 : State} {b0 : Nat} {l : Launch} (hlt : l.stackTraces = false) {ax am ao : Nat} {σC σM : g_S} {o : Int64} {v1 v2 : Int32} (h : mF_C1_thing σC v1 v2 = some (.inl ())) : g_MP D dA A s0 b0 l yX0_thing (wsW_ yX0_thing cX0_thing 5 (some .int)  [((0 : Nat), (10 : Nat), (13 : Nat), (13 : Nat))]) 307 (1, 6) (g_P2 D dA A ax am ao σC σM o) [.ref ax, .int v1, .int v2, .ref ao] (fun v H => v = some (.int 1) ∧ g_P2 D dA A ax am ao σC σM o H) := by
  refine g_MP.ofH (cc := cX0_thing) pl_X0 (Nat.le_of_ble_eq_true rfl) (fun X C hQ hR hmc hms hnL hl hD hdA hA hT => ?_)
  subst hl hD hdA hA
  show g_YP X _ (0, 0) 0 [(0, .ref ax), (1, .int v1), (2, .int v2), (3, .ref ao)] []
  refine p_aload_n C dX0_thing_0 3 rfl rfl ?_
  refine p_iconst (v := 0) C dX0_thing_1 rfl ?_
  refine p_aload_n C dX0_thing_2 0 rfl rfl ?_
  refine p_iload_n C dX0_thing_3 1 rfl rfl ?_
  refine p_iload_n C dX0_thing_4 2 rfl rfl ?_
  refine p_callVT (Z := (fun _ _ => False)) (Z2 := (fun E _ s2 => E = "java/util/NoSuchElementException" ∧ s2 = σC)) (As := [.int v1, .int v2]) (w1 := (1, 6)) C g_splC rfl (by decide) (fun _ => ⟨_, rfl⟩) (lkL_X0_15_X1_l306 C hR (by decide)) (fun ad A1 => ct_C1_thing hlt h) (fun _ _ _ _ hh => by obtain ⟨z1, e1, -⟩ := hh; cases e1) (fun _ _ _ _ _ hh => ⟨⟨hh.2.1, hh.2.2.1⟩, by rw [hh.2.2.2]⟩) rfl rfl (by show (1 + (1 + 0) : Nat) ≤ 8; decide) (by rw [hR]; decide) dX0_thing_5 ?_ ?_
  · exact fun _ _ hh => hh.elim
  · rintro _ q _ ⟨rfl, rfl⟩
    refine p_catch C hT rfl (by decide) (by decide) q1240 q1247 ?_
    show g_YP X _ _ 13 _ _
    refine p_astore C rfl dX0_thing_13 (by rw [hnL]; decide) rfl ?_
    refine p_iconst (v := 1) C dX0_thing_15 rfl ?_
    exact p_retP C hQ (fun H hH => ⟨rfl, hH⟩) ⟨by rw [hmc]; decide, by rw [hms]; decide⟩ dX0_thing_16
theorem ct_X0_thing_r {D : va_G} {dA : Nat → ClassId} {A : Nat → Prop} {s0 : State} {b0 : Nat} {l : Launch} (hlt : l.stackTraces = false) {ax am ao : Nat} {σC σM : g_S} {o : Int64} {v1 v2 : Int32} {z : Int32} (h : mF_C1_thing σC v1 v2 = some (.inr z)) : g_MP D dA A s0 b0 l yX0_thing (wsW_ yX0_thing cX0_thing 5 (some .int)  [((0 : Nat), (10 : Nat), (13 : Nat), (13 : Nat))]) 307 (1, 6) (g_P2 D dA A ax am ao σC σM o) [.ref ax, .int v1, .int v2, .ref ao] (fun v H => v = some (.int 0) ∧ g_P2 D dA A ax am ao σC σM (z.toInt64) H) := by
  refine g_MP.ofH (cc := cX0_thing) pl_X0 (Nat.le_of_ble_eq_true rfl) (fun X C hQ hR hmc hms hnL hl hD hdA hA hT => ?_)
  subst hl hD hdA hA
  show g_YP X _ (0, 0) 0 [(0, .ref ax), (1, .int v1), (2, .int v2), (3, .ref ao)] []
  refine p_aload_n C dX0_thing_0 3 rfl rfl ?_
  refine p_iconst (v := 0) C dX0_thing_1 rfl ?_
  refine p_aload_n C dX0_thing_2 0 rfl rfl ?_
  refine p_iload_n C dX0_thing_3 1 rfl rfl ?_
  refine p_iload_n C dX0_thing_4 2 rfl rfl ?_
  refine p_callVT (Z := (fun v s2 => v = some (.int z) ∧ s2 = σC)) (Z2 := (fun _ _ _ => False)) (As := [.int v1, .int v2]) (w1 := (1, 6)) C g_splC rfl (by decide) (fun _ => ⟨_, rfl⟩) (lkL_X0_15_X1_l306 C hR (by decide)) (fun ad A1 => ct_C1_thing hlt h) (fun _ _ _ _ hh => by obtain ⟨z1, e1, e2, e3, e4⟩ := hh; cases e1; exact ⟨⟨e2, e3⟩, by rw [e4]⟩) (fun _ _ _ _ _ hh => nomatch hh.1) rfl rfl (by show (1 + (1 + 0) : Nat) ≤ 8; decide) (by rw [hR]; decide) dX0_thing_5 ?_ ?_
  · rintro _ _ ⟨rfl, rfl⟩
    refine p_i2l C dX0_thing_8 ?_
    refine p_last C dX0_thing_9 ?_
    refine p_goto (tgt := 17) C dX0_thing_10 rfl ?_
    refine p_iconst (v := 0) C dX0_thing_17 rfl ?_
    exact p_retP C hQ (fun H hH => ⟨rfl, hH⟩) ⟨by rw [hmc]; decide, by rw [hms]; decide⟩ dX0_thing_18
  · exact fun _ _ _ hh => hh.elim
theorem ct_X0_row_t {D : va_G} {dA : Nat → ClassId} {A : Nat → Prop} {s0 : State} {b0 : Nat} {l : Launch} (hlt : l.stackTraces = false) {ax am ao : Nat} {σC σM : g_S} {o : Int64} {v1 : Int32} (h : mF_C1_row σC v1 = some (.inl ())) : g_MP D dA A s0 b0 l yX0_row (wsW_ yX0_row cX0_row 4 (some .int)  [((0 : Nat), (8 : Nat), (11 : Nat), (13 : Nat))]) 12 (1, 6) (g_P2 D dA A ax am ao σC σM o) [.ref ax, .int v1, .ref ao] (fun v H => v = some (.int 1) ∧ g_P2 D dA A ax am ao σC σM o H) := by
  refine g_MP.ofH (cc := cX0_row) pl_X0 (Nat.le_of_ble_eq_true rfl) (fun X C hQ hR hmc hms hnL hl hD hdA hA hT => ?_)
  subst hl hD hdA hA
  show g_YP X _ (0, 0) 0 [(0, .ref ax), (1, .int v1), (2, .ref ao)] []
  refine p_aload_n C dX0_row_0 2 rfl rfl ?_
  refine p_iconst (v := 0) C dX0_row_1 rfl ?_
  refine p_aload_n C dX0_row_2 0 rfl rfl ?_
  refine p_iload_n C dX0_row_3 1 rfl rfl ?_
  refine p_callVT (Z := (fun _ _ => False)) (Z2 := (fun E _ s2 => E = "java/util/NoSuchElementException" ∧ s2 = σC)) (As := [.int v1]) (w1 := (1, 6)) C g_splC rfl (by decide) (fun _ => ⟨_, rfl⟩) (lkL_X0_18_X1_l11 C hR (by decide)) (fun ad A1 => ct_C1_row hlt h) (fun _ _ _ _ hh => by obtain ⟨z1, e1, -⟩ := hh; cases e1) (fun _ _ _ _ _ hh => ⟨⟨hh.2.1, hh.2.2.1⟩, by rw [hh.2.2.2]⟩) rfl rfl (by show (1 + (1 + 0) : Nat) ≤ 8; decide) (by rw [hR]; decide) dX0_row_4 ?_ ?_
  · exact fun _ _ hh => hh.elim
  · rintro _ q _ ⟨rfl, rfl⟩
    refine p_catch C hT rfl (by decide) (by decide) q1240 q1247 ?_
    show g_YP X _ _ 11 _ _
    refine p_astore_n C rfl dX0_row_11 rfl (by rw [hnL]; decide) rfl ?_
    refine p_iconst (v := 1) C dX0_row_12 rfl ?_
    exact p_retP C hQ (fun H hH => ⟨rfl, hH⟩) ⟨by rw [hmc]; decide, by rw [hms]; decide⟩ dX0_row_13
theorem ct_X0_row_r {D : va_G} {dA : Nat → ClassId} {A : Nat → Prop} {s0 : State} {b0 : Nat} {l : Launch} (hlt : l.stackTraces = false) {ax am ao : Nat} {σC σM : g_S} {o : Int64} {v1 : Int32} {z : Int64} (h : mF_C1_row σC v1 = some (.inr z)) : g_MP D dA A s0 b0 l yX0_row (wsW_ yX0_row cX0_row 4 (some .int)  [((0 : Nat), (8 : Nat), (11 : Nat), (13 : Nat))]) 12 (1, 6) (g_P2 D dA A ax am ao σC σM o) [.ref ax, .int v1, .ref ao] (fun v H => v = some (.int 0) ∧ g_P2 D dA A ax am ao σC σM z H) := by
  refine g_MP.ofH (cc := cX0_row) pl_X0 (Nat.le_of_ble_eq_true rfl) (fun X C hQ hR hmc hms hnL hl hD hdA hA hT => ?_)
  subst hl hD hdA hA
  show g_YP X _ (0, 0) 0 [(0, .ref ax), (1, .int v1), (2, .ref ao)] []
  refine p_aload_n C dX0_row_0 2 rfl rfl ?_
  refine p_iconst (v := 0) C dX0_row_1 rfl ?_
  refine p_aload_n C dX0_row_2 0 rfl rfl ?_
  refine p_iload_n C dX0_row_3 1 rfl rfl ?_
  refine p_callVT (Z := (fun v s2 => v = some (.long z) ∧ s2 = σC)) (Z2 := (fun _ _ _ => False)) (As := [.int v1]) (w1 := (1, 6)) C g_splC rfl (by decide) (fun _ => ⟨_, rfl⟩) (lkL_X0_18_X1_l11 C hR (by decide)) (fun ad A1 => ct_C1_row hlt h) (fun _ _ _ _ hh => by obtain ⟨z1, e1, e2, e3, e4⟩ := hh; cases e1; exact ⟨⟨e2, e3⟩, by rw [e4]⟩) (fun _ _ _ _ _ hh => nomatch hh.1) rfl rfl (by show (1 + (1 + 0) : Nat) ≤ 8; decide) (by rw [hR]; decide) dX0_row_4 ?_ ?_
  · rintro _ _ ⟨rfl, rfl⟩
    refine p_last C dX0_row_7 ?_
    refine p_goto (tgt := 14) C dX0_row_8 rfl ?_
    refine p_iconst (v := 0) C dX0_row_14 rfl ?_
    exact p_retP C hQ (fun H hH => ⟨rfl, hH⟩) ⟨by rw [hmc]; decide, by rw [hms]; decide⟩ dX0_row_15
  · exact fun _ _ _ hh => hh.elim
/-! ===== what the plain laws owe, method by method ===== -/
def pr_sign (Rel : Nat → g_S → g_S → Prop) : Prop := ∀ (j : Nat) (σC σM : g_S) (v1 : Int32), j < 65 → Rel j σC σM → ∃ (r : Int32) (σC1 σM1 : g_S), mF_C1_sign σC v1 = some (r, σC1) ∧ mF_M_sign σM v1 = some (r, σM1) ∧ Rel (j + 1) σC1 σM1
def pr_end (Rel : Nat → g_S → g_S → Prop) : Prop := ∀ (j : Nat) (σC σM : g_S) (v1 : Int32), j < 65 → Rel j σC σM → ∃ (r : Int32) (σC1 σM1 : g_S), mF_C1_end σC v1 = some (r, σC1) ∧ mF_M_end σM v1 = some (r, σM1) ∧ Rel (j + 1) σC1 σM1
def pr_valley (Rel : Nat → g_S → g_S → Prop) : Prop := ∀ (j : Nat) (σC σM : g_S), j < 65 → Rel j σC σM → ∃ (r : Int32) (σC1 σM1 : g_S), mF_C1_valley σC = some (r, σC1) ∧ mF_M_valley σM = some (r, σM1) ∧ Rel (j + 1) σC1 σM1
def pr_people (Rel : Nat → g_S → g_S → Prop) : Prop := ∀ (j : Nat) (σC σM : g_S), j < 65 → Rel j σC σM → ∃ (r : Int32) (σC1 σM1 : g_S), mF_C1_people σC = some (r, σC1) ∧ mF_M_people σM = some (r, σM1) ∧ Rel (j + 1) σC1 σM1
def pr_things (Rel : Nat → g_S → g_S → Prop) : Prop := ∀ (j : Nat) (σC σM : g_S), j < 65 → Rel j σC σM → ∃ (r : Int32) (σC1 σM1 : g_S), mF_C1_things σC = some (r, σC1) ∧ mF_M_things σM = some (r, σM1) ∧ Rel (j + 1) σC1 σM1
def pr_light (Rel : Nat → g_S → g_S → Prop) : Prop := ∀ (j : Nat) (σC σM : g_S), j < 65 → Rel j σC σM → ∃ s1 : Nat, s1 < 2 ∧ ∃ (r : Int32) (σC1 σM1 : g_S), mF_C1_light σC s1 = some (r, σC1) ∧ mF_M_light σM = some (r, σM1) ∧ Rel (j + 1) σC1 σM1
def pr_rule (Rel : Nat → g_S → g_S → Prop) : Prop := ∀ (j : Nat) (σC σM : g_S), j < 65 → Rel j σC σM → ∃ s1 : Nat, s1 < 2 ∧ ∃ (r : Int32) (σC1 σM1 : g_S), mF_C1_rule σC s1 = some (r, σC1) ∧ mF_M_rule σM = some (r, σM1) ∧ Rel (j + 1) σC1 σM1
def pr_person (Rel : Nat → g_S → g_S → Prop) : Prop := ∀ (j : Nat) (σC σM : g_S) (v1 v2 : Int32), j < 65 → Rel j σC σM → ∃ (o : Unit ⊕ Int32) (r : Int32) (σM1 : g_S) (k : Int32), mF_C1_person σC v1 v2 = some o ∧ mF_M_person σM v1 v2 = some (r, σM1) ∧ mF_M_thrown σM1 = some k ∧ (o = .inl () ∧ k = 1 ∨ o = .inr r ∧ k = 0) ∧ Rel (j + 1) σC σM1
def pr_thing (Rel : Nat → g_S → g_S → Prop) : Prop := ∀ (j : Nat) (σC σM : g_S) (v1 v2 : Int32), j < 65 → Rel j σC σM → ∃ (o : Unit ⊕ Int32) (r : Int32) (σM1 : g_S) (k : Int32), mF_C1_thing σC v1 v2 = some o ∧ mF_M_thing σM v1 v2 = some (r, σM1) ∧ mF_M_thrown σM1 = some k ∧ (o = .inl () ∧ k = 1 ∨ o = .inr r ∧ k = 0) ∧ Rel (j + 1) σC σM1
def pr_sheet (Rel : Nat → g_S → g_S → Prop) : Prop := ∀ (j : Nat) (σC σM : g_S) (v1 v2 v3 v4 : Int32), j < 65 → Rel j σC σM → ∃ (r : Int32) (σC1 σM1 : g_S), (mF_C1_sheet_n σC v1 v2 v3 v4 = some (r, σC1) ∨ mF_C1_sheet_r σC v1 v2 v3 v4 = some (r, σC1) ∨ mF_C1_sheet_x σC v1 v2 v3 v4 = some (r, σC1)) ∧ mF_M_sheet σM v1 v2 v3 v4 = some (r, σM1) ∧ Rel (j + 1) σC1 σM1
def pr_hours (Rel : Nat → g_S → g_S → Prop) : Prop := ∀ (j : Nat) (σC σM : g_S) (v1 : Int32), j < 65 → Rel j σC σM → ∃ (r : Int32) (σC1 σM1 : g_S), mF_C1_hours σC v1 = some (r, σC1) ∧ mF_M_hours σM v1 = some (r, σM1) ∧ Rel (j + 1) σC1 σM1
def pr_faces (Rel : Nat → g_S → g_S → Prop) : Prop := ∀ (j : Nat) (σC σM : g_S) (v1 v2 : Int32), j < 65 → Rel j σC σM → ∃ (r : Int32) (σC1 σM1 : g_S), mF_C1_faces σC v1 v2 = some (r, σC1) ∧ mF_M_faces σM v1 v2 = some (r, σM1) ∧ Rel (j + 1) σC1 σM1
def pr_steps (Rel : Nat → g_S → g_S → Prop) : Prop := ∀ (j : Nat) (σC σM : g_S) (v1 v2 : Int32), j < 65 → Rel j σC σM → ∃ (r : Int32) (σC1 σM1 : g_S), mF_C1_steps σC v1 v2 = some (r, σC1) ∧ mF_M_steps σM v1 v2 = some (r, σM1) ∧ Rel (j + 1) σC1 σM1
def pr_trims (Rel : Nat → g_S → g_S → Prop) : Prop := ∀ (j : Nat) (σC σM : g_S) (v1 v2 : Int32), j < 65 → Rel j σC σM → ∃ (r : Int32) (σC1 σM1 : g_S), mF_C1_trims σC v1 v2 = some (r, σC1) ∧ mF_M_trims σM v1 v2 = some (r, σM1) ∧ Rel (j + 1) σC1 σM1
def pr_puts (Rel : Nat → g_S → g_S → Prop) : Prop := ∀ (j : Nat) (σC σM : g_S) (v1 v2 : Int32), j < 65 → Rel j σC σM → ∃ (r : Int32) (σC1 σM1 : g_S), mF_C1_puts σC v1 v2 = some (r, σC1) ∧ mF_M_puts σM v1 v2 = some (r, σM1) ∧ Rel (j + 1) σC1 σM1
def pr_day (Rel : Nat → g_S → g_S → Prop) : Prop := ∀ (j : Nat) (σC σM : g_S), j < 65 → Rel j σC σM → ∃ (r : Int32) (σC1 σM1 : g_S), mF_C1_day σC = some (r, σC1) ∧ mF_M_day σM = some (r, σM1) ∧ Rel (j + 1) σC1 σM1
def pr_undo (Rel : Nat → g_S → g_S → Prop) : Prop := ∀ (j : Nat) (σC σM : g_S), j < 65 → Rel j σC σM → ∃ (r : Int32) (σC1 σM1 : g_S), mF_C1_undo σC = some (r, σC1) ∧ mF_M_undo σM = some (r, σM1) ∧ Rel (j + 1) σC1 σM1
def pr_sees (Rel : Nat → g_S → g_S → Prop) : Prop := ∀ (j : Nat) (σC σM : g_S) (v1 : Int32), j < 65 → Rel j σC σM → ∃ (r : Int64) (σC1 σM1 : g_S), mF_C1_sees σC v1 = some (r, σC1) ∧ mF_M_sees σM v1 = some (r, σM1) ∧ Rel (j + 1) σC1 σM1
def pr_seers (Rel : Nat → g_S → g_S → Prop) : Prop := ∀ (j : Nat) (σC σM : g_S) (v1 : Int32), j < 65 → Rel j σC σM → ∃ (r : Int32) (σC1 σM1 : g_S), mF_C1_seers σC v1 = some (r, σC1) ∧ mF_M_seers σM v1 = some (r, σM1) ∧ Rel (j + 1) σC1 σM1
def pr_hidden (Rel : Nat → g_S → g_S → Prop) : Prop := ∀ (j : Nat) (σC σM : g_S), j < 65 → Rel j σC σM → ∃ (r : Int64) (σC1 σM1 : g_S), mF_C1_hidden σC = some (r, σC1) ∧ mF_M_hidden σM = some (r, σM1) ∧ Rel (j + 1) σC1 σM1
def pr_pairs (Rel : Nat → g_S → g_S → Prop) : Prop := ∀ (j : Nat) (σC σM : g_S), j < 65 → Rel j σC σM → ∃ (r : Int32) (σC1 σM1 : g_S), mF_C1_pairs σC = some (r, σC1) ∧ mF_M_pairs σM = some (r, σM1) ∧ Rel (j + 1) σC1 σM1
def pr_behind (Rel : Nat → g_S → g_S → Prop) : Prop := ∀ (j : Nat) (σC σM : g_S) (v1 : Int32), j < 65 → Rel j σC σM → ∃ (r : Int32) (σC1 σM1 : g_S), mF_C1_behind σC v1 = some (r, σC1) ∧ mF_M_behind σM v1 = some (r, σM1) ∧ Rel (j + 1) σC1 σM1
def pr_widest (Rel : Nat → g_S → g_S → Prop) : Prop := ∀ (j : Nat) (σC σM : g_S), j < 65 → Rel j σC σM → ∃ (r : Int32) (σC1 σM1 : g_S), mF_C1_widest σC = some (r, σC1) ∧ mF_M_widest σM = some (r, σM1) ∧ Rel (j + 1) σC1 σM1
def pr_watch (Rel : Nat → g_S → g_S → Prop) : Prop := ∀ (j : Nat) (σC σM : g_S), j < 65 → Rel j σC σM → ∃ (r : Int32) (σC1 σM1 : g_S), mF_C1_watch σC = some (r, σC1) ∧ mF_M_watch σM = some (r, σM1) ∧ Rel (j + 1) σC1 σM1
def pr_learns (Rel : Nat → g_S → g_S → Prop) : Prop := ∀ (j : Nat) (σC σM : g_S) (v1 v2 : Int32), j < 65 → Rel j σC σM → ∃ (r : Int32) (σC1 σM1 : g_S), mF_C1_learns σC v1 v2 = some (r, σC1) ∧ mF_M_learns σM v1 v2 = some (r, σM1) ∧ Rel (j + 1) σC1 σM1
def pr_all (Rel : Nat → g_S → g_S → Prop) : Prop := ∀ (j : Nat) (σC σM : g_S), j < 65 → Rel j σC σM → ∃ (r : Int32) (σC1 σM1 : g_S), mF_C1_all σC = some (r, σC1) ∧ mF_M_all σM = some (r, σM1) ∧ Rel (j + 1) σC1 σM1
def pr_ahead (Rel : Nat → g_S → g_S → Prop) : Prop := ∀ (j : Nat) (σC σM : g_S) (v1 : Int32), j < 65 → Rel j σC σM → ∃ (r : Int32) (σC1 σM1 : g_S), mF_C1_ahead σC v1 = some (r, σC1) ∧ mF_M_ahead σM v1 = some (r, σM1) ∧ Rel (j + 1) σC1 σM1
def pr_gossip (Rel : Nat → g_S → g_S → Prop) : Prop := ∀ (j : Nat) (σC σM : g_S) (v1 : Int32), j < 65 → Rel j σC σM → ∃ (r : Int32) (σC1 σM1 : g_S), mF_C1_gossip σC v1 = some (r, σC1) ∧ mF_M_gossip σM v1 = some (r, σM1) ∧ Rel (j + 1) σC1 σM1
def pr_eighths (Rel : Nat → g_S → g_S → Prop) : Prop := ∀ (j : Nat) (σC σM : g_S) (v1 v2 : Int32), j < 65 → Rel j σC σM → ∃ (r : Int32) (σC1 σM1 : g_S), mF_C1_eighths σC v1 v2 = some (r, σC1) ∧ mF_M_eighths σM v1 v2 = some (r, σM1) ∧ Rel (j + 1) σC1 σM1
def pr_turned (Rel : Nat → g_S → g_S → Prop) : Prop := ∀ (j : Nat) (σC σM : g_S), j < 65 → Rel j σC σM → ∃ (r : Int32) (σC1 σM1 : g_S), mF_C1_turned σC = some (r, σC1) ∧ mF_M_turned σM = some (r, σM1) ∧ Rel (j + 1) σC1 σM1
def pr_best (Rel : Nat → g_S → g_S → Prop) : Prop := ∀ (j : Nat) (σC σM : g_S) (v1 : Int32), j < 65 → Rel j σC σM → ∃ (r : Int32) (σC1 σM1 : g_S), mF_C1_best σC v1 = some (r, σC1) ∧ mF_M_best σM v1 = some (r, σM1) ∧ Rel (j + 1) σC1 σM1
def pr_bears (Rel : Nat → g_S → g_S → Prop) : Prop := ∀ (j : Nat) (σC σM : g_S) (v1 v2 : Int32), j < 65 → Rel j σC σM → ∃ (r : Int32) (σC1 σM1 : g_S), mF_C1_bears σC v1 v2 = some (r, σC1) ∧ mF_M_bears σM v1 v2 = some (r, σM1) ∧ Rel (j + 1) σC1 σM1
def pr_back (Rel : Nat → g_S → g_S → Prop) : Prop := ∀ (j : Nat) (σC σM : g_S) (v1 v2 : Int32), j < 65 → Rel j σC σM → ∃ (r : Int32) (σC1 σM1 : g_S), mF_C1_back σC v1 v2 = some (r, σC1) ∧ mF_M_back σM v1 v2 = some (r, σM1) ∧ Rel (j + 1) σC1 σM1
def pr_open (Rel : Nat → g_S → g_S → Prop) : Prop := ∀ (j : Nat) (σC σM : g_S) (v1 v2 : Int32), j < 65 → Rel j σC σM → ∃ (r : Int32) (σC1 σM1 : g_S), mF_C1_open_2 σC v1 v2 = some (r, σC1) ∧ mF_M_open σM v1 v2 = some (r, σM1) ∧ Rel (j + 1) σC1 σM1
def pr_heard (Rel : Nat → g_S → g_S → Prop) : Prop := ∀ (j : Nat) (σC σM : g_S) (v1 v2 : Int32), j < 65 → Rel j σC σM → ∃ (r : Int32) (σC1 σM1 : g_S), mF_C1_heard σC v1 v2 = some (r, σC1) ∧ mF_M_heard σM v1 v2 = some (r, σM1) ∧ Rel (j + 1) σC1 σM1
def pr_forget (Rel : Nat → g_S → g_S → Prop) : Prop := ∀ (j : Nat) (σC σM : g_S), j < 65 → Rel j σC σM → ∃ (r : Int32) (σC1 σM1 : g_S), mF_C1_forget σC = some (r, σC1) ∧ mF_M_forget σM = some (r, σM1) ∧ Rel (j + 1) σC1 σM1
def pr_lost (Rel : Nat → g_S → g_S → Prop) : Prop := ∀ (j : Nat) (σC σM : g_S), j < 65 → Rel j σC σM → ∃ (r : Int64) (σC1 σM1 : g_S), mF_C1_lost σC = some (r, σC1) ∧ mF_M_lost σM = some (r, σM1) ∧ Rel (j + 1) σC1 σM1
def pr_asks (Rel : Nat → g_S → g_S → Prop) : Prop := ∀ (j : Nat) (σC σM : g_S), j < 65 → Rel j σC σM → ∃ (r : Int32) (σC1 σM1 : g_S), mF_C1_asks σC = some (r, σC1) ∧ mF_M_asks σM = some (r, σM1) ∧ Rel (j + 1) σC1 σM1
def pr_storm (Rel : Nat → g_S → g_S → Prop) : Prop := ∀ (j : Nat) (σC σM : g_S) (v1 v2 v3 : Int32), j < 65 → Rel j σC σM → ∃ (r : Int32) (σC1 σM1 : g_S), mF_C1_storm σC v1 v2 v3 = some (r, σC1) ∧ mF_M_storm σM v1 v2 v3 = some (r, σM1) ∧ Rel (j + 1) σC1 σM1
def pr_cock (Rel : Nat → g_S → g_S → Prop) : Prop := ∀ (j : Nat) (σC σM : g_S) (v1 v2 : Int32), j < 65 → Rel j σC σM → ∃ (r : Int32) (σC1 σM1 : g_S), mF_C1_cock σC v1 v2 = some (r, σC1) ∧ mF_M_cock σM v1 v2 = some (r, σM1) ∧ Rel (j + 1) σC1 σM1
def pr_law (Rel : Nat → g_S → g_S → Prop) : Prop := ∀ (j : Nat) (σC σM : g_S), j < 65 → Rel j σC σM → ∃ s1 : Nat, s1 < 2 ∧ ∃ (r : Int32) (σC1 σM1 : g_S), mF_C1_law σC s1 = some (r, σC1) ∧ mF_M_law σM = some (r, σM1) ∧ Rel (j + 1) σC1 σM1
def pr_rests (Rel : Nat → g_S → g_S → Prop) : Prop := ∀ (j : Nat) (σC σM : g_S) (v1 : Int32), j < 65 → Rel j σC σM → ∃ (r : Int32) (σC1 σM1 : g_S), mF_C1_rests σC v1 = some (r, σC1) ∧ mF_M_rests σM v1 = some (r, σM1) ∧ Rel (j + 1) σC1 σM1
def pr_years (Rel : Nat → g_S → g_S → Prop) : Prop := ∀ (j : Nat) (σC σM : g_S) (v1 v2 : Int32), j < 65 → Rel j σC σM → ∃ (r : Int32) (σC1 σM1 : g_S), mF_C1_years σC v1 v2 = some (r, σC1) ∧ mF_M_years σM v1 v2 = some (r, σM1) ∧ Rel (j + 1) σC1 σM1
def pr_keep (Rel : Nat → g_S → g_S → Prop) : Prop := ∀ (j : Nat) (σC σM : g_S) (v1 : Int32), j < 65 → Rel j σC σM → ∃ s1 : Nat, s1 < 4 ∧ ∃ (r : Int32) (σC1 σM1 : g_S), mF_C1_keep σC s1 v1 = some (r, σC1) ∧ mF_M_keep σM v1 = some (r, σM1) ∧ Rel (j + 1) σC1 σM1
def pr_again (Rel : Nat → g_S → g_S → Prop) : Prop := ∀ (j : Nat) (σC σM : g_S) (v1 : Int32), j < 65 → Rel j σC σM → ∃ (r : Int32) (σC1 σM1 : g_S), mF_C1_again σC v1 = some (r, σC1) ∧ mF_M_again σM v1 = some (r, σM1) ∧ Rel (j + 1) σC1 σM1
def pr_count (Rel : Nat → g_S → g_S → Prop) : Prop := ∀ (j : Nat) (σC σM : g_S) (v1 : Int32), j < 65 → Rel j σC σM → ∃ (r : Int32) (σC1 σM1 : g_S), (mF_C1_count σC v1 = some r ∧ σC1 = σC) ∧ mF_M_count σM v1 = some (r, σM1) ∧ Rel (j + 1) σC1 σM1
def pr_row (Rel : Nat → g_S → g_S → Prop) : Prop := ∀ (j : Nat) (σC σM : g_S) (v1 : Int32), j < 65 → Rel j σC σM → ∃ (o : Unit ⊕ Int64) (r : Int64) (σM1 : g_S) (k : Int32), mF_C1_row σC v1 = some o ∧ mF_M_row σM v1 = some (r, σM1) ∧ mF_M_thrown σM1 = some k ∧ (o = .inl () ∧ k = 1 ∨ o = .inr r ∧ k = 0) ∧ Rel (j + 1) σC σM1
