set_option maxRecDepth 100000
/-! the JDK's own methods, extracted and walked -/
noncomputable def mF_J3_coder (t9 : Nat) : Option Int32 :=
  some (0 : Int32)
noncomputable def mF_J3_length (t9 : Nat) : Option Int32 :=
  (mF_J3_coder t9).bind fun x1 =>
    some ((Int32.ofNat (gSlen.getD t9 0)) >>> (x1 &&& 31))
noncomputable def mF_J3_isLatin1 (t9 : Nat) : Option Int32 :=
  some (1 : Int32)
noncomputable def mJ_J5_checkIndex_9 (v0 : Int32) (v1 : Int32) : Option Int32 :=
  none
noncomputable def mF_J5_checkIndex (v0 : Int32) (v1 : Int32) : Option Int32 :=
  if v0 < 0 then
    (mJ_J5_checkIndex_9 v0 v1)
  else
    if v0 < v1 then
    some v0
  else
    (mJ_J5_checkIndex_9 v0 v1)
noncomputable def mF_J3_checkIndex (v0 : Int32) (v1 : Int32) : Option Unit :=
  (mF_J5_checkIndex v0 v1).bind fun x1 =>
    some ()
noncomputable def mF_J4_charAt (t0 : Nat) (v1 : Int32) : Option Int32 :=
  (mF_J3_checkIndex v1 (Int32.ofNat (gSlen.getD t0 0))).bind fun _ =>
    if g_in v1 (gSlen.getD t0 0) then
    if narrow .char (.int (((((gSbyt.getD t0 []).getD v1.toNatClampNeg 0) &&& (255 : Int32)).toUInt32 % 65536).toInt32)) = .int (((((gSbyt.getD t0 []).getD v1.toNatClampNeg 0) &&& (255 : Int32)).toUInt32 % 65536).toInt32) then some (((((gSbyt.getD t0 []).getD v1.toNatClampNeg 0) &&& (255 : Int32)).toUInt32 % 65536).toInt32) else none
  else none
noncomputable def mF_J3_charAt (t9 : Nat) (v1 : Int32) : Option Int32 :=
  (mF_J3_isLatin1 t9).bind fun x1 =>
    if x1 = 0 then
    none
  else
    (mF_J4_charAt t9 v1).bind fun x2 =>
    if narrow .char (.int x2) = .int x2 then some x2 else none
noncomputable def mF_J4_canEncode (v0 : Int32) : Option Int32 :=
  if v0 < 0 then
    some (0 : Int32)
  else
    if (255 : Int32) < v0 then
    some (0 : Int32)
  else
    some (1 : Int32)
noncomputable def mB_J4_indexOfChar_7 (t0 : Nat) (v3 : Int32) (v4 : Int32) (v5 : Int32) : Option (Int32 ⊕ (Int32 ⊕ Unit)) :=
  if v3 ≤ v5 then
    some (.inr (.inr ()))
  else
    if g_in v5 (gSlen.getD t0 0) then
    if ((gSbyt.getD t0 []).getD v5.toNatClampNeg 0) = v4 then
    some (.inr (.inl v5))
  else
    g_let (v5 + (1 : Int32)) fun x2 =>
    some (.inl x2)
  else none
noncomputable def mF_J4_indexOfChar (t0 : Nat) (v1 : Int32) (v2 : Int32) (v3 : Int32) : Option Int32 :=
  g_let (v1.toInt8.toInt32) fun x1 =>
    (g_lp (fun v => mB_J4_indexOfChar_7 t0 v3 x1 v) g_fu v2).bind fun e3 => (match e3 with
    | .inl y4 => some y4
    | .inr y5 => some (-1 : Int32))
noncomputable def mF_J4_indexOf (t0 : Nat) (v1 : Int32) (v2 : Int32) (v3 : Int32) : Option Int32 :=
  (mF_J4_canEncode v1).bind fun x1 =>
    if x1 = 0 then
    some (-1 : Int32)
  else
    g_let (g_max v2 (0 : Int32)) fun x2 =>
    g_let (g_min v3 (Int32.ofNat (gSlen.getD t0 0))) fun x3 =>
    if x2 < x3 then
    (mF_J4_indexOfChar t0 v1 x2 x3).bind fun x4 =>
    some x4
  else
    some (-1 : Int32)
noncomputable def mF_J3_indexOf_2 (t9 : Nat) (v1 : Int32) (v2 : Int32) : Option Int32 :=
  (mF_J3_isLatin1 t9).bind fun x1 =>
    if x1 = 0 then
    none
  else
    (mF_J3_length t9).bind fun x2 =>
    (mF_J4_indexOf t9 v1 v2 x2).bind fun x3 =>
    some x3
noncomputable def mF_J3_indexOf (t9 : Nat) (v1 : Int32) : Option Int32 :=
  (mF_J3_indexOf_2 t9 v1 (0 : Int32)).bind fun x1 =>
    some x1
noncomputable def mF_J8_bitCount (v0 : Int32) : Option Int32 :=
  g_let (v0 - (((v0.toUInt32 >>> ((1 : Int32).toUInt32 &&& Int32.toUInt32 31)).toInt32) &&& (1431655765 : Int32))) fun x1 =>
    g_let ((x1 &&& (858993459 : Int32)) + (((x1.toUInt32 >>> ((2 : Int32).toUInt32 &&& Int32.toUInt32 31)).toInt32) &&& (858993459 : Int32))) fun x2 =>
    g_let ((x2 + ((x2.toUInt32 >>> ((4 : Int32).toUInt32 &&& Int32.toUInt32 31)).toInt32)) &&& (252645135 : Int32)) fun x3 =>
    g_let (x3 + ((x3.toUInt32 >>> ((8 : Int32).toUInt32 &&& Int32.toUInt32 31)).toInt32)) fun x4 =>
    g_let (x4 + ((x4.toUInt32 >>> ((16 : Int32).toUInt32 &&& Int32.toUInt32 31)).toInt32)) fun x5 =>
    some (x5 &&& (63 : Int32))
noncomputable def mF_J8_signum (v0 : Int32) : Option Int32 :=
  some ((v0 >>> ((31 : Int32) &&& 31)) ||| (((-v0).toUInt32 >>> ((31 : Int32).toUInt32 &&& Int32.toUInt32 31)).toInt32))
noncomputable def mF_J12_bitCount (v0 : Int64) : Option Int32 :=
  g_let (v0 - (((v0.toUInt64 >>> ((1 : Int32).toInt64.toUInt64 &&& Int64.toUInt64 63)).toInt64) &&& (6148914691236517205 : Int64))) fun x1 =>
    g_let ((x1 &&& (3689348814741910323 : Int64)) + (((x1.toUInt64 >>> ((2 : Int32).toInt64.toUInt64 &&& Int64.toUInt64 63)).toInt64) &&& (3689348814741910323 : Int64))) fun x2 =>
    g_let ((x2 + ((x2.toUInt64 >>> ((4 : Int32).toInt64.toUInt64 &&& Int64.toUInt64 63)).toInt64)) &&& (1085102592571150095 : Int64)) fun x3 =>
    g_let (x3 + ((x3.toUInt64 >>> ((8 : Int32).toInt64.toUInt64 &&& Int64.toUInt64 63)).toInt64)) fun x4 =>
    g_let (x4 + ((x4.toUInt64 >>> ((16 : Int32).toInt64.toUInt64 &&& Int64.toUInt64 63)).toInt64)) fun x5 =>
    g_let (x5 + ((x5.toUInt64 >>> ((32 : Int32).toInt64.toUInt64 &&& Int64.toUInt64 63)).toInt64)) fun x6 =>
    some ((x6.toInt32) &&& (127 : Int32))
theorem dd_J3_coder : yJ3_coder.cls = RJ3 ∧ yJ3_coder.cls ≠ "java/lang/invoke/MethodHandle" ∧ yJ3_coder.cls ≠ "java/lang/invoke/VarHandle" ∧ (parseMethodDescriptor yJ3_coder.desc).map (fun d => d.parameters.length) = some 0 := by decide +kernel
theorem dd_J5_checkIndex : yJ5_checkIndex.cls ≠ "java/lang/invoke/MethodHandle" ∧ yJ5_checkIndex.cls ≠ "java/lang/invoke/VarHandle" ∧ (parseMethodDescriptor yJ5_checkIndex.desc).map (fun d => d.parameters.length) = some 3 := by decide +kernel
theorem dd_J3_checkIndex : yJ3_checkIndex.cls ≠ "java/lang/invoke/MethodHandle" ∧ yJ3_checkIndex.cls ≠ "java/lang/invoke/VarHandle" ∧ (parseMethodDescriptor yJ3_checkIndex.desc).map (fun d => d.parameters.length) = some 2 := by decide +kernel
theorem dd_J3_isLatin1 : yJ3_isLatin1.cls = RJ3 ∧ yJ3_isLatin1.cls ≠ "java/lang/invoke/MethodHandle" ∧ yJ3_isLatin1.cls ≠ "java/lang/invoke/VarHandle" ∧ (parseMethodDescriptor yJ3_isLatin1.desc).map (fun d => d.parameters.length) = some 0 := by decide +kernel
theorem dd_J4_charAt : yJ4_charAt.cls ≠ "java/lang/invoke/MethodHandle" ∧ yJ4_charAt.cls ≠ "java/lang/invoke/VarHandle" ∧ (parseMethodDescriptor yJ4_charAt.desc).map (fun d => d.parameters.length) = some 2 := by decide +kernel
theorem dd_J4_canEncode : yJ4_canEncode.cls ≠ "java/lang/invoke/MethodHandle" ∧ yJ4_canEncode.cls ≠ "java/lang/invoke/VarHandle" ∧ (parseMethodDescriptor yJ4_canEncode.desc).map (fun d => d.parameters.length) = some 1 := by decide +kernel
theorem dd_J4_indexOfChar : yJ4_indexOfChar.cls ≠ "java/lang/invoke/MethodHandle" ∧ yJ4_indexOfChar.cls ≠ "java/lang/invoke/VarHandle" ∧ (parseMethodDescriptor yJ4_indexOfChar.desc).map (fun d => d.parameters.length) = some 4 := by decide +kernel
theorem dd_J3_length : yJ3_length.cls = RJ3 ∧ yJ3_length.cls ≠ "java/lang/invoke/MethodHandle" ∧ yJ3_length.cls ≠ "java/lang/invoke/VarHandle" ∧ (parseMethodDescriptor yJ3_length.desc).map (fun d => d.parameters.length) = some 0 := by decide +kernel
theorem dd_J4_indexOf : yJ4_indexOf.cls ≠ "java/lang/invoke/MethodHandle" ∧ yJ4_indexOf.cls ≠ "java/lang/invoke/VarHandle" ∧ (parseMethodDescriptor yJ4_indexOf.desc).map (fun d => d.parameters.length) = some 4 := by decide +kernel
theorem dd_J3_indexOf_2 : yJ3_indexOf_2.cls = RJ3 ∧ yJ3_indexOf_2.cls ≠ "java/lang/invoke/MethodHandle" ∧ yJ3_indexOf_2.cls ≠ "java/lang/invoke/VarHandle" ∧ (parseMethodDescriptor yJ3_indexOf_2.desc).map (fun d => d.parameters.length) = some 2 := by decide +kernel
theorem lk_J3_335 {X : g_F} {cc : ByteArray} {ret : Option FieldType} (C : g_M gCl X cc RJ3 ret) {nn ck sk : Nat} (hR : g_R X = g_rm nn ck sk) (hn : 1 + 1 ≤ nn ∧ 8 + (1 + 11) + 40 * 1 ≤ 40 * nn) : CallW (g_R X) (g_s X) (g_as X) RJ3 RJ3 335 yJ3_coder cJ3_coder 1 (some .byte) (ws_ yJ3_coder cJ3_coder 1 (some .byte)) (g_rm 1 0 0) 0 0 0 :=
  cwV 0 C.2.2.2.2.1 (lw_V q611 q612 q613 q121 q614) rfl rfl rfl dd_J3_coder (by rw [hR]; exact hn)
theorem lk_J3_1059 {X : g_F} {cc : ByteArray} {ret : Option FieldType} (C : g_M gCl X cc RJ3 ret) {nn ck sk : Nat} (hR : g_R X = g_rm nn ck sk) (hn : 1 + 1 ≤ nn ∧ 8 + (3 + 11) + 40 * 1 ≤ 40 * nn) : CallB (g_R X) (g_s X) (g_as X) RJ3 1059 yJ5_checkIndex cJ5_checkIndex 3 (some .int) (ws_ yJ5_checkIndex cJ5_checkIndex 3 (some .int)) (g_rm 1 0 0) 0 0 3 ∧ (Cond.static yJ5_checkIndex).before (g_as X) (g_s X) = true :=
  va_cwS 3 C.2.2.2.2.1 (lw_S q1477 q1478 q123 q1479) rfl rfl rfl dd_J5_checkIndex (by rw [hR]; exact hn)
theorem lk_J4_9 {X : g_F} {cc : ByteArray} {ret : Option FieldType} (C : g_M gCl X cc RJ4 ret) {nn ck sk : Nat} (hR : g_R X = g_rm nn ck sk) (hn : 2 + 1 ≤ nn ∧ 8 + (2 + 11) + 40 * 2 ≤ 40 * nn) : CallB (g_R X) (g_s X) (g_as X) RJ4 9 yJ3_checkIndex cJ3_checkIndex 2 none (ws_ yJ3_checkIndex cJ3_checkIndex 2 none) (g_rm 2 0 0) 0 0 2 ∧ (Cond.static yJ3_checkIndex).before (g_as X) (g_s X) = true :=
  va_cwS 2 C.2.2.2.2.1 (lw_S q1474 q1475 q121 q1476) rfl rfl rfl dd_J3_checkIndex (by rw [hR]; exact hn)
theorem lk_J3_492 {X : g_F} {cc : ByteArray} {ret : Option FieldType} (C : g_M gCl X cc RJ3 ret) {nn ck sk : Nat} (hR : g_R X = g_rm nn ck sk) (hn : 1 + 1 ≤ nn ∧ 8 + (1 + 11) + 40 * 1 ≤ 40 * nn) : CallW (g_R X) (g_s X) (g_as X) RJ3 RJ3 492 yJ3_isLatin1 cJ3_isLatin1 1 (some .boolean) (ws_ yJ3_isLatin1 cJ3_isLatin1 1 (some .boolean)) (g_rm 1 0 0) 0 0 0 :=
  cwV 0 C.2.2.2.2.1 (lw_V q601 q602 q603 q121 q604) rfl rfl rfl dd_J3_isLatin1 (by rw [hR]; exact hn)
theorem lk_J3_495 {X : g_F} {cc : ByteArray} {ret : Option FieldType} (C : g_M gCl X cc RJ3 ret) {nn ck sk : Nat} (hR : g_R X = g_rm nn ck sk) (hn : 3 + 1 ≤ nn ∧ 8 + (2 + 11) + 40 * 3 ≤ 40 * nn) : CallB (g_R X) (g_s X) (g_as X) RJ3 495 yJ4_charAt cJ4_charAt 2 (some .char) (ws_ yJ4_charAt cJ4_charAt 2 (some .char)) (g_rm 3 0 0) 0 0 2 ∧ (Cond.static yJ4_charAt).before (g_as X) (g_s X) = true :=
  va_cwS 2 C.2.2.2.2.1 (lw_S q1471 q1472 q122 q1473) rfl rfl rfl dd_J4_charAt (by rw [hR]; exact hn)
theorem lk_J4_88 {X : g_F} {cc : ByteArray} {ret : Option FieldType} (C : g_M gCl X cc RJ4 ret) {nn ck sk : Nat} (hR : g_R X = g_rm nn ck sk) (hn : 1 + 1 ≤ nn ∧ 8 + (1 + 11) + 40 * 1 ≤ 40 * nn) : CallB (g_R X) (g_s X) (g_as X) RJ4 88 yJ4_canEncode cJ4_canEncode 1 (some .boolean) (ws_ yJ4_canEncode cJ4_canEncode 1 (some .boolean)) (g_rm 1 0 0) 0 0 1 ∧ (Cond.static yJ4_canEncode).before (g_as X) (g_s X) = true :=
  va_cwS 1 C.2.2.2.2.1 (lw_S q618 q619 q122 q620) rfl rfl rfl dd_J4_canEncode (by rw [hR]; exact hn)
theorem lk_J4_95 {X : g_F} {cc : ByteArray} {ret : Option FieldType} (C : g_M gCl X cc RJ4 ret) {nn ck sk : Nat} (hR : g_R X = g_rm nn ck sk) (hn : 1 + 1 ≤ nn ∧ 8 + (6 + 11) + 40 * 1 ≤ 40 * nn) : CallB (g_R X) (g_s X) (g_as X) RJ4 95 yJ4_indexOfChar cJ4_indexOfChar 6 (some .int) (ws_ yJ4_indexOfChar cJ4_indexOfChar 6 (some .int)) (g_rm 1 0 0) 0 0 4 ∧ (Cond.static yJ4_indexOfChar).before (g_as X) (g_s X) = true :=
  va_cwS 4 C.2.2.2.2.1 (lw_S q623 q624 q122 q625) rfl rfl rfl dd_J4_indexOfChar (by rw [hR]; exact hn)
theorem lk_J3_505 {X : g_F} {cc : ByteArray} {ret : Option FieldType} (C : g_M gCl X cc RJ3 ret) {nn ck sk : Nat} (hR : g_R X = g_rm nn ck sk) (hn : 2 + 1 ≤ nn ∧ 8 + (1 + 11) + 40 * 2 ≤ 40 * nn) : CallW (g_R X) (g_s X) (g_as X) RJ3 RJ3 505 yJ3_length cJ3_length 1 (some .int) (ws_ yJ3_length cJ3_length 1 (some .int)) (g_rm 2 0 0) 0 0 0 :=
  cwV 0 C.2.2.2.2.1 (lw_V q607 q608 q609 q121 q610) rfl rfl rfl dd_J3_length (by rw [hR]; exact hn)
theorem lk_J3_637 {X : g_F} {cc : ByteArray} {ret : Option FieldType} (C : g_M gCl X cc RJ3 ret) {nn ck sk : Nat} (hR : g_R X = g_rm nn ck sk) (hn : 2 + 1 ≤ nn ∧ 8 + (4 + 11) + 40 * 2 ≤ 40 * nn) : CallB (g_R X) (g_s X) (g_as X) RJ3 637 yJ4_indexOf cJ4_indexOf 4 (some .int) (ws_ yJ4_indexOf cJ4_indexOf 4 (some .int)) (g_rm 2 0 0) 0 0 4 ∧ (Cond.static yJ4_indexOf).before (g_as X) (g_s X) = true :=
  va_cwS 4 C.2.2.2.2.1 (lw_S q615 q616 q122 q617) rfl rfl rfl dd_J4_indexOf (by rw [hR]; exact hn)
theorem lk_J3_633 {X : g_F} {cc : ByteArray} {ret : Option FieldType} (C : g_M gCl X cc RJ3 ret) {nn ck sk : Nat} (hR : g_R X = g_rm nn ck sk) (hn : 3 + 1 ≤ nn ∧ 8 + (3 + 11) + 40 * 3 ≤ 40 * nn) : CallW (g_R X) (g_s X) (g_as X) RJ3 RJ3 633 yJ3_indexOf_2 cJ3_indexOf_2 3 (some .int) (ws_ yJ3_indexOf_2 cJ3_indexOf_2 3 (some .int)) (g_rm 3 0 0) 0 0 2 :=
  cwV 2 C.2.2.2.2.1 (lw_V q597 q598 q599 q121 q600) rfl rfl rfl dd_J3_indexOf_2 (by rw [hR]; exact hn)
theorem mw_J3_coder {X : g_F} {LM : g_L} (C : g_M gCl X cJ3_coder RJ3 (some .byte)) (hR : g_R X = g_rm 1 0 0) (hL : g_nL X = 1) {t9 : Nat} (hu_t9 : t9 < 6) {ad : Nat → Nat → Nat} {σ : g_S} {o : Int32} (h : mF_J3_coder t9 = some o) (hQ : g_MQ gCl X LM ad σ (some (.int o)) = g_Q X) : g_Y gCl X LM ad σ (0, 0) 0 [(0, .ref (g_str (g_s0 X) (g_b0 X) t9))] [] := by
  unfold mF_J3_coder at h
  refine y_compact C q605 dJ3_coder_0 ?_
  refine y_if_eq (tgt := 13) C dJ3_coder_3 rfl (fun hc => absurd hc (by decide)) (fun hc => ?_)
  refine y_aload_n C dJ3_coder_6 0 rfl rfl ?_
  refine y_strcod C hu_t9 q1966 dJ3_coder_7 ?_
  refine y_goto (tgt := 14) C dJ3_coder_10 rfl ?_
  replace h := Option.some.inj h; subst h
  exact y_zret C (by decide) hQ ⟨Nat.zero_le _, Nat.zero_le _⟩ dJ3_coder_14
theorem ct_J3_coder {D : va_G} {dA : Nat → ClassId} {A : Nat → Prop} {s0 : State} {b0 : Nat} {l : Launch} {LM : g_L} {t9 : Nat} (hu_t9 : t9 < 6) {ad : Nat → Nat → Nat} {σ : g_S} {r : Int32} (h : mF_J3_coder t9 = some r) : g_Met gCl D dA A s0 b0 l yJ3_coder cJ3_coder 1 (some .byte) 1 (0, 0) LM ad σ [.ref (g_str s0 b0 t9)] LM ad σ (some (.int r)) :=
  g_Met.of pl_J3 (Nat.le_of_ble_eq_true rfl) (fun X C hQ hR _ _ hL _ es eb => by subst es; subst eb; exact mw_J3_coder C hR hL hu_t9 h hQ)
theorem mw_J3_length {X : g_F} {LM : g_L} (C : g_M gCl X cJ3_length RJ3 (some .int)) (hR : g_R X = g_rm 2 0 0) (hL : g_nL X = 1) {t9 : Nat} (hu_t9 : t9 < 6) {ad : Nat → Nat → Nat} {σ : g_S} {o : Int32} (h : mF_J3_length t9 = some o) (hQ : g_MQ gCl X LM ad σ (some (.int o)) = g_Q X) : g_Y gCl X LM ad σ (0, 0) 0 [(0, .ref (g_str (g_s0 X) (g_b0 X) t9))] [] := by
  unfold mF_J3_length at h
  refine y_aload_n C dJ3_length_0 0 rfl rfl ?_
  refine y_strval C hu_t9 q1965 dJ3_length_1 ?_
  refine y_strlen C hu_t9 dJ3_length_4 ?_
  refine y_aload_n C dJ3_length_5 0 rfl rfl ?_
  obtain ⟨x1, hc, h⟩ := g_bd h
  refine y_callH C (As := []) (rest := [.int (Int32.ofNat (gSlen.getD t9 0))]) (C1 := "java/lang/String") (fun H locs hS => vk_recv (g_strX C) hu_t9 hS) (lk_J3_335 C hR (by decide)) (ct_J3_coder hu_t9 hc) rfl rfl (Nat.le_of_ble_eq_true rfl) ⟨Nat.zero_le _, Nat.zero_le _⟩ dJ3_length_6 ?_
  refine y_ishr C dJ3_length_9 ?_
  replace h := Option.some.inj h; subst h
  exact y_iret C hQ ⟨Nat.zero_le _, Nat.zero_le _⟩ dJ3_length_10
theorem ct_J3_length {D : va_G} {dA : Nat → ClassId} {A : Nat → Prop} {s0 : State} {b0 : Nat} {l : Launch} {LM : g_L} {t9 : Nat} (hu_t9 : t9 < 6) {ad : Nat → Nat → Nat} {σ : g_S} {r : Int32} (h : mF_J3_length t9 = some r) : g_Met gCl D dA A s0 b0 l yJ3_length cJ3_length 1 (some .int) 2 (0, 0) LM ad σ [.ref (g_str s0 b0 t9)] LM ad σ (some (.int r)) :=
  g_Met.of pl_J3 (Nat.le_of_ble_eq_true rfl) (fun X C hQ hR _ _ hL _ es eb => by subst es; subst eb; exact mw_J3_length C hR hL hu_t9 h hQ)
theorem mw_J3_isLatin1 {X : g_F} {LM : g_L} (C : g_M gCl X cJ3_isLatin1 RJ3 (some .boolean)) (hR : g_R X = g_rm 1 0 0) (hL : g_nL X = 1) {t9 : Nat} (hu_t9 : t9 < 6) {ad : Nat → Nat → Nat} {σ : g_S} {o : Int32} (h : mF_J3_isLatin1 t9 = some o) (hQ : g_MQ gCl X LM ad σ (some (.int o)) = g_Q X) : g_Y gCl X LM ad σ (0, 0) 0 [(0, .ref (g_str (g_s0 X) (g_b0 X) t9))] [] := by
  unfold mF_J3_isLatin1 at h
  refine y_compact C q605 dJ3_isLatin1_0 ?_
  refine y_if_eq (tgt := 17) C dJ3_isLatin1_3 rfl (fun hc => absurd hc (by decide)) (fun hc => ?_)
  refine y_aload_n C dJ3_isLatin1_6 0 rfl rfl ?_
  refine y_strcod C hu_t9 q1966 dJ3_isLatin1_7 ?_
  refine y_if_ne (tgt := 17) C dJ3_isLatin1_10 rfl (fun hc => absurd hc (by decide)) (fun hc => ?_)
  refine y_iconst (v := (1 : Int32)) C dJ3_isLatin1_13 (by decide) ?_
  refine y_goto (tgt := 18) C dJ3_isLatin1_14 rfl ?_
  replace h := Option.some.inj h; subst h
  exact y_zret C (by decide) hQ ⟨Nat.zero_le _, Nat.zero_le _⟩ dJ3_isLatin1_18
theorem ct_J3_isLatin1 {D : va_G} {dA : Nat → ClassId} {A : Nat → Prop} {s0 : State} {b0 : Nat} {l : Launch} {LM : g_L} {t9 : Nat} (hu_t9 : t9 < 6) {ad : Nat → Nat → Nat} {σ : g_S} {r : Int32} (h : mF_J3_isLatin1 t9 = some r) : g_Met gCl D dA A s0 b0 l yJ3_isLatin1 cJ3_isLatin1 1 (some .boolean) 1 (0, 0) LM ad σ [.ref (g_str s0 b0 t9)] LM ad σ (some (.int r)) :=
  g_Met.of pl_J3 (Nat.le_of_ble_eq_true rfl) (fun X C hQ hR _ _ hL _ es eb => by subst es; subst eb; exact mw_J3_isLatin1 C hR hL hu_t9 h hQ)
theorem mj_J5_checkIndex_9 {X : g_F} {LM : g_L} (C : g_M gCl X cJ5_checkIndex RJ5 (some .int)) (hR : g_R X = g_rm 1 0 0) (hL : g_nL X = 3) {fv : Value} (hfv : fv = .null ∨ ∃ a, fv = .ref a) {ad : Nat → Nat → Nat} {σ : g_S} {v0 : Int32} {v1 : Int32} {o : Int32} (h : mJ_J5_checkIndex_9 v0 v1 = some o) (hQ : g_MQ gCl X LM ad σ (some (.int o)) = g_Q X) : g_Y gCl X LM ad σ (0, 0) 9 [(0, .int v0), (1, .int v1), (2, fv)] [] := by
  unfold mJ_J5_checkIndex_9 at h
  cases h
theorem mw_J5_checkIndex {X : g_F} {LM : g_L} (C : g_M gCl X cJ5_checkIndex RJ5 (some .int)) (hR : g_R X = g_rm 1 0 0) (hL : g_nL X = 3) {fv : Value} (hfv : fv = .null ∨ ∃ a, fv = .ref a) {ad : Nat → Nat → Nat} {σ : g_S} {v0 : Int32} {v1 : Int32} {o : Int32} (h : mF_J5_checkIndex v0 v1 = some o) (hQ : g_MQ gCl X LM ad σ (some (.int o)) = g_Q X) : g_Y gCl X LM ad σ (0, 0) 0 [(0, .int v0), (1, .int v1), (2, fv)] [] := by
  unfold mF_J5_checkIndex at h
  refine y_iload_n C dJ5_checkIndex_0 0 rfl rfl ?_
  refine y_if_lt (tgt := 9) C dJ5_checkIndex_1 rfl (fun hc => ?_) (fun hc => ?_)
  · replace h := g_it h hc
    exact mj_J5_checkIndex_9 C hR hL hfv h hQ
  · replace h := g_if h hc
    refine y_iload_n C dJ5_checkIndex_4 0 rfl rfl ?_
    refine y_iload_n C dJ5_checkIndex_5 1 rfl rfl ?_
    refine y_icmp_lt (tgt := 16) C dJ5_checkIndex_6 rfl (fun hc => ?_) (fun hc => ?_)
    · replace h := g_it h hc
      refine y_iload_n C dJ5_checkIndex_16 0 rfl rfl ?_
      replace h := Option.some.inj h; subst h
      exact y_iret C hQ ⟨Nat.zero_le _, Nat.zero_le _⟩ dJ5_checkIndex_17
    · replace h := g_if h hc
      exact mj_J5_checkIndex_9 C hR hL hfv h hQ
theorem ct_J5_checkIndex {D : va_G} {dA : Nat → ClassId} {A : Nat → Prop} {s0 : State} {b0 : Nat} {l : Launch} {LM : g_L} {ad : Nat → Nat → Nat} {σ : g_S} {fv : Value} (hfv : fv = .null ∨ ∃ a, fv = .ref a)  {v0 : Int32} {v1 : Int32} {r : Int32} (h : mF_J5_checkIndex v0 v1 = some r) : g_Met gCl D dA A s0 b0 l yJ5_checkIndex cJ5_checkIndex 3 (some .int) 1 (0, 0) LM ad σ [.int v0, .int v1, fv] LM ad σ (some (.int r)) :=
  by rcases id hfv with rfl | ⟨a, rfl⟩ <;> exact g_Met.of pl_J5 (Nat.le_of_ble_eq_true rfl) (fun X C hQ hR _ _ hL _ es eb => mw_J5_checkIndex C hR hL hfv h hQ)
theorem mw_J3_checkIndex {X : g_F} {LM : g_L} (C : g_M gCl X cJ3_checkIndex RJ3 none) (hR : g_R X = g_rm 2 0 0) (hL : g_nL X = 2) {ad : Nat → Nat → Nat} {σ : g_S} {v0 : Int32} {v1 : Int32} {o : Unit} (h : mF_J3_checkIndex v0 v1 = some o) (hQ : g_MQ gCl X LM ad σ none = g_Q X) : g_Y gCl X LM ad σ (0, 0) 0 [(0, .int v0), (1, .int v1)] [] := by
  unfold mF_J3_checkIndex at h
  refine y_iload_n C dJ3_checkIndex_0 0 rfl rfl ?_
  refine y_iload_n C dJ3_checkIndex_1 1 rfl rfl ?_
  refine y_sioobe C q644 dJ3_checkIndex_2 (fun fv hfv => ?_)
  obtain ⟨x1, hc, h⟩ := g_bd h
  refine y_callS C (As := [.int v0, .int v1, fv]) (rest := []) (lk_J3_1059 C hR (by decide)) (ct_J5_checkIndex hfv hc) rfl rfl (Nat.le_of_ble_eq_true rfl) ⟨Nat.zero_le _, Nat.zero_le _⟩ dJ3_checkIndex_5 ?_
  refine y_pop C dJ3_checkIndex_8 rfl ?_
  replace h := Option.some.inj h; subst h
  exact y_vret C hQ ⟨Nat.zero_le _, Nat.zero_le _⟩ dJ3_checkIndex_9
theorem ct_J3_checkIndex {D : va_G} {dA : Nat → ClassId} {A : Nat → Prop} {s0 : State} {b0 : Nat} {l : Launch} {LM : g_L} {ad : Nat → Nat → Nat} {σ : g_S} {v0 : Int32} {v1 : Int32}  (h : mF_J3_checkIndex v0 v1 = some ()) : g_Met gCl D dA A s0 b0 l yJ3_checkIndex cJ3_checkIndex 2 none 2 (0, 0) LM ad σ [.int v0, .int v1] LM ad σ none :=
  g_Met.of pl_J3 (Nat.le_of_ble_eq_true rfl) (fun X C hQ hR _ _ hL _ es eb => mw_J3_checkIndex C hR hL h hQ)
theorem mw_J4_charAt {X : g_F} {LM : g_L} (C : g_M gCl X cJ4_charAt RJ4 (some .char)) (hR : g_R X = g_rm 3 0 0) (hL : g_nL X = 2) {t0 : Nat} (hu_t0 : t0 < 6) {ad : Nat → Nat → Nat} {σ : g_S} {v1 : Int32} {o : Int32} (h : mF_J4_charAt t0 v1 = some o) (hQ : g_MQ gCl X LM ad σ (some (.int o)) = g_Q X) : g_Y gCl X LM ad σ (0, 0) 0 [(0, .ref (g_stv (g_s0 X) (g_b0 X) t0)), (1, .int v1)] [] := by
  unfold mF_J4_charAt at h
  refine y_iload_n C dJ4_charAt_0 1 rfl rfl ?_
  refine y_aload_n C dJ4_charAt_1 0 rfl rfl ?_
  refine y_strlen C hu_t0 dJ4_charAt_2 ?_
  obtain ⟨_, hc, h⟩ := g_bd h
  refine y_callSv C (As := [.int v1, .int (Int32.ofNat (gSlen.getD t0 0))]) (rest := []) (lk_J4_9 C hR (by decide)) (ct_J3_checkIndex hc) rfl rfl (Nat.le_of_ble_eq_true rfl) ⟨Nat.zero_le _, Nat.zero_le _⟩ dJ4_charAt_3 ?_
  refine y_aload_n C dJ4_charAt_6 0 rfl rfl ?_
  refine y_iload_n C dJ4_charAt_7 1 rfl rfl ?_
  obtain ⟨hg, h⟩ := g_gd h
  refine y_strld C hu_t0 hg dJ4_charAt_8 ?_
  refine y_sipush (v := (255 : Int32)) C dJ4_charAt_9 (by decide) ?_
  refine y_iand C dJ4_charAt_12 ?_
  refine y_i2c C dJ4_charAt_13 ?_
  obtain ⟨hg, h⟩ := g_gd h
  replace h := Option.some.inj h; subst h
  exact y_zret C hg hQ ⟨Nat.zero_le _, Nat.zero_le _⟩ dJ4_charAt_14
theorem ct_J4_charAt {D : va_G} {dA : Nat → ClassId} {A : Nat → Prop} {s0 : State} {b0 : Nat} {l : Launch} {LM : g_L} {t0 : Nat} (hu_t0 : t0 < 6) {ad : Nat → Nat → Nat} {σ : g_S} {v1 : Int32} {r : Int32} (h : mF_J4_charAt t0 v1 = some r) : g_Met gCl D dA A s0 b0 l yJ4_charAt cJ4_charAt 2 (some .char) 3 (0, 0) LM ad σ [.ref (g_stv s0 b0 t0), .int v1] LM ad σ (some (.int r)) :=
  g_Met.of pl_J4 (Nat.le_of_ble_eq_true rfl) (fun X C hQ hR _ _ hL _ es eb => by subst es; subst eb; exact mw_J4_charAt C hR hL hu_t0 h hQ)
theorem mw_J3_charAt {X : g_F} {LM : g_L} (C : g_M gCl X cJ3_charAt RJ3 (some .char)) (hR : g_R X = g_rm 4 0 0) (hL : g_nL X = 2) {t9 : Nat} (hu_t9 : t9 < 6) {ad : Nat → Nat → Nat} {σ : g_S} {v1 : Int32} {o : Int32} (h : mF_J3_charAt t9 v1 = some o) (hQ : g_MQ gCl X LM ad σ (some (.int o)) = g_Q X) : g_Y gCl X LM ad σ (0, 0) 0 [(0, .ref (g_str (g_s0 X) (g_b0 X) t9)), (1, .int v1)] [] := by
  unfold mF_J3_charAt at h
  refine y_aload_n C dJ3_charAt_0 0 rfl rfl ?_
  obtain ⟨x1, hc, h⟩ := g_bd h
  refine y_callH C (As := []) (rest := []) (C1 := "java/lang/String") (fun H locs hS => vk_recv (g_strX C) hu_t9 hS) (lk_J3_492 C hR (by decide)) (ct_J3_isLatin1 hu_t9 hc) rfl rfl (Nat.le_of_ble_eq_true rfl) ⟨Nat.zero_le _, Nat.zero_le _⟩ dJ3_charAt_1 ?_
  refine y_if_eq (tgt := 16) C dJ3_charAt_4 rfl (fun hc => ?_) (fun hc => ?_)
  · replace h := g_it h hc
    cases h
  · replace h := g_if h hc
    refine y_aload_n C dJ3_charAt_7 0 rfl rfl ?_
    refine y_strval C hu_t9 q1965 dJ3_charAt_8 ?_
    refine y_iload_n C dJ3_charAt_11 1 rfl rfl ?_
    obtain ⟨x2, hc, h⟩ := g_bd h
    refine y_callS C (As := [.ref (g_stv (g_s0 X) (g_b0 X) t9), .int v1]) (rest := []) (lk_J3_495 C hR (by decide)) (ct_J4_charAt hu_t9 hc) rfl rfl (Nat.le_of_ble_eq_true rfl) ⟨Nat.zero_le _, Nat.zero_le _⟩ dJ3_charAt_12 ?_
    obtain ⟨hg, h⟩ := g_gd h
    replace h := Option.some.inj h; subst h
    exact y_zret C hg hQ ⟨Nat.zero_le _, Nat.zero_le _⟩ dJ3_charAt_15
theorem ct_J3_charAt {D : va_G} {dA : Nat → ClassId} {A : Nat → Prop} {s0 : State} {b0 : Nat} {l : Launch} {LM : g_L} {t9 : Nat} (hu_t9 : t9 < 6) {ad : Nat → Nat → Nat} {σ : g_S} {v1 : Int32} {r : Int32} (h : mF_J3_charAt t9 v1 = some r) : g_Met gCl D dA A s0 b0 l yJ3_charAt cJ3_charAt 2 (some .char) 4 (0, 0) LM ad σ [.ref (g_str s0 b0 t9), .int v1] LM ad σ (some (.int r)) :=
  g_Met.of pl_J3 (Nat.le_of_ble_eq_true rfl) (fun X C hQ hR _ _ hL _ es eb => by subst es; subst eb; exact mw_J3_charAt C hR hL hu_t9 h hQ)
theorem mw_J4_canEncode {X : g_F} {LM : g_L} (C : g_M gCl X cJ4_canEncode RJ4 (some .boolean)) (hR : g_R X = g_rm 1 0 0) (hL : g_nL X = 1) {ad : Nat → Nat → Nat} {σ : g_S} {v0 : Int32} {o : Int32} (h : mF_J4_canEncode v0 = some o) (hQ : g_MQ gCl X LM ad σ (some (.int o)) = g_Q X) : g_Y gCl X LM ad σ (0, 0) 0 [(0, .int v0)] [] := by
  unfold mF_J4_canEncode at h
  refine y_iload_n C dJ4_canEncode_0 0 rfl rfl ?_
  refine y_if_lt (tgt := 15) C dJ4_canEncode_1 rfl (fun hc => ?_) (fun hc => ?_)
  · replace h := g_it h hc
    refine y_iconst (v := (0 : Int32)) C dJ4_canEncode_15 (by decide) ?_
    replace h := Option.some.inj h; subst h
    exact y_zret C (by decide) hQ ⟨Nat.zero_le _, Nat.zero_le _⟩ dJ4_canEncode_16
  · replace h := g_if h hc
    refine y_iload_n C dJ4_canEncode_4 0 rfl rfl ?_
    refine y_sipush (v := (255 : Int32)) C dJ4_canEncode_5 (by decide) ?_
    refine y_icmp_gt (tgt := 15) C dJ4_canEncode_8 rfl (fun hc => ?_) (fun hc => ?_)
    · replace h := g_it h hc
      refine y_iconst (v := (0 : Int32)) C dJ4_canEncode_15 (by decide) ?_
      replace h := Option.some.inj h; subst h
      exact y_zret C (by decide) hQ ⟨Nat.zero_le _, Nat.zero_le _⟩ dJ4_canEncode_16
    · replace h := g_if h hc
      refine y_iconst (v := (1 : Int32)) C dJ4_canEncode_11 (by decide) ?_
      refine y_goto (tgt := 16) C dJ4_canEncode_12 rfl ?_
      replace h := Option.some.inj h; subst h
      exact y_zret C (by decide) hQ ⟨Nat.zero_le _, Nat.zero_le _⟩ dJ4_canEncode_16
theorem ct_J4_canEncode {D : va_G} {dA : Nat → ClassId} {A : Nat → Prop} {s0 : State} {b0 : Nat} {l : Launch} {LM : g_L} {ad : Nat → Nat → Nat} {σ : g_S} {v0 : Int32} {r : Int32} (h : mF_J4_canEncode v0 = some r) : g_Met gCl D dA A s0 b0 l yJ4_canEncode cJ4_canEncode 1 (some .boolean) 1 (0, 0) LM ad σ [.int v0] LM ad σ (some (.int r)) :=
  g_Met.of pl_J4 (Nat.le_of_ble_eq_true rfl) (fun X C hQ hR _ _ hL _ es eb => mw_J4_canEncode C hR hL h hQ)
theorem ml_J4_indexOfChar_7 {X : g_F} {LM : g_L} (C : g_M gCl X cJ4_indexOfChar RJ4 (some .int)) (hR : g_R X = g_rm 1 0 0) (hL : g_nL X = 6) {t0 : Nat} (hu_t0 : t0 < 6) {ad : Nat → Nat → Nat} {σ : g_S} {v3 : Int32} {v4 : Int32} (n : Nat) (v : Int32) (e : (Int32 ⊕ Unit)) (h : g_lp (fun v => mB_J4_indexOfChar_7 t0 v3 v4 v) n v = some e) (kx : (∀ y, e = .inl y → g_Y gCl X LM ad σ (0, 0) 22 [(5, .int y)] []) ∧ (∀ y, e = .inr y → g_Y gCl X LM ad σ (0, 0) 31 [] [])) : g_Y gCl X LM ad σ (0, 0) 7 [(0, .ref (g_stv (g_s0 X) (g_b0 X) t0)), (3, .int v3), (4, .int v4), (5, .int v)] [] := by
  refine g_loop (P := fun v => g_Y gCl X LM ad σ (0, 0) 7 [(0, .ref (g_stv (g_s0 X) (g_b0 X) t0)), (3, .int v3), (4, .int v4), (5, .int v)] []) (T := fun e => (∀ y, e = .inl y → g_Y gCl X LM ad σ (0, 0) 22 [(5, .int y)] []) ∧ (∀ y, e = .inr y → g_Y gCl X LM ad σ (0, 0) 31 [] [])) ?_ n v e h kx
  clear h kx
  clear n v e
  intro v o h kl kx
  obtain ⟨v5, rfl⟩ : ∃ z, z = v := ⟨_, rfl⟩
  have h : mB_J4_indexOfChar_7 t0 v3 v4 v5 = some o := h
  unfold mB_J4_indexOfChar_7 at h
  show g_Y gCl X LM ad σ (0, 0) 7 [(0, .ref (g_stv (g_s0 X) (g_b0 X) t0)), (3, .int v3), (4, .int v4), (5, .int v5)] []
  refine y_iload C dJ4_indexOfChar_7 3 rfl ?_
  refine y_iload_n C dJ4_indexOfChar_9 1 rfl rfl ?_
  refine y_icmp_ge (tgt := 31) C dJ4_indexOfChar_10 rfl (fun hc => ?_) (fun hc => ?_)
  · replace h := g_it h hc
    refine y_sub (vs2 := []) [] rfl ?_
    exact (kx _ (Option.some.inj h).symm).2 _ rfl
  · replace h := g_if h hc
    refine y_aload_n C dJ4_indexOfChar_13 0 rfl rfl ?_
    refine y_iload C dJ4_indexOfChar_14 3 rfl ?_
    obtain ⟨hg, h⟩ := g_gd h
    refine y_strld C hu_t0 hg dJ4_indexOfChar_16 ?_
    refine y_iload C dJ4_indexOfChar_17 2 rfl ?_
    refine y_icmp_ne (tgt := 25) C dJ4_indexOfChar_19 rfl (fun hc => ?_) (fun hc => ?_)
    · replace h := g_if h hc
      obtain ⟨x2, hx2, h⟩ := g_lt h
      refine y_iinc (c := (1 : Int32)) (vs1 := [(5, .int x2), (0, .ref (g_stv (g_s0 X) (g_b0 X) t0)), (3, .int v3), (4, .int v4)]) C hx2 (by decide) dJ4_indexOfChar_25 3 rfl (g_lL hL rfl) rfl ?_
      refine y_goto (tgt := 7) C dJ4_indexOfChar_28 rfl ?_
      refine y_sub (vs2 := [(0, .ref (g_stv (g_s0 X) (g_b0 X) t0)), (3, .int v3), (4, .int v4), (5, .int x2)]) [1, 2, 3, 0] rfl ?_
      exact kl _ (Option.some.inj h).symm
    · replace h := g_it h hc
      refine y_sub (vs2 := [(5, .int v5)]) [3] rfl ?_
      exact (kx _ (Option.some.inj h).symm).1 _ rfl
theorem mw_J4_indexOfChar {X : g_F} {LM : g_L} (C : g_M gCl X cJ4_indexOfChar RJ4 (some .int)) (hR : g_R X = g_rm 1 0 0) (hL : g_nL X = 6) {t0 : Nat} (hu_t0 : t0 < 6) {ad : Nat → Nat → Nat} {σ : g_S} {v1 : Int32} {v2 : Int32} {v3 : Int32} {o : Int32} (h : mF_J4_indexOfChar t0 v1 v2 v3 = some o) (hQ : g_MQ gCl X LM ad σ (some (.int o)) = g_Q X) : g_Y gCl X LM ad σ (0, 0) 0 [(0, .ref (g_stv (g_s0 X) (g_b0 X) t0)), (1, .int v1), (2, .int v2), (3, .int v3)] [] := by
  unfold mF_J4_indexOfChar at h
  refine y_iload_n C dJ4_indexOfChar_0 1 rfl rfl ?_
  refine y_i2b C dJ4_indexOfChar_1 ?_
  obtain ⟨x1, hx1, h⟩ := g_lt h
  refine y_istore (vs1 := [(4, .int x1), (0, .ref (g_stv (g_s0 X) (g_b0 X) t0)), (1, .int v1), (2, .int v2), (3, .int v3)]) C hx1 dJ4_indexOfChar_2 (g_lL hL rfl) rfl ?_
  refine y_iload_n C dJ4_indexOfChar_4 3 rfl rfl ?_
  refine y_istore (vs1 := [(5, .int v2), (4, .int x1), (0, .ref (g_stv (g_s0 X) (g_b0 X) t0)), (1, .int v1), (2, .int v2), (3, .int v3)]) C rfl dJ4_indexOfChar_5 (g_lL hL rfl) rfl ?_
  refine y_sub (vs2 := [(0, .ref (g_stv (g_s0 X) (g_b0 X) t0)), (3, .int v3), (4, .int x1), (5, .int v2)]) [2, 5, 1, 0] rfl ?_
  obtain ⟨e3, he3, h⟩ := g_bd h
  refine ml_J4_indexOfChar_7 C hR hL hu_t0 (σ := σ) _ _ _ he3 ⟨fun y he => ?_, fun y he => ?_⟩
  · obtain ⟨y4, rfl⟩ : ∃ z, z = y := ⟨_, rfl⟩
    subst he
    dsimp only at h
    refine y_iload C dJ4_indexOfChar_22 0 rfl ?_
    replace h := Option.some.inj h; subst h
    exact y_iret C hQ ⟨Nat.zero_le _, Nat.zero_le _⟩ dJ4_indexOfChar_24
  · obtain ⟨y5, rfl⟩ : ∃ z, z = y := ⟨_, rfl⟩
    subst he
    dsimp only at h
    refine y_iconst (v := (-1 : Int32)) C dJ4_indexOfChar_31 (by decide) ?_
    replace h := Option.some.inj h; subst h
    exact y_iret C hQ ⟨Nat.zero_le _, Nat.zero_le _⟩ dJ4_indexOfChar_32
theorem ct_J4_indexOfChar {D : va_G} {dA : Nat → ClassId} {A : Nat → Prop} {s0 : State} {b0 : Nat} {l : Launch} {LM : g_L} {t0 : Nat} (hu_t0 : t0 < 6) {ad : Nat → Nat → Nat} {σ : g_S} {v1 : Int32} {v2 : Int32} {v3 : Int32} {r : Int32} (h : mF_J4_indexOfChar t0 v1 v2 v3 = some r) : g_Met gCl D dA A s0 b0 l yJ4_indexOfChar cJ4_indexOfChar 6 (some .int) 1 (0, 0) LM ad σ [.ref (g_stv s0 b0 t0), .int v1, .int v2, .int v3] LM ad σ (some (.int r)) :=
  g_Met.of pl_J4 (Nat.le_of_ble_eq_true rfl) (fun X C hQ hR _ _ hL _ es eb => by subst es; subst eb; exact mw_J4_indexOfChar C hR hL hu_t0 h hQ)
theorem mw_J4_indexOf {X : g_F} {LM : g_L} (C : g_M gCl X cJ4_indexOf RJ4 (some .int)) (hR : g_R X = g_rm 2 0 0) (hL : g_nL X = 4) {t0 : Nat} (hu_t0 : t0 < 6) {ad : Nat → Nat → Nat} {σ : g_S} {v1 : Int32} {v2 : Int32} {v3 : Int32} {o : Int32} (h : mF_J4_indexOf t0 v1 v2 v3 = some o) (hQ : g_MQ gCl X LM ad σ (some (.int o)) = g_Q X) : g_Y gCl X LM ad σ (0, 0) 0 [(0, .ref (g_stv (g_s0 X) (g_b0 X) t0)), (1, .int v1), (2, .int v2), (3, .int v3)] [] := by
  unfold mF_J4_indexOf at h
  refine y_iload_n C dJ4_indexOf_0 1 rfl rfl ?_
  obtain ⟨x1, hc, h⟩ := g_bd h
  refine y_callS C (As := [.int v1]) (rest := []) (lk_J4_88 C hR (by decide)) (ct_J4_canEncode hc) rfl rfl (Nat.le_of_ble_eq_true rfl) ⟨Nat.zero_le _, Nat.zero_le _⟩ dJ4_indexOf_1 ?_
  refine y_if_ne (tgt := 9) C dJ4_indexOf_4 rfl (fun hc => ?_) (fun hc => ?_)
  · replace h := g_if h hc
    refine y_iload_n C dJ4_indexOf_9 2 rfl rfl ?_
    refine y_iconst (v := (0 : Int32)) C dJ4_indexOf_10 (by decide) ?_
    refine y_mmax C q621 (g_rmM hR (by decide)) (Nat.le_of_ble_eq_true rfl) ⟨Nat.zero_le _, Nat.zero_le _⟩ dJ4_indexOf_11 ?_
    obtain ⟨x2, hx2, h⟩ := g_lt h
    refine y_istore_n (vs1 := [(2, .int x2), (0, .ref (g_stv (g_s0 X) (g_b0 X) t0)), (1, .int v1), (3, .int v3)]) C hx2 dJ4_indexOf_14 rfl (g_lL hL rfl) rfl ?_
    refine y_iload_n C dJ4_indexOf_15 3 rfl rfl ?_
    refine y_aload_n C dJ4_indexOf_16 1 rfl rfl ?_
    refine y_strlen C hu_t0 dJ4_indexOf_17 ?_
    refine y_mmin C q622 (g_rmM hR (by decide)) (Nat.le_of_ble_eq_true rfl) ⟨Nat.zero_le _, Nat.zero_le _⟩ dJ4_indexOf_18 ?_
    obtain ⟨x3, hx3, h⟩ := g_lt h
    refine y_istore_n (vs1 := [(3, .int x3), (2, .int x2), (0, .ref (g_stv (g_s0 X) (g_b0 X) t0)), (1, .int v1)]) C hx3 dJ4_indexOf_21 rfl (g_lL hL rfl) rfl ?_
    refine y_iload_n C dJ4_indexOf_22 1 rfl rfl ?_
    refine y_iload_n C dJ4_indexOf_23 0 rfl rfl ?_
    refine y_icmp_lt (tgt := 29) C dJ4_indexOf_24 rfl (fun hc => ?_) (fun hc => ?_)
    · replace h := g_it h hc
      refine y_aload_n C dJ4_indexOf_29 2 rfl rfl ?_
      refine y_iload_n C dJ4_indexOf_30 3 rfl rfl ?_
      refine y_iload_n C dJ4_indexOf_31 1 rfl rfl ?_
      refine y_iload_n C dJ4_indexOf_32 0 rfl rfl ?_
      obtain ⟨x4, hc, h⟩ := g_bd h
      refine y_callS C (As := [.ref (g_stv (g_s0 X) (g_b0 X) t0), .int v1, .int x2, .int x3]) (rest := []) (lk_J4_95 C hR (by decide)) (ct_J4_indexOfChar hu_t0 hc) rfl rfl (Nat.le_of_ble_eq_true rfl) ⟨Nat.zero_le _, Nat.zero_le _⟩ dJ4_indexOf_33 ?_
      replace h := Option.some.inj h; subst h
      exact y_iret C hQ ⟨Nat.zero_le _, Nat.zero_le _⟩ dJ4_indexOf_36
    · replace h := g_if h hc
      refine y_iconst (v := (-1 : Int32)) C dJ4_indexOf_27 (by decide) ?_
      replace h := Option.some.inj h; subst h
      exact y_iret C hQ ⟨Nat.zero_le _, Nat.zero_le _⟩ dJ4_indexOf_28
  · replace h := g_it h hc
    refine y_iconst (v := (-1 : Int32)) C dJ4_indexOf_7 (by decide) ?_
    replace h := Option.some.inj h; subst h
    exact y_iret C hQ ⟨Nat.zero_le _, Nat.zero_le _⟩ dJ4_indexOf_8
theorem ct_J4_indexOf {D : va_G} {dA : Nat → ClassId} {A : Nat → Prop} {s0 : State} {b0 : Nat} {l : Launch} {LM : g_L} {t0 : Nat} (hu_t0 : t0 < 6) {ad : Nat → Nat → Nat} {σ : g_S} {v1 : Int32} {v2 : Int32} {v3 : Int32} {r : Int32} (h : mF_J4_indexOf t0 v1 v2 v3 = some r) : g_Met gCl D dA A s0 b0 l yJ4_indexOf cJ4_indexOf 4 (some .int) 2 (0, 0) LM ad σ [.ref (g_stv s0 b0 t0), .int v1, .int v2, .int v3] LM ad σ (some (.int r)) :=
  g_Met.of pl_J4 (Nat.le_of_ble_eq_true rfl) (fun X C hQ hR _ _ hL _ es eb => by subst es; subst eb; exact mw_J4_indexOf C hR hL hu_t0 h hQ)
theorem mw_J3_indexOf_2 {X : g_F} {LM : g_L} (C : g_M gCl X cJ3_indexOf_2 RJ3 (some .int)) (hR : g_R X = g_rm 3 0 0) (hL : g_nL X = 3) {t9 : Nat} (hu_t9 : t9 < 6) {ad : Nat → Nat → Nat} {σ : g_S} {v1 : Int32} {v2 : Int32} {o : Int32} (h : mF_J3_indexOf_2 t9 v1 v2 = some o) (hQ : g_MQ gCl X LM ad σ (some (.int o)) = g_Q X) : g_Y gCl X LM ad σ (0, 0) 0 [(0, .ref (g_str (g_s0 X) (g_b0 X) t9)), (1, .int v1), (2, .int v2)] [] := by
  unfold mF_J3_indexOf_2 at h
  refine y_aload_n C dJ3_indexOf_2_0 0 rfl rfl ?_
  obtain ⟨x1, hc, h⟩ := g_bd h
  refine y_callH C (As := []) (rest := []) (C1 := "java/lang/String") (fun H locs hS => vk_recv (g_strX C) hu_t9 hS) (lk_J3_492 C hR (by decide)) (ct_J3_isLatin1 hu_t9 hc) rfl rfl (Nat.le_of_ble_eq_true rfl) ⟨Nat.zero_le _, Nat.zero_le _⟩ dJ3_indexOf_2_1 ?_
  refine y_if_eq (tgt := 23) C dJ3_indexOf_2_4 rfl (fun hc => ?_) (fun hc => ?_)
  · replace h := g_it h hc
    cases h
  · replace h := g_if h hc
    refine y_aload_n C dJ3_indexOf_2_7 0 rfl rfl ?_
    refine y_strval C hu_t9 q1965 dJ3_indexOf_2_8 ?_
    refine y_iload_n C dJ3_indexOf_2_11 1 rfl rfl ?_
    refine y_iload_n C dJ3_indexOf_2_12 2 rfl rfl ?_
    refine y_aload_n C dJ3_indexOf_2_13 0 rfl rfl ?_
    obtain ⟨x2, hc, h⟩ := g_bd h
    refine y_callH C (As := []) (rest := [.int v2, .int v1, .ref (g_stv (g_s0 X) (g_b0 X) t9)]) (C1 := "java/lang/String") (fun H locs hS => vk_recv (g_strX C) hu_t9 hS) (lk_J3_505 C hR (by decide)) (ct_J3_length hu_t9 hc) rfl rfl (Nat.le_of_ble_eq_true rfl) ⟨Nat.zero_le _, Nat.zero_le _⟩ dJ3_indexOf_2_14 ?_
    obtain ⟨x3, hc, h⟩ := g_bd h
    refine y_callS C (As := [.ref (g_stv (g_s0 X) (g_b0 X) t9), .int v1, .int v2, .int x2]) (rest := []) (lk_J3_637 C hR (by decide)) (ct_J4_indexOf hu_t9 hc) rfl rfl (Nat.le_of_ble_eq_true rfl) ⟨Nat.zero_le _, Nat.zero_le _⟩ dJ3_indexOf_2_17 ?_
    refine y_goto (tgt := 36) C dJ3_indexOf_2_20 rfl ?_
    replace h := Option.some.inj h; subst h
    exact y_iret C hQ ⟨Nat.zero_le _, Nat.zero_le _⟩ dJ3_indexOf_2_36
theorem ct_J3_indexOf_2 {D : va_G} {dA : Nat → ClassId} {A : Nat → Prop} {s0 : State} {b0 : Nat} {l : Launch} {LM : g_L} {t9 : Nat} (hu_t9 : t9 < 6) {ad : Nat → Nat → Nat} {σ : g_S} {v1 : Int32} {v2 : Int32} {r : Int32} (h : mF_J3_indexOf_2 t9 v1 v2 = some r) : g_Met gCl D dA A s0 b0 l yJ3_indexOf_2 cJ3_indexOf_2 3 (some .int) 3 (0, 0) LM ad σ [.ref (g_str s0 b0 t9), .int v1, .int v2] LM ad σ (some (.int r)) :=
  g_Met.of pl_J3 (Nat.le_of_ble_eq_true rfl) (fun X C hQ hR _ _ hL _ es eb => by subst es; subst eb; exact mw_J3_indexOf_2 C hR hL hu_t9 h hQ)
theorem mw_J3_indexOf {X : g_F} {LM : g_L} (C : g_M gCl X cJ3_indexOf RJ3 (some .int)) (hR : g_R X = g_rm 4 0 0) (hL : g_nL X = 2) {t9 : Nat} (hu_t9 : t9 < 6) {ad : Nat → Nat → Nat} {σ : g_S} {v1 : Int32} {o : Int32} (h : mF_J3_indexOf t9 v1 = some o) (hQ : g_MQ gCl X LM ad σ (some (.int o)) = g_Q X) : g_Y gCl X LM ad σ (0, 0) 0 [(0, .ref (g_str (g_s0 X) (g_b0 X) t9)), (1, .int v1)] [] := by
  unfold mF_J3_indexOf at h
  refine y_aload_n C dJ3_indexOf_0 0 rfl rfl ?_
  refine y_iload_n C dJ3_indexOf_1 1 rfl rfl ?_
  refine y_iconst (v := (0 : Int32)) C dJ3_indexOf_2 (by decide) ?_
  obtain ⟨x1, hc, h⟩ := g_bd h
  refine y_callH C (As := [.int v1, .int (0 : Int32)]) (rest := []) (C1 := "java/lang/String") (fun H locs hS => vk_recv (g_strX C) hu_t9 hS) (lk_J3_633 C hR (by decide)) (ct_J3_indexOf_2 hu_t9 hc) rfl rfl (Nat.le_of_ble_eq_true rfl) ⟨Nat.zero_le _, Nat.zero_le _⟩ dJ3_indexOf_3 ?_
  replace h := Option.some.inj h; subst h
  exact y_iret C hQ ⟨Nat.zero_le _, Nat.zero_le _⟩ dJ3_indexOf_6
theorem ct_J3_indexOf {D : va_G} {dA : Nat → ClassId} {A : Nat → Prop} {s0 : State} {b0 : Nat} {l : Launch} {LM : g_L} {t9 : Nat} (hu_t9 : t9 < 6) {ad : Nat → Nat → Nat} {σ : g_S} {v1 : Int32} {r : Int32} (h : mF_J3_indexOf t9 v1 = some r) : g_Met gCl D dA A s0 b0 l yJ3_indexOf cJ3_indexOf 2 (some .int) 4 (0, 0) LM ad σ [.ref (g_str s0 b0 t9), .int v1] LM ad σ (some (.int r)) :=
  g_Met.of pl_J3 (Nat.le_of_ble_eq_true rfl) (fun X C hQ hR _ _ hL _ es eb => by subst es; subst eb; exact mw_J3_indexOf C hR hL hu_t9 h hQ)
theorem mw_J8_bitCount {X : g_F} {LM : g_L} (C : g_M gCl X cJ8_bitCount RJ8 (some .int)) (hR : g_R X = g_rm 1 0 0) (hL : g_nL X = 1) {ad : Nat → Nat → Nat} {σ : g_S} {v0 : Int32} {o : Int32} (h : mF_J8_bitCount v0 = some o) (hQ : g_MQ gCl X LM ad σ (some (.int o)) = g_Q X) : g_Y gCl X LM ad σ (0, 0) 0 [(0, .int v0)] [] := by
  unfold mF_J8_bitCount at h
  refine y_iload_n C dJ8_bitCount_0 0 rfl rfl ?_
  refine y_iload_n C dJ8_bitCount_1 0 rfl rfl ?_
  refine y_iconst (v := (1 : Int32)) C dJ8_bitCount_2 (by decide) ?_
  refine y_iushr C dJ8_bitCount_3 rfl ?_
  refine y_ldcw (v := (1431655765 : Int32)) C q686 dJ8_bitCount_4 ?_
  refine y_iand C dJ8_bitCount_7 ?_
  refine y_isub C dJ8_bitCount_8 ?_
  obtain ⟨x1, hx1, h⟩ := g_lt h
  refine y_istore_n (vs1 := [(0, .int x1)]) C hx1 dJ8_bitCount_9 rfl (g_lL hL rfl) rfl ?_
  refine y_iload_n C dJ8_bitCount_10 0 rfl rfl ?_
  refine y_ldcw (v := (858993459 : Int32)) C q687 dJ8_bitCount_11 ?_
  refine y_iand C dJ8_bitCount_14 ?_
  refine y_iload_n C dJ8_bitCount_15 0 rfl rfl ?_
  refine y_iconst (v := (2 : Int32)) C dJ8_bitCount_16 (by decide) ?_
  refine y_iushr C dJ8_bitCount_17 rfl ?_
  refine y_ldcw (v := (858993459 : Int32)) C q687 dJ8_bitCount_18 ?_
  refine y_iand C dJ8_bitCount_21 ?_
  refine y_iadd C dJ8_bitCount_22 ?_
  obtain ⟨x2, hx2, h⟩ := g_lt h
  refine y_istore_n (vs1 := [(0, .int x2)]) C hx2 dJ8_bitCount_23 rfl (g_lL hL rfl) rfl ?_
  refine y_iload_n C dJ8_bitCount_24 0 rfl rfl ?_
  refine y_iload_n C dJ8_bitCount_25 0 rfl rfl ?_
  refine y_iconst (v := (4 : Int32)) C dJ8_bitCount_26 (by decide) ?_
  refine y_iushr C dJ8_bitCount_27 rfl ?_
  refine y_iadd C dJ8_bitCount_28 ?_
  refine y_ldcw (v := (252645135 : Int32)) C q688 dJ8_bitCount_29 ?_
  refine y_iand C dJ8_bitCount_32 ?_
  obtain ⟨x3, hx3, h⟩ := g_lt h
  refine y_istore_n (vs1 := [(0, .int x3)]) C hx3 dJ8_bitCount_33 rfl (g_lL hL rfl) rfl ?_
  refine y_iload_n C dJ8_bitCount_34 0 rfl rfl ?_
  refine y_iload_n C dJ8_bitCount_35 0 rfl rfl ?_
  refine y_bipush (v := (8 : Int32)) C dJ8_bitCount_36 (by decide) ?_
  refine y_iushr C dJ8_bitCount_38 rfl ?_
  refine y_iadd C dJ8_bitCount_39 ?_
  obtain ⟨x4, hx4, h⟩ := g_lt h
  refine y_istore_n (vs1 := [(0, .int x4)]) C hx4 dJ8_bitCount_40 rfl (g_lL hL rfl) rfl ?_
  refine y_iload_n C dJ8_bitCount_41 0 rfl rfl ?_
  refine y_iload_n C dJ8_bitCount_42 0 rfl rfl ?_
  refine y_bipush (v := (16 : Int32)) C dJ8_bitCount_43 (by decide) ?_
  refine y_iushr C dJ8_bitCount_45 rfl ?_
  refine y_iadd C dJ8_bitCount_46 ?_
  obtain ⟨x5, hx5, h⟩ := g_lt h
  refine y_istore_n (vs1 := [(0, .int x5)]) C hx5 dJ8_bitCount_47 rfl (g_lL hL rfl) rfl ?_
  refine y_iload_n C dJ8_bitCount_48 0 rfl rfl ?_
  refine y_bipush (v := (63 : Int32)) C dJ8_bitCount_49 (by decide) ?_
  refine y_iand C dJ8_bitCount_51 ?_
  replace h := Option.some.inj h; subst h
  exact y_iret C hQ ⟨Nat.zero_le _, Nat.zero_le _⟩ dJ8_bitCount_52
theorem ct_J8_bitCount {D : va_G} {dA : Nat → ClassId} {A : Nat → Prop} {s0 : State} {b0 : Nat} {l : Launch} {LM : g_L} {ad : Nat → Nat → Nat} {σ : g_S} {v0 : Int32} {r : Int32} (h : mF_J8_bitCount v0 = some r) : g_Met gCl D dA A s0 b0 l yJ8_bitCount cJ8_bitCount 1 (some .int) 1 (0, 0) LM ad σ [.int v0] LM ad σ (some (.int r)) :=
  g_Met.of pl_J8 (Nat.le_of_ble_eq_true rfl) (fun X C hQ hR _ _ hL _ es eb => mw_J8_bitCount C hR hL h hQ)
theorem mw_J8_signum {X : g_F} {LM : g_L} (C : g_M gCl X cJ8_signum RJ8 (some .int)) (hR : g_R X = g_rm 1 0 0) (hL : g_nL X = 1) {ad : Nat → Nat → Nat} {σ : g_S} {v0 : Int32} {o : Int32} (h : mF_J8_signum v0 = some o) (hQ : g_MQ gCl X LM ad σ (some (.int o)) = g_Q X) : g_Y gCl X LM ad σ (0, 0) 0 [(0, .int v0)] [] := by
  unfold mF_J8_signum at h
  refine y_iload_n C dJ8_signum_0 0 rfl rfl ?_
  refine y_bipush (v := (31 : Int32)) C dJ8_signum_1 (by decide) ?_
  refine y_ishr C dJ8_signum_3 ?_
  refine y_iload_n C dJ8_signum_4 0 rfl rfl ?_
  refine y_ineg C dJ8_signum_5 ?_
  refine y_bipush (v := (31 : Int32)) C dJ8_signum_6 (by decide) ?_
  refine y_iushr C dJ8_signum_8 rfl ?_
  refine y_ior C dJ8_signum_9 ?_
  replace h := Option.some.inj h; subst h
  exact y_iret C hQ ⟨Nat.zero_le _, Nat.zero_le _⟩ dJ8_signum_10
theorem ct_J8_signum {D : va_G} {dA : Nat → ClassId} {A : Nat → Prop} {s0 : State} {b0 : Nat} {l : Launch} {LM : g_L} {ad : Nat → Nat → Nat} {σ : g_S} {v0 : Int32} {r : Int32} (h : mF_J8_signum v0 = some r) : g_Met gCl D dA A s0 b0 l yJ8_signum cJ8_signum 1 (some .int) 1 (0, 0) LM ad σ [.int v0] LM ad σ (some (.int r)) :=
  g_Met.of pl_J8 (Nat.le_of_ble_eq_true rfl) (fun X C hQ hR _ _ hL _ es eb => mw_J8_signum C hR hL h hQ)
theorem mw_J12_bitCount {X : g_F} {LM : g_L} (C : g_M gCl X cJ12_bitCount RJ12 (some .int)) (hR : g_R X = g_rm 1 0 0) (hL : g_nL X = 2) {ad : Nat → Nat → Nat} {σ : g_S} {v0 : Int64} {o : Int32} (h : mF_J12_bitCount v0 = some o) (hQ : g_MQ gCl X LM ad σ (some (.int o)) = g_Q X) : g_Y gCl X LM ad σ (0, 0) 0 [(0, .long v0)] [] := by
  unfold mF_J12_bitCount at h
  refine y_lload_n C dJ12_bitCount_0 0 rfl rfl ?_
  refine y_lload_n C dJ12_bitCount_1 0 rfl rfl ?_
  refine y_iconst (v := (1 : Int32)) C dJ12_bitCount_2 (by decide) ?_
  refine y_lushr C dJ12_bitCount_3 rfl ?_
  refine y_ldc2 (v := (6148914691236517205 : Int64)) C q1005 dJ12_bitCount_4 ?_
  refine y_land C dJ12_bitCount_7 ?_
  refine y_lsub C dJ12_bitCount_8 ?_
  obtain ⟨x1, hx1, h⟩ := g_lt h
  refine y_lstore_n (vs1 := [(0, .long x1)]) C hx1 dJ12_bitCount_9 rfl (g_lL hL rfl) rfl ?_
  refine y_lload_n C dJ12_bitCount_10 0 rfl rfl ?_
  refine y_ldc2 (v := (3689348814741910323 : Int64)) C q1006 dJ12_bitCount_11 ?_
  refine y_land C dJ12_bitCount_14 ?_
  refine y_lload_n C dJ12_bitCount_15 0 rfl rfl ?_
  refine y_iconst (v := (2 : Int32)) C dJ12_bitCount_16 (by decide) ?_
  refine y_lushr C dJ12_bitCount_17 rfl ?_
  refine y_ldc2 (v := (3689348814741910323 : Int64)) C q1006 dJ12_bitCount_18 ?_
  refine y_land C dJ12_bitCount_21 ?_
  refine y_ladd C dJ12_bitCount_22 ?_
  obtain ⟨x2, hx2, h⟩ := g_lt h
  refine y_lstore_n (vs1 := [(0, .long x2)]) C hx2 dJ12_bitCount_23 rfl (g_lL hL rfl) rfl ?_
  refine y_lload_n C dJ12_bitCount_24 0 rfl rfl ?_
  refine y_lload_n C dJ12_bitCount_25 0 rfl rfl ?_
  refine y_iconst (v := (4 : Int32)) C dJ12_bitCount_26 (by decide) ?_
  refine y_lushr C dJ12_bitCount_27 rfl ?_
  refine y_ladd C dJ12_bitCount_28 ?_
  refine y_ldc2 (v := (1085102592571150095 : Int64)) C q1007 dJ12_bitCount_29 ?_
  refine y_land C dJ12_bitCount_32 ?_
  obtain ⟨x3, hx3, h⟩ := g_lt h
  refine y_lstore_n (vs1 := [(0, .long x3)]) C hx3 dJ12_bitCount_33 rfl (g_lL hL rfl) rfl ?_
  refine y_lload_n C dJ12_bitCount_34 0 rfl rfl ?_
  refine y_lload_n C dJ12_bitCount_35 0 rfl rfl ?_
  refine y_bipush (v := (8 : Int32)) C dJ12_bitCount_36 (by decide) ?_
  refine y_lushr C dJ12_bitCount_38 rfl ?_
  refine y_ladd C dJ12_bitCount_39 ?_
  obtain ⟨x4, hx4, h⟩ := g_lt h
  refine y_lstore_n (vs1 := [(0, .long x4)]) C hx4 dJ12_bitCount_40 rfl (g_lL hL rfl) rfl ?_
  refine y_lload_n C dJ12_bitCount_41 0 rfl rfl ?_
  refine y_lload_n C dJ12_bitCount_42 0 rfl rfl ?_
  refine y_bipush (v := (16 : Int32)) C dJ12_bitCount_43 (by decide) ?_
  refine y_lushr C dJ12_bitCount_45 rfl ?_
  refine y_ladd C dJ12_bitCount_46 ?_
  obtain ⟨x5, hx5, h⟩ := g_lt h
  refine y_lstore_n (vs1 := [(0, .long x5)]) C hx5 dJ12_bitCount_47 rfl (g_lL hL rfl) rfl ?_
  refine y_lload_n C dJ12_bitCount_48 0 rfl rfl ?_
  refine y_lload_n C dJ12_bitCount_49 0 rfl rfl ?_
  refine y_bipush (v := (32 : Int32)) C dJ12_bitCount_50 (by decide) ?_
  refine y_lushr C dJ12_bitCount_52 rfl ?_
  refine y_ladd C dJ12_bitCount_53 ?_
  obtain ⟨x6, hx6, h⟩ := g_lt h
  refine y_lstore_n (vs1 := [(0, .long x6)]) C hx6 dJ12_bitCount_54 rfl (g_lL hL rfl) rfl ?_
  refine y_lload_n C dJ12_bitCount_55 0 rfl rfl ?_
  refine y_l2i C dJ12_bitCount_56 ?_
  refine y_bipush (v := (127 : Int32)) C dJ12_bitCount_57 (by decide) ?_
  refine y_iand C dJ12_bitCount_59 ?_
  replace h := Option.some.inj h; subst h
  exact y_iret C hQ ⟨Nat.zero_le _, Nat.zero_le _⟩ dJ12_bitCount_60
theorem ct_J12_bitCount {D : va_G} {dA : Nat → ClassId} {A : Nat → Prop} {s0 : State} {b0 : Nat} {l : Launch} {LM : g_L} {ad : Nat → Nat → Nat} {σ : g_S} {v0 : Int64} {r : Int32} (h : mF_J12_bitCount v0 = some r) : g_Met gCl D dA A s0 b0 l yJ12_bitCount cJ12_bitCount 2 (some .int) 1 (0, 0) LM ad σ [.long v0] LM ad σ (some (.int r)) :=
  g_Met.of pl_J12 (Nat.le_of_ble_eq_true rfl) (fun X C hQ hR _ _ hL _ es eb => mw_J12_bitCount C hR hL h hQ)
