set_option maxRecDepth 100000
/-- the classes -/
def gCl : List vw_C := [(RX1, TX1, 31), (RX2, TX2, 1), (RX3, TX3, 3), (RX4, TX4, 3), (RX5, TX5, 6), (RX6, TX6, 49), (RX7, TX7, 4), (RX9, TX9, 8), (RX10, TX10, 9), (RX11, TX11, 3), (RX8, TX8a, 1), (RJ10, TJ10, 6), (RJ11, TJ11, 6)]
theorem pl_X0 : plainName RX0 = true := by decide +kernel
theorem pl_X1 : plainName RX1 = true := by decide +kernel
theorem pl_X2 : plainName RX2 = true := by decide +kernel
theorem pl_X3 : plainName RX3 = true := by decide +kernel
theorem pl_X4 : plainName RX4 = true := by decide +kernel
theorem pl_X5 : plainName RX5 = true := by decide +kernel
theorem pl_X6 : plainName RX6 = true := by decide +kernel
theorem pl_X7 : plainName RX7 = true := by decide +kernel
theorem pl_X8 : plainName RX8 = true := by decide +kernel
theorem pl_X9 : plainName RX9 = true := by decide +kernel
theorem pl_X10 : plainName RX10 = true := by decide +kernel
theorem pl_X11 : plainName RX11 = true := by decide +kernel
theorem pl_J8 : plainName RJ8 = true := by decide +kernel
theorem pl_J12 : plainName RJ12 = true := by decide +kernel
theorem pl_J13 : plainName RJ13 = true := by decide +kernel
theorem pl_J3 : plainName RJ3 = true := by decide +kernel
theorem pl_J4 : plainName RJ4 = true := by decide +kernel
theorem pl_J5 : plainName RJ5 = true := by decide +kernel
/-! strings: the constants of the claim, as the root has them -/
def gTm : Nat → Term := fun i => match i with
  | 0 => Term.string "BonnetValleyModel" 182
  | 1 => Term.string "BonnetValleyModel" 237
  | 2 => Term.string "BonnetValleyModel" 242
  | 3 => Term.string "BonnetValleyModel" 244
  | 4 => Term.string "BonnetValleyModel" 246
  | _ => Term.string "BonnetValleyModel" 395

def gSlen : List Nat := [2, 8, 3, 2, 2, 5]
def gSbyt : List (List Int32) := [[46, 35], [98, 108, 107, 102, 114, 99, 110, 112], [60, 62, 61], [43, 45], [42, 47], [110, 102, 103, 98, 112]]
noncomputable def g_str (s0 : State) (b0 i : Nat) : Nat := match (gTm i).eval #[Value.ref b0] s0 none [] s0 with
  | some (.ref a) => a
  | _ => 0
theorem g_strE {s0 : State} {b0 i a : Nat} (h : (gTm i).eval #[Value.ref b0] s0 none [] s0 = some (.ref a)) : g_str s0 b0 i = a := by unfold g_str; rw [h]
set_option maxHeartbeats 4000000 in
theorem g_strs {s0 : State} {b0 : Nat} (h : g_R0 s0 b0) : ∃ adK adV : Nat → Nat, vk_S 6 gSlen gSbyt adK adV (fun q => s0.heap.size ≤ q) s0 s0.heap ∧ ∀ i : Nat, i < 6 → (gTm i).eval #[Value.ref b0] s0 none [] s0 = some (.ref (adK i)) := by
  have hs := flat_of_before _ h.2
  refine vk_Sof (tm := gTm)
    (fun i hi => by
    match i, hi with
    | 0, _ => decide
    | 1, _ => decide
    | 2, _ => decide
    | 3, _ => decide
    | 4, _ => decide
    | 5, _ => decide
    | i + 6, h => exact absurd h (by omega))
    (fun i hi => by
    match i, hi with
    | 0, _ => exact hs _ (by decide +kernel)
    | 1, _ => exact hs _ (by decide +kernel)
    | 2, _ => exact hs _ (by decide +kernel)
    | 3, _ => exact hs _ (by decide +kernel)
    | 4, _ => exact hs _ (by decide +kernel)
    | 5, _ => exact hs _ (by decide +kernel)
    | i + 6, h => exact absurd h (by omega))
    (fun i hi => by
    match i, hi with
    | 0, _ => exact hs _ (by decide +kernel)
    | 1, _ => exact hs _ (by decide +kernel)
    | 2, _ => exact hs _ (by decide +kernel)
    | 3, _ => exact hs _ (by decide +kernel)
    | 4, _ => exact hs _ (by decide +kernel)
    | 5, _ => exact hs _ (by decide +kernel)
    | i + 6, h => exact absurd h (by omega))
    (fun i hi => by
    match i, hi with
    | 0, _ => exact hs _ (by decide +kernel)
    | 1, _ => exact hs _ (by decide +kernel)
    | 2, _ => exact hs _ (by decide +kernel)
    | 3, _ => exact hs _ (by decide +kernel)
    | 4, _ => exact hs _ (by decide +kernel)
    | 5, _ => exact hs _ (by decide +kernel)
    | i + 6, h => exact absurd h (by omega))
    (fun i hi => by
    match i, hi with
    | 0, _ => exact hs _ (by decide +kernel)
    | 1, _ => exact hs _ (by decide +kernel)
    | 2, _ => exact hs _ (by decide +kernel)
    | 3, _ => exact hs _ (by decide +kernel)
    | 4, _ => exact hs _ (by decide +kernel)
    | 5, _ => exact hs _ (by decide +kernel)
    | i + 6, h => exact absurd h (by omega))
    (fun i hi j hj => by
    match i, hi with
    | 0, _ => (match j, hj with
      | 0, _ => exact hs _ (by decide +kernel)
      | 1, _ => exact hs _ (by decide +kernel)
      | j + 2, h => exact absurd h (by show ¬ j + 2 < 2; omega))
    | 1, _ => (match j, hj with
      | 0, _ => exact hs _ (by decide +kernel)
      | 1, _ => exact hs _ (by decide +kernel)
      | 2, _ => exact hs _ (by decide +kernel)
      | 3, _ => exact hs _ (by decide +kernel)
      | 4, _ => exact hs _ (by decide +kernel)
      | 5, _ => exact hs _ (by decide +kernel)
      | 6, _ => exact hs _ (by decide +kernel)
      | 7, _ => exact hs _ (by decide +kernel)
      | j + 8, h => exact absurd h (by show ¬ j + 8 < 8; omega))
    | 2, _ => (match j, hj with
      | 0, _ => exact hs _ (by decide +kernel)
      | 1, _ => exact hs _ (by decide +kernel)
      | 2, _ => exact hs _ (by decide +kernel)
      | j + 3, h => exact absurd h (by show ¬ j + 3 < 3; omega))
    | 3, _ => (match j, hj with
      | 0, _ => exact hs _ (by decide +kernel)
      | 1, _ => exact hs _ (by decide +kernel)
      | j + 2, h => exact absurd h (by show ¬ j + 2 < 2; omega))
    | 4, _ => (match j, hj with
      | 0, _ => exact hs _ (by decide +kernel)
      | 1, _ => exact hs _ (by decide +kernel)
      | j + 2, h => exact absurd h (by show ¬ j + 2 < 2; omega))
    | 5, _ => (match j, hj with
      | 0, _ => exact hs _ (by decide +kernel)
      | 1, _ => exact hs _ (by decide +kernel)
      | 2, _ => exact hs _ (by decide +kernel)
      | 3, _ => exact hs _ (by decide +kernel)
      | 4, _ => exact hs _ (by decide +kernel)
      | j + 5, h => exact absurd h (by show ¬ j + 5 < 5; omega))
    | i + 6, h => exact absurd h (by omega))
    (fun i j hi hj hij => by
    match i, j, hi, hj with
    | 0, 1, _, _ => exact Or.inl (hs _ (by decide +kernel))
    | 0, 2, _, _ => exact Or.inl (hs _ (by decide +kernel))
    | 0, 3, _, _ => exact Or.inl (hs _ (by decide +kernel))
    | 0, 4, _, _ => exact Or.inl (hs _ (by decide +kernel))
    | 0, 5, _, _ => exact Or.inl (hs _ (by decide +kernel))
    | 1, 0, _, _ => exact Or.inr (hs _ (by decide +kernel))
    | 1, 2, _, _ => exact Or.inl (hs _ (by decide +kernel))
    | 1, 3, _, _ => exact Or.inl (hs _ (by decide +kernel))
    | 1, 4, _, _ => exact Or.inl (hs _ (by decide +kernel))
    | 1, 5, _, _ => exact Or.inl (hs _ (by decide +kernel))
    | 2, 0, _, _ => exact Or.inr (hs _ (by decide +kernel))
    | 2, 1, _, _ => exact Or.inr (hs _ (by decide +kernel))
    | 2, 3, _, _ => exact Or.inl (hs _ (by decide +kernel))
    | 2, 4, _, _ => exact Or.inl (hs _ (by decide +kernel))
    | 2, 5, _, _ => exact Or.inl (hs _ (by decide +kernel))
    | 3, 0, _, _ => exact Or.inr (hs _ (by decide +kernel))
    | 3, 1, _, _ => exact Or.inr (hs _ (by decide +kernel))
    | 3, 2, _, _ => exact Or.inr (hs _ (by decide +kernel))
    | 3, 4, _, _ => exact Or.inl (hs _ (by decide +kernel))
    | 3, 5, _, _ => exact Or.inl (hs _ (by decide +kernel))
    | 4, 0, _, _ => exact Or.inr (hs _ (by decide +kernel))
    | 4, 1, _, _ => exact Or.inr (hs _ (by decide +kernel))
    | 4, 2, _, _ => exact Or.inr (hs _ (by decide +kernel))
    | 4, 3, _, _ => exact Or.inr (hs _ (by decide +kernel))
    | 4, 5, _, _ => exact Or.inl (hs _ (by decide +kernel))
    | 5, 0, _, _ => exact Or.inr (hs _ (by decide +kernel))
    | 5, 1, _, _ => exact Or.inr (hs _ (by decide +kernel))
    | 5, 2, _, _ => exact Or.inr (hs _ (by decide +kernel))
    | 5, 3, _, _ => exact Or.inr (hs _ (by decide +kernel))
    | 5, 4, _, _ => exact Or.inr (hs _ (by decide +kernel))
    | 0, 0, _, _ => exact absurd rfl hij
    | 1, 1, _, _ => exact absurd rfl hij
    | 2, 2, _, _ => exact absurd rfl hij
    | 3, 3, _, _ => exact absurd rfl hij
    | 4, 4, _, _ => exact absurd rfl hij
    | 5, 5, _, _ => exact absurd rfl hij
    | i + 6, _, h, _ => exact absurd h (by omega)
    | _, j + 6, _, h => exact absurd h (by omega))
    (fun a h1 h2 => absurd h2 (Nat.not_le.mpr h1))
theorem g_strS {s0 : State} {b0 : Nat} (h : g_R0 s0 b0) : ∃ adV : Nat → Nat, vk_S 6 gSlen gSbyt (g_str s0 b0) adV (fun q => s0.heap.size ≤ q) s0 s0.heap := by
  obtain ⟨adK, adV, hS, he⟩ := g_strs h
  refine ⟨adV, fun i hi => ?_, fun i j hi hj e => ?_⟩
  · rw [g_strE (he i hi)]; exact hS.1 i hi
  · rw [g_strE (he i hi), g_strE (he j hj)] at e; exact hS.2 i j hi hj e
theorem g_strEv {s0 : State} {b0 : Nat} (h : g_R0 s0 b0) {i : Nat} (hi : i < 6) : (gTm i).eval #[Value.ref b0] s0 none [] s0 = some (.ref (g_str s0 b0 i)) := by
  obtain ⟨adK, adV, hS, he⟩ := g_strs h
  rw [g_strE (he i hi)]; exact he i hi
noncomputable def g_stv (s0 : State) (b0 : Nat) : Nat → Nat := Classical.epsilon fun adV => vk_S 6 gSlen gSbyt (g_str s0 b0) adV (fun q => s0.heap.size ≤ q) s0 s0.heap
theorem g_strX {cl : List vw_C} {X : g_F} {cc : ByteArray} {own : String} {ret : Option FieldType} (C : g_M cl X cc own ret) : vk_S 6 gSlen gSbyt (g_str (g_s0 X) (g_b0 X)) (g_stv (g_s0 X) (g_b0 X)) (g_A X) (g_s X) (g_s X).heap := by
  obtain ⟨-, h0, hw, -, hq, hA⟩ := C.2.2.2.2.2.2.2.2
  have h1 := Classical.epsilon_spec (g_strS h0)
  exact vk_S.moved hw.alike ((h1.narrow hA).kept (fun a ha _ => hq a ha))
/-- the two constants that are the same objects elsewhere -/
theorem g_strEq {s0 : State} {b0 : Nat} {t1 t2 : Term} {a : Nat} (h : (Cond.eq t1 t2).before #[Value.ref b0] s0 = true) (h2 : t2.eval #[Value.ref b0] s0 none [] s0 = some (.ref a)) : t1.eval #[Value.ref b0] s0 none [] s0 = some (.ref a) := by
  cases h1 : t1.eval #[Value.ref b0] s0 none [] s0 with
  | none => simp [Cond.before, Cond.holds, Cond.value, h1, h2] at h
  | some v =>
    have h3 : v = .ref a := by
      have := h
      simp only [Cond.before, Cond.holds, Cond.value, h1, h2] at this
      cases v <;> simp_all
    rw [h3]
theorem y_ldcS {cl : List vw_C} {X : g_F} {cc : ByteArray} {own : String} {ret : Option FieldType} {LM : g_L} {ad : Nat → Nat → Nat} {σ : g_S} {w : Nat × Nat} {pc : Nat} {vs : List (Nat × Value)} {st : List Value} (C : g_M cl X cc own ret) {index i : Nat} {tx : String} (q : Cond.stringRef own index tx ∈ lw_tbl) (he : (Term.string own index).eval #[Value.ref (g_b0 X)] (g_s0 X) none [] (g_s0 X) = some (.ref (g_str (g_s0 X) (g_b0 X) i))) (hd : decode cc pc = .ok (.ldc index, 2)) (k : g_Y cl X LM ad σ w (pc + 2) vs (.ref (g_str (g_s0 X) (g_b0 X) i) :: st)) : g_Y cl X LM ad σ w (pc) vs (st) :=
  fun H locs ls hW hS hl => va_ldcS C.1 C.2.1 C.2.2.2.1 ((vk_R.of (C.2.2.2.2.2.2.2.2.2.1.1 _ q) he).warm C.2.2.2.2.2.2.2.2.2.2.1) hd (k H locs ls hW hS hl)
theorem y_ldcSw {cl : List vw_C} {X : g_F} {cc : ByteArray} {own : String} {ret : Option FieldType} {LM : g_L} {ad : Nat → Nat → Nat} {σ : g_S} {w : Nat × Nat} {pc : Nat} {vs : List (Nat × Value)} {st : List Value} (C : g_M cl X cc own ret) {index i : Nat} {tx : String} (q : Cond.stringRef own index tx ∈ lw_tbl) (he : (Term.string own index).eval #[Value.ref (g_b0 X)] (g_s0 X) none [] (g_s0 X) = some (.ref (g_str (g_s0 X) (g_b0 X) i))) (hd : decode cc pc = .ok (.ldc_w index, 3)) (k : g_Y cl X LM ad σ w (pc + 3) vs (.ref (g_str (g_s0 X) (g_b0 X) i) :: st)) : g_Y cl X LM ad σ w (pc) vs (st) := by
  intro H locs ls hW hS hl T hT XS
  obtain ⟨h1, h2⟩ := (vk_R.of (C.2.2.2.2.2.2.2.2.2.1.1 _ q) he).warm C.2.2.2.2.2.2.2.2.2.2.1
  obtain ⟨t, a1, b1⟩ := k H locs ls hW hS hl T hT XS
  exact ⟨t, XS.ldcStringW C.1 C.2.2.2.1 (text := tx) h1 h2 (g := F0 _ pc ls st) rfl (by rw [C.2.1]; exact hd) t a1, b1⟩
theorem y_strval {cl : List vw_C} {X : g_F} {cc : ByteArray} {own : String} {ret : Option FieldType} {LM : g_L} {ad : Nat → Nat → Nat} {σ : g_S} {w : Nat × Nat} {pc : Nat} {vs : List (Nat × Value)} {st : List Value} (C : g_M cl X cc own ret) {t : Nat} (ht : t < 6) (q : Cond.fieldLink own 9 "java/lang/String" "value" "[B" ∈ lw_all) (hd : decode cc pc = .ok (.getfield 9, 3)) (k : g_Y cl X LM ad σ w (pc + 3) vs (.ref (g_stv (g_s0 X) (g_b0 X) t) :: st)) : g_Y cl X LM ad σ w (pc) vs (.ref (g_str (g_s0 X) (g_b0 X) t) :: st) :=
  fun H locs ls hW hS hl => vk_getf C.1 C.2.1 ((g_strX C).1 t ht).2.2.1 hS C.2.2.2.1 (C.2.2.2.2.1 _ q) (fun x h => h) hd (k H locs ls hW hS hl)
theorem y_strcod {cl : List vw_C} {X : g_F} {cc : ByteArray} {own : String} {ret : Option FieldType} {LM : g_L} {ad : Nat → Nat → Nat} {σ : g_S} {w : Nat × Nat} {pc : Nat} {vs : List (Nat × Value)} {st : List Value} (C : g_M cl X cc own ret) {t : Nat} (ht : t < 6) (q : Cond.fieldLink own 15 "java/lang/String" "coder" "B" ∈ lw_all) (hd : decode cc pc = .ok (.getfield 15, 3)) (k : g_Y cl X LM ad σ w (pc + 3) vs (.int 0 :: st)) : g_Y cl X LM ad σ w (pc) vs (.ref (g_str (g_s0 X) (g_b0 X) t) :: st) :=
  fun H locs ls hW hS hl => vk_getf C.1 C.2.1 ((g_strX C).1 t ht).2.1 hS C.2.2.2.1 (C.2.2.2.2.1 _ q) (fun x h => h) hd (k H locs ls hW hS hl)
theorem y_strlen {cl : List vw_C} {X : g_F} {cc : ByteArray} {own : String} {ret : Option FieldType} {LM : g_L} {ad : Nat → Nat → Nat} {σ : g_S} {w : Nat × Nat} {pc : Nat} {vs : List (Nat × Value)} {st : List Value} (C : g_M cl X cc own ret) {t : Nat} (ht : t < 6) (hd : decode cc pc = .ok (.arraylength, 1)) (k : g_Y cl X LM ad σ w (pc + 1) vs (.int (Int32.ofNat (gSlen.getD t 0)) :: st)) : g_Y cl X LM ad σ w (pc) vs (.ref (g_stv (g_s0 X) (g_b0 X) t) :: st) :=
  fun H locs ls hW hS hl => va_tlen C.1 C.2.1 ((g_strX C).1 t ht).2.2.2 hS rfl hd (k H locs ls hW hS hl)
theorem y_strld {cl : List vw_C} {X : g_F} {cc : ByteArray} {own : String} {ret : Option FieldType} {LM : g_L} {ad : Nat → Nat → Nat} {σ : g_S} {w : Nat × Nat} {pc : Nat} {vs : List (Nat × Value)} {st : List Value} (C : g_M cl X cc own ret) {t : Nat} {i : Int32} (ht : t < 6) (hi : g_in i (gSlen.getD t 0) = true) (hd : decode cc pc = .ok (.baload, 1)) (k : g_Y cl X LM ad σ w (pc + 1) vs (.int ((gSbyt.getD t []).getD i.toNatClampNeg 0) :: st)) : g_Y cl X LM ad σ w (pc) vs (.int i :: .ref (g_stv (g_s0 X) (g_b0 X) t) :: st) :=
  fun H locs ls hW hS hl => va_tb C.1 C.2.1 ((g_strX C).1 t ht).2.2.2 hS (g_in_vp hi) rfl hd (k H locs ls hW hS hl)
theorem g_rootZ {cl : List vw_C} {X : g_F} {cc : ByteArray} {own : String} {ret : Option FieldType} (C : g_M cl X cc own ret) {c n d : String} {v : Value} (h : va_Z c n d v (fun q => (g_s0 X).heap.size ≤ q) (g_s0 X) (g_s0 X).heap) : va_Z c n d v (g_A X) (g_s X) (g_s X).heap :=
  va_Z.moved C.2.2.2.2.2.2.2.2.2.2.1.alike ((h.narrow C.2.2.2.2.2.2.2.2.2.2.2.2.2).kept (fun a ha _ => C.2.2.2.2.2.2.2.2.2.2.2.2.1 a ha))
theorem y_compact {cl : List vw_C} {X : g_F} {cc : ByteArray} {own : String} {ret : Option FieldType} {LM : g_L} {ad : Nat → Nat → Nat} {σ : g_S} {w : Nat × Nat} {pc : Nat} {vs : List (Nat × Value)} {st : List Value} (C : g_M cl X cc own ret) (q : Cond.fieldLink own 38 "java/lang/String" "COMPACT_STRINGS" "Z" ∈ lw_all) (hd : decode cc pc = .ok (.getstatic 38, 3)) (k : g_Y cl X LM ad σ w (pc + 3) vs (.int 1 :: st)) : g_Y cl X LM ad σ w (pc) vs (st) :=
  fun H locs ls hW hS hl => va_gets C.1 C.2.1 (g_rootZ C (va_Zof (C.2.2.2.2.2.2.2.2.2.1.1 _ q606) (C.2.2.2.2.2.2.2.2.2.1.1 _ (lw_all_tbl q121)) (va_eqt (flat_of_before _ C.2.2.2.2.2.2.2.2.2.1.2 _ (by decide +kernel))) (fun a h1 h2 => absurd h2 (Nat.not_le.mpr h1)))) hS C.2.2.2.1 (C.2.2.2.2.1 _ q) (fun x h => h) hd (k H locs ls hW hS hl)
theorem y_sioobe {cl : List vw_C} {X : g_F} {cc : ByteArray} {own : String} {ret : Option FieldType} {LM : g_L} {ad : Nat → Nat → Nat} {σ : g_S} {w : Nat × Nat} {pc : Nat} {vs : List (Nat × Value)} {st : List Value} (C : g_M cl X cc own ret) (q : Cond.fieldLink own 1053 "jdk/internal/util/Preconditions" "SIOOBE_FORMATTER" "Ljava/util/function/BiFunction;" ∈ lw_all) (hd : decode cc pc = .ok (.getstatic 1053, 3)) (k : ∀ fv : Value, (fv = .null ∨ ∃ a, fv = .ref a) → g_Y cl X LM ad σ w (pc + 3) vs (fv :: st)) : g_Y cl X LM ad σ w (pc) vs (st) := by
  intro H locs ls hW hS hl
  have hz := va_Zqof (A := fun q => (g_s0 X).heap.size ≤ q) (C.2.2.2.2.2.2.2.2.2.1.1 _ q645) (C.2.2.2.2.2.2.2.2.2.1.1 _ (lw_all_tbl q123)) (flat_of_before _ C.2.2.2.2.2.2.2.2.2.1.2 (.isRef (.static "jdk/internal/util/Preconditions" "SIOOBE_FORMATTER" "Ljava/util/function/BiFunction;")) (by decide +kernel)) (fun a h1 h2 => absurd h2 (Nat.not_le.mpr h1))
  rcases hz with hz | ⟨t, hz⟩
  · exact va_gets C.1 C.2.1 (g_rootZ C hz) hS C.2.2.2.1 (C.2.2.2.2.1 _ q) (fun x h => h) hd (k _ (Or.inl rfl) H locs ls hW hS hl)
  · exact va_gets C.1 C.2.1 (g_rootZ C hz) hS C.2.2.2.1 (C.2.2.2.2.1 _ q) (fun x h => h) hd (k _ (Or.inr ⟨t, rfl⟩) H locs ls hW hS hl)
/-- the model's object: its fields -/
def gMfs (ad : Nat → Nat → Nat) (I : Nat → Int32) : List Value := [.int (I 0), .int (I 1), .ref (ad 2 0), .int (I 3), .int (I 4), .int (I 5), .int (I 6), .int (I 7), .int (I 8), .ref (ad 3 0), .ref (ad 4 0), .ref (ad 1 0), .ref (ad 1 1), .ref (ad 5 0), .int (I 14), .int (I 15), .int (I 16), .int (I 17), .ref (ad 6 0), .ref (ad 7 0), .int (I 20), .ref (ad 8 0), .ref (ad 8 1), .int (I 23), .int (I 24), .ref (ad 9 0), .ref (ad 10 0), .int (I 27), .ref (ad 11 0), .ref (ad 12 0), .ref (ad 13 0), .ref (ad 14 0), .ref (ad 15 0), .ref (ad 16 0), .int (I 34), .ref (ad 17 0), .ref (ad 18 0), .ref (ad 19 0), .ref (ad 20 0), .int (I 39), .ref (ad 21 0), .ref (ad 22 0), .ref (ad 23 0), .ref (ad 24 0), .ref (ad 8 2), .int (I 45), .ref (ad 25 0), .ref (ad 26 0), .ref (ad 27 0)]
/-- the model's cells; the stack and what is asked, of a rule that is worked, may be hidden -/
def gMcell (hid : Bool) (dA : Nat → ClassId) (ad : Nat → Nat → Nat) (k u : Nat) (I : Nat → Int32) (L : Nat → Int64) (_ : Nat → Nat) : g_C := match k with
  | 0 => .inl (.inr (5, gMfs ad I))
  | 1 => .inl (.inl (dA 0, 41, .inl I))
  | 2 => .inl (.inl (dA 1, 53, .inr (.inl L)))
  | 3 => .inl (.inl (dA 2, 49, .inl I))
  | 4 => .inl (.inl (dA 0, 20, .inl I))
  | 5 => .inl (.inl (dA 0, 80, .inl I))
  | 6 => .inl (.inl (dA 2, 49, .inl I))
  | 7 => .inl (.inl (dA 0, 24, .inl I))
  | 8 => .inl (.inl (dA 0, 80, .inl I))
  | 9 => match hid with
    | true => .inr (.inl (fun z => .inl (dA 0, 80, .inl z.1)))
    | false => .inl (.inl (dA 0, 80, .inl I))
  | 10 => match hid with
    | true => .inr (.inl (fun z => .inl (dA 0, 8, .inl z.1)))
    | false => .inl (.inl (dA 0, 8, .inl I))
  | 11 => .inl (.inl (dA 0, 656, .inl I))
  | 12 => .inl (.inl (dA 0, 8, .inl I))
  | 13 => .inl (.inl (dA 0, 60, .inl I))
  | 14 => .inl (.inl (dA 0, 60, .inl I))
  | 15 => .inl (.inl (dA 0, 60, .inl I))
  | 16 => .inl (.inl (dA 0, 60, .inl I))
  | 17 => .inl (.inl (dA 1, 8, .inr (.inl L)))
  | 18 => .inl (.inl (dA 0, 64, .inl I))
  | 19 => .inl (.inl (dA 0, 2304, .inl I))
  | 20 => .inl (.inl (dA 0, 49, .inl I))
  | 21 => .inl (.inl (dA 0, 10, .inl I))
  | 22 => .inl (.inl (dA 0, 10, .inl I))
  | 23 => .inl (.inl (dA 1, 10, .inr (.inl L)))
  | 24 => .inl (.inl (dA 0, 610, .inl I))
  | 25 => .inl (.inl (dA 2, 3, .inl I))
  | 26 => .inl (.inl (dA 0, 3, .inl I))
  | 27 => .inl (.inl (dA 0, 123, .inl I))
  | _ => .inl (.inr (0, []))
def gM (hid : Bool) : g_L := (gMcell hid, [1, 2, 1, 1, 1, 1, 1, 1, 3, 1, 1, 1, 1, 1, 1, 1, 1, 1, 1, 1, 1, 1, 1, 1, 1, 1, 1, 1])
theorem nM_0_0 {hid : Bool} : 0 < g_n (gM hid) 0 := Nat.le_of_ble_eq_true rfl
theorem nM_1_0 {hid : Bool} : 0 < g_n (gM hid) 1 := Nat.le_of_ble_eq_true rfl
theorem nM_1_1 {hid : Bool} : 1 < g_n (gM hid) 1 := Nat.le_of_ble_eq_true rfl
theorem nM_2_0 {hid : Bool} : 0 < g_n (gM hid) 2 := Nat.le_of_ble_eq_true rfl
theorem nM_3_0 {hid : Bool} : 0 < g_n (gM hid) 3 := Nat.le_of_ble_eq_true rfl
theorem nM_4_0 {hid : Bool} : 0 < g_n (gM hid) 4 := Nat.le_of_ble_eq_true rfl
theorem nM_5_0 {hid : Bool} : 0 < g_n (gM hid) 5 := Nat.le_of_ble_eq_true rfl
theorem nM_6_0 {hid : Bool} : 0 < g_n (gM hid) 6 := Nat.le_of_ble_eq_true rfl
theorem nM_7_0 {hid : Bool} : 0 < g_n (gM hid) 7 := Nat.le_of_ble_eq_true rfl
theorem nM_8_0 {hid : Bool} : 0 < g_n (gM hid) 8 := Nat.le_of_ble_eq_true rfl
theorem nM_8_1 {hid : Bool} : 1 < g_n (gM hid) 8 := Nat.le_of_ble_eq_true rfl
theorem nM_8_2 {hid : Bool} : 2 < g_n (gM hid) 8 := Nat.le_of_ble_eq_true rfl
theorem nM_9_0 {hid : Bool} : 0 < g_n (gM hid) 9 := Nat.le_of_ble_eq_true rfl
theorem nM_10_0 {hid : Bool} : 0 < g_n (gM hid) 10 := Nat.le_of_ble_eq_true rfl
theorem nM_11_0 {hid : Bool} : 0 < g_n (gM hid) 11 := Nat.le_of_ble_eq_true rfl
theorem nM_12_0 {hid : Bool} : 0 < g_n (gM hid) 12 := Nat.le_of_ble_eq_true rfl
theorem nM_13_0 {hid : Bool} : 0 < g_n (gM hid) 13 := Nat.le_of_ble_eq_true rfl
theorem nM_14_0 {hid : Bool} : 0 < g_n (gM hid) 14 := Nat.le_of_ble_eq_true rfl
theorem nM_15_0 {hid : Bool} : 0 < g_n (gM hid) 15 := Nat.le_of_ble_eq_true rfl
theorem nM_16_0 {hid : Bool} : 0 < g_n (gM hid) 16 := Nat.le_of_ble_eq_true rfl
theorem nM_17_0 {hid : Bool} : 0 < g_n (gM hid) 17 := Nat.le_of_ble_eq_true rfl
theorem nM_18_0 {hid : Bool} : 0 < g_n (gM hid) 18 := Nat.le_of_ble_eq_true rfl
theorem nM_19_0 {hid : Bool} : 0 < g_n (gM hid) 19 := Nat.le_of_ble_eq_true rfl
theorem nM_20_0 {hid : Bool} : 0 < g_n (gM hid) 20 := Nat.le_of_ble_eq_true rfl
theorem nM_21_0 {hid : Bool} : 0 < g_n (gM hid) 21 := Nat.le_of_ble_eq_true rfl
theorem nM_22_0 {hid : Bool} : 0 < g_n (gM hid) 22 := Nat.le_of_ble_eq_true rfl
theorem nM_23_0 {hid : Bool} : 0 < g_n (gM hid) 23 := Nat.le_of_ble_eq_true rfl
theorem nM_24_0 {hid : Bool} : 0 < g_n (gM hid) 24 := Nat.le_of_ble_eq_true rfl
theorem nM_25_0 {hid : Bool} : 0 < g_n (gM hid) 25 := Nat.le_of_ble_eq_true rfl
theorem nM_26_0 {hid : Bool} : 0 < g_n (gM hid) 26 := Nat.le_of_ble_eq_true rfl
theorem nM_27_0 {hid : Bool} : 0 < g_n (gM hid) 27 := Nat.le_of_ble_eq_true rfl
theorem obM_0 {hid : Bool} {dA : Nat → ClassId} {ad : Nat → Nat → Nat} {σ : g_S} : g_obj (gM hid) dA ad σ 0 0 5 := ⟨_, rfl⟩
theorem g_sI_s (σ : g_S) (k u j : Nat) (v : Int32) : (g_sI σ k u j v).1 k u = upd (σ.1 k u) j v := g_up_s _ _ _ _
theorem g_sL_s (σ : g_S) (k u j : Nat) (v : Int64) : (g_sL σ k u j v).2.1 k u = vp_updL (σ.2.1 k u) j v := g_up_s _ _ _ _
theorem g_sI_n {σ : g_S} {k u j : Nat} {v : Int32} : g_oth σ (g_sI σ k u j v) k u := g_sA_n
theorem g_sL_n {σ : g_S} {k u j : Nat} {v : Int64} : g_oth σ (g_sL σ k u j v) k u := g_sB_n
theorem gf_M_0 {hid : Bool} {X : g_F} {cc : ByteArray} {ret : Option FieldType} {ad : Nat → Nat → Nat} {σ : g_S} {w : Nat × Nat} {pc : Nat} {vs : List (Nat × Value)} {st : List Value} (C : g_M gCl X cc RX6 ret) (hd : decode cc pc = .ok (.getfield 3, 3)) (k : g_Y gCl X (gM hid) ad σ w (pc + 3) vs (.int (σ.1 0 0 0) :: st)) : g_Y gCl X (gM hid) ad σ w pc vs (.ref (ad 0 0) :: st) :=
  y_get C nM_0_0 in_X6 (N := 49) (ci := 5) rfl rfl 0 (by decide) rfl q1288 rfl hd k
theorem pf_M_0 {hid : Bool} {X : g_F} {cc : ByteArray} {ret : Option FieldType} {ad : Nat → Nat → Nat} {σ : g_S} {w : Nat × Nat} {pc : Nat} {vs : List (Nat × Value)} {st : List Value} {σ1 : g_S} {v : Int32} (C : g_M gCl X cc RX6 ret) (e : σ1 = g_sI σ 0 0 0 v) (hd : decode cc pc = .ok (.putfield 3, 3)) (k : g_Y gCl X (gM hid) ad σ1 w (pc + 3) vs st) : g_Y gCl X (gM hid) ad σ w pc vs (.int v :: .ref (ad 0 0) :: st) := by
  subst e
  exact y_put C nM_0_0 in_X6 (N := 49) (ci := 5) rfl rfl tyX6 tyX6_ok nmX6 0 (by decide) rfl q1288 rfl rfl rfl rfl (Nat.le_of_ble_eq_true rfl) g_sI_n (by show Sum.inl (Sum.inr (5, gMfs ad ((g_sI σ 0 0 0 v).1 0 0))) = _; rw [g_sI_s]; rfl) hd k
theorem gf_M_1 {hid : Bool} {X : g_F} {cc : ByteArray} {ret : Option FieldType} {ad : Nat → Nat → Nat} {σ : g_S} {w : Nat × Nat} {pc : Nat} {vs : List (Nat × Value)} {st : List Value} (C : g_M gCl X cc RX6 ret) (hd : decode cc pc = .ok (.getfield 15, 3)) (k : g_Y gCl X (gM hid) ad σ w (pc + 3) vs (.int (σ.1 0 0 1) :: st)) : g_Y gCl X (gM hid) ad σ w pc vs (.ref (ad 0 0) :: st) :=
  y_get C nM_0_0 in_X6 (N := 49) (ci := 5) rfl rfl 1 (by decide) rfl q1289 rfl hd k
theorem pf_M_1 {hid : Bool} {X : g_F} {cc : ByteArray} {ret : Option FieldType} {ad : Nat → Nat → Nat} {σ : g_S} {w : Nat × Nat} {pc : Nat} {vs : List (Nat × Value)} {st : List Value} {σ1 : g_S} {v : Int32} (C : g_M gCl X cc RX6 ret) (e : σ1 = g_sI σ 0 0 1 v) (hd : decode cc pc = .ok (.putfield 15, 3)) (k : g_Y gCl X (gM hid) ad σ1 w (pc + 3) vs st) : g_Y gCl X (gM hid) ad σ w pc vs (.int v :: .ref (ad 0 0) :: st) := by
  subst e
  exact y_put C nM_0_0 in_X6 (N := 49) (ci := 5) rfl rfl tyX6 tyX6_ok nmX6 1 (by decide) rfl q1289 rfl rfl rfl rfl (Nat.le_of_ble_eq_true rfl) g_sI_n (by show Sum.inl (Sum.inr (5, gMfs ad ((g_sI σ 0 0 1 v).1 0 0))) = _; rw [g_sI_s]; rfl) hd k
theorem gf_M_2 {hid : Bool} {X : g_F} {cc : ByteArray} {ret : Option FieldType} {ad : Nat → Nat → Nat} {σ : g_S} {w : Nat × Nat} {pc : Nat} {vs : List (Nat × Value)} {st : List Value} (C : g_M gCl X cc RX6 ret) (hd : decode cc pc = .ok (.getfield 11, 3)) (k : g_Y gCl X (gM hid) ad σ w (pc + 3) vs (.ref (ad 2 0) :: st)) : g_Y gCl X (gM hid) ad σ w pc vs (.ref (ad 0 0) :: st) :=
  y_get C nM_0_0 in_X6 (N := 49) (ci := 5) rfl rfl 2 (by decide) rfl q1290 rfl hd k
theorem gf_M_3 {hid : Bool} {X : g_F} {cc : ByteArray} {ret : Option FieldType} {ad : Nat → Nat → Nat} {σ : g_S} {w : Nat × Nat} {pc : Nat} {vs : List (Nat × Value)} {st : List Value} (C : g_M gCl X cc RX6 ret) (hd : decode cc pc = .ok (.getfield 24, 3)) (k : g_Y gCl X (gM hid) ad σ w (pc + 3) vs (.int (σ.1 0 0 3) :: st)) : g_Y gCl X (gM hid) ad σ w pc vs (.ref (ad 0 0) :: st) :=
  y_get C nM_0_0 in_X6 (N := 49) (ci := 5) rfl rfl 3 (by decide) rfl q1291 rfl hd k
theorem pf_M_3 {hid : Bool} {X : g_F} {cc : ByteArray} {ret : Option FieldType} {ad : Nat → Nat → Nat} {σ : g_S} {w : Nat × Nat} {pc : Nat} {vs : List (Nat × Value)} {st : List Value} {σ1 : g_S} {v : Int32} (C : g_M gCl X cc RX6 ret) (e : σ1 = g_sI σ 0 0 3 v) (hd : decode cc pc = .ok (.putfield 24, 3)) (k : g_Y gCl X (gM hid) ad σ1 w (pc + 3) vs st) : g_Y gCl X (gM hid) ad σ w pc vs (.int v :: .ref (ad 0 0) :: st) := by
  subst e
  exact y_put C nM_0_0 in_X6 (N := 49) (ci := 5) rfl rfl tyX6 tyX6_ok nmX6 3 (by decide) rfl q1291 rfl rfl rfl rfl (Nat.le_of_ble_eq_true rfl) g_sI_n (by show Sum.inl (Sum.inr (5, gMfs ad ((g_sI σ 0 0 3 v).1 0 0))) = _; rw [g_sI_s]; rfl) hd k
theorem gf_M_4 {hid : Bool} {X : g_F} {cc : ByteArray} {ret : Option FieldType} {ad : Nat → Nat → Nat} {σ : g_S} {w : Nat × Nat} {pc : Nat} {vs : List (Nat × Value)} {st : List Value} (C : g_M gCl X cc RX6 ret) (hd : decode cc pc = .ok (.getfield 27, 3)) (k : g_Y gCl X (gM hid) ad σ w (pc + 3) vs (.int (σ.1 0 0 4) :: st)) : g_Y gCl X (gM hid) ad σ w pc vs (.ref (ad 0 0) :: st) :=
  y_get C nM_0_0 in_X6 (N := 49) (ci := 5) rfl rfl 4 (by decide) rfl q1292 rfl hd k
theorem pf_M_4 {hid : Bool} {X : g_F} {cc : ByteArray} {ret : Option FieldType} {ad : Nat → Nat → Nat} {σ : g_S} {w : Nat × Nat} {pc : Nat} {vs : List (Nat × Value)} {st : List Value} {σ1 : g_S} {v : Int32} (C : g_M gCl X cc RX6 ret) (e : σ1 = g_sI σ 0 0 4 v) (hd : decode cc pc = .ok (.putfield 27, 3)) (k : g_Y gCl X (gM hid) ad σ1 w (pc + 3) vs st) : g_Y gCl X (gM hid) ad σ w pc vs (.int v :: .ref (ad 0 0) :: st) := by
  subst e
  exact y_put C nM_0_0 in_X6 (N := 49) (ci := 5) rfl rfl tyX6 tyX6_ok nmX6 4 (by decide) rfl q1292 rfl rfl rfl rfl (Nat.le_of_ble_eq_true rfl) g_sI_n (by show Sum.inl (Sum.inr (5, gMfs ad ((g_sI σ 0 0 4 v).1 0 0))) = _; rw [g_sI_s]; rfl) hd k
theorem gf_M_5 {hid : Bool} {X : g_F} {cc : ByteArray} {ret : Option FieldType} {ad : Nat → Nat → Nat} {σ : g_S} {w : Nat × Nat} {pc : Nat} {vs : List (Nat × Value)} {st : List Value} (C : g_M gCl X cc RX6 ret) (hd : decode cc pc = .ok (.getfield 130, 3)) (k : g_Y gCl X (gM hid) ad σ w (pc + 3) vs (.int (σ.1 0 0 5) :: st)) : g_Y gCl X (gM hid) ad σ w pc vs (.ref (ad 0 0) :: st) :=
  y_get C nM_0_0 in_X6 (N := 49) (ci := 5) rfl rfl 5 (by decide) rfl q1293 rfl hd k
theorem pf_M_5 {hid : Bool} {X : g_F} {cc : ByteArray} {ret : Option FieldType} {ad : Nat → Nat → Nat} {σ : g_S} {w : Nat × Nat} {pc : Nat} {vs : List (Nat × Value)} {st : List Value} {σ1 : g_S} {v : Int32} (C : g_M gCl X cc RX6 ret) (e : σ1 = g_sI σ 0 0 5 v) (hd : decode cc pc = .ok (.putfield 130, 3)) (k : g_Y gCl X (gM hid) ad σ1 w (pc + 3) vs st) : g_Y gCl X (gM hid) ad σ w pc vs (.int v :: .ref (ad 0 0) :: st) := by
  subst e
  exact y_put C nM_0_0 in_X6 (N := 49) (ci := 5) rfl rfl tyX6 tyX6_ok nmX6 5 (by decide) rfl q1293 rfl rfl rfl rfl (Nat.le_of_ble_eq_true rfl) g_sI_n (by show Sum.inl (Sum.inr (5, gMfs ad ((g_sI σ 0 0 5 v).1 0 0))) = _; rw [g_sI_s]; rfl) hd k
theorem gf_M_6 {hid : Bool} {X : g_F} {cc : ByteArray} {ret : Option FieldType} {ad : Nat → Nat → Nat} {σ : g_S} {w : Nat × Nat} {pc : Nat} {vs : List (Nat × Value)} {st : List Value} (C : g_M gCl X cc RX6 ret) (hd : decode cc pc = .ok (.getfield 133, 3)) (k : g_Y gCl X (gM hid) ad σ w (pc + 3) vs (.int (σ.1 0 0 6) :: st)) : g_Y gCl X (gM hid) ad σ w pc vs (.ref (ad 0 0) :: st) :=
  y_get C nM_0_0 in_X6 (N := 49) (ci := 5) rfl rfl 6 (by decide) rfl q1294 rfl hd k
theorem pf_M_6 {hid : Bool} {X : g_F} {cc : ByteArray} {ret : Option FieldType} {ad : Nat → Nat → Nat} {σ : g_S} {w : Nat × Nat} {pc : Nat} {vs : List (Nat × Value)} {st : List Value} {σ1 : g_S} {v : Int32} (C : g_M gCl X cc RX6 ret) (e : σ1 = g_sI σ 0 0 6 v) (hd : decode cc pc = .ok (.putfield 133, 3)) (k : g_Y gCl X (gM hid) ad σ1 w (pc + 3) vs st) : g_Y gCl X (gM hid) ad σ w pc vs (.int v :: .ref (ad 0 0) :: st) := by
  subst e
  exact y_put C nM_0_0 in_X6 (N := 49) (ci := 5) rfl rfl tyX6 tyX6_ok nmX6 6 (by decide) rfl q1294 rfl rfl rfl rfl (Nat.le_of_ble_eq_true rfl) g_sI_n (by show Sum.inl (Sum.inr (5, gMfs ad ((g_sI σ 0 0 6 v).1 0 0))) = _; rw [g_sI_s]; rfl) hd k
theorem gf_M_7 {hid : Bool} {X : g_F} {cc : ByteArray} {ret : Option FieldType} {ad : Nat → Nat → Nat} {σ : g_S} {w : Nat × Nat} {pc : Nat} {vs : List (Nat × Value)} {st : List Value} (C : g_M gCl X cc RX6 ret) (hd : decode cc pc = .ok (.getfield 191, 3)) (k : g_Y gCl X (gM hid) ad σ w (pc + 3) vs (.int (σ.1 0 0 7) :: st)) : g_Y gCl X (gM hid) ad σ w pc vs (.ref (ad 0 0) :: st) :=
  y_get C nM_0_0 in_X6 (N := 49) (ci := 5) rfl rfl 7 (by decide) rfl q1295 rfl hd k
theorem pf_M_7 {hid : Bool} {X : g_F} {cc : ByteArray} {ret : Option FieldType} {ad : Nat → Nat → Nat} {σ : g_S} {w : Nat × Nat} {pc : Nat} {vs : List (Nat × Value)} {st : List Value} {σ1 : g_S} {v : Int32} (C : g_M gCl X cc RX6 ret) (e : σ1 = g_sI σ 0 0 7 v) (hd : decode cc pc = .ok (.putfield 191, 3)) (k : g_Y gCl X (gM hid) ad σ1 w (pc + 3) vs st) : g_Y gCl X (gM hid) ad σ w pc vs (.int v :: .ref (ad 0 0) :: st) := by
  subst e
  exact y_put C nM_0_0 in_X6 (N := 49) (ci := 5) rfl rfl tyX6 tyX6_ok nmX6 7 (by decide) rfl q1295 rfl rfl rfl rfl (Nat.le_of_ble_eq_true rfl) g_sI_n (by show Sum.inl (Sum.inr (5, gMfs ad ((g_sI σ 0 0 7 v).1 0 0))) = _; rw [g_sI_s]; rfl) hd k
theorem gf_M_8 {hid : Bool} {X : g_F} {cc : ByteArray} {ret : Option FieldType} {ad : Nat → Nat → Nat} {σ : g_S} {w : Nat × Nat} {pc : Nat} {vs : List (Nat × Value)} {st : List Value} (C : g_M gCl X cc RX6 ret) (hd : decode cc pc = .ok (.getfield 30, 3)) (k : g_Y gCl X (gM hid) ad σ w (pc + 3) vs (.int (σ.1 0 0 8) :: st)) : g_Y gCl X (gM hid) ad σ w pc vs (.ref (ad 0 0) :: st) :=
  y_get C nM_0_0 in_X6 (N := 49) (ci := 5) rfl rfl 8 (by decide) rfl q1296 rfl hd k
theorem pf_M_8 {hid : Bool} {X : g_F} {cc : ByteArray} {ret : Option FieldType} {ad : Nat → Nat → Nat} {σ : g_S} {w : Nat × Nat} {pc : Nat} {vs : List (Nat × Value)} {st : List Value} {σ1 : g_S} {v : Int32} (C : g_M gCl X cc RX6 ret) (e : σ1 = g_sI σ 0 0 8 v) (hd : decode cc pc = .ok (.putfield 30, 3)) (k : g_Y gCl X (gM hid) ad σ1 w (pc + 3) vs st) : g_Y gCl X (gM hid) ad σ w pc vs (.int v :: .ref (ad 0 0) :: st) := by
  subst e
  exact y_put C nM_0_0 in_X6 (N := 49) (ci := 5) rfl rfl tyX6 tyX6_ok nmX6 8 (by decide) rfl q1296 rfl rfl rfl rfl (Nat.le_of_ble_eq_true rfl) g_sI_n (by show Sum.inl (Sum.inr (5, gMfs ad ((g_sI σ 0 0 8 v).1 0 0))) = _; rw [g_sI_s]; rfl) hd k
theorem gf_M_9 {hid : Bool} {X : g_F} {cc : ByteArray} {ret : Option FieldType} {ad : Nat → Nat → Nat} {σ : g_S} {w : Nat × Nat} {pc : Nat} {vs : List (Nat × Value)} {st : List Value} (C : g_M gCl X cc RX6 ret) (hd : decode cc pc = .ok (.getfield 33, 3)) (k : g_Y gCl X (gM hid) ad σ w (pc + 3) vs (.ref (ad 3 0) :: st)) : g_Y gCl X (gM hid) ad σ w pc vs (.ref (ad 0 0) :: st) :=
  y_get C nM_0_0 in_X6 (N := 49) (ci := 5) rfl rfl 9 (by decide) rfl q1297 rfl hd k
theorem gf_M_10 {hid : Bool} {X : g_F} {cc : ByteArray} {ret : Option FieldType} {ad : Nat → Nat → Nat} {σ : g_S} {w : Nat × Nat} {pc : Nat} {vs : List (Nat × Value)} {st : List Value} (C : g_M gCl X cc RX6 ret) (hd : decode cc pc = .ok (.getfield 37, 3)) (k : g_Y gCl X (gM hid) ad σ w (pc + 3) vs (.ref (ad 4 0) :: st)) : g_Y gCl X (gM hid) ad σ w pc vs (.ref (ad 0 0) :: st) :=
  y_get C nM_0_0 in_X6 (N := 49) (ci := 5) rfl rfl 10 (by decide) rfl q1298 rfl hd k
theorem gf_M_11 {hid : Bool} {X : g_F} {cc : ByteArray} {ret : Option FieldType} {ad : Nat → Nat → Nat} {σ : g_S} {w : Nat × Nat} {pc : Nat} {vs : List (Nat × Value)} {st : List Value} (C : g_M gCl X cc RX6 ret) (hd : decode cc pc = .ok (.getfield 41, 3)) (k : g_Y gCl X (gM hid) ad σ w (pc + 3) vs (.ref (ad 1 0) :: st)) : g_Y gCl X (gM hid) ad σ w pc vs (.ref (ad 0 0) :: st) :=
  y_get C nM_0_0 in_X6 (N := 49) (ci := 5) rfl rfl 11 (by decide) rfl q1299 rfl hd k
theorem gf_M_12 {hid : Bool} {X : g_F} {cc : ByteArray} {ret : Option FieldType} {ad : Nat → Nat → Nat} {σ : g_S} {w : Nat × Nat} {pc : Nat} {vs : List (Nat × Value)} {st : List Value} (C : g_M gCl X cc RX6 ret) (hd : decode cc pc = .ok (.getfield 44, 3)) (k : g_Y gCl X (gM hid) ad σ w (pc + 3) vs (.ref (ad 1 1) :: st)) : g_Y gCl X (gM hid) ad σ w pc vs (.ref (ad 0 0) :: st) :=
  y_get C nM_0_0 in_X6 (N := 49) (ci := 5) rfl rfl 12 (by decide) rfl q1300 rfl hd k
theorem gf_M_13 {hid : Bool} {X : g_F} {cc : ByteArray} {ret : Option FieldType} {ad : Nat → Nat → Nat} {σ : g_S} {w : Nat × Nat} {pc : Nat} {vs : List (Nat × Value)} {st : List Value} (C : g_M gCl X cc RX6 ret) (hd : decode cc pc = .ok (.getfield 47, 3)) (k : g_Y gCl X (gM hid) ad σ w (pc + 3) vs (.ref (ad 5 0) :: st)) : g_Y gCl X (gM hid) ad σ w pc vs (.ref (ad 0 0) :: st) :=
  y_get C nM_0_0 in_X6 (N := 49) (ci := 5) rfl rfl 13 (by decide) rfl q1301 rfl hd k
theorem gf_M_14 {hid : Bool} {X : g_F} {cc : ByteArray} {ret : Option FieldType} {ad : Nat → Nat → Nat} {σ : g_S} {w : Nat × Nat} {pc : Nat} {vs : List (Nat × Value)} {st : List Value} (C : g_M gCl X cc RX6 ret) (hd : decode cc pc = .ok (.getfield 136, 3)) (k : g_Y gCl X (gM hid) ad σ w (pc + 3) vs (.int (σ.1 0 0 14) :: st)) : g_Y gCl X (gM hid) ad σ w pc vs (.ref (ad 0 0) :: st) :=
  y_get C nM_0_0 in_X6 (N := 49) (ci := 5) rfl rfl 14 (by decide) rfl q1302 rfl hd k
theorem pf_M_14 {hid : Bool} {X : g_F} {cc : ByteArray} {ret : Option FieldType} {ad : Nat → Nat → Nat} {σ : g_S} {w : Nat × Nat} {pc : Nat} {vs : List (Nat × Value)} {st : List Value} {σ1 : g_S} {v : Int32} (C : g_M gCl X cc RX6 ret) (e : σ1 = g_sI σ 0 0 14 v) (hd : decode cc pc = .ok (.putfield 136, 3)) (k : g_Y gCl X (gM hid) ad σ1 w (pc + 3) vs st) : g_Y gCl X (gM hid) ad σ w pc vs (.int v :: .ref (ad 0 0) :: st) := by
  subst e
  exact y_put C nM_0_0 in_X6 (N := 49) (ci := 5) rfl rfl tyX6 tyX6_ok nmX6 14 (by decide) rfl q1302 rfl rfl rfl rfl (Nat.le_of_ble_eq_true rfl) g_sI_n (by show Sum.inl (Sum.inr (5, gMfs ad ((g_sI σ 0 0 14 v).1 0 0))) = _; rw [g_sI_s]; rfl) hd k
theorem gf_M_15 {hid : Bool} {X : g_F} {cc : ByteArray} {ret : Option FieldType} {ad : Nat → Nat → Nat} {σ : g_S} {w : Nat × Nat} {pc : Nat} {vs : List (Nat × Value)} {st : List Value} (C : g_M gCl X cc RX6 ret) (hd : decode cc pc = .ok (.getfield 139, 3)) (k : g_Y gCl X (gM hid) ad σ w (pc + 3) vs (.int (σ.1 0 0 15) :: st)) : g_Y gCl X (gM hid) ad σ w pc vs (.ref (ad 0 0) :: st) :=
  y_get C nM_0_0 in_X6 (N := 49) (ci := 5) rfl rfl 15 (by decide) rfl q1303 rfl hd k
theorem pf_M_15 {hid : Bool} {X : g_F} {cc : ByteArray} {ret : Option FieldType} {ad : Nat → Nat → Nat} {σ : g_S} {w : Nat × Nat} {pc : Nat} {vs : List (Nat × Value)} {st : List Value} {σ1 : g_S} {v : Int32} (C : g_M gCl X cc RX6 ret) (e : σ1 = g_sI σ 0 0 15 v) (hd : decode cc pc = .ok (.putfield 139, 3)) (k : g_Y gCl X (gM hid) ad σ1 w (pc + 3) vs st) : g_Y gCl X (gM hid) ad σ w pc vs (.int v :: .ref (ad 0 0) :: st) := by
  subst e
  exact y_put C nM_0_0 in_X6 (N := 49) (ci := 5) rfl rfl tyX6 tyX6_ok nmX6 15 (by decide) rfl q1303 rfl rfl rfl rfl (Nat.le_of_ble_eq_true rfl) g_sI_n (by show Sum.inl (Sum.inr (5, gMfs ad ((g_sI σ 0 0 15 v).1 0 0))) = _; rw [g_sI_s]; rfl) hd k
theorem gf_M_16 {hid : Bool} {X : g_F} {cc : ByteArray} {ret : Option FieldType} {ad : Nat → Nat → Nat} {σ : g_S} {w : Nat × Nat} {pc : Nat} {vs : List (Nat × Value)} {st : List Value} (C : g_M gCl X cc RX6 ret) (hd : decode cc pc = .ok (.getfield 151, 3)) (k : g_Y gCl X (gM hid) ad σ w (pc + 3) vs (.int (σ.1 0 0 16) :: st)) : g_Y gCl X (gM hid) ad σ w pc vs (.ref (ad 0 0) :: st) :=
  y_get C nM_0_0 in_X6 (N := 49) (ci := 5) rfl rfl 16 (by decide) rfl q1304 rfl hd k
theorem pf_M_16 {hid : Bool} {X : g_F} {cc : ByteArray} {ret : Option FieldType} {ad : Nat → Nat → Nat} {σ : g_S} {w : Nat × Nat} {pc : Nat} {vs : List (Nat × Value)} {st : List Value} {σ1 : g_S} {v : Int32} (C : g_M gCl X cc RX6 ret) (e : σ1 = g_sI σ 0 0 16 v) (hd : decode cc pc = .ok (.putfield 151, 3)) (k : g_Y gCl X (gM hid) ad σ1 w (pc + 3) vs st) : g_Y gCl X (gM hid) ad σ w pc vs (.int v :: .ref (ad 0 0) :: st) := by
  subst e
  exact y_put C nM_0_0 in_X6 (N := 49) (ci := 5) rfl rfl tyX6 tyX6_ok nmX6 16 (by decide) rfl q1304 rfl rfl rfl rfl (Nat.le_of_ble_eq_true rfl) g_sI_n (by show Sum.inl (Sum.inr (5, gMfs ad ((g_sI σ 0 0 16 v).1 0 0))) = _; rw [g_sI_s]; rfl) hd k
theorem gf_M_17 {hid : Bool} {X : g_F} {cc : ByteArray} {ret : Option FieldType} {ad : Nat → Nat → Nat} {σ : g_S} {w : Nat × Nat} {pc : Nat} {vs : List (Nat × Value)} {st : List Value} (C : g_M gCl X cc RX6 ret) (hd : decode cc pc = .ok (.getfield 142, 3)) (k : g_Y gCl X (gM hid) ad σ w (pc + 3) vs (.int (σ.1 0 0 17) :: st)) : g_Y gCl X (gM hid) ad σ w pc vs (.ref (ad 0 0) :: st) :=
  y_get C nM_0_0 in_X6 (N := 49) (ci := 5) rfl rfl 17 (by decide) rfl q1305 rfl hd k
theorem pf_M_17 {hid : Bool} {X : g_F} {cc : ByteArray} {ret : Option FieldType} {ad : Nat → Nat → Nat} {σ : g_S} {w : Nat × Nat} {pc : Nat} {vs : List (Nat × Value)} {st : List Value} {σ1 : g_S} {v : Int32} (C : g_M gCl X cc RX6 ret) (e : σ1 = g_sI σ 0 0 17 v) (hd : decode cc pc = .ok (.putfield 142, 3)) (k : g_Y gCl X (gM hid) ad σ1 w (pc + 3) vs st) : g_Y gCl X (gM hid) ad σ w pc vs (.int v :: .ref (ad 0 0) :: st) := by
  subst e
  exact y_put C nM_0_0 in_X6 (N := 49) (ci := 5) rfl rfl tyX6 tyX6_ok nmX6 17 (by decide) rfl q1305 rfl rfl rfl rfl (Nat.le_of_ble_eq_true rfl) g_sI_n (by show Sum.inl (Sum.inr (5, gMfs ad ((g_sI σ 0 0 17 v).1 0 0))) = _; rw [g_sI_s]; rfl) hd k
theorem gf_M_18 {hid : Bool} {X : g_F} {cc : ByteArray} {ret : Option FieldType} {ad : Nat → Nat → Nat} {σ : g_S} {w : Nat × Nat} {pc : Nat} {vs : List (Nat × Value)} {st : List Value} (C : g_M gCl X cc RX6 ret) (hd : decode cc pc = .ok (.getfield 50, 3)) (k : g_Y gCl X (gM hid) ad σ w (pc + 3) vs (.ref (ad 6 0) :: st)) : g_Y gCl X (gM hid) ad σ w pc vs (.ref (ad 0 0) :: st) :=
  y_get C nM_0_0 in_X6 (N := 49) (ci := 5) rfl rfl 18 (by decide) rfl q1306 rfl hd k
theorem gf_M_19 {hid : Bool} {X : g_F} {cc : ByteArray} {ret : Option FieldType} {ad : Nat → Nat → Nat} {σ : g_S} {w : Nat × Nat} {pc : Nat} {vs : List (Nat × Value)} {st : List Value} (C : g_M gCl X cc RX6 ret) (hd : decode cc pc = .ok (.getfield 53, 3)) (k : g_Y gCl X (gM hid) ad σ w (pc + 3) vs (.ref (ad 7 0) :: st)) : g_Y gCl X (gM hid) ad σ w pc vs (.ref (ad 0 0) :: st) :=
  y_get C nM_0_0 in_X6 (N := 49) (ci := 5) rfl rfl 19 (by decide) rfl q1307 rfl hd k
theorem gf_M_20 {hid : Bool} {X : g_F} {cc : ByteArray} {ret : Option FieldType} {ad : Nat → Nat → Nat} {σ : g_S} {w : Nat × Nat} {pc : Nat} {vs : List (Nat × Value)} {st : List Value} (C : g_M gCl X cc RX6 ret) (hd : decode cc pc = .ok (.getfield 197, 3)) (k : g_Y gCl X (gM hid) ad σ w (pc + 3) vs (.int (σ.1 0 0 20) :: st)) : g_Y gCl X (gM hid) ad σ w pc vs (.ref (ad 0 0) :: st) :=
  y_get C nM_0_0 in_X6 (N := 49) (ci := 5) rfl rfl 20 (by decide) rfl q1308 rfl hd k
theorem pf_M_20 {hid : Bool} {X : g_F} {cc : ByteArray} {ret : Option FieldType} {ad : Nat → Nat → Nat} {σ : g_S} {w : Nat × Nat} {pc : Nat} {vs : List (Nat × Value)} {st : List Value} {σ1 : g_S} {v : Int32} (C : g_M gCl X cc RX6 ret) (e : σ1 = g_sI σ 0 0 20 v) (hd : decode cc pc = .ok (.putfield 197, 3)) (k : g_Y gCl X (gM hid) ad σ1 w (pc + 3) vs st) : g_Y gCl X (gM hid) ad σ w pc vs (.int v :: .ref (ad 0 0) :: st) := by
  subst e
  exact y_put C nM_0_0 in_X6 (N := 49) (ci := 5) rfl rfl tyX6 tyX6_ok nmX6 20 (by decide) rfl q1308 rfl rfl rfl rfl (Nat.le_of_ble_eq_true rfl) g_sI_n (by show Sum.inl (Sum.inr (5, gMfs ad ((g_sI σ 0 0 20 v).1 0 0))) = _; rw [g_sI_s]; rfl) hd k
theorem gf_M_21 {hid : Bool} {X : g_F} {cc : ByteArray} {ret : Option FieldType} {ad : Nat → Nat → Nat} {σ : g_S} {w : Nat × Nat} {pc : Nat} {vs : List (Nat × Value)} {st : List Value} (C : g_M gCl X cc RX6 ret) (hd : decode cc pc = .ok (.getfield 56, 3)) (k : g_Y gCl X (gM hid) ad σ w (pc + 3) vs (.ref (ad 8 0) :: st)) : g_Y gCl X (gM hid) ad σ w pc vs (.ref (ad 0 0) :: st) :=
  y_get C nM_0_0 in_X6 (N := 49) (ci := 5) rfl rfl 21 (by decide) rfl q1309 rfl hd k
theorem gf_M_22 {hid : Bool} {X : g_F} {cc : ByteArray} {ret : Option FieldType} {ad : Nat → Nat → Nat} {σ : g_S} {w : Nat × Nat} {pc : Nat} {vs : List (Nat × Value)} {st : List Value} (C : g_M gCl X cc RX6 ret) (hd : decode cc pc = .ok (.getfield 59, 3)) (k : g_Y gCl X (gM hid) ad σ w (pc + 3) vs (.ref (ad 8 1) :: st)) : g_Y gCl X (gM hid) ad σ w pc vs (.ref (ad 0 0) :: st) :=
  y_get C nM_0_0 in_X6 (N := 49) (ci := 5) rfl rfl 22 (by decide) rfl q1310 rfl hd k
theorem gf_M_23 {hid : Bool} {X : g_F} {cc : ByteArray} {ret : Option FieldType} {ad : Nat → Nat → Nat} {σ : g_S} {w : Nat × Nat} {pc : Nat} {vs : List (Nat × Value)} {st : List Value} (C : g_M gCl X cc RX6 ret) (hd : decode cc pc = .ok (.getfield 248, 3)) (k : g_Y gCl X (gM hid) ad σ w (pc + 3) vs (.int (σ.1 0 0 23) :: st)) : g_Y gCl X (gM hid) ad σ w pc vs (.ref (ad 0 0) :: st) :=
  y_get C nM_0_0 in_X6 (N := 49) (ci := 5) rfl rfl 23 (by decide) rfl q1311 rfl hd k
theorem pf_M_23 {hid : Bool} {X : g_F} {cc : ByteArray} {ret : Option FieldType} {ad : Nat → Nat → Nat} {σ : g_S} {w : Nat × Nat} {pc : Nat} {vs : List (Nat × Value)} {st : List Value} {σ1 : g_S} {v : Int32} (C : g_M gCl X cc RX6 ret) (e : σ1 = g_sI σ 0 0 23 v) (hd : decode cc pc = .ok (.putfield 248, 3)) (k : g_Y gCl X (gM hid) ad σ1 w (pc + 3) vs st) : g_Y gCl X (gM hid) ad σ w pc vs (.int v :: .ref (ad 0 0) :: st) := by
  subst e
  exact y_put C nM_0_0 in_X6 (N := 49) (ci := 5) rfl rfl tyX6 tyX6_ok nmX6 23 (by decide) rfl q1311 rfl rfl rfl rfl (Nat.le_of_ble_eq_true rfl) g_sI_n (by show Sum.inl (Sum.inr (5, gMfs ad ((g_sI σ 0 0 23 v).1 0 0))) = _; rw [g_sI_s]; rfl) hd k
theorem gf_M_24 {hid : Bool} {X : g_F} {cc : ByteArray} {ret : Option FieldType} {ad : Nat → Nat → Nat} {σ : g_S} {w : Nat × Nat} {pc : Nat} {vs : List (Nat × Value)} {st : List Value} (C : g_M gCl X cc RX6 ret) (hd : decode cc pc = .ok (.getfield 227, 3)) (k : g_Y gCl X (gM hid) ad σ w (pc + 3) vs (.int (σ.1 0 0 24) :: st)) : g_Y gCl X (gM hid) ad σ w pc vs (.ref (ad 0 0) :: st) :=
  y_get C nM_0_0 in_X6 (N := 49) (ci := 5) rfl rfl 24 (by decide) rfl q1312 rfl hd k
theorem pf_M_24 {hid : Bool} {X : g_F} {cc : ByteArray} {ret : Option FieldType} {ad : Nat → Nat → Nat} {σ : g_S} {w : Nat × Nat} {pc : Nat} {vs : List (Nat × Value)} {st : List Value} {σ1 : g_S} {v : Int32} (C : g_M gCl X cc RX6 ret) (e : σ1 = g_sI σ 0 0 24 v) (hd : decode cc pc = .ok (.putfield 227, 3)) (k : g_Y gCl X (gM hid) ad σ1 w (pc + 3) vs st) : g_Y gCl X (gM hid) ad σ w pc vs (.int v :: .ref (ad 0 0) :: st) := by
  subst e
  exact y_put C nM_0_0 in_X6 (N := 49) (ci := 5) rfl rfl tyX6 tyX6_ok nmX6 24 (by decide) rfl q1312 rfl rfl rfl rfl (Nat.le_of_ble_eq_true rfl) g_sI_n (by show Sum.inl (Sum.inr (5, gMfs ad ((g_sI σ 0 0 24 v).1 0 0))) = _; rw [g_sI_s]; rfl) hd k
theorem gf_M_25 {hid : Bool} {X : g_F} {cc : ByteArray} {ret : Option FieldType} {ad : Nat → Nat → Nat} {σ : g_S} {w : Nat × Nat} {pc : Nat} {vs : List (Nat × Value)} {st : List Value} (C : g_M gCl X cc RX6 ret) (hd : decode cc pc = .ok (.getfield 62, 3)) (k : g_Y gCl X (gM hid) ad σ w (pc + 3) vs (.ref (ad 9 0) :: st)) : g_Y gCl X (gM hid) ad σ w pc vs (.ref (ad 0 0) :: st) :=
  y_get C nM_0_0 in_X6 (N := 49) (ci := 5) rfl rfl 25 (by decide) rfl q1313 rfl hd k
theorem gf_M_26 {hid : Bool} {X : g_F} {cc : ByteArray} {ret : Option FieldType} {ad : Nat → Nat → Nat} {σ : g_S} {w : Nat × Nat} {pc : Nat} {vs : List (Nat × Value)} {st : List Value} (C : g_M gCl X cc RX6 ret) (hd : decode cc pc = .ok (.getfield 65, 3)) (k : g_Y gCl X (gM hid) ad σ w (pc + 3) vs (.ref (ad 10 0) :: st)) : g_Y gCl X (gM hid) ad σ w pc vs (.ref (ad 0 0) :: st) :=
  y_get C nM_0_0 in_X6 (N := 49) (ci := 5) rfl rfl 26 (by decide) rfl q1314 rfl hd k
theorem gf_M_27 {hid : Bool} {X : g_F} {cc : ByteArray} {ret : Option FieldType} {ad : Nat → Nat → Nat} {σ : g_S} {w : Nat × Nat} {pc : Nat} {vs : List (Nat × Value)} {st : List Value} (C : g_M gCl X cc RX6 ret) (hd : decode cc pc = .ok (.getfield 188, 3)) (k : g_Y gCl X (gM hid) ad σ w (pc + 3) vs (.int (σ.1 0 0 27) :: st)) : g_Y gCl X (gM hid) ad σ w pc vs (.ref (ad 0 0) :: st) :=
  y_get C nM_0_0 in_X6 (N := 49) (ci := 5) rfl rfl 27 (by decide) rfl q1315 rfl hd k
theorem pf_M_27 {hid : Bool} {X : g_F} {cc : ByteArray} {ret : Option FieldType} {ad : Nat → Nat → Nat} {σ : g_S} {w : Nat × Nat} {pc : Nat} {vs : List (Nat × Value)} {st : List Value} {σ1 : g_S} {v : Int32} (C : g_M gCl X cc RX6 ret) (e : σ1 = g_sI σ 0 0 27 v) (hd : decode cc pc = .ok (.putfield 188, 3)) (k : g_Y gCl X (gM hid) ad σ1 w (pc + 3) vs st) : g_Y gCl X (gM hid) ad σ w pc vs (.int v :: .ref (ad 0 0) :: st) := by
  subst e
  exact y_put C nM_0_0 in_X6 (N := 49) (ci := 5) rfl rfl tyX6 tyX6_ok nmX6 27 (by decide) rfl q1315 rfl rfl rfl rfl (Nat.le_of_ble_eq_true rfl) g_sI_n (by show Sum.inl (Sum.inr (5, gMfs ad ((g_sI σ 0 0 27 v).1 0 0))) = _; rw [g_sI_s]; rfl) hd k
theorem gf_M_28 {hid : Bool} {X : g_F} {cc : ByteArray} {ret : Option FieldType} {ad : Nat → Nat → Nat} {σ : g_S} {w : Nat × Nat} {pc : Nat} {vs : List (Nat × Value)} {st : List Value} (C : g_M gCl X cc RX6 ret) (hd : decode cc pc = .ok (.getfield 68, 3)) (k : g_Y gCl X (gM hid) ad σ w (pc + 3) vs (.ref (ad 11 0) :: st)) : g_Y gCl X (gM hid) ad σ w pc vs (.ref (ad 0 0) :: st) :=
  y_get C nM_0_0 in_X6 (N := 49) (ci := 5) rfl rfl 28 (by decide) rfl q1316 rfl hd k
theorem gf_M_29 {hid : Bool} {X : g_F} {cc : ByteArray} {ret : Option FieldType} {ad : Nat → Nat → Nat} {σ : g_S} {w : Nat × Nat} {pc : Nat} {vs : List (Nat × Value)} {st : List Value} (C : g_M gCl X cc RX6 ret) (hd : decode cc pc = .ok (.getfield 71, 3)) (k : g_Y gCl X (gM hid) ad σ w (pc + 3) vs (.ref (ad 12 0) :: st)) : g_Y gCl X (gM hid) ad σ w pc vs (.ref (ad 0 0) :: st) :=
  y_get C nM_0_0 in_X6 (N := 49) (ci := 5) rfl rfl 29 (by decide) rfl q1317 rfl hd k
theorem gf_M_30 {hid : Bool} {X : g_F} {cc : ByteArray} {ret : Option FieldType} {ad : Nat → Nat → Nat} {σ : g_S} {w : Nat × Nat} {pc : Nat} {vs : List (Nat × Value)} {st : List Value} (C : g_M gCl X cc RX6 ret) (hd : decode cc pc = .ok (.getfield 74, 3)) (k : g_Y gCl X (gM hid) ad σ w (pc + 3) vs (.ref (ad 13 0) :: st)) : g_Y gCl X (gM hid) ad σ w pc vs (.ref (ad 0 0) :: st) :=
  y_get C nM_0_0 in_X6 (N := 49) (ci := 5) rfl rfl 30 (by decide) rfl q1318 rfl hd k
theorem gf_M_31 {hid : Bool} {X : g_F} {cc : ByteArray} {ret : Option FieldType} {ad : Nat → Nat → Nat} {σ : g_S} {w : Nat × Nat} {pc : Nat} {vs : List (Nat × Value)} {st : List Value} (C : g_M gCl X cc RX6 ret) (hd : decode cc pc = .ok (.getfield 77, 3)) (k : g_Y gCl X (gM hid) ad σ w (pc + 3) vs (.ref (ad 14 0) :: st)) : g_Y gCl X (gM hid) ad σ w pc vs (.ref (ad 0 0) :: st) :=
  y_get C nM_0_0 in_X6 (N := 49) (ci := 5) rfl rfl 31 (by decide) rfl q1319 rfl hd k
theorem gf_M_32 {hid : Bool} {X : g_F} {cc : ByteArray} {ret : Option FieldType} {ad : Nat → Nat → Nat} {σ : g_S} {w : Nat × Nat} {pc : Nat} {vs : List (Nat × Value)} {st : List Value} (C : g_M gCl X cc RX6 ret) (hd : decode cc pc = .ok (.getfield 80, 3)) (k : g_Y gCl X (gM hid) ad σ w (pc + 3) vs (.ref (ad 15 0) :: st)) : g_Y gCl X (gM hid) ad σ w pc vs (.ref (ad 0 0) :: st) :=
  y_get C nM_0_0 in_X6 (N := 49) (ci := 5) rfl rfl 32 (by decide) rfl q1320 rfl hd k
theorem gf_M_33 {hid : Bool} {X : g_F} {cc : ByteArray} {ret : Option FieldType} {ad : Nat → Nat → Nat} {σ : g_S} {w : Nat × Nat} {pc : Nat} {vs : List (Nat × Value)} {st : List Value} (C : g_M gCl X cc RX6 ret) (hd : decode cc pc = .ok (.getfield 83, 3)) (k : g_Y gCl X (gM hid) ad σ w (pc + 3) vs (.ref (ad 16 0) :: st)) : g_Y gCl X (gM hid) ad σ w pc vs (.ref (ad 0 0) :: st) :=
  y_get C nM_0_0 in_X6 (N := 49) (ci := 5) rfl rfl 33 (by decide) rfl q1321 rfl hd k
theorem gf_M_34 {hid : Bool} {X : g_F} {cc : ByteArray} {ret : Option FieldType} {ad : Nat → Nat → Nat} {σ : g_S} {w : Nat × Nat} {pc : Nat} {vs : List (Nat × Value)} {st : List Value} (C : g_M gCl X cc RX6 ret) (hd : decode cc pc = .ok (.getfield 392, 3)) (k : g_Y gCl X (gM hid) ad σ w (pc + 3) vs (.int (σ.1 0 0 34) :: st)) : g_Y gCl X (gM hid) ad σ w pc vs (.ref (ad 0 0) :: st) :=
  y_get C nM_0_0 in_X6 (N := 49) (ci := 5) rfl rfl 34 (by decide) rfl q1322 rfl hd k
theorem pf_M_34 {hid : Bool} {X : g_F} {cc : ByteArray} {ret : Option FieldType} {ad : Nat → Nat → Nat} {σ : g_S} {w : Nat × Nat} {pc : Nat} {vs : List (Nat × Value)} {st : List Value} {σ1 : g_S} {v : Int32} (C : g_M gCl X cc RX6 ret) (e : σ1 = g_sI σ 0 0 34 v) (hd : decode cc pc = .ok (.putfield 392, 3)) (k : g_Y gCl X (gM hid) ad σ1 w (pc + 3) vs st) : g_Y gCl X (gM hid) ad σ w pc vs (.int v :: .ref (ad 0 0) :: st) := by
  subst e
  exact y_put C nM_0_0 in_X6 (N := 49) (ci := 5) rfl rfl tyX6 tyX6_ok nmX6 34 (by decide) rfl q1322 rfl rfl rfl rfl (Nat.le_of_ble_eq_true rfl) g_sI_n (by show Sum.inl (Sum.inr (5, gMfs ad ((g_sI σ 0 0 34 v).1 0 0))) = _; rw [g_sI_s]; rfl) hd k
theorem gf_M_35 {hid : Bool} {X : g_F} {cc : ByteArray} {ret : Option FieldType} {ad : Nat → Nat → Nat} {σ : g_S} {w : Nat × Nat} {pc : Nat} {vs : List (Nat × Value)} {st : List Value} (C : g_M gCl X cc RX6 ret) (hd : decode cc pc = .ok (.getfield 86, 3)) (k : g_Y gCl X (gM hid) ad σ w (pc + 3) vs (.ref (ad 17 0) :: st)) : g_Y gCl X (gM hid) ad σ w pc vs (.ref (ad 0 0) :: st) :=
  y_get C nM_0_0 in_X6 (N := 49) (ci := 5) rfl rfl 35 (by decide) rfl q1323 rfl hd k
theorem gf_M_36 {hid : Bool} {X : g_F} {cc : ByteArray} {ret : Option FieldType} {ad : Nat → Nat → Nat} {σ : g_S} {w : Nat × Nat} {pc : Nat} {vs : List (Nat × Value)} {st : List Value} (C : g_M gCl X cc RX6 ret) (hd : decode cc pc = .ok (.getfield 89, 3)) (k : g_Y gCl X (gM hid) ad σ w (pc + 3) vs (.ref (ad 18 0) :: st)) : g_Y gCl X (gM hid) ad σ w pc vs (.ref (ad 0 0) :: st) :=
  y_get C nM_0_0 in_X6 (N := 49) (ci := 5) rfl rfl 36 (by decide) rfl q1324 rfl hd k
theorem gf_M_37 {hid : Bool} {X : g_F} {cc : ByteArray} {ret : Option FieldType} {ad : Nat → Nat → Nat} {σ : g_S} {w : Nat × Nat} {pc : Nat} {vs : List (Nat × Value)} {st : List Value} (C : g_M gCl X cc RX6 ret) (hd : decode cc pc = .ok (.getfield 92, 3)) (k : g_Y gCl X (gM hid) ad σ w (pc + 3) vs (.ref (ad 19 0) :: st)) : g_Y gCl X (gM hid) ad σ w pc vs (.ref (ad 0 0) :: st) :=
  y_get C nM_0_0 in_X6 (N := 49) (ci := 5) rfl rfl 37 (by decide) rfl q1325 rfl hd k
theorem gf_M_38 {hid : Bool} {X : g_F} {cc : ByteArray} {ret : Option FieldType} {ad : Nat → Nat → Nat} {σ : g_S} {w : Nat × Nat} {pc : Nat} {vs : List (Nat × Value)} {st : List Value} (C : g_M gCl X cc RX6 ret) (hd : decode cc pc = .ok (.getfield 95, 3)) (k : g_Y gCl X (gM hid) ad σ w (pc + 3) vs (.ref (ad 20 0) :: st)) : g_Y gCl X (gM hid) ad σ w pc vs (.ref (ad 0 0) :: st) :=
  y_get C nM_0_0 in_X6 (N := 49) (ci := 5) rfl rfl 38 (by decide) rfl q1326 rfl hd k
theorem gf_M_39 {hid : Bool} {X : g_F} {cc : ByteArray} {ret : Option FieldType} {ad : Nat → Nat → Nat} {σ : g_S} {w : Nat × Nat} {pc : Nat} {vs : List (Nat × Value)} {st : List Value} (C : g_M gCl X cc RX6 ret) (hd : decode cc pc = .ok (.getfield 194, 3)) (k : g_Y gCl X (gM hid) ad σ w (pc + 3) vs (.int (σ.1 0 0 39) :: st)) : g_Y gCl X (gM hid) ad σ w pc vs (.ref (ad 0 0) :: st) :=
  y_get C nM_0_0 in_X6 (N := 49) (ci := 5) rfl rfl 39 (by decide) rfl q1327 rfl hd k
theorem pf_M_39 {hid : Bool} {X : g_F} {cc : ByteArray} {ret : Option FieldType} {ad : Nat → Nat → Nat} {σ : g_S} {w : Nat × Nat} {pc : Nat} {vs : List (Nat × Value)} {st : List Value} {σ1 : g_S} {v : Int32} (C : g_M gCl X cc RX6 ret) (e : σ1 = g_sI σ 0 0 39 v) (hd : decode cc pc = .ok (.putfield 194, 3)) (k : g_Y gCl X (gM hid) ad σ1 w (pc + 3) vs st) : g_Y gCl X (gM hid) ad σ w pc vs (.int v :: .ref (ad 0 0) :: st) := by
  subst e
  exact y_put C nM_0_0 in_X6 (N := 49) (ci := 5) rfl rfl tyX6 tyX6_ok nmX6 39 (by decide) rfl q1327 rfl rfl rfl rfl (Nat.le_of_ble_eq_true rfl) g_sI_n (by show Sum.inl (Sum.inr (5, gMfs ad ((g_sI σ 0 0 39 v).1 0 0))) = _; rw [g_sI_s]; rfl) hd k
theorem gf_M_40 {hid : Bool} {X : g_F} {cc : ByteArray} {ret : Option FieldType} {ad : Nat → Nat → Nat} {σ : g_S} {w : Nat × Nat} {pc : Nat} {vs : List (Nat × Value)} {st : List Value} (C : g_M gCl X cc RX6 ret) (hd : decode cc pc = .ok (.getfield 98, 3)) (k : g_Y gCl X (gM hid) ad σ w (pc + 3) vs (.ref (ad 21 0) :: st)) : g_Y gCl X (gM hid) ad σ w pc vs (.ref (ad 0 0) :: st) :=
  y_get C nM_0_0 in_X6 (N := 49) (ci := 5) rfl rfl 40 (by decide) rfl q1328 rfl hd k
theorem gf_M_41 {hid : Bool} {X : g_F} {cc : ByteArray} {ret : Option FieldType} {ad : Nat → Nat → Nat} {σ : g_S} {w : Nat × Nat} {pc : Nat} {vs : List (Nat × Value)} {st : List Value} (C : g_M gCl X cc RX6 ret) (hd : decode cc pc = .ok (.getfield 101, 3)) (k : g_Y gCl X (gM hid) ad σ w (pc + 3) vs (.ref (ad 22 0) :: st)) : g_Y gCl X (gM hid) ad σ w pc vs (.ref (ad 0 0) :: st) :=
  y_get C nM_0_0 in_X6 (N := 49) (ci := 5) rfl rfl 41 (by decide) rfl q1329 rfl hd k
theorem gf_M_42 {hid : Bool} {X : g_F} {cc : ByteArray} {ret : Option FieldType} {ad : Nat → Nat → Nat} {σ : g_S} {w : Nat × Nat} {pc : Nat} {vs : List (Nat × Value)} {st : List Value} (C : g_M gCl X cc RX6 ret) (hd : decode cc pc = .ok (.getfield 104, 3)) (k : g_Y gCl X (gM hid) ad σ w (pc + 3) vs (.ref (ad 23 0) :: st)) : g_Y gCl X (gM hid) ad σ w pc vs (.ref (ad 0 0) :: st) :=
  y_get C nM_0_0 in_X6 (N := 49) (ci := 5) rfl rfl 42 (by decide) rfl q1330 rfl hd k
theorem gf_M_43 {hid : Bool} {X : g_F} {cc : ByteArray} {ret : Option FieldType} {ad : Nat → Nat → Nat} {σ : g_S} {w : Nat × Nat} {pc : Nat} {vs : List (Nat × Value)} {st : List Value} (C : g_M gCl X cc RX6 ret) (hd : decode cc pc = .ok (.getfield 107, 3)) (k : g_Y gCl X (gM hid) ad σ w (pc + 3) vs (.ref (ad 24 0) :: st)) : g_Y gCl X (gM hid) ad σ w pc vs (.ref (ad 0 0) :: st) :=
  y_get C nM_0_0 in_X6 (N := 49) (ci := 5) rfl rfl 43 (by decide) rfl q1331 rfl hd k
theorem gf_M_44 {hid : Bool} {X : g_F} {cc : ByteArray} {ret : Option FieldType} {ad : Nat → Nat → Nat} {σ : g_S} {w : Nat × Nat} {pc : Nat} {vs : List (Nat × Value)} {st : List Value} (C : g_M gCl X cc RX6 ret) (hd : decode cc pc = .ok (.getfield 110, 3)) (k : g_Y gCl X (gM hid) ad σ w (pc + 3) vs (.ref (ad 8 2) :: st)) : g_Y gCl X (gM hid) ad σ w pc vs (.ref (ad 0 0) :: st) :=
  y_get C nM_0_0 in_X6 (N := 49) (ci := 5) rfl rfl 44 (by decide) rfl q1332 rfl hd k
theorem gf_M_45 {hid : Bool} {X : g_F} {cc : ByteArray} {ret : Option FieldType} {ad : Nat → Nat → Nat} {σ : g_S} {w : Nat × Nat} {pc : Nat} {vs : List (Nat × Value)} {st : List Value} (C : g_M gCl X cc RX6 ret) (hd : decode cc pc = .ok (.getfield 471, 3)) (k : g_Y gCl X (gM hid) ad σ w (pc + 3) vs (.int (σ.1 0 0 45) :: st)) : g_Y gCl X (gM hid) ad σ w pc vs (.ref (ad 0 0) :: st) :=
  y_get C nM_0_0 in_X6 (N := 49) (ci := 5) rfl rfl 45 (by decide) rfl q1333 rfl hd k
theorem pf_M_45 {hid : Bool} {X : g_F} {cc : ByteArray} {ret : Option FieldType} {ad : Nat → Nat → Nat} {σ : g_S} {w : Nat × Nat} {pc : Nat} {vs : List (Nat × Value)} {st : List Value} {σ1 : g_S} {v : Int32} (C : g_M gCl X cc RX6 ret) (e : σ1 = g_sI σ 0 0 45 v) (hd : decode cc pc = .ok (.putfield 471, 3)) (k : g_Y gCl X (gM hid) ad σ1 w (pc + 3) vs st) : g_Y gCl X (gM hid) ad σ w pc vs (.int v :: .ref (ad 0 0) :: st) := by
  subst e
  exact y_put C nM_0_0 in_X6 (N := 49) (ci := 5) rfl rfl tyX6 tyX6_ok nmX6 45 (by decide) rfl q1333 rfl rfl rfl rfl (Nat.le_of_ble_eq_true rfl) g_sI_n (by show Sum.inl (Sum.inr (5, gMfs ad ((g_sI σ 0 0 45 v).1 0 0))) = _; rw [g_sI_s]; rfl) hd k
theorem gf_M_46 {hid : Bool} {X : g_F} {cc : ByteArray} {ret : Option FieldType} {ad : Nat → Nat → Nat} {σ : g_S} {w : Nat × Nat} {pc : Nat} {vs : List (Nat × Value)} {st : List Value} (C : g_M gCl X cc RX6 ret) (hd : decode cc pc = .ok (.getfield 113, 3)) (k : g_Y gCl X (gM hid) ad σ w (pc + 3) vs (.ref (ad 25 0) :: st)) : g_Y gCl X (gM hid) ad σ w pc vs (.ref (ad 0 0) :: st) :=
  y_get C nM_0_0 in_X6 (N := 49) (ci := 5) rfl rfl 46 (by decide) rfl q1334 rfl hd k
theorem gf_M_47 {hid : Bool} {X : g_F} {cc : ByteArray} {ret : Option FieldType} {ad : Nat → Nat → Nat} {σ : g_S} {w : Nat × Nat} {pc : Nat} {vs : List (Nat × Value)} {st : List Value} (C : g_M gCl X cc RX6 ret) (hd : decode cc pc = .ok (.getfield 116, 3)) (k : g_Y gCl X (gM hid) ad σ w (pc + 3) vs (.ref (ad 26 0) :: st)) : g_Y gCl X (gM hid) ad σ w pc vs (.ref (ad 0 0) :: st) :=
  y_get C nM_0_0 in_X6 (N := 49) (ci := 5) rfl rfl 47 (by decide) rfl q1335 rfl hd k
theorem gf_M_48 {hid : Bool} {X : g_F} {cc : ByteArray} {ret : Option FieldType} {ad : Nat → Nat → Nat} {σ : g_S} {w : Nat × Nat} {pc : Nat} {vs : List (Nat × Value)} {st : List Value} (C : g_M gCl X cc RX6 ret) (hd : decode cc pc = .ok (.getfield 119, 3)) (k : g_Y gCl X (gM hid) ad σ w (pc + 3) vs (.ref (ad 27 0) :: st)) : g_Y gCl X (gM hid) ad σ w pc vs (.ref (ad 0 0) :: st) :=
  y_get C nM_0_0 in_X6 (N := 49) (ci := 5) rfl rfl 48 (by decide) rfl q1336 rfl hd k
theorem al_M_1 {hid : Bool} {X : g_F} {own : String} {cc : ByteArray} {ret : Option FieldType} {ad : Nat → Nat → Nat} {σ : g_S} {w : Nat × Nat} {pc : Nat} {vs : List (Nat × Value)} {st : List Value} {u : Nat} {i : Int32} (C : g_M gCl X cc own ret) (hu : u < g_n (gM hid) 1) (hi : g_in i 41 = true) (hd : decode cc pc = .ok (.iaload, 1)) (k : g_Y gCl X (gM hid) ad σ w (pc + 1) vs (.int (σ.1 1 u i.toNatClampNeg) :: st)) : g_Y gCl X (gM hid) ad σ w pc vs (.int i :: .ref (ad 1 u) :: st) := y_iald C hu rfl hi hd k
theorem as_M_1 {hid : Bool} {X : g_F} {own : String} {cc : ByteArray} {ret : Option FieldType} {ad : Nat → Nat → Nat} {σ : g_S} {w : Nat × Nat} {pc : Nat} {vs : List (Nat × Value)} {st : List Value} {u : Nat} {i : Int32} {x : Int32} {σ1 : g_S} (C : g_M gCl X cc own ret) (hu : u < g_n (gM hid) 1) (e : σ1 = g_sI σ 1 u i.toNatClampNeg x) (hi : g_in i 41 = true) (hd : decode cc pc = .ok (.iastore, 1)) (k : g_Y gCl X (gM hid) ad σ1 w (pc + 1) vs st) : g_Y gCl X (gM hid) ad σ w pc vs (.int x :: .int i :: .ref (ad 1 u) :: st) := by
  subst e
  exact y_iast C hu rfl g_sI_n (by show Sum.inl (Sum.inl (_, _, _)) = _; rw [g_sI_s]) hi hd k
theorem al_M_2 {hid : Bool} {X : g_F} {own : String} {cc : ByteArray} {ret : Option FieldType} {ad : Nat → Nat → Nat} {σ : g_S} {w : Nat × Nat} {pc : Nat} {vs : List (Nat × Value)} {st : List Value} {u : Nat} {i : Int32} (C : g_M gCl X cc own ret) (hu : u < g_n (gM hid) 2) (hi : g_in i 53 = true) (hd : decode cc pc = .ok (.laload, 1)) (k : g_Y gCl X (gM hid) ad σ w (pc + 1) vs (.long (σ.2.1 2 u i.toNatClampNeg) :: st)) : g_Y gCl X (gM hid) ad σ w pc vs (.int i :: .ref (ad 2 u) :: st) := y_lald C hu rfl hi hd k
theorem as_M_2 {hid : Bool} {X : g_F} {own : String} {cc : ByteArray} {ret : Option FieldType} {ad : Nat → Nat → Nat} {σ : g_S} {w : Nat × Nat} {pc : Nat} {vs : List (Nat × Value)} {st : List Value} {u : Nat} {i : Int32} {x : Int64} {σ1 : g_S} (C : g_M gCl X cc own ret) (hu : u < g_n (gM hid) 2) (e : σ1 = g_sL σ 2 u i.toNatClampNeg x) (hi : g_in i 53 = true) (hd : decode cc pc = .ok (.lastore, 1)) (k : g_Y gCl X (gM hid) ad σ1 w (pc + 1) vs st) : g_Y gCl X (gM hid) ad σ w pc vs (.long x :: .int i :: .ref (ad 2 u) :: st) := by
  subst e
  exact y_last C hu rfl g_sL_n (by show Sum.inl (Sum.inl (_, _, _)) = _; rw [g_sL_s]) hi hd k
theorem al_M_3 {hid : Bool} {X : g_F} {own : String} {cc : ByteArray} {ret : Option FieldType} {ad : Nat → Nat → Nat} {σ : g_S} {w : Nat × Nat} {pc : Nat} {vs : List (Nat × Value)} {st : List Value} {u : Nat} {i : Int32} (C : g_M gCl X cc own ret) (hu : u < g_n (gM hid) 3) (hi : g_in i 49 = true) (hd : decode cc pc = .ok (.baload, 1)) (k : g_Y gCl X (gM hid) ad σ w (pc + 1) vs (.int (σ.1 3 u i.toNatClampNeg) :: st)) : g_Y gCl X (gM hid) ad σ w pc vs (.int i :: .ref (ad 3 u) :: st) := y_zald C hu rfl hi hd k
theorem as_M_3 {hid : Bool} {X : g_F} {own : String} {cc : ByteArray} {ret : Option FieldType} {ad : Nat → Nat → Nat} {σ : g_S} {w : Nat × Nat} {pc : Nat} {vs : List (Nat × Value)} {st : List Value} {u : Nat} {i : Int32} {x : Int32} {σ1 : g_S} (C : g_M gCl X cc own ret) (hu : u < g_n (gM hid) 3) (e : σ1 = g_sI σ 3 u i.toNatClampNeg (vp_nar .boolean x)) (hi : g_in i 49 = true) (hd : decode cc pc = .ok (.bastore, 1)) (k : g_Y gCl X (gM hid) ad σ1 w (pc + 1) vs st) : g_Y gCl X (gM hid) ad σ w pc vs (.int x :: .int i :: .ref (ad 3 u) :: st) := by
  subst e
  exact y_zast C hu rfl g_sI_n (by show Sum.inl (Sum.inl (_, _, _)) = _; rw [g_sI_s]) hi hd k
theorem al_M_4 {hid : Bool} {X : g_F} {own : String} {cc : ByteArray} {ret : Option FieldType} {ad : Nat → Nat → Nat} {σ : g_S} {w : Nat × Nat} {pc : Nat} {vs : List (Nat × Value)} {st : List Value} {u : Nat} {i : Int32} (C : g_M gCl X cc own ret) (hu : u < g_n (gM hid) 4) (hi : g_in i 20 = true) (hd : decode cc pc = .ok (.iaload, 1)) (k : g_Y gCl X (gM hid) ad σ w (pc + 1) vs (.int (σ.1 4 u i.toNatClampNeg) :: st)) : g_Y gCl X (gM hid) ad σ w pc vs (.int i :: .ref (ad 4 u) :: st) := y_iald C hu rfl hi hd k
theorem as_M_4 {hid : Bool} {X : g_F} {own : String} {cc : ByteArray} {ret : Option FieldType} {ad : Nat → Nat → Nat} {σ : g_S} {w : Nat × Nat} {pc : Nat} {vs : List (Nat × Value)} {st : List Value} {u : Nat} {i : Int32} {x : Int32} {σ1 : g_S} (C : g_M gCl X cc own ret) (hu : u < g_n (gM hid) 4) (e : σ1 = g_sI σ 4 u i.toNatClampNeg x) (hi : g_in i 20 = true) (hd : decode cc pc = .ok (.iastore, 1)) (k : g_Y gCl X (gM hid) ad σ1 w (pc + 1) vs st) : g_Y gCl X (gM hid) ad σ w pc vs (.int x :: .int i :: .ref (ad 4 u) :: st) := by
  subst e
  exact y_iast C hu rfl g_sI_n (by show Sum.inl (Sum.inl (_, _, _)) = _; rw [g_sI_s]) hi hd k
theorem al_M_5 {hid : Bool} {X : g_F} {own : String} {cc : ByteArray} {ret : Option FieldType} {ad : Nat → Nat → Nat} {σ : g_S} {w : Nat × Nat} {pc : Nat} {vs : List (Nat × Value)} {st : List Value} {u : Nat} {i : Int32} (C : g_M gCl X cc own ret) (hu : u < g_n (gM hid) 5) (hi : g_in i 80 = true) (hd : decode cc pc = .ok (.iaload, 1)) (k : g_Y gCl X (gM hid) ad σ w (pc + 1) vs (.int (σ.1 5 u i.toNatClampNeg) :: st)) : g_Y gCl X (gM hid) ad σ w pc vs (.int i :: .ref (ad 5 u) :: st) := y_iald C hu rfl hi hd k
theorem as_M_5 {hid : Bool} {X : g_F} {own : String} {cc : ByteArray} {ret : Option FieldType} {ad : Nat → Nat → Nat} {σ : g_S} {w : Nat × Nat} {pc : Nat} {vs : List (Nat × Value)} {st : List Value} {u : Nat} {i : Int32} {x : Int32} {σ1 : g_S} (C : g_M gCl X cc own ret) (hu : u < g_n (gM hid) 5) (e : σ1 = g_sI σ 5 u i.toNatClampNeg x) (hi : g_in i 80 = true) (hd : decode cc pc = .ok (.iastore, 1)) (k : g_Y gCl X (gM hid) ad σ1 w (pc + 1) vs st) : g_Y gCl X (gM hid) ad σ w pc vs (.int x :: .int i :: .ref (ad 5 u) :: st) := by
  subst e
  exact y_iast C hu rfl g_sI_n (by show Sum.inl (Sum.inl (_, _, _)) = _; rw [g_sI_s]) hi hd k
theorem al_M_6 {hid : Bool} {X : g_F} {own : String} {cc : ByteArray} {ret : Option FieldType} {ad : Nat → Nat → Nat} {σ : g_S} {w : Nat × Nat} {pc : Nat} {vs : List (Nat × Value)} {st : List Value} {u : Nat} {i : Int32} (C : g_M gCl X cc own ret) (hu : u < g_n (gM hid) 6) (hi : g_in i 49 = true) (hd : decode cc pc = .ok (.baload, 1)) (k : g_Y gCl X (gM hid) ad σ w (pc + 1) vs (.int (σ.1 6 u i.toNatClampNeg) :: st)) : g_Y gCl X (gM hid) ad σ w pc vs (.int i :: .ref (ad 6 u) :: st) := y_zald C hu rfl hi hd k
theorem as_M_6 {hid : Bool} {X : g_F} {own : String} {cc : ByteArray} {ret : Option FieldType} {ad : Nat → Nat → Nat} {σ : g_S} {w : Nat × Nat} {pc : Nat} {vs : List (Nat × Value)} {st : List Value} {u : Nat} {i : Int32} {x : Int32} {σ1 : g_S} (C : g_M gCl X cc own ret) (hu : u < g_n (gM hid) 6) (e : σ1 = g_sI σ 6 u i.toNatClampNeg (vp_nar .boolean x)) (hi : g_in i 49 = true) (hd : decode cc pc = .ok (.bastore, 1)) (k : g_Y gCl X (gM hid) ad σ1 w (pc + 1) vs st) : g_Y gCl X (gM hid) ad σ w pc vs (.int x :: .int i :: .ref (ad 6 u) :: st) := by
  subst e
  exact y_zast C hu rfl g_sI_n (by show Sum.inl (Sum.inl (_, _, _)) = _; rw [g_sI_s]) hi hd k
theorem al_M_7 {hid : Bool} {X : g_F} {own : String} {cc : ByteArray} {ret : Option FieldType} {ad : Nat → Nat → Nat} {σ : g_S} {w : Nat × Nat} {pc : Nat} {vs : List (Nat × Value)} {st : List Value} {u : Nat} {i : Int32} (C : g_M gCl X cc own ret) (hu : u < g_n (gM hid) 7) (hi : g_in i 24 = true) (hd : decode cc pc = .ok (.iaload, 1)) (k : g_Y gCl X (gM hid) ad σ w (pc + 1) vs (.int (σ.1 7 u i.toNatClampNeg) :: st)) : g_Y gCl X (gM hid) ad σ w pc vs (.int i :: .ref (ad 7 u) :: st) := y_iald C hu rfl hi hd k
theorem as_M_7 {hid : Bool} {X : g_F} {own : String} {cc : ByteArray} {ret : Option FieldType} {ad : Nat → Nat → Nat} {σ : g_S} {w : Nat × Nat} {pc : Nat} {vs : List (Nat × Value)} {st : List Value} {u : Nat} {i : Int32} {x : Int32} {σ1 : g_S} (C : g_M gCl X cc own ret) (hu : u < g_n (gM hid) 7) (e : σ1 = g_sI σ 7 u i.toNatClampNeg x) (hi : g_in i 24 = true) (hd : decode cc pc = .ok (.iastore, 1)) (k : g_Y gCl X (gM hid) ad σ1 w (pc + 1) vs st) : g_Y gCl X (gM hid) ad σ w pc vs (.int x :: .int i :: .ref (ad 7 u) :: st) := by
  subst e
  exact y_iast C hu rfl g_sI_n (by show Sum.inl (Sum.inl (_, _, _)) = _; rw [g_sI_s]) hi hd k
theorem al_M_8 {hid : Bool} {X : g_F} {own : String} {cc : ByteArray} {ret : Option FieldType} {ad : Nat → Nat → Nat} {σ : g_S} {w : Nat × Nat} {pc : Nat} {vs : List (Nat × Value)} {st : List Value} {u : Nat} {i : Int32} (C : g_M gCl X cc own ret) (hu : u < g_n (gM hid) 8) (hi : g_in i 80 = true) (hd : decode cc pc = .ok (.iaload, 1)) (k : g_Y gCl X (gM hid) ad σ w (pc + 1) vs (.int (σ.1 8 u i.toNatClampNeg) :: st)) : g_Y gCl X (gM hid) ad σ w pc vs (.int i :: .ref (ad 8 u) :: st) := y_iald C hu rfl hi hd k
theorem as_M_8 {hid : Bool} {X : g_F} {own : String} {cc : ByteArray} {ret : Option FieldType} {ad : Nat → Nat → Nat} {σ : g_S} {w : Nat × Nat} {pc : Nat} {vs : List (Nat × Value)} {st : List Value} {u : Nat} {i : Int32} {x : Int32} {σ1 : g_S} (C : g_M gCl X cc own ret) (hu : u < g_n (gM hid) 8) (e : σ1 = g_sI σ 8 u i.toNatClampNeg x) (hi : g_in i 80 = true) (hd : decode cc pc = .ok (.iastore, 1)) (k : g_Y gCl X (gM hid) ad σ1 w (pc + 1) vs st) : g_Y gCl X (gM hid) ad σ w pc vs (.int x :: .int i :: .ref (ad 8 u) :: st) := by
  subst e
  exact y_iast C hu rfl g_sI_n (by show Sum.inl (Sum.inl (_, _, _)) = _; rw [g_sI_s]) hi hd k
theorem al_M_9 {X : g_F} {own : String} {cc : ByteArray} {ret : Option FieldType} {ad : Nat → Nat → Nat} {σ : g_S} {w : Nat × Nat} {pc : Nat} {vs : List (Nat × Value)} {st : List Value} {u : Nat} {i : Int32} (C : g_M gCl X cc own ret) (hu : u < g_n (gM false) 9) (hi : g_in i 80 = true) (hd : decode cc pc = .ok (.iaload, 1)) (k : g_Y gCl X (gM false) ad σ w (pc + 1) vs (.int (σ.1 9 u i.toNatClampNeg) :: st)) : g_Y gCl X (gM false) ad σ w pc vs (.int i :: .ref (ad 9 u) :: st) := y_iald C hu rfl hi hd k
theorem as_M_9 {X : g_F} {own : String} {cc : ByteArray} {ret : Option FieldType} {ad : Nat → Nat → Nat} {σ : g_S} {w : Nat × Nat} {pc : Nat} {vs : List (Nat × Value)} {st : List Value} {u : Nat} {i : Int32} {x : Int32} {σ1 : g_S} (C : g_M gCl X cc own ret) (hu : u < g_n (gM false) 9) (e : σ1 = g_sI σ 9 u i.toNatClampNeg x) (hi : g_in i 80 = true) (hd : decode cc pc = .ok (.iastore, 1)) (k : g_Y gCl X (gM false) ad σ1 w (pc + 1) vs st) : g_Y gCl X (gM false) ad σ w pc vs (.int x :: .int i :: .ref (ad 9 u) :: st) := by
  subst e
  exact y_iast C hu rfl g_sI_n (by show Sum.inl (Sum.inl (_, _, _)) = _; rw [g_sI_s]) hi hd k
theorem al_M_10 {X : g_F} {own : String} {cc : ByteArray} {ret : Option FieldType} {ad : Nat → Nat → Nat} {σ : g_S} {w : Nat × Nat} {pc : Nat} {vs : List (Nat × Value)} {st : List Value} {u : Nat} {i : Int32} (C : g_M gCl X cc own ret) (hu : u < g_n (gM false) 10) (hi : g_in i 8 = true) (hd : decode cc pc = .ok (.iaload, 1)) (k : g_Y gCl X (gM false) ad σ w (pc + 1) vs (.int (σ.1 10 u i.toNatClampNeg) :: st)) : g_Y gCl X (gM false) ad σ w pc vs (.int i :: .ref (ad 10 u) :: st) := y_iald C hu rfl hi hd k
theorem as_M_10 {X : g_F} {own : String} {cc : ByteArray} {ret : Option FieldType} {ad : Nat → Nat → Nat} {σ : g_S} {w : Nat × Nat} {pc : Nat} {vs : List (Nat × Value)} {st : List Value} {u : Nat} {i : Int32} {x : Int32} {σ1 : g_S} (C : g_M gCl X cc own ret) (hu : u < g_n (gM false) 10) (e : σ1 = g_sI σ 10 u i.toNatClampNeg x) (hi : g_in i 8 = true) (hd : decode cc pc = .ok (.iastore, 1)) (k : g_Y gCl X (gM false) ad σ1 w (pc + 1) vs st) : g_Y gCl X (gM false) ad σ w pc vs (.int x :: .int i :: .ref (ad 10 u) :: st) := by
  subst e
  exact y_iast C hu rfl g_sI_n (by show Sum.inl (Sum.inl (_, _, _)) = _; rw [g_sI_s]) hi hd k
theorem al_M_11 {hid : Bool} {X : g_F} {own : String} {cc : ByteArray} {ret : Option FieldType} {ad : Nat → Nat → Nat} {σ : g_S} {w : Nat × Nat} {pc : Nat} {vs : List (Nat × Value)} {st : List Value} {u : Nat} {i : Int32} (C : g_M gCl X cc own ret) (hu : u < g_n (gM hid) 11) (hi : g_in i 656 = true) (hd : decode cc pc = .ok (.iaload, 1)) (k : g_Y gCl X (gM hid) ad σ w (pc + 1) vs (.int (σ.1 11 u i.toNatClampNeg) :: st)) : g_Y gCl X (gM hid) ad σ w pc vs (.int i :: .ref (ad 11 u) :: st) := y_iald C hu rfl hi hd k
theorem as_M_11 {hid : Bool} {X : g_F} {own : String} {cc : ByteArray} {ret : Option FieldType} {ad : Nat → Nat → Nat} {σ : g_S} {w : Nat × Nat} {pc : Nat} {vs : List (Nat × Value)} {st : List Value} {u : Nat} {i : Int32} {x : Int32} {σ1 : g_S} (C : g_M gCl X cc own ret) (hu : u < g_n (gM hid) 11) (e : σ1 = g_sI σ 11 u i.toNatClampNeg x) (hi : g_in i 656 = true) (hd : decode cc pc = .ok (.iastore, 1)) (k : g_Y gCl X (gM hid) ad σ1 w (pc + 1) vs st) : g_Y gCl X (gM hid) ad σ w pc vs (.int x :: .int i :: .ref (ad 11 u) :: st) := by
  subst e
  exact y_iast C hu rfl g_sI_n (by show Sum.inl (Sum.inl (_, _, _)) = _; rw [g_sI_s]) hi hd k
theorem al_M_12 {hid : Bool} {X : g_F} {own : String} {cc : ByteArray} {ret : Option FieldType} {ad : Nat → Nat → Nat} {σ : g_S} {w : Nat × Nat} {pc : Nat} {vs : List (Nat × Value)} {st : List Value} {u : Nat} {i : Int32} (C : g_M gCl X cc own ret) (hu : u < g_n (gM hid) 12) (hi : g_in i 8 = true) (hd : decode cc pc = .ok (.iaload, 1)) (k : g_Y gCl X (gM hid) ad σ w (pc + 1) vs (.int (σ.1 12 u i.toNatClampNeg) :: st)) : g_Y gCl X (gM hid) ad σ w pc vs (.int i :: .ref (ad 12 u) :: st) := y_iald C hu rfl hi hd k
theorem as_M_12 {hid : Bool} {X : g_F} {own : String} {cc : ByteArray} {ret : Option FieldType} {ad : Nat → Nat → Nat} {σ : g_S} {w : Nat × Nat} {pc : Nat} {vs : List (Nat × Value)} {st : List Value} {u : Nat} {i : Int32} {x : Int32} {σ1 : g_S} (C : g_M gCl X cc own ret) (hu : u < g_n (gM hid) 12) (e : σ1 = g_sI σ 12 u i.toNatClampNeg x) (hi : g_in i 8 = true) (hd : decode cc pc = .ok (.iastore, 1)) (k : g_Y gCl X (gM hid) ad σ1 w (pc + 1) vs st) : g_Y gCl X (gM hid) ad σ w pc vs (.int x :: .int i :: .ref (ad 12 u) :: st) := by
  subst e
  exact y_iast C hu rfl g_sI_n (by show Sum.inl (Sum.inl (_, _, _)) = _; rw [g_sI_s]) hi hd k
theorem al_M_13 {hid : Bool} {X : g_F} {own : String} {cc : ByteArray} {ret : Option FieldType} {ad : Nat → Nat → Nat} {σ : g_S} {w : Nat × Nat} {pc : Nat} {vs : List (Nat × Value)} {st : List Value} {u : Nat} {i : Int32} (C : g_M gCl X cc own ret) (hu : u < g_n (gM hid) 13) (hi : g_in i 60 = true) (hd : decode cc pc = .ok (.iaload, 1)) (k : g_Y gCl X (gM hid) ad σ w (pc + 1) vs (.int (σ.1 13 u i.toNatClampNeg) :: st)) : g_Y gCl X (gM hid) ad σ w pc vs (.int i :: .ref (ad 13 u) :: st) := y_iald C hu rfl hi hd k
theorem as_M_13 {hid : Bool} {X : g_F} {own : String} {cc : ByteArray} {ret : Option FieldType} {ad : Nat → Nat → Nat} {σ : g_S} {w : Nat × Nat} {pc : Nat} {vs : List (Nat × Value)} {st : List Value} {u : Nat} {i : Int32} {x : Int32} {σ1 : g_S} (C : g_M gCl X cc own ret) (hu : u < g_n (gM hid) 13) (e : σ1 = g_sI σ 13 u i.toNatClampNeg x) (hi : g_in i 60 = true) (hd : decode cc pc = .ok (.iastore, 1)) (k : g_Y gCl X (gM hid) ad σ1 w (pc + 1) vs st) : g_Y gCl X (gM hid) ad σ w pc vs (.int x :: .int i :: .ref (ad 13 u) :: st) := by
  subst e
  exact y_iast C hu rfl g_sI_n (by show Sum.inl (Sum.inl (_, _, _)) = _; rw [g_sI_s]) hi hd k
theorem al_M_14 {hid : Bool} {X : g_F} {own : String} {cc : ByteArray} {ret : Option FieldType} {ad : Nat → Nat → Nat} {σ : g_S} {w : Nat × Nat} {pc : Nat} {vs : List (Nat × Value)} {st : List Value} {u : Nat} {i : Int32} (C : g_M gCl X cc own ret) (hu : u < g_n (gM hid) 14) (hi : g_in i 60 = true) (hd : decode cc pc = .ok (.iaload, 1)) (k : g_Y gCl X (gM hid) ad σ w (pc + 1) vs (.int (σ.1 14 u i.toNatClampNeg) :: st)) : g_Y gCl X (gM hid) ad σ w pc vs (.int i :: .ref (ad 14 u) :: st) := y_iald C hu rfl hi hd k
theorem as_M_14 {hid : Bool} {X : g_F} {own : String} {cc : ByteArray} {ret : Option FieldType} {ad : Nat → Nat → Nat} {σ : g_S} {w : Nat × Nat} {pc : Nat} {vs : List (Nat × Value)} {st : List Value} {u : Nat} {i : Int32} {x : Int32} {σ1 : g_S} (C : g_M gCl X cc own ret) (hu : u < g_n (gM hid) 14) (e : σ1 = g_sI σ 14 u i.toNatClampNeg x) (hi : g_in i 60 = true) (hd : decode cc pc = .ok (.iastore, 1)) (k : g_Y gCl X (gM hid) ad σ1 w (pc + 1) vs st) : g_Y gCl X (gM hid) ad σ w pc vs (.int x :: .int i :: .ref (ad 14 u) :: st) := by
  subst e
  exact y_iast C hu rfl g_sI_n (by show Sum.inl (Sum.inl (_, _, _)) = _; rw [g_sI_s]) hi hd k
theorem al_M_15 {hid : Bool} {X : g_F} {own : String} {cc : ByteArray} {ret : Option FieldType} {ad : Nat → Nat → Nat} {σ : g_S} {w : Nat × Nat} {pc : Nat} {vs : List (Nat × Value)} {st : List Value} {u : Nat} {i : Int32} (C : g_M gCl X cc own ret) (hu : u < g_n (gM hid) 15) (hi : g_in i 60 = true) (hd : decode cc pc = .ok (.iaload, 1)) (k : g_Y gCl X (gM hid) ad σ w (pc + 1) vs (.int (σ.1 15 u i.toNatClampNeg) :: st)) : g_Y gCl X (gM hid) ad σ w pc vs (.int i :: .ref (ad 15 u) :: st) := y_iald C hu rfl hi hd k
theorem as_M_15 {hid : Bool} {X : g_F} {own : String} {cc : ByteArray} {ret : Option FieldType} {ad : Nat → Nat → Nat} {σ : g_S} {w : Nat × Nat} {pc : Nat} {vs : List (Nat × Value)} {st : List Value} {u : Nat} {i : Int32} {x : Int32} {σ1 : g_S} (C : g_M gCl X cc own ret) (hu : u < g_n (gM hid) 15) (e : σ1 = g_sI σ 15 u i.toNatClampNeg x) (hi : g_in i 60 = true) (hd : decode cc pc = .ok (.iastore, 1)) (k : g_Y gCl X (gM hid) ad σ1 w (pc + 1) vs st) : g_Y gCl X (gM hid) ad σ w pc vs (.int x :: .int i :: .ref (ad 15 u) :: st) := by
  subst e
  exact y_iast C hu rfl g_sI_n (by show Sum.inl (Sum.inl (_, _, _)) = _; rw [g_sI_s]) hi hd k
theorem al_M_16 {hid : Bool} {X : g_F} {own : String} {cc : ByteArray} {ret : Option FieldType} {ad : Nat → Nat → Nat} {σ : g_S} {w : Nat × Nat} {pc : Nat} {vs : List (Nat × Value)} {st : List Value} {u : Nat} {i : Int32} (C : g_M gCl X cc own ret) (hu : u < g_n (gM hid) 16) (hi : g_in i 60 = true) (hd : decode cc pc = .ok (.iaload, 1)) (k : g_Y gCl X (gM hid) ad σ w (pc + 1) vs (.int (σ.1 16 u i.toNatClampNeg) :: st)) : g_Y gCl X (gM hid) ad σ w pc vs (.int i :: .ref (ad 16 u) :: st) := y_iald C hu rfl hi hd k
theorem as_M_16 {hid : Bool} {X : g_F} {own : String} {cc : ByteArray} {ret : Option FieldType} {ad : Nat → Nat → Nat} {σ : g_S} {w : Nat × Nat} {pc : Nat} {vs : List (Nat × Value)} {st : List Value} {u : Nat} {i : Int32} {x : Int32} {σ1 : g_S} (C : g_M gCl X cc own ret) (hu : u < g_n (gM hid) 16) (e : σ1 = g_sI σ 16 u i.toNatClampNeg x) (hi : g_in i 60 = true) (hd : decode cc pc = .ok (.iastore, 1)) (k : g_Y gCl X (gM hid) ad σ1 w (pc + 1) vs st) : g_Y gCl X (gM hid) ad σ w pc vs (.int x :: .int i :: .ref (ad 16 u) :: st) := by
  subst e
  exact y_iast C hu rfl g_sI_n (by show Sum.inl (Sum.inl (_, _, _)) = _; rw [g_sI_s]) hi hd k
theorem al_M_17 {hid : Bool} {X : g_F} {own : String} {cc : ByteArray} {ret : Option FieldType} {ad : Nat → Nat → Nat} {σ : g_S} {w : Nat × Nat} {pc : Nat} {vs : List (Nat × Value)} {st : List Value} {u : Nat} {i : Int32} (C : g_M gCl X cc own ret) (hu : u < g_n (gM hid) 17) (hi : g_in i 8 = true) (hd : decode cc pc = .ok (.laload, 1)) (k : g_Y gCl X (gM hid) ad σ w (pc + 1) vs (.long (σ.2.1 17 u i.toNatClampNeg) :: st)) : g_Y gCl X (gM hid) ad σ w pc vs (.int i :: .ref (ad 17 u) :: st) := y_lald C hu rfl hi hd k
theorem as_M_17 {hid : Bool} {X : g_F} {own : String} {cc : ByteArray} {ret : Option FieldType} {ad : Nat → Nat → Nat} {σ : g_S} {w : Nat × Nat} {pc : Nat} {vs : List (Nat × Value)} {st : List Value} {u : Nat} {i : Int32} {x : Int64} {σ1 : g_S} (C : g_M gCl X cc own ret) (hu : u < g_n (gM hid) 17) (e : σ1 = g_sL σ 17 u i.toNatClampNeg x) (hi : g_in i 8 = true) (hd : decode cc pc = .ok (.lastore, 1)) (k : g_Y gCl X (gM hid) ad σ1 w (pc + 1) vs st) : g_Y gCl X (gM hid) ad σ w pc vs (.long x :: .int i :: .ref (ad 17 u) :: st) := by
  subst e
  exact y_last C hu rfl g_sL_n (by show Sum.inl (Sum.inl (_, _, _)) = _; rw [g_sL_s]) hi hd k
theorem al_M_18 {hid : Bool} {X : g_F} {own : String} {cc : ByteArray} {ret : Option FieldType} {ad : Nat → Nat → Nat} {σ : g_S} {w : Nat × Nat} {pc : Nat} {vs : List (Nat × Value)} {st : List Value} {u : Nat} {i : Int32} (C : g_M gCl X cc own ret) (hu : u < g_n (gM hid) 18) (hi : g_in i 64 = true) (hd : decode cc pc = .ok (.iaload, 1)) (k : g_Y gCl X (gM hid) ad σ w (pc + 1) vs (.int (σ.1 18 u i.toNatClampNeg) :: st)) : g_Y gCl X (gM hid) ad σ w pc vs (.int i :: .ref (ad 18 u) :: st) := y_iald C hu rfl hi hd k
theorem as_M_18 {hid : Bool} {X : g_F} {own : String} {cc : ByteArray} {ret : Option FieldType} {ad : Nat → Nat → Nat} {σ : g_S} {w : Nat × Nat} {pc : Nat} {vs : List (Nat × Value)} {st : List Value} {u : Nat} {i : Int32} {x : Int32} {σ1 : g_S} (C : g_M gCl X cc own ret) (hu : u < g_n (gM hid) 18) (e : σ1 = g_sI σ 18 u i.toNatClampNeg x) (hi : g_in i 64 = true) (hd : decode cc pc = .ok (.iastore, 1)) (k : g_Y gCl X (gM hid) ad σ1 w (pc + 1) vs st) : g_Y gCl X (gM hid) ad σ w pc vs (.int x :: .int i :: .ref (ad 18 u) :: st) := by
  subst e
  exact y_iast C hu rfl g_sI_n (by show Sum.inl (Sum.inl (_, _, _)) = _; rw [g_sI_s]) hi hd k
theorem al_M_19 {hid : Bool} {X : g_F} {own : String} {cc : ByteArray} {ret : Option FieldType} {ad : Nat → Nat → Nat} {σ : g_S} {w : Nat × Nat} {pc : Nat} {vs : List (Nat × Value)} {st : List Value} {u : Nat} {i : Int32} (C : g_M gCl X cc own ret) (hu : u < g_n (gM hid) 19) (hi : g_in i 2304 = true) (hd : decode cc pc = .ok (.iaload, 1)) (k : g_Y gCl X (gM hid) ad σ w (pc + 1) vs (.int (σ.1 19 u i.toNatClampNeg) :: st)) : g_Y gCl X (gM hid) ad σ w pc vs (.int i :: .ref (ad 19 u) :: st) := y_iald C hu rfl hi hd k
theorem as_M_19 {hid : Bool} {X : g_F} {own : String} {cc : ByteArray} {ret : Option FieldType} {ad : Nat → Nat → Nat} {σ : g_S} {w : Nat × Nat} {pc : Nat} {vs : List (Nat × Value)} {st : List Value} {u : Nat} {i : Int32} {x : Int32} {σ1 : g_S} (C : g_M gCl X cc own ret) (hu : u < g_n (gM hid) 19) (e : σ1 = g_sI σ 19 u i.toNatClampNeg x) (hi : g_in i 2304 = true) (hd : decode cc pc = .ok (.iastore, 1)) (k : g_Y gCl X (gM hid) ad σ1 w (pc + 1) vs st) : g_Y gCl X (gM hid) ad σ w pc vs (.int x :: .int i :: .ref (ad 19 u) :: st) := by
  subst e
  exact y_iast C hu rfl g_sI_n (by show Sum.inl (Sum.inl (_, _, _)) = _; rw [g_sI_s]) hi hd k
theorem al_M_20 {hid : Bool} {X : g_F} {own : String} {cc : ByteArray} {ret : Option FieldType} {ad : Nat → Nat → Nat} {σ : g_S} {w : Nat × Nat} {pc : Nat} {vs : List (Nat × Value)} {st : List Value} {u : Nat} {i : Int32} (C : g_M gCl X cc own ret) (hu : u < g_n (gM hid) 20) (hi : g_in i 49 = true) (hd : decode cc pc = .ok (.iaload, 1)) (k : g_Y gCl X (gM hid) ad σ w (pc + 1) vs (.int (σ.1 20 u i.toNatClampNeg) :: st)) : g_Y gCl X (gM hid) ad σ w pc vs (.int i :: .ref (ad 20 u) :: st) := y_iald C hu rfl hi hd k
theorem as_M_20 {hid : Bool} {X : g_F} {own : String} {cc : ByteArray} {ret : Option FieldType} {ad : Nat → Nat → Nat} {σ : g_S} {w : Nat × Nat} {pc : Nat} {vs : List (Nat × Value)} {st : List Value} {u : Nat} {i : Int32} {x : Int32} {σ1 : g_S} (C : g_M gCl X cc own ret) (hu : u < g_n (gM hid) 20) (e : σ1 = g_sI σ 20 u i.toNatClampNeg x) (hi : g_in i 49 = true) (hd : decode cc pc = .ok (.iastore, 1)) (k : g_Y gCl X (gM hid) ad σ1 w (pc + 1) vs st) : g_Y gCl X (gM hid) ad σ w pc vs (.int x :: .int i :: .ref (ad 20 u) :: st) := by
  subst e
  exact y_iast C hu rfl g_sI_n (by show Sum.inl (Sum.inl (_, _, _)) = _; rw [g_sI_s]) hi hd k
theorem al_M_21 {hid : Bool} {X : g_F} {own : String} {cc : ByteArray} {ret : Option FieldType} {ad : Nat → Nat → Nat} {σ : g_S} {w : Nat × Nat} {pc : Nat} {vs : List (Nat × Value)} {st : List Value} {u : Nat} {i : Int32} (C : g_M gCl X cc own ret) (hu : u < g_n (gM hid) 21) (hi : g_in i 10 = true) (hd : decode cc pc = .ok (.iaload, 1)) (k : g_Y gCl X (gM hid) ad σ w (pc + 1) vs (.int (σ.1 21 u i.toNatClampNeg) :: st)) : g_Y gCl X (gM hid) ad σ w pc vs (.int i :: .ref (ad 21 u) :: st) := y_iald C hu rfl hi hd k
theorem as_M_21 {hid : Bool} {X : g_F} {own : String} {cc : ByteArray} {ret : Option FieldType} {ad : Nat → Nat → Nat} {σ : g_S} {w : Nat × Nat} {pc : Nat} {vs : List (Nat × Value)} {st : List Value} {u : Nat} {i : Int32} {x : Int32} {σ1 : g_S} (C : g_M gCl X cc own ret) (hu : u < g_n (gM hid) 21) (e : σ1 = g_sI σ 21 u i.toNatClampNeg x) (hi : g_in i 10 = true) (hd : decode cc pc = .ok (.iastore, 1)) (k : g_Y gCl X (gM hid) ad σ1 w (pc + 1) vs st) : g_Y gCl X (gM hid) ad σ w pc vs (.int x :: .int i :: .ref (ad 21 u) :: st) := by
  subst e
  exact y_iast C hu rfl g_sI_n (by show Sum.inl (Sum.inl (_, _, _)) = _; rw [g_sI_s]) hi hd k
theorem al_M_22 {hid : Bool} {X : g_F} {own : String} {cc : ByteArray} {ret : Option FieldType} {ad : Nat → Nat → Nat} {σ : g_S} {w : Nat × Nat} {pc : Nat} {vs : List (Nat × Value)} {st : List Value} {u : Nat} {i : Int32} (C : g_M gCl X cc own ret) (hu : u < g_n (gM hid) 22) (hi : g_in i 10 = true) (hd : decode cc pc = .ok (.iaload, 1)) (k : g_Y gCl X (gM hid) ad σ w (pc + 1) vs (.int (σ.1 22 u i.toNatClampNeg) :: st)) : g_Y gCl X (gM hid) ad σ w pc vs (.int i :: .ref (ad 22 u) :: st) := y_iald C hu rfl hi hd k
theorem as_M_22 {hid : Bool} {X : g_F} {own : String} {cc : ByteArray} {ret : Option FieldType} {ad : Nat → Nat → Nat} {σ : g_S} {w : Nat × Nat} {pc : Nat} {vs : List (Nat × Value)} {st : List Value} {u : Nat} {i : Int32} {x : Int32} {σ1 : g_S} (C : g_M gCl X cc own ret) (hu : u < g_n (gM hid) 22) (e : σ1 = g_sI σ 22 u i.toNatClampNeg x) (hi : g_in i 10 = true) (hd : decode cc pc = .ok (.iastore, 1)) (k : g_Y gCl X (gM hid) ad σ1 w (pc + 1) vs st) : g_Y gCl X (gM hid) ad σ w pc vs (.int x :: .int i :: .ref (ad 22 u) :: st) := by
  subst e
  exact y_iast C hu rfl g_sI_n (by show Sum.inl (Sum.inl (_, _, _)) = _; rw [g_sI_s]) hi hd k
theorem al_M_23 {hid : Bool} {X : g_F} {own : String} {cc : ByteArray} {ret : Option FieldType} {ad : Nat → Nat → Nat} {σ : g_S} {w : Nat × Nat} {pc : Nat} {vs : List (Nat × Value)} {st : List Value} {u : Nat} {i : Int32} (C : g_M gCl X cc own ret) (hu : u < g_n (gM hid) 23) (hi : g_in i 10 = true) (hd : decode cc pc = .ok (.laload, 1)) (k : g_Y gCl X (gM hid) ad σ w (pc + 1) vs (.long (σ.2.1 23 u i.toNatClampNeg) :: st)) : g_Y gCl X (gM hid) ad σ w pc vs (.int i :: .ref (ad 23 u) :: st) := y_lald C hu rfl hi hd k
theorem as_M_23 {hid : Bool} {X : g_F} {own : String} {cc : ByteArray} {ret : Option FieldType} {ad : Nat → Nat → Nat} {σ : g_S} {w : Nat × Nat} {pc : Nat} {vs : List (Nat × Value)} {st : List Value} {u : Nat} {i : Int32} {x : Int64} {σ1 : g_S} (C : g_M gCl X cc own ret) (hu : u < g_n (gM hid) 23) (e : σ1 = g_sL σ 23 u i.toNatClampNeg x) (hi : g_in i 10 = true) (hd : decode cc pc = .ok (.lastore, 1)) (k : g_Y gCl X (gM hid) ad σ1 w (pc + 1) vs st) : g_Y gCl X (gM hid) ad σ w pc vs (.long x :: .int i :: .ref (ad 23 u) :: st) := by
  subst e
  exact y_last C hu rfl g_sL_n (by show Sum.inl (Sum.inl (_, _, _)) = _; rw [g_sL_s]) hi hd k
theorem al_M_24 {hid : Bool} {X : g_F} {own : String} {cc : ByteArray} {ret : Option FieldType} {ad : Nat → Nat → Nat} {σ : g_S} {w : Nat × Nat} {pc : Nat} {vs : List (Nat × Value)} {st : List Value} {u : Nat} {i : Int32} (C : g_M gCl X cc own ret) (hu : u < g_n (gM hid) 24) (hi : g_in i 610 = true) (hd : decode cc pc = .ok (.iaload, 1)) (k : g_Y gCl X (gM hid) ad σ w (pc + 1) vs (.int (σ.1 24 u i.toNatClampNeg) :: st)) : g_Y gCl X (gM hid) ad σ w pc vs (.int i :: .ref (ad 24 u) :: st) := y_iald C hu rfl hi hd k
theorem as_M_24 {hid : Bool} {X : g_F} {own : String} {cc : ByteArray} {ret : Option FieldType} {ad : Nat → Nat → Nat} {σ : g_S} {w : Nat × Nat} {pc : Nat} {vs : List (Nat × Value)} {st : List Value} {u : Nat} {i : Int32} {x : Int32} {σ1 : g_S} (C : g_M gCl X cc own ret) (hu : u < g_n (gM hid) 24) (e : σ1 = g_sI σ 24 u i.toNatClampNeg x) (hi : g_in i 610 = true) (hd : decode cc pc = .ok (.iastore, 1)) (k : g_Y gCl X (gM hid) ad σ1 w (pc + 1) vs st) : g_Y gCl X (gM hid) ad σ w pc vs (.int x :: .int i :: .ref (ad 24 u) :: st) := by
  subst e
  exact y_iast C hu rfl g_sI_n (by show Sum.inl (Sum.inl (_, _, _)) = _; rw [g_sI_s]) hi hd k
theorem al_M_25 {hid : Bool} {X : g_F} {own : String} {cc : ByteArray} {ret : Option FieldType} {ad : Nat → Nat → Nat} {σ : g_S} {w : Nat × Nat} {pc : Nat} {vs : List (Nat × Value)} {st : List Value} {u : Nat} {i : Int32} (C : g_M gCl X cc own ret) (hu : u < g_n (gM hid) 25) (hi : g_in i 3 = true) (hd : decode cc pc = .ok (.baload, 1)) (k : g_Y gCl X (gM hid) ad σ w (pc + 1) vs (.int (σ.1 25 u i.toNatClampNeg) :: st)) : g_Y gCl X (gM hid) ad σ w pc vs (.int i :: .ref (ad 25 u) :: st) := y_zald C hu rfl hi hd k
theorem as_M_25 {hid : Bool} {X : g_F} {own : String} {cc : ByteArray} {ret : Option FieldType} {ad : Nat → Nat → Nat} {σ : g_S} {w : Nat × Nat} {pc : Nat} {vs : List (Nat × Value)} {st : List Value} {u : Nat} {i : Int32} {x : Int32} {σ1 : g_S} (C : g_M gCl X cc own ret) (hu : u < g_n (gM hid) 25) (e : σ1 = g_sI σ 25 u i.toNatClampNeg (vp_nar .boolean x)) (hi : g_in i 3 = true) (hd : decode cc pc = .ok (.bastore, 1)) (k : g_Y gCl X (gM hid) ad σ1 w (pc + 1) vs st) : g_Y gCl X (gM hid) ad σ w pc vs (.int x :: .int i :: .ref (ad 25 u) :: st) := by
  subst e
  exact y_zast C hu rfl g_sI_n (by show Sum.inl (Sum.inl (_, _, _)) = _; rw [g_sI_s]) hi hd k
theorem al_M_26 {hid : Bool} {X : g_F} {own : String} {cc : ByteArray} {ret : Option FieldType} {ad : Nat → Nat → Nat} {σ : g_S} {w : Nat × Nat} {pc : Nat} {vs : List (Nat × Value)} {st : List Value} {u : Nat} {i : Int32} (C : g_M gCl X cc own ret) (hu : u < g_n (gM hid) 26) (hi : g_in i 3 = true) (hd : decode cc pc = .ok (.iaload, 1)) (k : g_Y gCl X (gM hid) ad σ w (pc + 1) vs (.int (σ.1 26 u i.toNatClampNeg) :: st)) : g_Y gCl X (gM hid) ad σ w pc vs (.int i :: .ref (ad 26 u) :: st) := y_iald C hu rfl hi hd k
theorem as_M_26 {hid : Bool} {X : g_F} {own : String} {cc : ByteArray} {ret : Option FieldType} {ad : Nat → Nat → Nat} {σ : g_S} {w : Nat × Nat} {pc : Nat} {vs : List (Nat × Value)} {st : List Value} {u : Nat} {i : Int32} {x : Int32} {σ1 : g_S} (C : g_M gCl X cc own ret) (hu : u < g_n (gM hid) 26) (e : σ1 = g_sI σ 26 u i.toNatClampNeg x) (hi : g_in i 3 = true) (hd : decode cc pc = .ok (.iastore, 1)) (k : g_Y gCl X (gM hid) ad σ1 w (pc + 1) vs st) : g_Y gCl X (gM hid) ad σ w pc vs (.int x :: .int i :: .ref (ad 26 u) :: st) := by
  subst e
  exact y_iast C hu rfl g_sI_n (by show Sum.inl (Sum.inl (_, _, _)) = _; rw [g_sI_s]) hi hd k
theorem al_M_27 {hid : Bool} {X : g_F} {own : String} {cc : ByteArray} {ret : Option FieldType} {ad : Nat → Nat → Nat} {σ : g_S} {w : Nat × Nat} {pc : Nat} {vs : List (Nat × Value)} {st : List Value} {u : Nat} {i : Int32} (C : g_M gCl X cc own ret) (hu : u < g_n (gM hid) 27) (hi : g_in i 123 = true) (hd : decode cc pc = .ok (.iaload, 1)) (k : g_Y gCl X (gM hid) ad σ w (pc + 1) vs (.int (σ.1 27 u i.toNatClampNeg) :: st)) : g_Y gCl X (gM hid) ad σ w pc vs (.int i :: .ref (ad 27 u) :: st) := y_iald C hu rfl hi hd k
theorem as_M_27 {hid : Bool} {X : g_F} {own : String} {cc : ByteArray} {ret : Option FieldType} {ad : Nat → Nat → Nat} {σ : g_S} {w : Nat × Nat} {pc : Nat} {vs : List (Nat × Value)} {st : List Value} {u : Nat} {i : Int32} {x : Int32} {σ1 : g_S} (C : g_M gCl X cc own ret) (hu : u < g_n (gM hid) 27) (e : σ1 = g_sI σ 27 u i.toNatClampNeg x) (hi : g_in i 123 = true) (hd : decode cc pc = .ok (.iastore, 1)) (k : g_Y gCl X (gM hid) ad σ1 w (pc + 1) vs st) : g_Y gCl X (gM hid) ad σ w pc vs (.int x :: .int i :: .ref (ad 27 u) :: st) := by
  subst e
  exact y_iast C hu rfl g_sI_n (by show Sum.inl (Sum.inl (_, _, _)) = _; rw [g_sI_s]) hi hd k
/-- a contract out of a family of contracts -/
theorem g_Met_ex {ι : Type} {l : Launch} {y : MethodName} {ws : List Cond} {rm : Room} {Pc : ι → Array Value → State → Prop} {Qc : ι → Array Value → State → Outcome → State → Prop} {Pc' : Array Value → State → Prop} {Qc' : Array Value → State → Outcome → State → Prop} {mc ms : Nat} {free : Addr → Prop}
    (h : ∀ a U, Pc' a U → ∃ i, Pc i a U ∧ Met l y ws rm (Pc i) (Qc i) mc ms free ∧ ∀ st o t, Qc i a st o t → Qc' a st o t) : Met l y ws rm Pc' Qc' mc ms free := by
  intro p e h1 h2 h3 s m args below h4 h5 hP hK
  obtain ⟨i, hi, hM, hQ⟩ := h args s hP
  obtain ⟨n, o, a1, a2, a3, a4, a5⟩ := hM p e h1 h2 h3 s m args below h4 h5 hi hK
  exact ⟨n, o, a1, a2, a3, hQ _ _ _ a4, a5⟩
/-- alike but in the stack and in what is asked -/
def g_agM (σ0 σ : g_S) : Prop := (∀ k u, k ≠ 9 → k ≠ 10 → σ0.1 k u = σ.1 k u) ∧ σ0.2 = σ.2
theorem g_prM {hid : Bool} {dA : Nat → ClassId} {ad : Nat → Nat → Nat} {σ : g_S} {k u : Nat} : g_pr (g_cell (gM hid) dA ad σ k u) := by
  show g_pr (gMcell hid dA ad k u (σ.1 k u) (σ.2.1 k u) (σ.2.2 k u))
  unfold gMcell
  split <;> first | trivial | (split <;> trivial)
theorem g_hideM {cl : List vw_C} {D : va_G} {dA : Nat → ClassId} {ad : Nat → Nat → Nat} {σ : g_S} {A : Nat → Prop} {H : Heap} (h : g_W cl D dA (gM true) ad σ A H) : ∃ σ0, g_agM σ0 σ ∧ g_W cl D dA (gM false) ad σ0 A H := by
  have h9 := h.1 9 0 nM_9_0
  have h10 := h.1 10 0 nM_10_0
  obtain ⟨z9, h9⟩ := h9
  obtain ⟨z10, h10⟩ := h10
  refine ⟨g_sA (g_sA σ 9 0 z9.1) 10 0 z10.1, ⟨fun k u k9 k10 => ?_, rfl⟩, fun k u hu => ?_, fun k u k' u' h1 h2 _ _ h3 => h.2.1 k u k' u' h1 h2 g_prM g_prM h3, fun k u hu _ => h.2.2 k u hu g_prM⟩
  · show g_up (g_up σ.1 9 0 z9.1) 10 0 z10.1 k u = _
    rw [g_up_n (fun z => k10 z.1), g_up_n (fun z => k9 z.1)]
  · by_cases e9 : k = 9
    · subst e9
      have hu0 : u = 0 := by have : u < 1 := hu; omega
      subst hu0
      show va_at D cl (ad 9 0, .inl (dA 0, 80, .inl ((g_sA (g_sA σ 9 0 z9.1) 10 0 z10.1).1 9 0))) H
      have : (g_sA (g_sA σ 9 0 z9.1) 10 0 z10.1).1 9 0 = z9.1 := by
        show g_up (g_up σ.1 9 0 z9.1) 10 0 z10.1 9 0 = _
        rw [g_up_n (by decide), g_up_s]
      rw [this]
      exact h9
    · by_cases e10 : k = 10
      · subst e10
        have hu0 : u = 0 := by have : u < 1 := hu; omega
        subst hu0
        show va_at D cl (ad 10 0, .inl (dA 0, 8, .inl ((g_sA (g_sA σ 9 0 z9.1) 10 0 z10.1).1 10 0))) H
        have : (g_sA (g_sA σ 9 0 z9.1) 10 0 z10.1).1 10 0 = z10.1 := by
          show g_up (g_up σ.1 9 0 z9.1) 10 0 z10.1 10 0 = _
          rw [g_up_s]
        rw [this]
        exact h10
      · have hs : (g_sA (g_sA σ 9 0 z9.1) 10 0 z10.1).1 k u = σ.1 k u := by
          show g_up (g_up σ.1 9 0 z9.1) 10 0 z10.1 k u = _
          rw [g_up_n (fun z => e10 z.1), g_up_n (fun z => e9 z.1)]
        have hc : g_cell (gM false) dA ad (g_sA (g_sA σ 9 0 z9.1) 10 0 z10.1) k u = g_cell (gM true) dA ad σ k u := by
          show gMcell false dA ad k u ((g_sA (g_sA σ 9 0 z9.1) 10 0 z10.1).1 k u) (σ.2.1 k u) (σ.2.2 k u) = gMcell true dA ad k u (σ.1 k u) (σ.2.1 k u) (σ.2.2 k u)
          rw [hs]
          unfold gMcell
          split <;> first | rfl | (exfalso; first | exact e9 rfl | exact e10 rfl)
        rw [hc]
        exact h.1 k u hu
theorem g_showM {cl : List vw_C} {D : va_G} {dA : Nat → ClassId} {ad : Nat → Nat → Nat} {σ σ1 : g_S} {A : Nat → Prop} {H : Heap} (ha : g_agM σ1 σ) (h : g_W cl D dA (gM false) ad σ1 A H) : g_W cl D dA (gM true) ad σ A H := by
  refine ⟨fun k u hu => ?_, fun k u k' u' h1 h2 _ _ h3 => h.2.1 k u k' u' h1 h2 g_prM g_prM h3, fun k u hu _ => h.2.2 k u hu g_prM⟩
  have h0 := h.1 k u hu
  by_cases e9 : k = 9
  · subst e9
    exact ⟨(σ1.1 9 u, fun _ => 0), h0⟩
  · by_cases e10 : k = 10
    · subst e10
      exact ⟨(σ1.1 10 u, fun _ => 0), h0⟩
    · have hc : g_cell (gM false) dA ad σ1 k u = g_cell (gM true) dA ad σ k u := by
        show gMcell false dA ad k u (σ1.1 k u) (σ1.2.1 k u) (σ1.2.2 k u) = gMcell true dA ad k u (σ.1 k u) (σ.2.1 k u) (σ.2.2 k u)
        rw [ha.1 k u e9 e10, ha.2]
        unfold gMcell
        split <;> first | rfl | (exfalso; first | exact e9 rfl | exact e10 rfl)
      rw [hc] at h0
      exact h0
