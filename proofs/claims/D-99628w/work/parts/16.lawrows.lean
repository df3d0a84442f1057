set_option maxRecDepth 100000
/-! ===== the law's walk: two worlds beside each other ===== -/
section LW0
variable {cl : List vw_C} {D : va_G} {dA : Nat → ClassId} {LM : g_L} {ad : Nat → Nat → Nat} {σ : g_S} {A : Nat → Prop} {H : Heap}
theorem g_W.mono (h : g_W cl D dA LM ad σ A H) {A' : Nat → Prop} (hA : ∀ q, A q → A' q) : g_W cl D dA LM ad σ A' H := ⟨h.1, h.2.1, fun k u hu hp => hA _ (h.2.2 k u hu hp)⟩
theorem g_W.bound (h : g_W cl D dA LM ad σ A H) : g_W cl D dA LM ad σ (fun q => A q ∧ q < H.size) H := ⟨h.1, h.2.1, fun k u hu hp => ⟨h.2.2 k u hu hp, (h.1 k u hu).lt hp⟩⟩
/-- a world as a list of cells -/
theorem g_list (h : g_W cl D dA LM ad σ A H) : ∃ ws : va_W, va_P D cl ws H ∧ va_D A ws ∧ ∀ H', va_P D cl ws H' → g_W cl D dA LM ad σ (fun q => ∃ (i : Nat) (x : va_E), ws[i]? = some (q, x)) H' := by
  have hz : ∀ k u, ∃ e : va_E, (u < g_n LM k → g_pr (g_cell LM dA ad σ k u) → va_at D cl (ad k u, e) H) ∧ (∀ e', g_cell LM dA ad σ k u = .inl e' → e = e') ∧ (∀ f, g_cell LM dA ad σ k u = .inr (.inl f) → ∃ z, e = f z) := by
    intro k u
    match hc : g_cell LM dA ad σ k u with
    | .inl e =>
      refine ⟨e, fun hu _ => ?_, fun e' h' => (by cases h'; rfl), fun f h' => (by cases h')⟩
      have h0 := h.1 k u hu
      rw [hc] at h0
      exact h0
    | .inr (.inl f) =>
      by_cases hu : u < g_n LM k
      · have h0 := h.1 k u hu
        rw [hc] at h0
        obtain ⟨z, h0⟩ := h0
        exact ⟨f z, fun _ _ => h0, fun e' h' => (by cases h'), fun f' h' => (by cases h'; exact ⟨z, rfl⟩)⟩
      · exact ⟨f (fun _ => 0, fun _ => 0), fun q => absurd q hu, fun e' h' => (by cases h'), fun f' h' => (by cases h'; exact ⟨_, rfl⟩)⟩
    | .inr (.inr _) => exact ⟨.inr (0, []), fun _ hp => hp.elim, fun e' h' => (by cases h'), fun f' h' => (by cases h')⟩
  have hE : ∃ E : Nat → Nat → va_E, ∀ k u, (u < g_n LM k → g_pr (g_cell LM dA ad σ k u) → va_at D cl (ad k u, E k u) H) ∧ (∀ e', g_cell LM dA ad σ k u = .inl e' → E k u = e') ∧ (∀ f, g_cell LM dA ad σ k u = .inr (.inl f) → ∃ z, E k u = f z) :=
    ⟨fun k u => Classical.choose (hz k u), fun k u => Classical.choose_spec (hz k u)⟩
  obtain ⟨E, hE⟩ := hE
  obtain ⟨ix, hix⟩ : ∃ ix : List (Nat × Nat), ix = (g_ix LM.2).filter (fun p => @decide (g_pr (g_cell LM dA ad σ p.1 p.2)) (Classical.propDecidable _)) := ⟨_, rfl⟩
  have hmem : ∀ k u, (k, u) ∈ ix ↔ u < g_n LM k ∧ g_pr (g_cell LM dA ad σ k u) := by
    intro k u
    rw [hix, List.mem_filter, g_ix_mem]
    exact and_congr_right fun _ => @decide_eq_true_iff _ (Classical.propDecidable _)
  have hnd : ix.Nodup := by rw [hix]; exact List.Pairwise.filter _ (g_ix_nd LM.2)
  obtain ⟨ws, hws⟩ : ∃ ws : va_W, ws = ix.map fun p => (ad p.1 p.2, E p.1 p.2) := ⟨_, rfl⟩
  have hat : ∀ (i : Nat) (x : Nat × va_E), ws[i]? = some x → ∃ k u, ix[i]? = some (k, u) ∧ u < g_n LM k ∧ g_pr (g_cell LM dA ad σ k u) ∧ x = (ad k u, E k u) := by
    intro i x hx
    rw [hws, List.getElem?_map] at hx
    cases hi : ix[i]? with
    | none => rw [hi] at hx; cases hx
    | some p =>
      rw [hi] at hx
      obtain ⟨k, u⟩ := p
      obtain ⟨h1, h2⟩ := (hmem k u).mp (List.mem_of_getElem? hi)
      exact ⟨k, u, rfl, h1, h2, (Option.some.inj hx).symm⟩
  have hin : ∀ (k u : Nat), u < g_n LM k → g_pr (g_cell LM dA ad σ k u) → ∃ i : Nat, ws[i]? = some (ad k u, E k u) := by
    intro k u hu hp
    obtain ⟨i, hi⟩ := List.getElem?_of_mem ((hmem k u).mpr ⟨hu, hp⟩)
    exact ⟨i, (by rw [hws, List.getElem?_map, hi]; rfl)⟩
  have inj : ∀ (i j : Nat) (p : Nat × Nat), ix[i]? = some p → ix[j]? = some p → i = j := by
    intro i j p hi hj
    exact (List.getElem?_inj (List.getElem?_eq_some_iff.mp hi).1 hnd).mp (hi.trans hj.symm)
  refine ⟨ws, ?_, ⟨fun i j x y hx hy hxy => ?_, fun i x hx => ?_⟩, fun H' hP => ⟨fun k u hu => ?_, h.2.1, fun k u hu hp => ?_⟩⟩
  · intro i x hx
    obtain ⟨k, u, -, hu, hp, rfl⟩ := hat i x hx
    exact (hE k u).1 hu hp
  · obtain ⟨k, u, hi, hu, hp, rfl⟩ := hat i x hx
    obtain ⟨k', u', hj, hu', hp', rfl⟩ := hat j y hy
    obtain ⟨rfl, rfl⟩ := h.2.1 k u k' u' hu hu' hp hp' hxy
    exact inj i j _ hi hj
  · obtain ⟨k, u, -, hu, hp, rfl⟩ := hat i x hx
    exact h.2.2 k u hu hp
  · match hc : g_cell LM dA ad σ k u with
    | .inl e =>
      obtain ⟨i, hi⟩ := hin k u hu (by rw [hc]; trivial)
      rw [(hE k u).2.1 e hc] at hi
      exact hP i _ hi
    | .inr (.inl f) =>
      obtain ⟨i, hi⟩ := hin k u hu (by rw [hc]; trivial)
      obtain ⟨z, hz⟩ := (hE k u).2.2 f hc
      rw [hz] at hi
      exact ⟨z, hP i _ hi⟩
    | .inr (.inr _) => trivial
  · obtain ⟨i, hi⟩ := hin k u hu hp
    exact ⟨i, _, hi⟩
theorem g_appP {ws ws' : va_W} (h : va_P D cl ws H) (h' : va_P D cl ws' H) : va_P D cl (ws ++ ws') H := by
  intro i x hx
  rcases Nat.lt_or_ge i ws.length with hi | hi
  · rw [List.getElem?_append_left hi] at hx; exact h i x hx
  · rw [List.getElem?_append_right hi] at hx; exact h' _ x hx
theorem g_appL {ws ws' : va_W} (h : va_P D cl (ws ++ ws') H) : va_P D cl ws H := fun i x hx => h i x (by rw [List.getElem?_append_left (List.getElem?_eq_some_iff.mp hx).1]; exact hx)
theorem g_appR {ws ws' : va_W} (h : va_P D cl (ws ++ ws') H) : va_P D cl ws' H := fun i x hx => h (ws.length + i) x (by rw [List.getElem?_append_right (Nat.le_add_right _ _), Nat.add_sub_cancel_left]; exact hx)
theorem g_appD {ws ws' : va_W} (h : va_D A ws) (h' : va_D A ws') (hd : ∀ (i j : Nat) (x y : Nat × va_E), ws[i]? = some x → ws'[j]? = some y → x.1 ≠ y.1) : va_D A (ws ++ ws') := by
  refine ⟨fun i j x y hx hy e => ?_, fun i x hx => ?_⟩
  · rcases Nat.lt_or_ge i ws.length with hi | hi <;> rcases Nat.lt_or_ge j ws.length with hj | hj
    · rw [List.getElem?_append_left hi] at hx; rw [List.getElem?_append_left hj] at hy; exact h.1 i j x y hx hy e
    · rw [List.getElem?_append_left hi] at hx; rw [List.getElem?_append_right hj] at hy; exact absurd e (hd _ _ x y hx hy)
    · rw [List.getElem?_append_right hi] at hx; rw [List.getElem?_append_left hj] at hy; exact absurd e.symm (hd _ _ y x hy hx)
    · rw [List.getElem?_append_right hi] at hx; rw [List.getElem?_append_right hj] at hy
      have := h'.1 _ _ x y hx hy e
      omega
  · rcases Nat.lt_or_ge i ws.length with hi | hi
    · rw [List.getElem?_append_left hi] at hx; exact h.2 i x hx
    · rw [List.getElem?_append_right hi] at hx; exact h'.2 _ x hx
theorem g_appDL {ws ws' : va_W} (h : va_D A (ws ++ ws')) : ∀ (i j : Nat) (x y : Nat × va_E), ws[i]? = some x → ws'[j]? = some y → x.1 ≠ y.1 := by
  intro i j x y hx hy e
  have hi := (List.getElem?_eq_some_iff.mp hx).1
  have := h.1 i (ws.length + j) x y (by rw [List.getElem?_append_left hi]; exact hx) (by rw [List.getElem?_append_right (Nat.le_add_right _ _), Nat.add_sub_cancel_left]; exact hy) e
  omega
theorem g_oneP {q : Nat × va_E} (h : va_at D cl q H) : va_P D cl [q] H := by
  intro i x hx
  have hz : i < 1 := (List.getElem?_eq_some_iff.mp hx).1
  rw [show i = 0 by omega] at hx
  cases hx
  exact h
theorem g_oneD {q : Nat × va_E} (h : A q.1) : va_D A [q] := by
  refine ⟨fun i j x y hx hy _ => ?_, fun i x hx => ?_⟩
  · have h1 : i < 1 := (List.getElem?_eq_some_iff.mp hx).1
    have h2 : j < 1 := (List.getElem?_eq_some_iff.mp hy).1
    omega
  · have hz : i < 1 := (List.getElem?_eq_some_iff.mp hx).1
    rw [show i = 0 by omega] at hx
    cases hx
    exact h
end LW0
/-- the judgement over what holds of the heap -/
def g_YP (X : g_F) (P : Heap → Prop) (w : Nat × Nat) (pc : Nat) (vs : List (Nat × Value)) (st : List Value) : Prop :=
  ∀ (H : Heap) (locs : List Loc) (ls : Array Slot), P H → va_S (g_A X) (g_s X).heap H locs → lv_has ls (g_nL X) vs →
    W (g_p X) (g_l X) (g_e X) (g_R X) (g_s X) (g_m X) (g_as X) (g_be X) (g_me X) (g_c X) H locs w.1 w.2 (g_Q X) (F0 (g_m X) pc ls st)
/-- thrown -/
def g_TP (X : g_F) (P : Heap → Prop) (w : Nat × Nat) (pc : Nat) (vs : List (Nat × Value)) (E : String) (q : Nat) : Prop :=
  ∀ (H : Heap) (locs : List Loc) (ls : Array Slot) (rest : List Value) (ce : Cell), P H → va_S (g_A X) (g_s X).heap H locs → lv_has ls (g_nL X) vs → H[q]? = some ce → ce.vm = .none → (g_s X).vm.findClass E = some ce.cls →
    vx_W (g_p X) (g_l X) (g_e X) (g_R X) (g_s X) (g_m X) (g_as X) (g_be X) (g_me X) (g_c X) H locs w.1 w.2 (g_Q X) (F0 (g_m X) pc ls rest) q
/-- a side of what holds can be handed to a call: its world, and what holds after -/
def g_spl (X : g_F) (P : Heap → Prop) (LM LM1 : g_L) (a : Nat) (σ : g_S) (P1 : g_S → Heap → Prop) : Prop := ∀ H, (∀ q, H.size ≤ q → g_A X q) → P H → ∃ (ad : Nat → Nat → Nat) (A' : Nat → Prop), ad 0 0 = a ∧ (∀ q, A' q → g_A X q) ∧ (∀ q, H.size ≤ q → A' q) ∧ g_W gCl (g_D X) (g_dA X) LM ad σ A' H ∧ ∀ (ad2 : Nat → Nat → Nat) (σ2 : g_S) (H1 : Heap), ad2 0 0 = a → g_W gCl (g_D X) (g_dA X) LM1 ad2 σ2 A' H1 → H.size ≤ H1.size → (∀ q, q < H.size → ¬ A' q → H1[q]? = H[q]?) → P1 σ2 H1
/-- the component alone -/
def g_P1 (D : va_G) (dA : Nat → ClassId) (A : Nat → Prop) (ax : Nat) (σC : g_S) (H : Heap) : Prop :=
  ∃ (ad : Nat → Nat → Nat) (AC : Nat → Prop), ad 0 0 = ax ∧ g_W gCl D dA (gC true) ad σC AC H ∧ ∀ q, AC q → A q ∧ q < H.size
/-- and an object beside it -/
def g_P1n (D : va_G) (dA : Nat → ClassId) (A : Nat → Prop) (ax : Nat) (σC : g_S) (am : Nat) (e : va_E) (H : Heap) : Prop :=
  ∃ (ad : Nat → Nat → Nat) (AC : Nat → Prop), ad 0 0 = ax ∧ g_W gCl D dA (gC true) ad σC AC H ∧ (∀ q, AC q → A q ∧ q < H.size) ∧ va_at D gCl (am, e) H ∧ A am ∧ ¬ AC am
/-- component and model -/
def g_P1m (D : va_G) (dA : Nat → ClassId) (A : Nat → Prop) (ax am : Nat) (σC σM : g_S) (H : Heap) : Prop :=
  ∃ (adC adM : Nat → Nat → Nat) (AC AM : Nat → Prop), adC 0 0 = ax ∧ adM 0 0 = am ∧ g_W gCl D dA (gC true) adC σC AC H ∧ g_W gCl D dA (gM true) adM σM AM H ∧ (∀ q, AC q → ¬ AM q) ∧ (∀ q, AC q → A q ∧ q < H.size) ∧ ∀ q, AM q → A q ∧ q < H.size
def g_outE (dA : Nat → ClassId) (o : Int64) : va_E := .inl (dA 1, 1, .inr (.inl fun _ => o))
/-- component, model, out -/
def g_P2 (D : va_G) (dA : Nat → ClassId) (A : Nat → Prop) (ax am ao : Nat) (σC σM : g_S) (o : Int64) (H : Heap) : Prop :=
  ∃ (adC adM : Nat → Nat → Nat) (AC AM : Nat → Prop), adC 0 0 = ax ∧ adM 0 0 = am ∧ g_W gCl D dA (gC true) adC σC AC H ∧ g_W gCl D dA (gM true) adM σM AM H ∧ va_at D gCl (ao, g_outE dA o) H ∧ A ao ∧ ¬ AC ao ∧ ¬ AM ao ∧ (∀ q, AC q → ¬ AM q) ∧ (∀ q, AC q → A q ∧ q < H.size) ∧ ∀ q, AM q → A q ∧ q < H.size
section LW1
variable {X : g_F} {ax am ao : Nat} {σC σM : g_S} {o : Int64}
theorem g_splC : g_spl X (g_P2 (g_D X) (g_dA X) (g_A X) ax am ao σC σM o) (gC true) (gC true) ax σC (fun s => g_P2 (g_D X) (g_dA X) (g_A X) ax am ao s σM o) := by
  rintro H hA ⟨adC, adM, AC, AM, e1, e2, hC, hM, ho, hao, h1, h2, h3, h4, h5⟩
  have hlt : ao < H.size := va_at.lt ho
  refine ⟨adC, fun q => AC q ∨ H.size ≤ q, e1, fun q hq => hq.elim (fun h => (h4 q h).1) (hA q), fun q hq => Or.inr hq, hC.mono (fun q => Or.inl), fun ad2 σ2 H1 e3 hC2 hs hk => ?_⟩
  refine ⟨ad2, adM, fun q => (AC q ∨ H.size ≤ q) ∧ q < H1.size, AM, e3, e2, hC2.bound, hM.kept (fun q hq hm => hk q hq (fun z => z.elim (fun z => h3 q z hm) (fun z => absurd hq (Nat.not_lt.mpr z)))), va_at.kept (q := (ao, g_outE (g_dA X) o)) ho (hk ao hlt (fun z => z.elim h1 (fun z => absurd hlt (Nat.not_lt.mpr z)))), hao, fun z => z.1.elim h1 (fun z => absurd hlt (Nat.not_lt.mpr z)), h2, fun q z hm => z.1.elim (fun z => h3 q z hm) (fun z => absurd (h5 q hm).2 (Nat.not_lt.mpr z)), fun q z => ⟨z.1.elim (fun z => (h4 q z).1) (hA q), z.2⟩, fun q hm => ⟨(h5 q hm).1, Nat.lt_of_lt_of_le (h5 q hm).2 hs⟩⟩
theorem g_splM : g_spl X (g_P2 (g_D X) (g_dA X) (g_A X) ax am ao σC σM o) (gM true) (gM true) am σM (fun s => g_P2 (g_D X) (g_dA X) (g_A X) ax am ao σC s o) := by
  rintro H hA ⟨adC, adM, AC, AM, e1, e2, hC, hM, ho, hao, h1, h2, h3, h4, h5⟩
  have hlt : ao < H.size := va_at.lt ho
  refine ⟨adM, fun q => AM q ∨ H.size ≤ q, e2, fun q hq => hq.elim (fun h => (h5 q h).1) (hA q), fun q hq => Or.inr hq, hM.mono (fun q => Or.inl), fun ad2 σ2 H1 e3 hM2 hs hk => ?_⟩
  refine ⟨adC, ad2, AC, fun q => (AM q ∨ H.size ≤ q) ∧ q < H1.size, e1, e3, hC.kept (fun q hq hm => hk q hq (fun z => z.elim (fun z => h3 q hm z) (fun z => absurd hq (Nat.not_lt.mpr z)))), hM2.bound, va_at.kept (q := (ao, g_outE (g_dA X) o)) ho (hk ao hlt (fun z => z.elim h2 (fun z => absurd hlt (Nat.not_lt.mpr z)))), hao, h1, fun z => z.1.elim h2 (fun z => absurd hlt (Nat.not_lt.mpr z)), fun q hm z => z.1.elim (fun z => h3 q hm z) (fun z => absurd (h4 q hm).2 (Nat.not_lt.mpr z)), fun q hm => ⟨(h4 q hm).1, Nat.lt_of_lt_of_le (h4 q hm).2 hs⟩, fun q z => ⟨z.1.elim (fun z => (h5 q z).1) (hA q), z.2⟩⟩
theorem g_W1 {D : va_G} {dA : Nat → ClassId} {A : Nat → Prop} {H : Heap} {a : Nat} {e : va_E} {σ : g_S} (h : va_at D gCl (a, e) H) (hA : A a) : g_W gCl D dA (g_fL [1] (g_fs (fun _ _ => none) 0 0 e)) (fun _ _ => a) σ A H := by
  have key : ∀ k u, u < g_n (g_fL [1] (g_fs (fun _ _ => none) 0 0 e)) k → k = 0 ∧ u = 0 := fun k u hu => g_one01 (k := k) (u := u) hu
  refine ⟨fun k u hu => ?_, fun k u k' u' hu hu' _ _ _ => ?_, fun k u hu _ => hA⟩
  · obtain ⟨rfl, rfl⟩ := key k u hu
    rw [g_fc g_fs_s]
    exact h
  · obtain ⟨rfl, rfl⟩ := key k u hu
    obtain ⟨rfl, rfl⟩ := key k' u' hu'
    exact ⟨rfl, rfl⟩
theorem g_splK1 {e : va_E} {σ : g_S} : g_spl X (fun H => va_at (g_D X) gCl (ax, e) H ∧ g_A X ax) (g_fL [1] (g_fs (fun _ _ => none) 0 0 e)) (gC true) ax σ (fun s => g_P1 (g_D X) (g_dA X) (g_A X) ax s) := by
  rintro H hA ⟨h, ha⟩
  refine ⟨fun _ _ => ax, fun q => q = ax ∨ H.size ≤ q, rfl, fun q hq => hq.elim (fun z => by rw [z]; exact ha) (hA q), fun q hq => Or.inr hq, g_W1 h (Or.inl rfl), fun ad2 σ2 H1 e3 hC2 hs hk => ?_⟩
  exact ⟨ad2, _, e3, hC2.bound, fun q z => ⟨z.1.elim (fun z => by rw [z]; exact ha) (hA q), z.2⟩⟩
theorem g_splKM {e : va_E} {σ : g_S} : g_spl X (g_P1n (g_D X) (g_dA X) (g_A X) ax σC am e) (g_fL [1] (g_fs (fun _ _ => none) 0 0 e)) (gM false) am σ (fun s => g_P1m (g_D X) (g_dA X) (g_A X) ax am σC s) := by
  rintro H hA ⟨adC, AC, e1, hC, h4, ho, ha, h1⟩
  have hlt : am < H.size := va_at.lt ho
  refine ⟨fun _ _ => am, fun q => q = am ∨ H.size ≤ q, rfl, fun q hq => hq.elim (fun z => by rw [z]; exact ha) (hA q), fun q hq => Or.inr hq, g_W1 ho (Or.inl rfl), fun ad2 σ2 H1 e3 hM2 hs hk => ?_⟩
  have hM3 := g_showM (σ := σ2) (σ1 := σ2) ⟨fun _ _ _ _ => rfl, rfl⟩ hM2.bound
  exact ⟨adC, ad2, AC, _, e1, e3, hC.kept (fun q hq hm => hk q hq (fun z => z.elim (fun z => h1 (z ▸ hm)) (fun z => absurd hq (Nat.not_lt.mpr z)))), hM3, fun q hm z => z.1.elim (fun z => h1 (z ▸ hm)) (fun z => absurd (h4 q hm).2 (Nat.not_lt.mpr z)), fun q hm => ⟨(h4 q hm).1, Nat.lt_of_lt_of_le (h4 q hm).2 hs⟩, fun q z => ⟨z.1.elim (fun z => by rw [z]; exact ha) (hA q), z.2⟩⟩
theorem g_P1.list {H : Heap} (h : g_P1 (g_D X) (g_dA X) (g_A X) ax σC H) : ∃ ws : va_W, va_P (g_D X) gCl ws H ∧ va_D (g_A X) ws ∧ ∀ q e H1, va_P (g_D X) gCl (ws ++ [(q, e)]) H1 → va_D (g_A X) (ws ++ [(q, e)]) → g_P1n (g_D X) (g_dA X) (g_A X) ax σC q e H1 := by
  obtain ⟨ad, AC, e1, hC, h4⟩ := h
  obtain ⟨ws, hP, hD, back⟩ := g_list hC
  refine ⟨ws, hP, ⟨hD.1, fun i x hx => (h4 _ (hD.2 i x hx)).1⟩, fun q e H1 hP1 hD1 => ?_⟩
  refine ⟨ad, _, e1, back H1 (g_appL hP1), ?_, g_appR hP1 0 _ rfl, hD1.2 ws.length (q, e) (by rw [List.getElem?_append_right (Nat.le_refl _), Nat.sub_self]; rfl), ?_⟩
  · rintro a ⟨i, x, hx⟩
    exact ⟨(h4 _ (hD.2 i _ hx)).1, va_at.lt (g_appL hP1 i _ hx)⟩
  · rintro ⟨i, x, hx⟩
    exact g_appDL hD1 i 0 _ (q, e) hx rfl rfl
theorem g_P1m.list {H : Heap} (h : g_P1m (g_D X) (g_dA X) (g_A X) ax am σC σM H) : ∃ ws : va_W, va_P (g_D X) gCl ws H ∧ va_D (g_A X) ws ∧ ∀ q o H1, va_P (g_D X) gCl (ws ++ [(q, g_outE (g_dA X) o)]) H1 → va_D (g_A X) (ws ++ [(q, g_outE (g_dA X) o)]) → g_P2 (g_D X) (g_dA X) (g_A X) ax am q σC σM o H1 := by
  obtain ⟨adC, adM, AC, AM, e1, e2, hC, hM, h3, h4, h5⟩ := h
  obtain ⟨ws, hP, hD, back⟩ := g_list hC
  obtain ⟨ws', hP', hD', back'⟩ := g_list hM
  refine ⟨ws ++ ws', g_appP hP hP', g_appD ⟨hD.1, fun i x hx => (h4 _ (hD.2 i x hx)).1⟩ ⟨hD'.1, fun i x hx => (h5 _ (hD'.2 i x hx)).1⟩ (fun i j x y hx hy e => h3 _ (hD.2 i x hx) (by rw [e]; exact hD'.2 j y hy)), fun q o H1 hP1 hD1 => ?_⟩
  have hL := g_appL hP1
  refine ⟨adC, adM, _, _, e1, e2, back H1 (g_appL hL), back' H1 (g_appR hL), g_appR hP1 0 _ rfl, hD1.2 (ws ++ ws').length (q, g_outE (g_dA X) o) (by rw [List.getElem?_append_right (Nat.le_refl _), Nat.sub_self]; rfl), ?_, ?_, ?_, ?_, ?_⟩
  · rintro ⟨i, x, hx⟩
    exact g_appDL hD1 i 0 (q, x) (q, g_outE (g_dA X) o) (by rw [List.getElem?_append_left (List.getElem?_eq_some_iff.mp hx).1]; exact hx) rfl rfl
  · rintro ⟨i, x, hx⟩
    exact g_appDL hD1 (ws.length + i) 0 (q, x) (q, g_outE (g_dA X) o) (by rw [List.getElem?_append_right (Nat.le_add_right _ _), Nat.add_sub_cancel_left]; exact hx) rfl rfl
  · rintro a ⟨i, x, hx⟩ ⟨j, y, hy⟩
    exact h3 a (hD.2 i _ hx) (hD'.2 j _ hy)
  · rintro a ⟨i, x, hx⟩
    exact ⟨(h4 _ (hD.2 i _ hx)).1, va_at.lt (g_appL hL i _ hx)⟩
  · rintro a ⟨i, x, hx⟩
    exact ⟨(h5 _ (hD'.2 i _ hx)).1, va_at.lt (g_appR hL i _ hx)⟩
theorem g_P2.list {H : Heap} (h : g_P2 (g_D X) (g_dA X) (g_A X) ax am ao σC σM o H) : ∃ (ws : va_W) (q0 : Nat), va_P (g_D X) gCl ws H ∧ va_D (g_A X) ws ∧ ws[q0]? = some (ao, g_outE (g_dA X) o) ∧ ∀ o' H1, va_P (g_D X) gCl (ws.set q0 (ao, g_outE (g_dA X) o')) H1 → g_P2 (g_D X) (g_dA X) (g_A X) ax am ao σC σM o' H1 := by
  obtain ⟨adC, adM, AC, AM, e1, e2, hC, hM, ho, hao, h1, h2, h3, h4, h5⟩ := h
  have hm : g_P1m (g_D X) (g_dA X) (g_A X) ax am σC σM H := ⟨adC, adM, AC, AM, e1, e2, hC, hM, h3, h4, h5⟩
  obtain ⟨ws, hP, hD, back⟩ := g_list hC
  obtain ⟨ws', hP', hD', back'⟩ := g_list hM
  have hDD : va_D (g_A X) (ws ++ ws') := g_appD ⟨hD.1, fun i x hx => (h4 _ (hD.2 i x hx)).1⟩ ⟨hD'.1, fun i x hx => (h5 _ (hD'.2 i x hx)).1⟩ (fun i j x y hx hy e => h3 _ (hD.2 i x hx) (by rw [e]; exact hD'.2 j y hy))
  have hD3 : va_D (g_A X) ((ws ++ ws') ++ [(ao, g_outE (g_dA X) o)]) := by
    refine g_appD hDD (g_oneD hao) (fun i j x y hx hy e => ?_)
    have hz : j < 1 := (List.getElem?_eq_some_iff.mp hy).1
    rw [show j = 0 by omega] at hy
    cases hy
    rcases Nat.lt_or_ge i ws.length with hi | hi
    · rw [List.getElem?_append_left hi] at hx
      exact h1 (by have := hD.2 i x hx; rw [e] at this; exact this)
    · rw [List.getElem?_append_right hi] at hx
      exact h2 (by have := hD'.2 _ x hx; rw [e] at this; exact this)
  refine ⟨(ws ++ ws') ++ [(ao, g_outE (g_dA X) o)], (ws ++ ws').length, g_appP (g_appP hP hP') (g_oneP ho), hD3, by rw [List.getElem?_append_right (Nat.le_refl _), Nat.sub_self]; rfl, fun o' H1 hP1 => ?_⟩
  have hs : (ws ++ ws' ++ [(ao, g_outE (g_dA X) o)]).set (ws ++ ws').length (ao, g_outE (g_dA X) o') = ws ++ ws' ++ [(ao, g_outE (g_dA X) o')] := by
    rw [List.set_append_right _ _ (Nat.le_refl _), Nat.sub_self]
    rfl
  rw [hs] at hP1
  have hL := g_appL hP1
  refine ⟨adC, adM, _, _, e1, e2, back H1 (g_appL hL), back' H1 (g_appR hL), g_appR hP1 0 _ rfl, hao, ?_, ?_, ?_, ?_, ?_⟩
  · rintro ⟨i, x, hx⟩
    exact h1 (hD.2 i _ hx)
  · rintro ⟨i, x, hx⟩
    exact h2 (hD'.2 i _ hx)
  · rintro a ⟨i, x, hx⟩ ⟨j, y, hy⟩
    exact h3 a (hD.2 i _ hx) (hD'.2 j _ hy)
  · rintro a ⟨i, x, hx⟩
    exact ⟨(h4 _ (hD.2 i _ hx)).1, va_at.lt (g_appL hL i _ hx)⟩
  · rintro a ⟨i, x, hx⟩
    exact ⟨(h5 _ (hD'.2 i _ hx)).1, va_at.lt (g_appR hL i _ hx)⟩
end LW1
theorem p_iconst {X : g_F} {cc : ByteArray} {own : String} {ret : Option FieldType} {P : Heap → Prop} {w : Nat × Nat} {pc : Nat} {vs : List (Nat × Value)} {st : List Value} (C : g_M gCl X cc own ret) {n : Int} {v : Int32} (hd : decode cc pc = .ok (.iconst n, 1)) (hv : Int32.ofInt n = v) (k : g_YP X P w (pc + 1) vs (.int v :: st)) : g_YP X P w (pc) vs (st) := fun H locs ls hW hS hl => lv_iconst C.1 C.2.1 hd hv (k H locs ls hW hS hl)
theorem p_bipush {X : g_F} {cc : ByteArray} {own : String} {ret : Option FieldType} {P : Heap → Prop} {w : Nat × Nat} {pc : Nat} {vs : List (Nat × Value)} {st : List Value} (C : g_M gCl X cc own ret) {n : Int} {v : Int32} (hd : decode cc pc = .ok (.bipush n, 2)) (hv : (Int8.ofInt n).toInt32 = v) (k : g_YP X P w (pc + 2) vs (.int v :: st)) : g_YP X P w (pc) vs (st) := fun H locs ls hW hS hl => lv_bipush C.1 C.2.1 hd hv (k H locs ls hW hS hl)
theorem p_sipush {X : g_F} {cc : ByteArray} {own : String} {ret : Option FieldType} {P : Heap → Prop} {w : Nat × Nat} {pc : Nat} {vs : List (Nat × Value)} {st : List Value} (C : g_M gCl X cc own ret) {n : Int} {v : Int32} (hd : decode cc pc = .ok (.sipush n, 3)) (hv : (Int16.ofInt n).toInt32 = v) (k : g_YP X P w (pc + 3) vs (.int v :: st)) : g_YP X P w (pc) vs (st) := fun H locs ls hW hS hl => lv_sipush C.1 C.2.1 hd hv (k H locs ls hW hS hl)
theorem p_iload_n {X : g_F} {cc : ByteArray} {own : String} {ret : Option FieldType} {P : Heap → Prop} {w : Nat × Nat} {pc : Nat} {vs : List (Nat × Value)} {st : List Value} (C : g_M gCl X cc own ret) {q : Fin 4} {i : Nat} {x : Int32} (hd : decode cc pc = .ok (.iload_n q, 1)) (j : Nat) (hj : vs[j]? = some (i, .int x)) (hi : (q : Nat) = i) (k : g_YP X P w (pc + 1) vs (.int x :: st)) : g_YP X P w (pc) vs (st) := fun H locs ls hW hS hl => lv_iload_n C.1 C.2.1 hd hi (lv_at hl j hj) (k H locs ls hW hS hl)
theorem p_iload {X : g_F} {cc : ByteArray} {own : String} {ret : Option FieldType} {P : Heap → Prop} {w : Nat × Nat} {pc : Nat} {vs : List (Nat × Value)} {st : List Value} (C : g_M gCl X cc own ret) {i : Nat} {x : Int32} (hd : decode cc pc = .ok (.iload i, 2)) (j : Nat) (hj : vs[j]? = some (i, .int x)) (k : g_YP X P w (pc + 2) vs (.int x :: st)) : g_YP X P w (pc) vs (st) := fun H locs ls hW hS hl => lv_iload C.1 C.2.1 hd (lv_at hl j hj) (k H locs ls hW hS hl)
theorem p_lload {X : g_F} {cc : ByteArray} {own : String} {ret : Option FieldType} {P : Heap → Prop} {w : Nat × Nat} {pc : Nat} {vs : List (Nat × Value)} {st : List Value} (C : g_M gCl X cc own ret) {i : Nat} {x : Int64} (hd : decode cc pc = .ok (.lload i, 2)) (j : Nat) (hj : vs[j]? = some (i, .long x)) (k : g_YP X P w (pc + 2) vs (.long x :: st)) : g_YP X P w (pc) vs (st) := fun H locs ls hW hS hl => lv_lload C.1 C.2.1 hd (lv_at hl j hj) (k H locs ls hW hS hl)
theorem p_aload_n {X : g_F} {cc : ByteArray} {own : String} {ret : Option FieldType} {P : Heap → Prop} {w : Nat × Nat} {pc : Nat} {vs : List (Nat × Value)} {st : List Value} (C : g_M gCl X cc own ret) {q : Fin 4} {i : Nat} {x : Nat} (hd : decode cc pc = .ok (.aload_n q, 1)) (j : Nat) (hj : vs[j]? = some (i, .ref x)) (hi : (q : Nat) = i) (k : g_YP X P w (pc + 1) vs (.ref x :: st)) : g_YP X P w (pc) vs (st) := fun H locs ls hW hS hl => lv_aload_n C.1 C.2.1 hd hi (lv_at hl j hj) (k H locs ls hW hS hl)
theorem p_aload {X : g_F} {cc : ByteArray} {own : String} {ret : Option FieldType} {P : Heap → Prop} {w : Nat × Nat} {pc : Nat} {vs : List (Nat × Value)} {st : List Value} (C : g_M gCl X cc own ret) {i : Nat} {x : Nat} (hd : decode cc pc = .ok (.aload i, 2)) (j : Nat) (hj : vs[j]? = some (i, .ref x)) (k : g_YP X P w (pc + 2) vs (.ref x :: st)) : g_YP X P w (pc) vs (st) := fun H locs ls hW hS hl => lv_aload C.1 C.2.1 hd (lv_at hl j hj) (k H locs ls hW hS hl)
theorem p_istore_n {X : g_F} {cc : ByteArray} {own : String} {ret : Option FieldType} {P : Heap → Prop} {w : Nat × Nat} {pc : Nat} {vs : List (Nat × Value)} {st : List Value} (C : g_M gCl X cc own ret) {q : Fin 4} {i : Nat} {x x1 : Int32} {vs1 : List (Nat × Value)} (e : x1 = x) (hd : decode cc pc = .ok (.istore_n q, 1)) (hi : (q : Nat) = i) (hn : i < g_nL X) (hv : (i, Value.int x1) :: vs.filter (fun q => !(q.1 == i) && !(q.1 + 1 == i && q.2.category == 2)) = vs1) (k : g_YP X P w (pc + 1) vs1 (st)) : g_YP X P w (pc) vs (.int x :: st) := by subst e; exact fun H locs ls hW hS hl => lv_istore_n C.1 C.2.1 hd hi hl hn hv (fun ls1 hl1 => k H locs ls1 hW hS hl1)
theorem p_istore {X : g_F} {cc : ByteArray} {own : String} {ret : Option FieldType} {P : Heap → Prop} {w : Nat × Nat} {pc : Nat} {vs : List (Nat × Value)} {st : List Value} (C : g_M gCl X cc own ret) {i : Nat} {x x1 : Int32} {vs1 : List (Nat × Value)} (e : x1 = x) (hd : decode cc pc = .ok (.istore i, 2)) (hn : i < g_nL X) (hv : (i, Value.int x1) :: vs.filter (fun q => !(q.1 == i) && !(q.1 + 1 == i && q.2.category == 2)) = vs1) (k : g_YP X P w (pc + 2) vs1 (st)) : g_YP X P w (pc) vs (.int x :: st) := by subst e; exact fun H locs ls hW hS hl => lv_istore C.1 C.2.1 hd hl hn hv (fun ls1 hl1 => k H locs ls1 hW hS hl1)
theorem p_lstore {X : g_F} {cc : ByteArray} {own : String} {ret : Option FieldType} {P : Heap → Prop} {w : Nat × Nat} {pc : Nat} {vs : List (Nat × Value)} {st : List Value} (C : g_M gCl X cc own ret) {i : Nat} {x x1 : Int64} {vs1 : List (Nat × Value)} (e : x1 = x) (hd : decode cc pc = .ok (.lstore i, 2)) (hn : i + 1 < g_nL X) (hv : (i, Value.long x1) :: vs.filter (fun q => !(q.1 == i) && (!(q.1 == i + 1) && !(q.1 + 1 == i && q.2.category == 2))) = vs1) (k : g_YP X P w (pc + 2) vs1 (st)) : g_YP X P w (pc) vs (.long x :: st) := by subst e; exact fun H locs ls hW hS hl => lv_lstore C.1 C.2.1 hd hl hn hv (fun ls1 hl1 => k H locs ls1 hW hS hl1)
theorem p_astore_n {X : g_F} {cc : ByteArray} {own : String} {ret : Option FieldType} {P : Heap → Prop} {w : Nat × Nat} {pc : Nat} {vs : List (Nat × Value)} {st : List Value} (C : g_M gCl X cc own ret) {q : Fin 4} {i : Nat} {x x1 : Nat} {vs1 : List (Nat × Value)} (e : x1 = x) (hd : decode cc pc = .ok (.astore_n q, 1)) (hi : (q : Nat) = i) (hn : i < g_nL X) (hv : (i, Value.ref x1) :: vs.filter (fun q => !(q.1 == i) && !(q.1 + 1 == i && q.2.category == 2)) = vs1) (k : g_YP X P w (pc + 1) vs1 (st)) : g_YP X P w (pc) vs (.ref x :: st) := by subst e; exact fun H locs ls hW hS hl => lv_astore_n C.1 C.2.1 hd hi hl hn hv (fun ls1 hl1 => k H locs ls1 hW hS hl1)
theorem p_astore {X : g_F} {cc : ByteArray} {own : String} {ret : Option FieldType} {P : Heap → Prop} {w : Nat × Nat} {pc : Nat} {vs : List (Nat × Value)} {st : List Value} (C : g_M gCl X cc own ret) {i : Nat} {x x1 : Nat} {vs1 : List (Nat × Value)} (e : x1 = x) (hd : decode cc pc = .ok (.astore i, 2)) (hn : i < g_nL X) (hv : (i, Value.ref x1) :: vs.filter (fun q => !(q.1 == i) && !(q.1 + 1 == i && q.2.category == 2)) = vs1) (k : g_YP X P w (pc + 2) vs1 (st)) : g_YP X P w (pc) vs (.ref x :: st) := by subst e; exact fun H locs ls hW hS hl => lv_astore C.1 C.2.1 hd hl hn hv (fun ls1 hl1 => k H locs ls1 hW hS hl1)
theorem p_iinc {X : g_F} {cc : ByteArray} {own : String} {ret : Option FieldType} {P : Heap → Prop} {w : Nat × Nat} {pc : Nat} {vs : List (Nat × Value)} {st : List Value} (C : g_M gCl X cc own ret) {i : Nat} {n : Int} {x v c : Int32} {vs1 : List (Nat × Value)} (e : v = x + c) (hc : Int32.ofInt n = c) (hd : decode cc pc = .ok (.iinc i n, 3)) (j : Nat) (hj : vs[j]? = some (i, .int x)) (hn : i < g_nL X) (hl2 : (i, Value.int v) :: vs.filter (fun q => !(q.1 == i) && !(q.1 + 1 == i && q.2.category == 2)) = vs1) (k : g_YP X P w (pc + 3) vs1 (st)) : g_YP X P w (pc) vs (st) := fun H locs ls hW hS hl => lv_iinc C.1 C.2.1 hd hl (k := j) hj (by rw [e, hc]) hn hl2 (fun ls1 hl1 => k H locs ls1 hW hS hl1)
theorem p_iadd {X : g_F} {cc : ByteArray} {own : String} {ret : Option FieldType} {P : Heap → Prop} {w : Nat × Nat} {pc : Nat} {vs : List (Nat × Value)} {st : List Value} (C : g_M gCl X cc own ret) {x y : Int32} (hd : decode cc pc = .ok (.iadd, 1))  (k : g_YP X P w (pc + 1) vs (.int (x + y) :: st)) : g_YP X P w (pc) vs (.int y :: .int x :: st) := fun H locs ls hW hS hl => lv_iadd C.1 C.2.1 hd  (k H locs ls hW hS hl)
theorem p_isub {X : g_F} {cc : ByteArray} {own : String} {ret : Option FieldType} {P : Heap → Prop} {w : Nat × Nat} {pc : Nat} {vs : List (Nat × Value)} {st : List Value} (C : g_M gCl X cc own ret) {x y : Int32} (hd : decode cc pc = .ok (.isub, 1))  (k : g_YP X P w (pc + 1) vs (.int (x - y) :: st)) : g_YP X P w (pc) vs (.int y :: .int x :: st) := fun H locs ls hW hS hl => lv_isub C.1 C.2.1 hd  (k H locs ls hW hS hl)
theorem p_iand {X : g_F} {cc : ByteArray} {own : String} {ret : Option FieldType} {P : Heap → Prop} {w : Nat × Nat} {pc : Nat} {vs : List (Nat × Value)} {st : List Value} (C : g_M gCl X cc own ret) {x y : Int32} (hd : decode cc pc = .ok (.iand, 1))  (k : g_YP X P w (pc + 1) vs (.int (x &&& y) :: st)) : g_YP X P w (pc) vs (.int y :: .int x :: st) := fun H locs ls hW hS hl => lv_iand C.1 C.2.1 hd  (k H locs ls hW hS hl)
theorem p_i2l {X : g_F} {cc : ByteArray} {own : String} {ret : Option FieldType} {P : Heap → Prop} {w : Nat × Nat} {pc : Nat} {vs : List (Nat × Value)} {st : List Value} (C : g_M gCl X cc own ret) {x : Int32} (hd : decode cc pc = .ok (.i2l, 1))  (k : g_YP X P w (pc + 1) vs (.long (x.toInt64) :: st)) : g_YP X P w (pc) vs (.int x :: st) := fun H locs ls hW hS hl => lv_i2l C.1 C.2.1 hd rfl (k H locs ls hW hS hl)
theorem p_lcmp {X : g_F} {cc : ByteArray} {own : String} {ret : Option FieldType} {P : Heap → Prop} {w : Nat × Nat} {pc : Nat} {vs : List (Nat × Value)} {st : List Value} (C : g_M gCl X cc own ret) {x y : Int64} (hd : decode cc pc = .ok (.lcmp, 1)) (k : g_YP X P w (pc + 1) vs (.int (lg_cmp x y) :: st)) : g_YP X P w (pc) vs (.long y :: .long x :: st) := fun H locs ls hW hS hl => W.lcmp C.1 C.2.1 hd (k H locs ls hW hS hl)
theorem p_dup {X : g_F} {cc : ByteArray} {own : String} {ret : Option FieldType} {P : Heap → Prop} {w : Nat × Nat} {pc : Nat} {vs : List (Nat × Value)} {st : List Value} (C : g_M gCl X cc own ret) {va : Value} (hd : decode cc pc = .ok (.dup, 1)) (hva : va.category = 1) (k : g_YP X P w (pc + 1) vs (va :: va :: st)) : g_YP X P w (pc) vs (va :: st) := fun H locs ls hW hS hl => lv_dup C.1 C.2.1 hd hva (k H locs ls hW hS hl)
theorem p_goto {X : g_F} {cc : ByteArray} {own : String} {ret : Option FieldType} {P : Heap → Prop} {w : Nat × Nat} {pc : Nat} {vs : List (Nat × Value)} {st : List Value} (C : g_M gCl X cc own ret) {off : Int} {tgt : Nat} (hd : decode cc pc = .ok (.goto off, 3)) (ht : (pc : Int) + off = (tgt : Int)) (k : g_YP X P w (tgt) vs (st)) : g_YP X P w (pc) vs (st) := fun H locs ls hW hS hl => lv_goto C.1 C.2.1 hd ht (k H locs ls hW hS hl)
theorem p_if_eq {X : g_F} {cc : ByteArray} {own : String} {ret : Option FieldType} {P : Heap → Prop} {w : Nat × Nat} {pc : Nat} {vs : List (Nat × Value)} {st : List Value} (C : g_M gCl X cc own ret) {x : Int32} {off : Int} {tgt : Nat} (hd : decode cc pc = .ok (.ifCond .eq off, 3)) (ht : (pc : Int) + off = (tgt : Int)) (kt : x = 0 → g_YP X P w (tgt) vs (st)) (kf : ¬ x = 0 → g_YP X P w (pc + 3) vs (st)) : g_YP X P w (pc) vs (.int x :: st) := fun H locs ls hW hS hl => lv_if_eq C.1 C.2.1 hd ht (fun q => kt q H locs ls hW hS hl) (fun q => kf q H locs ls hW hS hl)
theorem p_icmp_eq {X : g_F} {cc : ByteArray} {own : String} {ret : Option FieldType} {P : Heap → Prop} {w : Nat × Nat} {pc : Nat} {vs : List (Nat × Value)} {st : List Value} (C : g_M gCl X cc own ret) {x y : Int32} {off : Int} {tgt : Nat} (hd : decode cc pc = .ok (.if_icmp .eq off, 3)) (ht : (pc : Int) + off = (tgt : Int)) (kt : x = y → g_YP X P w (tgt) vs (st)) (kf : ¬ x = y → g_YP X P w (pc + 3) vs (st)) : g_YP X P w (pc) vs (.int y :: .int x :: st) := fun H locs ls hW hS hl => lv_icmp_eq C.1 C.2.1 hd ht (fun q => kt q H locs ls hW hS hl) (fun q => kf q H locs ls hW hS hl)
theorem p_icmp_gt {X : g_F} {cc : ByteArray} {own : String} {ret : Option FieldType} {P : Heap → Prop} {w : Nat × Nat} {pc : Nat} {vs : List (Nat × Value)} {st : List Value} (C : g_M gCl X cc own ret) {x y : Int32} {off : Int} {tgt : Nat} (hd : decode cc pc = .ok (.if_icmp .gt off, 3)) (ht : (pc : Int) + off = (tgt : Int)) (kt : y < x → g_YP X P w (tgt) vs (st)) (kf : ¬ y < x → g_YP X P w (pc + 3) vs (st)) : g_YP X P w (pc) vs (.int y :: .int x :: st) := fun H locs ls hW hS hl => lv_icmp_gt C.1 C.2.1 hd ht (fun q => kt q H locs ls hW hS hl) (fun q => kf q H locs ls hW hS hl)
theorem p_if_ne {X : g_F} {cc : ByteArray} {own : String} {ret : Option FieldType} {P : Heap → Prop} {w : Nat × Nat} {pc : Nat} {vs : List (Nat × Value)} {st : List Value} (C : g_M gCl X cc own ret) {x : Int32} {off : Int} {tgt : Nat} (hd : decode cc pc = .ok (.ifCond .ne off, 3)) (ht : (pc : Int) + off = (tgt : Int)) (kt : ¬ x = 0 → g_YP X P w (tgt) vs (st)) (kf : x = 0 → g_YP X P w (pc + 3) vs (st)) : g_YP X P w (pc) vs (.int x :: st) := fun H locs ls hW hS hl => lv_if_ne C.1 C.2.1 hd ht (fun q => kt q H locs ls hW hS hl) (fun q => kf q H locs ls hW hS hl)
theorem p_icmp_ne {X : g_F} {cc : ByteArray} {own : String} {ret : Option FieldType} {P : Heap → Prop} {w : Nat × Nat} {pc : Nat} {vs : List (Nat × Value)} {st : List Value} (C : g_M gCl X cc own ret) {x y : Int32} {off : Int} {tgt : Nat} (hd : decode cc pc = .ok (.if_icmp .ne off, 3)) (ht : (pc : Int) + off = (tgt : Int)) (kt : ¬ x = y → g_YP X P w (tgt) vs (st)) (kf : x = y → g_YP X P w (pc + 3) vs (st)) : g_YP X P w (pc) vs (.int y :: .int x :: st) := fun H locs ls hW hS hl => lv_icmp_ne C.1 C.2.1 hd ht (fun q => kt q H locs ls hW hS hl) (fun q => kf q H locs ls hW hS hl)
theorem p_tswI {X : g_F} {cc : ByteArray} {own : String} {ret : Option FieldType} {P : Heap → Prop} {w : Nat × Nat} {pc : Nat} {vs : List (Nat × Value)} {st : List Value} (C : g_M gCl X cc own ret) {dflt lo hi : Int} {offs : Array Int} {len : Nat} {x kk : Int32} {off : Int} {tgt : Nat} (hd : decode cc pc = .ok (.tableswitch dflt lo hi offs, len)) (e : x = kk) (h : ¬ kk.toInt < lo ∧ ¬ hi < kk.toInt ∧ offs[(kk.toInt - lo).toNat]? = some off) (ht : (pc : Int) + off = (tgt : Int)) (k : g_YP X P w (tgt) vs (st)) : g_YP X P w (pc) vs (.int x :: st) := by subst e; exact fun H locs ls hW hS hl => lv_tableIn C.1 C.2.1 hd h.1 h.2.1 h.2.2 ht (k H locs ls hW hS hl)
theorem p_tswO {X : g_F} {cc : ByteArray} {own : String} {ret : Option FieldType} {P : Heap → Prop} {w : Nat × Nat} {pc : Nat} {vs : List (Nat × Value)} {st : List Value} (C : g_M gCl X cc own ret) {dflt lo hi : Int} {offs : Array Int} {len : Nat} {x : Int32} {tgt : Nat} (hd : decode cc pc = .ok (.tableswitch dflt lo hi offs, len)) (h : x.toInt < lo ∨ hi < x.toInt) (ht : (pc : Int) + dflt = (tgt : Int)) (k : g_YP X P w (tgt) vs (st)) : g_YP X P w (pc) vs (.int x :: st) := fun H locs ls hW hS hl => lv_tableOut C.1 C.2.1 hd h ht (k H locs ls hW hS hl)
section LW2
variable {X : g_F} {cc : ByteArray} {own : String} {ret : Option FieldType} {P : Heap → Prop} {w : Nat × Nat} {pc : Nat} {vs : List (Nat × Value)} {st : List Value}
theorem p_widen {w2 : Nat × Nat} (h : w.1 ≤ w2.1 ∧ w.2 ≤ w2.2) (kk : g_YP X P w2 pc vs st) : g_YP X P w pc vs st := fun H locs ls hW hS hl => W.widen h.1 h.2 (kk H locs ls hW hS hl)
theorem p_sub {vs2 : List (Nat × Value)} (ks : List Nat) (h : lv_pick vs ks = vs2) (kk : g_YP X P w pc vs2 st) : g_YP X P w pc vs st := fun H locs ls hW hS hl => kk H locs ls hW hS (lv_sub hl ks h)
theorem g_cmp0 (x : Int64) : lg_cmp x x = 0 := by unfold lg_cmp; simp
theorem p_mono {P1 : Heap → Prop} (h : ∀ H, P H → P1 H) (kk : g_YP X P1 w pc vs st) : g_YP X P w pc vs st := fun H locs ls hW hS hl => kk H locs ls (h H hW) hS hl
theorem p_new {P1 : Nat → Heap → Prop} {C1 : String} {T : u_T} {N ci index : Nat} {fs : List Value} (C : g_M gCl X cc own ret) (hin : ∀ w ∈ u_ws C1 T N, w ∈ lw_all) (ty : Nat → FieldType) (hty : ∀ k, k < N → parseFieldDescriptor (T k).2.2.1 = some (ty k)) (qc : Cond.classLink own index C1 ∈ lw_all) (qi : Cond.instantiable C1 N ∈ lw_all) (qn : Cond.initialized C1 ∈ lw_all)
    (hc : gCl[ci]? = some (C1, T, N)) (hfs : ∀ j, j < N → defaultValue (ty j) = vp_V fs j) (hf : w.1 + 1 ≤ (g_R X).cells ∧ w.2 + N ≤ (g_R X).slots) (hd : decode cc pc = .ok (.new index, 3))
    (hP : ∀ H, P H → ∃ ws : va_W, va_P (g_D X) gCl ws H ∧ va_D (g_A X) ws ∧ ∀ q H1, va_P (g_D X) gCl (ws ++ [(q, .inr (ci, fs))]) H1 → va_D (g_A X) (ws ++ [(q, .inr (ci, fs))]) → P1 q H1)
    (kk : ∀ q, g_YP X (P1 q) (w.1 + 1, w.2 + N) (pc + 3) vs (.ref q :: st)) : g_YP X P w pc vs st := by
  intro H locs ls hW hS hl
  obtain ⟨ws, hP1, hD, hnew⟩ := hP H hW
  refine va_new (ci := ci) (fs := fs) C.1 C.2.1 C.2.2.2.2.1 hin ty hty C.2.2.2.1 (C.2.2.2.2.1 _ qc) (C.2.2.2.2.1 _ qi) (C.2.2.2.2.1 _ qn) C.2.2.2.2.2.2.2.2.1 hP1 hD hS C.2.2.2.2.2.2.2.1 hc hfs hf.1 hf.2 hd (fun q H1 hP1 hD1 hS1 => ?_)
  exact kk q H1 locs ls (hnew q H1 hP1 hD1) hS1 hl
theorem p_newL {P1 : Nat → Heap → Prop} (C : g_M gCl X cc own ret) (q1 : Cond.arrayClass .long ∈ lw_all) (hf : w.1 + 1 ≤ (g_R X).cells ∧ w.2 + 1 ≤ (g_R X).slots) (hd : decode cc pc = .ok (.newarray .long, 2))
    (hP : ∀ H, P H → ∃ ws : va_W, va_P (g_D X) gCl ws H ∧ va_D (g_A X) ws ∧ ∀ q H1, va_P (g_D X) gCl (ws ++ [(q, g_outE (g_dA X) 0)]) H1 → va_D (g_A X) (ws ++ [(q, g_outE (g_dA X) 0)]) → P1 q H1)
    (kk : ∀ q, g_YP X (P1 q) (w.1 + 1, w.2 + 1) (pc + 2) vs (.ref q :: st)) : g_YP X P w pc vs (.int 1 :: st) := by
  intro H locs ls hW hS hl
  obtain ⟨ws, hP1, hD, hnew⟩ := hP H hW
  have hK := C.2.2.2.2.2.2.2.2.1
  refine va_newa (atype := .long) (n := 1) (ty := .long) (a0 := (1, .inr (.inl fun _ => 0))) C.1 C.2.1 (C.2.2.2.2.1 _ q1) rfl hK hP1 hD hS C.2.2.2.2.2.2.2.1 (fun _ => rfl) (by decide) rfl (by decide) hf.1 hf.2 hd (fun q cA H1 hK1 hP1 hD1 hS1 => ?_)
  have h1 := g_RA (hK1.2 (g_tys (g_dA X)).length (cA, .long) (by rw [List.getElem?_append_right (Nat.le_refl _), Nat.sub_self]; rfl)).2
  have h2 := g_RA (hK.2 1 _ rfl).2
  have h3 : cA = g_dA X 1 := Option.some.inj (h1.symm.trans h2)
  subst h3
  exact kk q H1 locs ls (hnew q H1 hP1 hD1) hS1 hl
theorem p_last {ax am ao : Nat} {σC σM : g_S} {o x : Int64} (C : g_M gCl X cc own ret) (hd : decode cc pc = .ok (.lastore, 1)) (kk : g_YP X (g_P2 (g_D X) (g_dA X) (g_A X) ax am ao σC σM x) w (pc + 1) vs st) : g_YP X (g_P2 (g_D X) (g_dA X) (g_A X) ax am ao σC σM o) w pc vs (.long x :: .int 0 :: .ref ao :: st) := by
  intro H locs ls hW hS hl
  obtain ⟨ws, q0, hP, hD, hq, back⟩ := hW.list
  refine va_last C.1 C.2.1 C.2.2.2.2.2.2.2.2.1 hP hD hS q0 1 hq rfl (g_in_vp (by decide)) hd (fun H1 locs1 hP1 _ hS1 => kk H1 locs1 ls (back x H1 ?_) hS1 hl)
  intro i y hy
  by_cases hi : q0 = i
  · subst hi
    rw [List.getElem?_set_self (List.getElem?_eq_some_iff.mp hq).1] at hy
    cases hy
    have h1 := hP1 q0 _ (List.getElem?_set_self (List.getElem?_eq_some_iff.mp hq).1)
    have he : arrV (g_dA X 1) 1 (fun j => Value.long (vp_updL (fun _ => o) (Int32.toNatClampNeg 0) x j)) = arrV (g_dA X 1) 1 (fun _ => Value.long x) := rfl
    show H1[ao]? = some (arrV (g_dA X 1) 1 (fun _ => Value.long x))
    rw [← he]
    exact h1
  · rw [List.getElem?_set_ne hi] at hy
    exact hP1 i y (by rw [List.getElem?_set_ne hi]; exact hy)
theorem p_lald {ax am ao : Nat} {σC σM : g_S} {o : Int64} (C : g_M gCl X cc own ret) (hd : decode cc pc = .ok (.laload, 1)) (kk : g_YP X (g_P2 (g_D X) (g_dA X) (g_A X) ax am ao σC σM o) w (pc + 1) vs (.long o :: st)) : g_YP X (g_P2 (g_D X) (g_dA X) (g_A X) ax am ao σC σM o) w pc vs (.int 0 :: .ref ao :: st) := by
  intro H locs ls hW hS hl
  obtain ⟨ws, q0, hP, hD, hq, back⟩ := hW.list
  exact va_lald C.1 C.2.1 C.2.2.2.2.2.2.2.2.1 hP q0 1 hq rfl (g_in_vp (by decide)) hd (kk H locs ls hW hS hl)
/-- where a call starts -/
theorem g_startA {LM : g_L} {ad : Nat → Nat → Nat} {σ : g_S} {A' : Nat → Prop} {H : Heap} {locs : List Loc} {av : List Value} (C : g_M gCl X cc own ret) (hW : g_W gCl (g_D X) (g_dA X) LM ad σ A' H) (h1 : ∀ q, A' q → g_A X q) (h2 : ∀ q, H.size ≤ q → A' q) (hS : va_S (g_A X) (g_s X).heap H locs) : ∀ U : State, U.heap = H → (g_s X).WarmedH U.vm → va_Pc av (g_B gCl (g_D X) (g_dA X) LM ad σ A' (g_s0 X) (g_b0 X)) av.toArray U := by
  intro U hU hWm
  subst hU
  exact ⟨rfl, hW, (C.2.2.2.2.2.2.2.2.moved hS hWm).sub h1, h2⟩
section CALLS
variable {LM LM1 : g_L} {a : Nat} {σ : g_S} {P1 : g_S → Heap → Prop} {y : MethodName} {bytes : ByteArray} {nL1 n na index : Nat} {ret1 : Option FieldType} {w1 : Nat × Nat} {As rest : List Value} {C1 : String} {ci N1 : Nat} {T1 : u_T}
theorem p_callV {σ1 : g_S} {v : Value} (C : g_M gCl X cc own ret) (sp : g_spl X P LM LM a σ P1) (hc : gCl[ci]? = some (C1, T1, N1)) (hu : 0 < g_n LM 0) (hob : ∀ ad, g_obj LM (g_dA X) ad σ 0 0 ci) (cw : CallW (g_R X) (g_s X) (g_as X) own C1 index y bytes nL1 ret1 (ws_ y bytes nL1 ret1) (g_rm n w1.1 w1.2) w1.1 w1.2 na)
    (hM : ∀ (ad : Nat → Nat → Nat) (A' : Nat → Prop), g_Met gCl (g_D X) (g_dA X) A' (g_s0 X) (g_b0 X) (g_l X) y bytes nL1 ret1 n w1 LM ad σ (.ref (ad 0 0) :: As) LM ad σ1 (some v)) (hst : st = As.reverse ++ .ref a :: rest) (hn : As.length = na) (hcat : (rest.map fun v => v.category).sum ≤ 8) (hf : w.1 + w1.1 ≤ (g_R X).cells ∧ w.2 + w1.2 ≤ (g_R X).slots) (hd : decode cc pc = .ok (.invokevirtual index, 3))
    (kk : g_YP X (P1 σ1) (w.1 + w1.1, w.2 + w1.2) (pc + 3) vs (v :: rest)) : g_YP X P w pc vs st := by
  intro H locs ls hW hS hl
  subst hst
  obtain ⟨ad, A', ha, h1, h2, hw, back⟩ := sp H (fun q hq => C.2.2.2.2.2.2.2.1 q (Nat.le_trans hS.1 hq)) hW
  subst ha
  exact g_goF0 (va_runV ⟨C.1, C.2.1, C.2.2.1, C.2.2.2.1, C.2.2.2.2.1⟩ (hM ad A') cw ⟨g_blind, g_recv C.2.2.2.2.2.2.2.2.1 hw hu hc (hob ad), g_startA C hw h1 h2 hS⟩ rfl hn hl.1 rfl (lv_room hcat) hd hf) hS h1 (fun H1 locs1 hw1 hs hk hS1 => kk H1 locs1 ls (back ad σ1 H1 rfl hw1 hs hk) hS1 hl)
theorem p_callVG {Z : Option Value → g_S → Prop} {Z1 : (Nat → Nat → Nat) → Option Value → (Nat → Nat → Nat) → g_S → Prop} (C : g_M gCl X cc own ret) (sp : g_spl X P LM LM1 a σ P1) (hc : gCl[ci]? = some (C1, T1, N1)) (hu : 0 < g_n LM 0) (hob : ∀ ad, g_obj LM (g_dA X) ad σ 0 0 ci) (cw : CallW (g_R X) (g_s X) (g_as X) own C1 index y bytes nL1 ret1 (ws_ y bytes nL1 ret1) (g_rm n w1.1 w1.2) w1.1 w1.2 na)
    (hM : ∀ (ad : Nat → Nat → Nat) (A' : Nat → Prop), g_MetG gCl (g_D X) (g_dA X) A' (g_s0 X) (g_b0 X) (g_l X) y (ws_ y bytes nL1 ret1) n w1 LM ad σ (.ref (ad 0 0) :: As) LM1 (Z1 ad) (fun _ _ _ _ => False)) (hz1 : ∀ ad v ad2 s2, Z1 ad v ad2 s2 → Z v s2 ∧ ad2 0 0 = ad 0 0) (hst : st = As.reverse ++ .ref a :: rest) (hn : As.length = na) (hcat : (rest.map fun v => v.category).sum ≤ 8) (hf : w.1 + w1.1 ≤ (g_R X).cells ∧ w.2 + w1.2 ≤ (g_R X).slots) (hd : decode cc pc = .ok (.invokevirtual index, 3))
    (kk : ∀ v s2, Z v s2 → g_YP X (P1 s2) (w.1 + w1.1, w.2 + w1.2) (pc + 3) vs (v.toList ++ rest)) : g_YP X P w pc vs st := by
  intro H locs ls hW hS hl
  subst hst
  obtain ⟨ad, A', ha, h1, h2, hw, back⟩ := sp H (fun q hq => C.2.2.2.2.2.2.2.1 q (Nat.le_trans hS.1 hq)) hW
  subst ha
  exact g_goF (vx_runV ⟨C.1, C.2.1, C.2.2.1, C.2.2.2.1, C.2.2.2.2.1⟩ (hM ad A') cw ⟨g_blind, g_recv C.2.2.2.2.2.2.2.2.1 hw hu hc (hob ad), g_startA C hw h1 h2 hS⟩ rfl hn hl.1 rfl (lv_room hcat) hd hf) hS h1 (fun v ad2 s2 H1 locs1 hz hw1 hs hk hS1 => kk v s2 (hz1 ad v ad2 s2 hz).1 H1 locs1 ls (back ad2 s2 H1 (hz1 ad v ad2 s2 hz).2 hw1 hs hk) hS1 hl) (fun E q ad2 s2 ce H1 locs1 hz => hz.elim)
theorem p_callVH {hh : List (Nat × Nat × Nat × Nat)} {Z : Option Value → g_S → Prop} {Z1 : (Nat → Nat → Nat) → Option Value → (Nat → Nat → Nat) → g_S → Prop} (C : g_M gCl X cc own ret) (sp : g_spl X P LM LM1 a σ P1) (hc : gCl[ci]? = some (C1, T1, N1)) (hu : 0 < g_n LM 0) (hob : ∀ ad, g_obj LM (g_dA X) ad σ 0 0 ci) (cw : vx_CVW (g_R X) (g_s X) (g_as X) own C1 index y bytes nL1 ret1 hh (wsW_ y bytes nL1 ret1 hh) (g_rm n w1.1 w1.2) w1.1 w1.2 na)
    (hM : ∀ (ad : Nat → Nat → Nat) (A' : Nat → Prop), g_MetG gCl (g_D X) (g_dA X) A' (g_s0 X) (g_b0 X) (g_l X) y (wsW_ y bytes nL1 ret1 hh) n w1 LM ad σ (.ref (ad 0 0) :: As) LM1 (Z1 ad) (fun _ _ _ _ => False)) (hz1 : ∀ ad v ad2 s2, Z1 ad v ad2 s2 → Z v s2 ∧ ad2 0 0 = ad 0 0) (hst : st = As.reverse ++ .ref a :: rest) (hn : As.length = na) (hcat : (rest.map fun v => v.category).sum ≤ 8) (hf : w.1 + w1.1 ≤ (g_R X).cells ∧ w.2 + w1.2 ≤ (g_R X).slots) (hd : decode cc pc = .ok (.invokevirtual index, 3))
    (kk : ∀ v s2, Z v s2 → g_YP X (P1 s2) (w.1 + w1.1, w.2 + w1.2) (pc + 3) vs (v.toList ++ rest)) : g_YP X P w pc vs st := by
  intro H locs ls hW hS hl
  subst hst
  obtain ⟨ad, A', ha, h1, h2, hw, back⟩ := sp H (fun q hq => C.2.2.2.2.2.2.2.1 q (Nat.le_trans hS.1 hq)) hW
  subst ha
  exact g_goF (vx_runVX ⟨C.1, C.2.1, C.2.2.1, C.2.2.2.1, C.2.2.2.2.1⟩ (hM ad A') cw ⟨g_blind, g_recv C.2.2.2.2.2.2.2.2.1 hw hu hc (hob ad), g_startA C hw h1 h2 hS⟩ rfl hn hl.1 rfl (lv_room hcat) hd hf) hS h1 (fun v ad2 s2 H1 locs1 hz hw1 hs hk hS1 => kk v s2 (hz1 ad v ad2 s2 hz).1 H1 locs1 ls (back ad2 s2 H1 (hz1 ad v ad2 s2 hz).2 hw1 hs hk) hS1 hl) (fun E q ad2 s2 ce H1 locs1 hz => hz.elim)
/-- a call that may throw -/
theorem p_callVT {Z : Option Value → g_S → Prop} {Z2 : String → Nat → g_S → Prop} {Z1 : (Nat → Nat → Nat) → Option Value → (Nat → Nat → Nat) → g_S → Prop} {Z3 : (Nat → Nat → Nat) → String → Nat → (Nat → Nat → Nat) → g_S → Prop} (C : g_M gCl X cc own ret) (sp : g_spl X P LM LM1 a σ P1) (hc : gCl[ci]? = some (C1, T1, N1)) (hu : 0 < g_n LM 0) (hob : ∀ ad, g_obj LM (g_dA X) ad σ 0 0 ci) (cw : CallW (g_R X) (g_s X) (g_as X) own C1 index y bytes nL1 ret1 (ws_ y bytes nL1 ret1) (g_rm n w1.1 w1.2) w1.1 w1.2 na)
    (hM : ∀ (ad : Nat → Nat → Nat) (A' : Nat → Prop), g_MetG gCl (g_D X) (g_dA X) A' (g_s0 X) (g_b0 X) (g_l X) y (ws_ y bytes nL1 ret1) n w1 LM ad σ (.ref (ad 0 0) :: As) LM1 (Z1 ad) (Z3 ad)) (hz1 : ∀ ad v ad2 s2, Z1 ad v ad2 s2 → Z v s2 ∧ ad2 0 0 = ad 0 0) (hz3 : ∀ ad E q ad2 s2, Z3 ad E q ad2 s2 → Z2 E q s2 ∧ ad2 0 0 = ad 0 0) (hst : st = As.reverse ++ .ref a :: rest) (hn : As.length = na) (hcat : (rest.map fun v => v.category).sum ≤ 8) (hf : w.1 + w1.1 ≤ (g_R X).cells ∧ w.2 + w1.2 ≤ (g_R X).slots) (hd : decode cc pc = .ok (.invokevirtual index, 3))
    (kk : ∀ v s2, Z v s2 → g_YP X (P1 s2) (w.1 + w1.1, w.2 + w1.2) (pc + 3) vs (v.toList ++ rest)) (kx : ∀ E q s2, Z2 E q s2 → g_TP X (P1 s2) (w.1 + w1.1, w.2 + w1.2) pc vs E q) : g_YP X P w pc vs st := by
  intro H locs ls hW hS hl
  subst hst
  obtain ⟨ad, A', ha, h1, h2, hw, back⟩ := sp H (fun q hq => C.2.2.2.2.2.2.2.1 q (Nat.le_trans hS.1 hq)) hW
  subst ha
  exact g_goF (vx_runV ⟨C.1, C.2.1, C.2.2.1, C.2.2.2.1, C.2.2.2.2.1⟩ (hM ad A') cw ⟨g_blind, g_recv C.2.2.2.2.2.2.2.2.1 hw hu hc (hob ad), g_startA C hw h1 h2 hS⟩ rfl hn hl.1 rfl (lv_room hcat) hd hf) hS h1 (fun v ad2 s2 H1 locs1 hz hw1 hs hk hS1 => kk v s2 (hz1 ad v ad2 s2 hz).1 H1 locs1 ls (back ad2 s2 H1 (hz1 ad v ad2 s2 hz).2 hw1 hs hk) hS1 hl) (fun E q ad2 s2 ce H1 locs1 hz hw1 hs hk hS1 g1 g2 g3 => kx E q s2 (hz3 ad E q ad2 s2 hz).1 H1 locs1 ls rest ce (back ad2 s2 H1 (hz3 ad E q ad2 s2 hz).2 hw1 hs hk) hS1 hl g1 g2 g3)
theorem p_callIG {Z : g_S → Prop} {Z1 : (Nat → Nat → Nat) → Option Value → (Nat → Nat → Nat) → g_S → Prop} (C : g_M gCl X cc own ret) (sp : g_spl X P LM LM1 a σ P1) (cw : CallB (g_R X) (g_s X) (g_as X) own index y bytes nL1 none (ws_ y bytes nL1 none) (g_rm n w1.1 w1.2) w1.1 w1.2 na ∧ y.name = "<init>" ∧ (Cond.instanceMethod y).before (g_as X) (g_s X) = true)
    (hM : ∀ (ad : Nat → Nat → Nat) (A' : Nat → Prop), g_MetG gCl (g_D X) (g_dA X) A' (g_s0 X) (g_b0 X) (g_l X) y (ws_ y bytes nL1 none) n w1 LM ad σ (.ref (ad 0 0) :: As) LM1 (Z1 ad) (fun _ _ _ _ => False)) (hz1 : ∀ ad v ad2 s2, Z1 ad v ad2 s2 → (v = none ∧ Z s2) ∧ ad2 0 0 = ad 0 0) (hst : st = As.reverse ++ .ref a :: rest) (hn : As.length = na) (hcat : (rest.map fun v => v.category).sum ≤ 8) (hf : w.1 + w1.1 ≤ (g_R X).cells ∧ w.2 + w1.2 ≤ (g_R X).slots) (hd : decode cc pc = .ok (.invokespecial index, 3))
    (kk : ∀ s2, Z s2 → g_YP X (P1 s2) (w.1 + w1.1, w.2 + w1.2) (pc + 3) vs rest) : g_YP X P w pc vs st := by
  intro H locs ls hW hS hl
  subst hst
  obtain ⟨ad, A', ha, h1, h2, hw, back⟩ := sp H (fun q hq => C.2.2.2.2.2.2.2.1 q (Nat.le_trans hS.1 hq)) hW
  subst ha
  refine g_goF (vx_runI ⟨C.1, C.2.1, C.2.2.1, C.2.2.2.1, C.2.2.2.2.1⟩ (hM ad A') cw ⟨g_blind, g_startA C hw h1 h2 hS⟩ rfl hn hl.1 rfl (lv_room hcat) hd hf) hS h1 (fun v ad2 s2 H1 locs1 hz hw1 hs hk hS1 => ?_) (fun E q ad2 s2 ce H1 locs1 hz => hz.elim)
  obtain ⟨⟨rfl, hz0⟩, e⟩ := hz1 ad v ad2 s2 hz
  exact kk s2 hz0 H1 locs1 ls (back ad2 s2 H1 e hw1 hs hk) hS1 hl
end CALLS
theorem p_catch {q : Nat} {E : String} {hh : List (Nat × Nat × Nat × Nat)} {x : ExceptionTableEntry} {suf : List ExceptionTableEntry} (C : g_M gCl X cc own ret) (hT : (g_c X).exceptionTable.toList = tableOf hh) (hsplit : tableOf hh = x :: suf) (hx : covers x pc = true) (h0 : x.catchType ≠ 0) (qk : Cond.classLink own x.catchType E ∈ lw_all) (qa : Cond.castable E E ∈ lw_tbl)
    (kk : g_YP X P w x.handlerPc vs [.ref q]) : g_TP X P w pc vs E q := by
  intro H locs ls rest ce hW hS hl h1 h2 h3
  exact vx_catch C.2.2.2.1 [] x suf (by rw [hT, hsplit]; rfl) (fun z hz => nomatch hz) hx h0 (C.2.2.2.2.1 _ qk) (va_Nw.use rfl (g_nestC C qa)) h1 h2 h3 (kk H locs ls hW hS hl)
/-! the law's own person, thing, row: what they leave -/
def g_BP (D : va_G) (dA : Nat → ClassId) (A : Nat → Prop) (s0 : State) (b0 : Nat) (P : Heap → Prop) : State → Prop := fun U => P U.heap ∧ g_K gCl D dA A s0 b0 U U.heap ∧ ∀ q : Nat, U.heap.size ≤ q → A q
def g_EP (A : Nat → Prop) (Z : Option Value → Heap → Prop) : Array Value → State → Outcome → State → Prop := fun _ st o t => (∃ v, o = .returned v ∧ Z v t.heap) ∧ va_F A st t
def g_MP (D : va_G) (dA : Nat → ClassId) (A : Nat → Prop) (s0 : State) (b0 : Nat) (l : Launch) (y : MethodName) (ws : List Cond) (n : Nat) (w : Nat × Nat) (P : Heap → Prop) (av : List Value) (Z : Option Value → Heap → Prop) : Prop :=
  vx_Met l y ws (g_rm n w.1 w.2) (va_Pc av (g_BP D dA A s0 b0 P)) (g_EP A Z) (vx_X (fun _ : Unit => True) (fun _ _ _ _ => False) A) w.1 w.2 A
def g_MQP (X : g_F) (Z : Option Value → Heap → Prop) : State → Prop := vx_MQ (g_be X) (g_EP (g_A X) Z) (vx_X (fun _ : Unit => True) (fun _ _ _ _ => False) (g_A X)) (g_as X) (g_s X) (g_mc X) (g_ms X) (g_A X)
theorem g_MP.ofH {D : va_G} {dA : Nat → ClassId} {A : Nat → Prop} {s0 : State} {b0 : Nat} {l : Launch} {y : MethodName} {cc : ByteArray} {nL : Nat} {ret : Option FieldType} {n : Nat} {w : Nat × Nat} {P : Heap → Prop} {av : List Value} {Z : Option Value → Heap → Prop} {hh : List (Nat × Nat × Nat × Nat)} (hy : plainName y.cls = true) (hfit : (lg_sl av).length ≤ nL)
    (hb : ∀ X : g_F, g_M gCl X cc y.cls ret → g_MQP X Z = g_Q X → g_R X = g_rm n w.1 w.2 → g_mc X = w.1 → g_ms X = w.2 → g_nL X = nL → g_l X = l → g_D X = D → g_dA X = dA → g_A X = A → (g_c X).exceptionTable.toList = tableOf hh → g_YP X P (0, 0) 0 (lv_args 0 av) []) :
    g_MP D dA A s0 b0 l y (wsW_ y cc nL ret hh) n w P av Z := by
  refine vx_ofWH (cc := cc) (maxL := nL) (ret := ret) (hh := hh) hy rfl ?_
  intro p e s m args below meth c s₁ B hml hv
  obtain ⟨rfl, hW, hK, hA⟩ := hv
  have hts0 := atoms_spec (ws := wsW_ y cc nL ret hh) B.pre
  have hts : ∀ w ∈ lw_all, w.before _ s = true := fun w h => hts0 w (List.mem_cons_of_mem _ h)
  have hT : c.exceptionTable.toList = tableOf hh := vx_table (x := y) B (hts0 _ List.mem_cons_self)
  have key := hb ((p, l, e, g_rm n w.1 w.2, s, m, av.toArray, below, meth, c), D, dA, A, w.1, w.2, vx_MQ below (g_EP A Z) (vx_X (fun _ : Unit => True) (fun _ _ _ _ => False) A) av.toArray s w.1 w.2 A, nL, s0, b0)
    ⟨B.exec, B.bytes, hml, findClass_of_methodNamed B.named, hts, B.returns, B.notSynchronized, hA, hK⟩ rfl rfl rfl rfl rfl rfl rfl rfl rfl hT
  have hl := lv_entry av (n := nL) hfit
  rw [lg_entry_eq]
  exact key s.heap [] _ hW va_S.rf hl
theorem p_retP {Z : Option Value → Heap → Prop} (C : g_M gCl X cc own (some .int)) {v : Int32} (hQ : g_MQP X Z = g_Q X) (hz : ∀ H, P H → Z (some (.int v)) H) (hw : w.1 ≤ g_mc X ∧ w.2 ≤ g_ms X) (hd : decode cc pc = .ok (.ireturn, 1)) : g_YP X P w pc vs [.int v] := by
  intro H locs ls hW hS hl
  rw [← hQ]
  exact W.widen hw.1 hw.2 (vx_ret (W.iret C.1 C.2.1 C.2.2.2.2.2.1 (fun t ht _ => ⟨⟨_, rfl, by rw [ht]; exact hz H hW⟩, hS.F ht⟩) hS.2.2 hd C.2.2.2.2.2.2.1))
theorem g_goP {p : Program} {l : Launch} {e : Env} {R : Room} {s : State} {m : MethodId} {args : Array Value} {below : List Frame} {meth : Method} {c : Code} {H : Heap} {locs : List Loc} {cells slots mc ms pc : Nat} {Q : State → Prop} {ls : Array Slot} {st0 rest : List Value} {A : Nat → Prop} {a : Array Value} {Z : Option Value → Heap → Prop}
    (hr : vx_Run p l e R s m args below meth c H locs cells slots mc ms (F0 m pc ls st0) rest (g_EP A Z a) (vx_X (fun _ : Unit => True) (fun _ _ _ _ => False) A) A) (hS : va_S A s.heap H locs)
    (kk : ∀ (v : Option Value) (H1 : Heap) (locs1 : List Loc), Z v H1 → va_S A s.heap H1 locs1 → W p l e R s m args below meth c H1 locs1 (cells + mc) (slots + ms) Q (F0 m (pc + 3) ls (v.toList ++ rest))) : W p l e R s m args below meth c H locs cells slots Q (F0 m pc ls st0) := by
  intro T hT X'
  rcases hr T hT X' with ⟨v, st₀, t, T', L, h0, X2, hL, e1, e2, ⟨⟨v2, hv, hz⟩, hF⟩, st⟩ | ⟨q, st₀, t, T', L, E, ce, h0, X2, hL, e1, e2, ⟨u, hp, hz, hF⟩, hce, hcv, hcl, st⟩
  · cases hv
    obtain ⟨k1, k2, k3⟩ := vx_keep h0 e1 hS (fun q _ h => h) (fun q h => h) hL hF
    obtain ⟨t2, a1, b1⟩ := kk v T'.heap (locs ++ L) (by rw [e1]; exact hz) k3 T' rfl X2
    exact ⟨t2, st t2 a1, b1⟩
  · exact hz.elim
theorem p_callSP {hh : List (Nat × Nat × Nat × Nat)} {y : MethodName} {bytes : ByteArray} {nL1 n na index : Nat} {ret1 : Option FieldType} {w1 : Nat × Nat} {As rest : List Value} {v0 : Option Value} {P1 : Heap → Prop} (C : g_M gCl X cc own ret) (cw : vx_CSW (g_R X) (g_s X) (g_as X) own index y bytes nL1 ret1 hh (wsW_ y bytes nL1 ret1 hh) (g_rm n w1.1 w1.2) w1.1 w1.2 na)
    (hM : g_MP (g_D X) (g_dA X) (g_A X) (g_s0 X) (g_b0 X) (g_l X) y (wsW_ y bytes nL1 ret1 hh) n w1 P As (fun v H => v = v0 ∧ P1 H)) (hst : st = As.reverse ++ rest) (hn : As.length = na) (hcat : (rest.map fun v => v.category).sum ≤ 8) (hf : w.1 + w1.1 ≤ (g_R X).cells ∧ w.2 + w1.2 ≤ (g_R X).slots) (hd : decode cc pc = .ok (.invokestatic index, 3))
    (kk : g_YP X P1 (w.1 + w1.1, w.2 + w1.2) (pc + 3) vs (v0.toList ++ rest)) : g_YP X P w pc vs st := by
  intro H locs ls hW hS hl
  subst hst
  exact g_goP (vx_runSX ⟨C.1, C.2.1, C.2.2.1, C.2.2.2.1, C.2.2.2.2.1⟩ hM cw ⟨fun a U g mk h => ⟨h.1, h.2.1, ⟨va_K.moved (u := U) (U := U.calling g mk a) (Vm.Alike.refl U.vm) h.2.2.1.1, h.2.2.1.2⟩, h.2.2.2⟩, fun U hU hWm => by subst hU; exact ⟨rfl, hW, C.2.2.2.2.2.2.2.2.moved hS hWm, fun q hq => C.2.2.2.2.2.2.2.1 q (Nat.le_trans hS.1 hq)⟩⟩ rfl hn hl.1 rfl (lv_room hcat) hd hf) hS (fun v H1 locs1 hz hS1 => by obtain ⟨rfl, hz⟩ := hz; exact kk H1 locs1 ls hz hS1 hl)
/-- the script -/
theorem p_sld {b L : Nat} {xs : Nat → Int32} (C : g_M gCl X cc own ret) (hX : va_X b L xs (g_s X) (g_s X).heap) (hb : b < (g_s X).heap.size) (hbA : ¬ g_A X b) {i : Int32} (hi : g_in i L = true) (hd : decode cc pc = .ok (.iaload, 1)) (kk : g_YP X P w (pc + 1) vs (.int (xs i.toNatClampNeg) :: st)) : g_YP X P w pc vs (.int i :: .ref b :: st) :=
  fun H locs ls hW hS hl => va_sld C.1 C.2.1 hX hb hbA hS (g_in_vp hi) hd (kk H locs ls hW hS hl)
theorem p_slen {b L : Nat} {xs : Nat → Int32} (C : g_M gCl X cc own ret) (hX : va_X b L xs (g_s X) (g_s X).heap) (hb : b < (g_s X).heap.size) (hbA : ¬ g_A X b) (hd : decode cc pc = .ok (.arraylength, 1)) (kk : g_YP X P w (pc + 1) vs (.int (Int32.ofNat L) :: st)) : g_YP X P w pc vs (.ref b :: st) :=
  fun H locs ls hW hS hl => va_slen C.1 C.2.1 hX hb hbA hS hd (kk H locs ls hW hS hl)
end LW2
