set_option maxRecDepth 100000
/-! ===== frames: a part of a world is handed to a call; a world seen under another layout ===== -/
theorem g_goF {cl : List vw_C} {p : Program} {l : Launch} {e : Env} {R : Room} {s : State} {m : MethodId} {args : Array Value} {below : List Frame} {meth : Method} {c : Code} {H : Heap} {locs : List Loc} {cells slots mc ms pc : Nat} {Q : State → Prop} {ls : Array Slot} {st0 rest : List Value} {D : va_G} {dA : Nat → ClassId} {LM : g_L} {A A' : Nat → Prop} {a : Array Value} {Z1 : Option Value → (Nat → Nat → Nat) → g_S → Prop} {Z2 : String → Nat → (Nat → Nat → Nat) → g_S → Prop}
    (hr : vx_Run p l e R s m args below meth c H locs cells slots mc ms (F0 m pc ls st0) rest (g_PE cl D dA LM A' Z1 a) (g_XE cl D dA LM A' Z2) A') (hS : va_S A s.heap H locs) (hAA : ∀ q, A' q → A q)
    (kk : ∀ (v : Option Value) (ad : Nat → Nat → Nat) (σ : g_S) (H1 : Heap) (locs1 : List Loc), Z1 v ad σ → g_W cl D dA LM ad σ A' H1 → H.size ≤ H1.size → (∀ q : Nat, q < H.size → ¬ A' q → H1[q]? = H[q]?) → va_S A s.heap H1 locs1 → W p l e R s m args below meth c H1 locs1 (cells + mc) (slots + ms) Q (F0 m (pc + 3) ls (v.toList ++ rest)))
    (kx : ∀ (E : String) (q : Nat) (ad : Nat → Nat → Nat) (σ : g_S) (ce : Cell) (H1 : Heap) (locs1 : List Loc), Z2 E q ad σ → g_W cl D dA LM ad σ A' H1 → H.size ≤ H1.size → (∀ q : Nat, q < H.size → ¬ A' q → H1[q]? = H[q]?) → va_S A s.heap H1 locs1 → H1[q]? = some ce → ce.vm = .none → s.vm.findClass E = some ce.cls → vx_W p l e R s m args below meth c H1 locs1 (cells + mc) (slots + ms) Q (F0 m pc ls rest) q) : W p l e R s m args below meth c H locs cells slots Q (F0 m pc ls st0) := by
  intro T hT X
  rcases hr T hT X with ⟨v, st₀, t, T', L, h0, X', hL, e1, e2, ⟨⟨v2, ad, σ, hv, hz, hb⟩, hF⟩, st⟩ | ⟨q, st₀, t, T', L, E, ce, h0, X', hL, e1, e2, ⟨u, hp, ⟨ad, σ, hz, hb⟩, hF⟩, hce, hcv, hcl, st⟩
  · cases hv
    obtain ⟨k1, k2, k3⟩ := vx_keep h0 e1 hS (fun q _ h => hAA q h) (fun q h => hAA q h) hL hF
    obtain ⟨t2, a1, b1⟩ := kk v ad σ T'.heap (locs ++ L) hz (by rw [e1]; exact hb) k1 k2 k3 T' rfl X'
    exact ⟨t2, st t2 a1, b1⟩
  · obtain ⟨k1, k2, k3⟩ := vx_keep h0 e1 hS (fun q _ h => hAA q h) (fun q h => hAA q h) hL hF
    obtain ⟨t2, a1, b1⟩ := kx E q ad σ ce T'.heap (locs ++ L) hz (by rw [e1]; exact hb) k1 k2 k3 (by rw [e1]; exact hce) hcv hcl T' rfl X'
    exact ⟨t2, st.trans a1, b1⟩
theorem g_goF0 {cl : List vw_C} {p : Program} {l : Launch} {e : Env} {R : Room} {s : State} {m : MethodId} {args : Array Value} {below : List Frame} {meth : Method} {c : Code} {H : Heap} {locs : List Loc} {cells slots mc ms pc : Nat} {Q : State → Prop} {ls : Array Slot} {st0 rest : List Value} {D : va_G} {dA : Nat → ClassId} {LM : g_L} {ad : Nat → Nat → Nat} {σ : g_S} {A A' : Nat → Prop} {v : Option Value} {a : Array Value}
    (hr : va_Run p l e R s m args below meth c H locs cells slots mc ms (F0 m pc ls st0) rest (g_E cl D dA LM ad σ A' v a) A') (hS : va_S A s.heap H locs) (hAA : ∀ q, A' q → A q)
    (kk : ∀ (H1 : Heap) (locs1 : List Loc), g_W cl D dA LM ad σ A' H1 → H.size ≤ H1.size → (∀ q : Nat, q < H.size → ¬ A' q → H1[q]? = H[q]?) → va_S A s.heap H1 locs1 → W p l e R s m args below meth c H1 locs1 (cells + mc) (slots + ms) Q (F0 m (pc + 3) ls (v.toList ++ rest))) : W p l e R s m args below meth c H locs cells slots Q (F0 m pc ls st0) := by
  intro T hT X
  obtain ⟨v1, st₀, t, T', L, h0, X', hL, e1, e2, ⟨⟨hv, hb⟩, hF⟩, st⟩ := hr T hT X
  cases hv
  obtain ⟨k1, k2, k3⟩ := vx_keep h0 e1 hS (fun q _ h => hAA q h) (fun q h => hAA q h) hL hF
  obtain ⟨t2, a1, b1⟩ := kk T'.heap (locs ++ L) (by rw [e1]; exact hb) k1 k2 k3 T' rfl X'
  exact ⟨t2, st t2 a1, b1⟩
/-- a new world out of what was kept of the old one and what a call left -/
theorem g_frame {cl : List vw_C} {D : va_G} {dA : Nat → ClassId} {LM LM' LM2 : g_L} {ad ad' ad2 : Nat → Nat → Nat} {σ σ' σ2 : g_S} {A A' : Nat → Prop} {H H1 : Heap} (T : Nat → Nat → (Nat × Nat) ⊕ (Nat × Nat)) (hW : g_W cl D dA LM ad σ A H) (hB : g_W cl D dA LM' ad' σ' A' H1) (hk : ∀ q : Nat, q < H.size → ¬ A' q → H1[q]? = H[q]?) (hAA : ∀ q, A' q → A q)
    (hc : ∀ k u, u < g_n LM2 k → g_pr (g_cell LM2 dA ad2 σ2 k u) → (∃ k0 u0, T k u = .inl (k0, u0) ∧ u0 < g_n LM k0 ∧ ¬ A' (ad k0 u0) ∧ ad2 k u = ad k0 u0 ∧ g_cell LM2 dA ad2 σ2 k u = g_cell LM dA ad σ k0 u0) ∨ ∃ k0 u0, T k u = .inr (k0, u0) ∧ u0 < g_n LM' k0 ∧ ad2 k u = ad' k0 u0 ∧ g_cell LM2 dA ad2 σ2 k u = g_cell LM' dA ad' σ' k0 u0)
    (hT : ∀ k u k' u', u < g_n LM2 k → u' < g_n LM2 k' → g_pr (g_cell LM2 dA ad2 σ2 k u) → g_pr (g_cell LM2 dA ad2 σ2 k' u') → T k u = T k' u' → k = k' ∧ u = u') : g_W cl D dA LM2 ad2 σ2 A H1 := by
  refine ⟨fun k u hu => ?_, fun k u k' u' hu hu' hp hp' he => ?_, fun k u hu hp => ?_⟩
  · by_cases hp : g_pr (g_cell LM2 dA ad2 σ2 k u)
    · rcases hc k u hu hp with ⟨k0, u0, -, h1, h2, h3, h4⟩ | ⟨k0, u0, -, h1, h3, h4⟩
      · rw [h3, h4]
        rw [h4] at hp
        exact (hW.1 k0 u0 h1).kept (fun _ => hk _ ((hW.1 k0 u0 h1).lt hp) h2)
      · rw [h3, h4]
        exact hB.1 k0 u0 h1
    · match hx : g_cell LM2 dA ad2 σ2 k u with
      | .inl e => rw [hx] at hp; exact absurd trivial hp
      | .inr (.inl f) => rw [hx] at hp; exact absurd trivial hp
      | .inr (.inr _) => trivial
  · refine hT k u k' u' hu hu' hp hp' ?_
    rcases hc k u hu hp with ⟨k0, u0, t1, h1, h2, h3, h4⟩ | ⟨k0, u0, t1, h1, h3, h4⟩ <;> rcases hc k' u' hu' hp' with ⟨k1, u1, t2, g1, g2, g3, g4⟩ | ⟨k1, u1, t2, g1, g3, g4⟩
    · rw [h4] at hp; rw [g4] at hp'
      obtain ⟨rfl, rfl⟩ := hW.2.1 k0 u0 k1 u1 h1 g1 hp hp' (h3.symm.trans (he.trans g3))
      rw [t1, t2]
    · rw [g4] at hp'
      exact absurd (hB.2.2 k1 u1 g1 hp') (by rw [← g3, ← he, h3]; exact h2)
    · rw [h4] at hp
      exact absurd (hB.2.2 k0 u0 h1 hp) (by rw [← h3, he, g3]; exact g2)
    · rw [h4] at hp; rw [g4] at hp'
      obtain ⟨rfl, rfl⟩ := hB.2.1 k0 u0 k1 u1 h1 g1 hp hp' (h3.symm.trans (he.trans g3))
      rw [t1, t2]
  · rcases hc k u hu hp with ⟨k0, u0, -, h1, h2, h3, h4⟩ | ⟨k0, u0, -, h1, h3, h4⟩
    · rw [h3]; rw [h4] at hp; exact hW.2.2 k0 u0 h1 hp
    · rw [h3]; rw [h4] at hp; exact hAA _ (hB.2.2 k0 u0 h1 hp)
/-- the same cells under another layout -/
theorem g_relay {cl : List vw_C} {D : va_G} {dA : Nat → ClassId} {LM LM2 : g_L} {ad ad2 : Nat → Nat → Nat} {σ σ2 : g_S} {A : Nat → Prop} {H : Heap} (T : Nat → Nat → Nat × Nat) (hW : g_W cl D dA LM ad σ A H)
    (hc : ∀ k u, u < g_n LM2 k → g_pr (g_cell LM2 dA ad2 σ2 k u) → (T k u).2 < g_n LM (T k u).1 ∧ g_pr (g_cell LM dA ad σ (T k u).1 (T k u).2) ∧ ad2 k u = ad (T k u).1 (T k u).2 ∧ ∀ a, g_at cl D a (g_cell LM dA ad σ (T k u).1 (T k u).2) H → g_at cl D a (g_cell LM2 dA ad2 σ2 k u) H)
    (hT : ∀ k u k' u', u < g_n LM2 k → u' < g_n LM2 k' → g_pr (g_cell LM2 dA ad2 σ2 k u) → g_pr (g_cell LM2 dA ad2 σ2 k' u') → T k u = T k' u' → k = k' ∧ u = u') : g_W cl D dA LM2 ad2 σ2 A H := by
  refine ⟨fun k u hu => ?_, fun k u k' u' hu hu' hp hp' he => ?_, fun k u hu hp => ?_⟩
  · by_cases hp : g_pr (g_cell LM2 dA ad2 σ2 k u)
    · obtain ⟨h1, h2, h3, h4⟩ := hc k u hu hp
      rw [h3]
      exact h4 _ (hW.1 _ _ h1)
    · match hx : g_cell LM2 dA ad2 σ2 k u with
      | .inl e => rw [hx] at hp; exact absurd trivial hp
      | .inr (.inl f) => rw [hx] at hp; exact absurd trivial hp
      | .inr (.inr _) => trivial
  · obtain ⟨h1, h2, h3, h4⟩ := hc k u hu hp
    obtain ⟨g1, g2, g3, g4⟩ := hc k' u' hu' hp'
    obtain ⟨e1, e2⟩ := hW.2.1 _ _ _ _ h1 g1 h2 g2 (h3.symm.trans (he.trans g3))
    exact hT k u k' u' hu hu' hp hp' (Prod.ext e1 e2)
  · obtain ⟨h1, h2, h3, h4⟩ := hc k u hu hp
    rw [h3]
    exact hW.2.2 _ _ h1 h2
/-! ===== worlds cell by cell: for constructors ===== -/
def g_fL (cn : List Nat) (f : Nat → Nat → Option va_E) : g_L := (fun _ _ k u _ _ _ => match f k u with | some e => .inl e | none => .inr (.inr ()), cn)
def g_fs (f : Nat → Nat → Option va_E) (k u : Nat) (e : va_E) : Nat → Nat → Option va_E := fun k' u' => if k' = k ∧ u' = u then some e else f k' u'
theorem g_fs_s {f : Nat → Nat → Option va_E} {k u : Nat} {e : va_E} : g_fs f k u e k u = some e := if_pos ⟨rfl, rfl⟩
theorem g_fs_n {f : Nat → Nat → Option va_E} {k u k' u' : Nat} {e : va_E} (h : ¬ (k' = k ∧ u' = u)) : g_fs f k u e k' u' = f k' u' := if_neg h
section GFL
variable {cl : List vw_C} {D : va_G} {dA : Nat → ClassId} {cn : List Nat} {f : Nat → Nat → Option va_E} {ad : Nat → Nat → Nat} {σ : g_S} {A : Nat → Prop} {H : Heap}
theorem g_fc {k u : Nat} {e : va_E} (h : f k u = some e) : g_cell (g_fL cn f) dA ad σ k u = .inl e := by
  show (match f k u with | some e => Sum.inl e | none => Sum.inr (Sum.inr ())) = _
  rw [h]
theorem g_fc0 {k u : Nat} (h : f k u = none) : g_cell (g_fL cn f) dA ad σ k u = .inr (.inr ()) := by
  show (match f k u with | some e => Sum.inl e | none => Sum.inr (Sum.inr ())) = _
  rw [h]
theorem g_fp {k u : Nat} (h : g_pr (g_cell (g_fL cn f) dA ad σ k u)) : ∃ e, f k u = some e := by
  match hx : f k u with
  | some e => exact ⟨e, rfl⟩
  | none => rw [g_fc0 hx] at h; exact h.elim
theorem g_fpi {k u : Nat} {e : va_E} (h : f k u = some e) : g_pr (g_cell (g_fL cn f) dA ad σ k u) := by rw [g_fc h]; trivial
theorem g_fset (h : g_W cl D dA (g_fL cn f) ad σ A H) {k u : Nat} {e : va_E} (hu : u < cn.getD k 0) (hf : f k u = some e) : ∃ (ws : va_W) (q : Nat), va_P D cl ws H ∧ va_D A ws ∧ ws[q]? = some (ad k u, e) ∧ (∀ (k' u' : Nat) (e1 : va_E), u' < cn.getD k' 0 → f k' u' = some e1 → ∃ i : Nat, ws[i]? = some (ad k' u', e1)) ∧ ∀ e' H', va_P D cl (ws.set q (ad k u, e')) H' → g_W cl D dA (g_fL cn (g_fs f k u e')) ad σ A H' := by
  obtain ⟨ws, hP, hD, hat, -⟩ := g_adapt h
  have hat' : ∀ (k' u' : Nat) (e1 : va_E), u' < cn.getD k' 0 → f k' u' = some e1 → ∃ i : Nat, ws[i]? = some (ad k' u', e1) := fun k' u' e1 hu' hf' => by
    obtain ⟨i, hi, -⟩ := hat k' u' e1 hu' (g_fc hf')
    exact ⟨i, hi⟩
  obtain ⟨q, hq⟩ := hat' k u e hu hf
  refine ⟨ws, q, hP, hD, hq, hat', fun e' H' hP' => ?_⟩
  have hpr : ∀ k' u', g_pr (g_cell (g_fL cn (g_fs f k u e')) dA ad σ k' u') → g_pr (g_cell (g_fL cn f) dA ad σ k' u') := fun k' u' hp => by
    obtain ⟨e1, h1⟩ := g_fp hp
    by_cases hk : k' = k ∧ u' = u
    · obtain ⟨rfl, rfl⟩ := hk; exact g_fpi hf
    · rw [g_fs_n hk] at h1; exact g_fpi h1
  refine ⟨fun k' u' hu' => ?_, fun k1 u1 k2 u2 h1 h2 p1 p2 h3 => h.2.1 k1 u1 k2 u2 h1 h2 (hpr k1 u1 p1) (hpr k2 u2 p2) h3, fun k' u' hu' hp => h.2.2 k' u' hu' (hpr k' u' hp)⟩
  by_cases hk : k' = k ∧ u' = u
  · obtain ⟨rfl, rfl⟩ := hk
    rw [g_fc g_fs_s]
    exact hP' q _ (by rw [List.getElem?_set_self (List.getElem?_eq_some_iff.mp hq).1])
  · match hx : f k' u' with
    | none => rw [g_fc0 (by rw [g_fs_n hk]; exact hx)]; trivial
    | some e2 =>
      rw [g_fc (by rw [g_fs_n hk]; exact hx)]
      obtain ⟨i, hi⟩ := hat' k' u' e2 hu' hx
      have hne : q ≠ i := fun z => by
        subst z
        have := hq.symm.trans hi
        have ha : ad k u = ad k' u' := congrArg Prod.fst (Option.some.inj this)
        obtain ⟨z1, z2⟩ := h.2.1 k u k' u' hu hu' (g_fpi hf) (g_fpi hx) ha
        exact hk ⟨z1.symm, z2.symm⟩
      exact hP' i _ (by rw [List.getElem?_set_ne hne]; exact hi)
theorem g_fnew (h : g_W cl D dA (g_fL cn f) ad σ A H) : ∃ ws : va_W, va_P D cl ws H ∧ va_D A ws ∧ ∀ (k u q : Nat) (e : va_E) (H' : Heap), va_P D cl (ws ++ [(q, e)]) H' → va_D A (ws ++ [(q, e)]) → g_W cl D dA (g_fL cn (g_fs f k u e)) (g_ua ad k u q) σ A H' := by
  obtain ⟨ws, hP, hD, hat, -⟩ := g_adapt h
  refine ⟨ws, hP, hD, fun k u q e H' hP' hD' => ?_⟩
  have hn : (ws ++ [(q, e)])[ws.length]? = some (q, e) := by rw [List.getElem?_append_right (Nat.le_refl _), Nat.sub_self]; rfl
  have hat' : ∀ (k' u' : Nat) (e1 : va_E), u' < cn.getD k' 0 → f k' u' = some e1 → ∃ i : Nat, i < ws.length ∧ (ws ++ [(q, e)])[i]? = some (ad k' u', e1) := fun k' u' e1 hu' hf' => by
    obtain ⟨i, hi, -⟩ := hat k' u' e1 hu' (g_fc hf')
    have hl := (List.getElem?_eq_some_iff.mp hi).1
    exact ⟨i, hl, by rw [List.getElem?_append_left hl]; exact hi⟩
  have hneq : ∀ k' u' e1, u' < cn.getD k' 0 → f k' u' = some e1 → ad k' u' ≠ q := fun k' u' e1 hu' hf' z => by
    obtain ⟨i, hl, hi⟩ := hat' k' u' e1 hu' hf'
    have := hD'.1 i ws.length _ _ hi hn z
    omega
  refine ⟨fun k' u' hu' => ?_, fun k1 u1 k2 u2 h1 h2 p1 p2 h3 => ?_, fun k' u' hu' hp => ?_⟩
  · by_cases hk : k' = k ∧ u' = u
    · obtain ⟨rfl, rfl⟩ := hk
      rw [g_fc g_fs_s, g_ua_s]
      exact hP' _ _ hn
    · match hx : f k' u' with
      | none => rw [g_fc0 (by rw [g_fs_n hk]; exact hx)]; trivial
      | some e2 =>
        rw [g_fc (by rw [g_fs_n hk]; exact hx), g_ua_n hk]
        obtain ⟨i, -, hi⟩ := hat' k' u' e2 hu' hx
        exact hP' i _ hi
  · obtain ⟨e1, f1⟩ := g_fp p1
    obtain ⟨e2, f2⟩ := g_fp p2
    by_cases g1 : k1 = k ∧ u1 = u <;> by_cases g2 : k2 = k ∧ u2 = u
    · exact ⟨g1.1.trans g2.1.symm, g1.2.trans g2.2.symm⟩
    · rw [g_fs_n g2] at f2
      rw [g1.1, g1.2, g_ua_s, g_ua_n g2] at h3
      exact absurd h3.symm (hneq k2 u2 e2 h2 f2)
    · rw [g_fs_n g1] at f1
      rw [g2.1, g2.2, g_ua_s, g_ua_n g1] at h3
      exact absurd h3 (hneq k1 u1 e1 h1 f1)
    · rw [g_fs_n g1] at f1
      rw [g_fs_n g2] at f2
      rw [g_ua_n g1, g_ua_n g2] at h3
      exact h.2.1 k1 u1 k2 u2 h1 h2 (g_fpi f1) (g_fpi f2) h3
  · obtain ⟨e1, f1⟩ := g_fp hp
    by_cases hk : k' = k ∧ u' = u
    · rw [hk.1, hk.2, g_ua_s]; exact hD'.2 _ _ hn
    · rw [g_fs_n hk] at f1
      rw [g_ua_n hk]
      exact h.2.2 k' u' hu' (g_fpi f1)
end GFL
section GZ
variable {cl : List vw_C} {X : g_F} {cc : ByteArray} {own : String} {ret : Option FieldType} {cn : List Nat} {f : Nat → Nat → Option va_E} {ad : Nat → Nat → Nat} {σ : g_S} {w : Nat × Nat} {pc : Nat} {vs : List (Nat × Value)} {st : List Value}
theorem g_K.sub {D : va_G} {dA : Nat → ClassId} {A A' : Nat → Prop} {s0 : State} {b0 : Nat} {U : State} {H : Heap} (h : g_K cl D dA A s0 b0 U H) (hAA : ∀ q, A' q → A q) : g_K cl D dA A' s0 b0 U H := ⟨h.1, h.2.1, h.2.2.1, h.2.2.2.1, h.2.2.2.2.1, fun q hq => h.2.2.2.2.2 q (hAA q hq)⟩
theorem y_relay {LM LM2 : g_L} {ad2 : Nat → Nat → Nat} {σ2 : g_S} (h : ∀ H, g_W cl (g_D X) (g_dA X) LM ad σ (g_A X) H → g_W cl (g_D X) (g_dA X) LM2 ad2 σ2 (g_A X) H) (kk : g_Y cl X LM2 ad2 σ2 w pc vs st) : g_Y cl X LM ad σ w pc vs st := fun H locs ls hW hS hl => kk H locs ls (h H hW) hS hl
theorem z_new {C1 : String} {T : u_T} {N ci index : Nat} {fs : List Value} (C : g_M cl X cc own ret) (k u : Nat) (hin : ∀ w ∈ u_ws C1 T N, w ∈ lw_all) (ty : Nat → FieldType) (hty : ∀ k, k < N → parseFieldDescriptor (T k).2.2.1 = some (ty k)) (qc : Cond.classLink own index C1 ∈ lw_all) (qi : Cond.instantiable C1 N ∈ lw_all) (qn : Cond.initialized C1 ∈ lw_all)
    (hc : cl[ci]? = some (C1, T, N)) (hfs : ∀ j, j < N → defaultValue (ty j) = vp_V fs j) (hf : w.1 + 1 ≤ (g_R X).cells ∧ w.2 + N ≤ (g_R X).slots) (hd : decode cc pc = .ok (.new index, 3))
    (kk : ∀ q, g_Y cl X (g_fL cn (g_fs f k u (.inr (ci, fs)))) (g_ua ad k u q) σ (w.1 + 1, w.2 + N) (pc + 3) vs (.ref q :: st)) : g_Y cl X (g_fL cn f) ad σ w (pc) vs (st) := by
  intro H locs ls hW hS hl
  obtain ⟨ws, hP, hD, hnew⟩ := g_fnew hW
  refine va_new (ci := ci) (fs := fs) C.1 C.2.1 C.2.2.2.2.1 hin ty hty C.2.2.2.1 (C.2.2.2.2.1 _ qc) (C.2.2.2.2.1 _ qi) (C.2.2.2.2.1 _ qn) C.2.2.2.2.2.2.2.2.1 hP hD hS C.2.2.2.2.2.2.2.1 hc hfs hf.1 hf.2 hd (fun q H1 hP1 hD1 hS1 => ?_)
  exact kk q H1 locs ls (hnew k u q _ H1 hP1 hD1) hS1 hl
theorem z_newa {atype : ArrayType} {ty : FieldType} {t0 : Nat} {n : Int32} {N : Nat} {a0 : vp_A} (C : g_M cl X cc own ret) (k u : Nat) (hty : newarray.typeOf atype = ty) (ht : (g_tys (g_dA X))[t0]? = some (g_dA X t0, ty)) (q1 : Cond.arrayClass ty ∈ lw_all) (ha : ∀ cA : ClassId, vp_cell cA a0 = arrV cA N (fun _ => defaultValue ty))
    (hn : ¬ n < 0) (hN : n.toNatClampNeg = N) (hbytes : N * componentBytes ty ≤ 536870912) (hf : w.1 + 1 ≤ (g_R X).cells ∧ w.2 + N ≤ (g_R X).slots) (hd : decode cc pc = .ok (.newarray atype, 2))
    (kk : ∀ q, g_Y cl X (g_fL cn (g_fs f k u (.inl (g_dA X t0, a0)))) (g_ua ad k u q) σ (w.1 + 1, w.2 + N) (pc + 2) vs (.ref q :: st)) : g_Y cl X (g_fL cn f) ad σ w (pc) vs (.int n :: st) := by
  intro H locs ls hW hS hl
  obtain ⟨ws, hP, hD, hnew⟩ := g_fnew hW
  have hK := C.2.2.2.2.2.2.2.2.1
  refine va_newa C.1 C.2.1 (by rw [hty]; exact C.2.2.2.2.1 _ q1) hty hK hP hD hS C.2.2.2.2.2.2.2.1 ha hn hN hbytes hf.1 hf.2 hd (fun q cA H1 hK1 hP1 hD1 hS1 => ?_)
  have h1 := g_RA (hK1.2 (g_tys (g_dA X)).length (cA, ty) (by rw [List.getElem?_append_right (Nat.le_refl _), Nat.sub_self]; rfl)).2
  have h2 := g_RA (hK.2 t0 _ ht).2
  have h3 : cA = g_dA X t0 := Option.some.inj (h1.symm.trans h2)
  subst h3
  exact kk q H1 locs ls (hnew k u q _ H1 hP1 hD1) hS1 hl
theorem z_newq {E : String} {t0 index : Nat} {n : Int32} {N : Nat} (C : g_M cl X cc own ret) (k u : Nat) (ht : (g_tys (g_dA X))[t0]? = some (g_dA X t0, .object E)) (qc : Cond.classLink own index E ∈ lw_all) (hov : va_AO E (g_s X))
    (hn : ¬ n < 0) (hN : n.toNatClampNeg = N) (hbytes : N * 4 ≤ 536870912) (hf : w.1 + 1 ≤ (g_R X).cells ∧ w.2 + N ≤ (g_R X).slots) (hd : decode cc pc = .ok (.anewarray index, 3))
    (kk : ∀ q, g_Y cl X (g_fL cn (g_fs f k u (.inl (g_dA X t0, N, .inr (.inr (.inr (.inr fun _ => none))))))) (g_ua ad k u q) σ (w.1 + 1, w.2 + N) (pc + 3) vs (.ref q :: st)) : g_Y cl X (g_fL cn f) ad σ w (pc) vs (.int n :: st) := by
  intro H locs ls hW hS hl
  obtain ⟨ws, hP, hD, hnew⟩ := g_fnew hW
  have hK := C.2.2.2.2.2.2.2.2.1
  refine va_newq C.1 C.2.1 C.2.2.2.1 (C.2.2.2.2.1 _ qc) hov hK hP hD hS C.2.2.2.2.2.2.2.1 hn hN hbytes hf.1 hf.2 hd (fun q cA H1 hK1 hP1 hD1 hS1 => ?_)
  have h1 := g_RA (hK1.2 (g_tys (g_dA X)).length (cA, .object E) (by rw [List.getElem?_append_right (Nat.le_refl _), Nat.sub_self]; rfl)).2
  have h2 := g_RA (hK.2 t0 _ ht).2
  have h3 : cA = g_dA X t0 := Option.some.inj (h1.symm.trans h2)
  subst h3
  exact kk q H1 locs ls (hnew k u q _ H1 hP1 hD1) hS1 hl
theorem z_put {C1 ref : String} {T : u_T} {N ci index a : Nat} {fs : List Value} {v : Value} (C : g_M cl X cc own ret) {k u : Nat} (hu : u < cn.getD k 0) (hcell : f k u = some (.inr (ci, fs))) (haa : ad k u = a) (hin : ∀ z ∈ u_ws C1 T N, z ∈ lw_all) (hc : cl[ci]? = some (C1, T, N)) (ty0 : Nat → FieldType) (hty : ∀ k, k < N → parseFieldDescriptor (T k).2.2.1 = some (ty0 k)) (hnm : ∀ a, a < N → ∀ b, b < N → a ≠ b → (T a).2.1 ≠ (T b).2.1) (j : Nat) (hj : j < N) (href : (T j).1 = ref) (q : Cond.fieldLink own index ref (T j).2.1 (T j).2.2.1 ∈ lw_all) (hfin : (T j).2.2.2 = false) {ty : FieldType} (hd1 : parseFieldDescriptor (T j).2.2.1 = some ty) (hn : narrow ty v = v) (hfit : fits ty v = true) (hlen : j < fs.length) (hd : decode cc pc = .ok (.putfield index, 3))
    (kk : g_Y cl X (g_fL cn (g_fs f k u (.inr (ci, fs.set j v)))) ad σ w (pc + 3) vs (st)) : g_Y cl X (g_fL cn f) ad σ w (pc) vs (v :: .ref a :: st) := by
  subst haa
  intro H locs ls hW hS hl
  obtain ⟨ws, q0, hP, hD, hq, -, back⟩ := g_fset hW hu hcell
  exact va_put C.1 C.2.1 C.2.2.2.2.1 hin ty0 hty hnm C.2.2.2.1 C.2.2.2.2.2.2.2.2.1 hP hD hS q0 hq hc j hj (C.2.2.2.2.1 _ q) (fun x h => by rw [← href]; exact h) hfin hd1 hn hfit hlen hd (fun H1 locs1 hP1 _ hS1 => kk H1 locs1 ls (back _ _ hP1) hS1 hl)
theorem z_putU {C1 ref : String} {T : u_T} {N ci index a : Nat} {fs : List Value} {v : Value} (C : g_M cl X cc own ret) {k u : Nat} (hu : u < cn.getD k 0) (hcell : f k u = some (.inr (ci, fs))) (haa : ad k u = a) (hin : ∀ z ∈ u_ws C1 T N, z ∈ lw_all) (hc : cl[ci]? = some (C1, T, N)) (ty0 : Nat → FieldType) (hty : ∀ k, k < N → parseFieldDescriptor (T k).2.2.1 = some (ty0 k)) (hnm : ∀ a, a < N → ∀ b, b < N → a ≠ b → (T a).2.1 ≠ (T b).2.1) (j : Nat) (hj : j < N) (q2 : Cond.sameField ref (T j).1 (T j).2.1 (T j).2.2.1 ∈ lw_all) (q : Cond.fieldLink own index ref (T j).2.1 (T j).2.2.1 ∈ lw_all) (hfin : (T j).2.2.2 = false) {ty : FieldType} (hd1 : parseFieldDescriptor (T j).2.2.1 = some ty) (hn : narrow ty v = v) (hfit : fits ty v = true) (hlen : j < fs.length) (hd : decode cc pc = .ok (.putfield index, 3))
    (kk : g_Y cl X (g_fL cn (g_fs f k u (.inr (ci, fs.set j v)))) ad σ w (pc + 3) vs (st)) : g_Y cl X (g_fL cn f) ad σ w (pc) vs (v :: .ref a :: st) := by
  subst haa
  intro H locs ls hW hS hl
  obtain ⟨ws, q0, hP, hD, hq, -, back⟩ := g_fset hW hu hcell
  exact va_put C.1 C.2.1 C.2.2.2.2.1 hin ty0 hty hnm C.2.2.2.1 C.2.2.2.2.2.2.2.2.1 hP hD hS q0 hq hc j hj (C.2.2.2.2.1 _ q) (fun x h => u_same (C.2.2.2.2.1 _ q2) x h) hfin hd1 hn hfit hlen hd (fun H1 locs1 hP1 _ hS1 => kk H1 locs1 ls (back _ _ hP1) hS1 hl)
theorem z_putF {C1 ref : String} {T : u_T} {N ci index a : Nat} {fs : List Value} {v : Value} (C : g_M cl X cc own ret) {k u : Nat} (hu : u < cn.getD k 0) (hcell : f k u = some (.inr (ci, fs))) (haa : ad k u = a) (hin : ∀ z ∈ u_ws C1 T N, z ∈ lw_all) (hc : cl[ci]? = some (C1, T, N)) (ty0 : Nat → FieldType) (hty : ∀ k, k < N → parseFieldDescriptor (T k).2.2.1 = some (ty0 k)) (hnm : ∀ a, a < N → ∀ b, b < N → a ≠ b → (T a).2.1 ≠ (T b).2.1) (j : Nat) (hj : j < N) (href : (T j).1 = ref) (q : Cond.fieldLink own index ref (T j).2.1 (T j).2.2.1 ∈ lw_all) (hfin : (T j).2.2.2 = true) (hin2 : (g_me X).name = "<init>") (hdecl : (T j).1 = own) {ty : FieldType} (hd1 : parseFieldDescriptor (T j).2.2.1 = some ty) (hn : narrow ty v = v) (hfit : fits ty v = true) (hlen : j < fs.length) (hd : decode cc pc = .ok (.putfield index, 3))
    (kk : g_Y cl X (g_fL cn (g_fs f k u (.inr (ci, fs.set j v)))) ad σ w (pc + 3) vs (st)) : g_Y cl X (g_fL cn f) ad σ w (pc) vs (v :: .ref a :: st) := by
  subst haa
  intro H locs ls hW hS hl
  obtain ⟨ws, q0, hP, hD, hq, -, back⟩ := g_fset hW hu hcell
  exact va_putF C.1 C.2.1 C.2.2.2.2.1 hin ty0 hty hnm C.2.2.2.1 C.2.2.2.2.2.2.2.2.1 hP hD hS q0 hq hc j hj (C.2.2.2.2.1 _ q) (fun x h => by rw [← href]; exact h) hfin hin2 hdecl hd1 hn hfit hlen hd (fun H1 locs1 hP1 _ hS1 => kk H1 locs1 ls (back _ _ hP1) hS1 hl)
theorem z_bast {a : Nat} (C : g_M cl X cc own ret) {k u n : Nat} {g : Nat → Int32} {i x : Int32} (hu : u < cn.getD k 0) (hcell : f k u = some (.inl (g_dA X 3, n, .inl g))) (haa : ad k u = a) (hi : g_in i n = true) (hd : decode cc pc = .ok (.bastore, 1)) (kk : g_Y cl X (g_fL cn (g_fs f k u (.inl (g_dA X 3, n, .inl (upd g i.toNatClampNeg (vp_nar .byte x)))))) ad σ w (pc + 1) vs (st)) : g_Y cl X (g_fL cn f) ad σ w (pc) vs (.int x :: .int i :: .ref a :: st) := by
  subst haa
  intro H locs ls hW hS hl
  obtain ⟨ws, q0, hP, hD, hq, -, back⟩ := g_fset hW hu hcell
  exact va_bast C.1 C.2.1 C.2.2.2.2.2.2.2.2.1 hP hD hS q0 3 hq rfl (g_in_vp hi) hd (fun H1 locs1 hP1 _ hS1 => kk H1 locs1 ls (back _ _ hP1) hS1 hl)
theorem z_iast {a : Nat} (C : g_M cl X cc own ret) {k u n : Nat} {g : Nat → Int32} {i x : Int32} (hu : u < cn.getD k 0) (hcell : f k u = some (.inl (g_dA X 0, n, .inl g))) (haa : ad k u = a) (hi : g_in i n = true) (hd : decode cc pc = .ok (.iastore, 1)) (kk : g_Y cl X (g_fL cn (g_fs f k u (.inl (g_dA X 0, n, .inl (upd g i.toNatClampNeg x))))) ad σ w (pc + 1) vs (st)) : g_Y cl X (g_fL cn f) ad σ w (pc) vs (.int x :: .int i :: .ref a :: st) := by
  subst haa
  intro H locs ls hW hS hl
  obtain ⟨ws, q0, hP, hD, hq, -, back⟩ := g_fset hW hu hcell
  exact va_iast C.1 C.2.1 C.2.2.2.2.2.2.2.2.1 hP hD hS q0 0 hq rfl (g_in_vp hi) hd (fun H1 locs1 hP1 _ hS1 => kk H1 locs1 ls (back _ _ hP1) hS1 hl)
theorem z_astq {a v : Nat} (C : g_M cl X cc own ret) {k u k2 u2 n t0 ci : Nat} {g : Nat → Option Nat} {i : Int32} {r : vw_C} {fs : List Value} (hu : u < cn.getD k 0) (hcell : f k u = some (.inl (g_dA X t0, n, .inr (.inr (.inr (.inr g)))))) (haa : ad k u = a) (hu2 : u2 < cn.getD k2 0) (hcell2 : f k2 u2 = some (.inr (ci, fs))) (hav : ad k2 u2 = v) (hc : cl[ci]? = some r) (ht : (g_tys (g_dA X))[t0]? = some (g_dA X t0, .object r.1)) (hi : g_in i n = true) (hd : decode cc pc = .ok (.aastore, 1)) (kk : g_Y cl X (g_fL cn (g_fs f k u (.inl (g_dA X t0, n, .inr (.inr (.inr (.inr (va_up g i.toNatClampNeg (some v))))))))) ad σ w (pc + 1) vs (st)) : g_Y cl X (g_fL cn f) ad σ w (pc) vs (.ref v :: .int i :: .ref a :: st) := by
  subst haa
  subst hav
  intro H locs ls hW hS hl
  obtain ⟨ws, q0, hP, hD, hq, hat, back⟩ := g_fset hW hu hcell
  obtain ⟨qk, hqk⟩ := hat k2 u2 _ hu2 hcell2
  exact va_astq C.1 C.2.1 C.2.2.2.2.2.2.2.2.1 hP hD hS q0 t0 qk ci hq ht hqk hc (g_in_vp hi) hd (fun H1 locs1 hP1 _ hS1 => kk H1 locs1 ls (back _ _ hP1) hS1 hl)
def g_fm (f : Nat → Nat → Option va_E) (kO kI : Nat) (eO eI : va_E) : Nat → Nat → Option va_E := fun k u => if k = kO ∧ u = 0 then some eO else if k = kI then some eI else f k u
theorem z_mnew {index N M : Nat} {n m : Int32} (C : g_M cl X cc own ret) (kO kI : Nat) (hne : kO ≠ kI) (hI : cn.getD kI 0 = N) (qc : Cond.classLink own index "[[I" ∈ lw_all) (hn : ¬ n < 0) (hm : ¬ m < 0) (hN : n.toNatClampNeg = N) (hM : m.toNatClampNeg = M) (hb1 : N * 4 ≤ 536870912) (hb2 : M * 4 ≤ 536870912) (hf : w.1 + (1 + N) ≤ (g_R X).cells ∧ w.2 + (N + N * M) ≤ (g_R X).slots) (hd : decode cc pc = .ok (.multianewarray index 2, 4))
    (kk : ∀ q, g_Y cl X (g_fL cn (g_fm f kO kI (.inl (g_dA X 7, N, .inr (.inr (.inr (.inr fun j => some (q + 1 + j)))))) (.inl (g_dA X 0, M, .inl fun _ => 0)))) (g_um ad kO kI q) σ (w.1 + (1 + N), w.2 + (N + N * M)) (pc + 4) vs (.ref q :: st)) : g_Y cl X (g_fL cn f) ad σ w (pc) vs (.int m :: .int n :: st) := by
  intro H locs ls hW hS hl T hT XS
  have hts := C.2.2.2.2.1
  have hK := C.2.2.2.2.2.2.2.2.1
  obtain ⟨vm₁, cA, comp, hW1, hfA, hfC, hOa, hIa, X1, st1⟩ := XS.multianewarray2F C.1 (own := own) (index := index) (ty := .int) C.2.2.2.1 (hts _ qc) (g_AOmoved C.2.2.2.2.2.2.2.2.2.2.1.alike (C.2.2.2.2.2.2.2.2.2.1.1 _ q224)) (hts _ q221) (g := F0 (g_m X) pc ls (.int m :: .int n :: st)) rfl (by show decode (g_c X).code pc = _; rw [C.2.1]; exact hd) rfl hn hm (by rw [hN]; exact hb1) (by rw [hM]; exact hb2) (by rw [hM]; omega) rfl rfl (by rw [hN]; exact hf.1) (by rw [hN, hM]; exact hf.2)
  rw [hN, hM] at X1 st1
  obtain ⟨f1, f2, f3, f4⟩ := Jvm.Free.Multi.fill_facts (T.setVm vm₁) cA comp N M (.int 0) N
  have fo := fun (a : Addr) (ha : a < T.heap.size) => Jvm.Free.Multi.fill_old (T.setVm vm₁) cA comp N M (.int 0) (a := a) ha N
  have fi := fun (j : Nat) (hj : j < N) => Jvm.Free.Multi.fill_inner (T.setVm vm₁) cA comp N M (.int 0) N j hj
  have hcA : cA = g_dA X 7 := Option.some.inj (hfA.symm.trans (g_RA (hK.2 7 _ rfl).2))
  have hcI : comp = g_dA X 0 := Option.some.inj (hfC.symm.trans (va_nm_int (hK.2 0 _ rfl).2))
  subst hcA; subst hcI
  have hTs : (T.setVm vm₁).heap = H := hT
  rw [hTs] at f1 f2 fo fi
  rw [g_outer] at f2
  simp only [g_inner] at fi
  have hTz : T.heap.size = H.size := by rw [hT]
  have hA0 : ∀ q : Nat, H.size ≤ q → g_A X q := fun q hq => C.2.2.2.2.2.2.2.1 q (Nat.le_trans hS.1 hq)
  have hold : ∀ k' u' e, u' < cn.getD k' 0 → f k' u' = some e → ad k' u' < H.size := fun k' u' e hu he => (hW.1 k' u' hu).lt (g_fpi he)
  have key : ∀ k' u', u' < cn.getD k' 0 → g_pr (g_cell (g_fL cn (g_fm f kO kI (.inl (g_dA X 7, N, .inr (.inr (.inr (.inr fun j => some (H.size + 1 + j)))))) (.inl (g_dA X 0, M, .inl fun _ => 0)))) (g_dA X) (g_um ad kO kI H.size) σ k' u') → (k' = kO ∧ u' = 0 ∧ g_um ad kO kI H.size k' u' = H.size) ∨ (k' = kI ∧ g_um ad kO kI H.size k' u' = H.size + 1 + u') ∨ (¬ (k' = kO ∧ u' = 0) ∧ k' ≠ kI ∧ g_um ad kO kI H.size k' u' = ad k' u' ∧ ∃ e, f k' u' = some e) := by
    intro k' u' hu hp
    by_cases h1 : k' = kO ∧ u' = 0
    · exact Or.inl ⟨h1.1, h1.2, if_pos h1⟩
    · by_cases h2 : k' = kI
      · exact Or.inr (Or.inl ⟨h2, (if_neg h1).trans (if_pos h2)⟩)
      · obtain ⟨e, he⟩ := g_fp hp
        exact Or.inr (Or.inr ⟨h1, h2, (if_neg h1).trans (if_neg h2), e, by rw [← he]; exact ((if_neg h1).trans (if_neg h2)).symm⟩)
  have hWn : g_W cl (g_D X) (g_dA X) (g_fL cn (g_fm f kO kI (.inl (g_dA X 7, N, .inr (.inr (.inr (.inr fun j => some (H.size + 1 + j)))))) (.inl (g_dA X 0, M, .inl fun _ => 0)))) (g_um ad kO kI H.size) σ (g_A X) (Jvm.Free.Multi.fill (T.setVm vm₁) (g_dA X 7) (g_dA X 0) N M (.int 0) N).heap := by
    refine ⟨fun k' u' hu => ?_, fun k1 u1 k2 u2 h1 h2 p1 p2 h3 => ?_, fun k' u' hu hp => ?_⟩
    · by_cases h1 : k' = kO ∧ u' = 0
      · obtain ⟨rfl, rfl⟩ := h1
        rw [g_fc (if_pos ⟨rfl, rfl⟩), show g_um ad k' kI H.size k' 0 = H.size from if_pos ⟨rfl, rfl⟩]
        exact f2
      · by_cases h2 : k' = kI
        · subst h2
          have hu' : u' < N := by rw [← hI]; exact hu
          rw [g_fc ((if_neg h1).trans (if_pos rfl)), show g_um ad kO k' H.size k' u' = H.size + 1 + u' from (if_neg h1).trans (if_pos rfl)]
          exact fi u' hu'
        · rw [show g_um ad kO kI H.size k' u' = ad k' u' from (if_neg h1).trans (if_neg h2)]
          match hx : f k' u' with
          | none => rw [g_fc0 (((if_neg h1).trans (if_neg h2)).trans hx)]; trivial
          | some e =>
            rw [g_fc (((if_neg h1).trans (if_neg h2)).trans hx)]
            have h0 := hW.1 k' u' hu
            rw [g_fc hx] at h0
            exact va_at.kept (q := (ad k' u', e)) h0 (fo _ (by rw [hTz]; exact hold k' u' e hu hx))
    · rcases key k1 u1 h1 p1 with ⟨a1, a2, a3⟩ | ⟨a1, a3⟩ | ⟨a1, a2, a3, e1, a4⟩ <;> rcases key k2 u2 h2 p2 with ⟨b1, b2, b3⟩ | ⟨b1, b3⟩ | ⟨b1, b2, b3, e2, b4⟩ <;> rw [a3, b3] at h3
      · exact ⟨a1.trans b1.symm, a2.trans b2.symm⟩
      · omega
      · have := hold k2 u2 e2 h2 b4; omega
      · omega
      · exact ⟨a1.trans b1.symm, by omega⟩
      · have := hold k2 u2 e2 h2 b4; omega
      · have := hold k1 u1 e1 h1 a4; omega
      · have := hold k1 u1 e1 h1 a4; omega
      · exact hW.2.1 k1 u1 k2 u2 h1 h2 (g_fpi a4) (g_fpi b4) h3
    · rcases key k' u' hu hp with ⟨a1, a2, a3⟩ | ⟨a1, a3⟩ | ⟨a1, a2, a3, e1, a4⟩ <;> rw [a3]
      · exact hA0 _ (Nat.le_refl _)
      · exact hA0 _ (by omega)
      · exact hW.2.2 k' u' hu (g_fpi a4)
  have hSn : va_S (g_A X) (g_s X).heap (Jvm.Free.Multi.fill (T.setVm vm₁) (g_dA X 7) (g_dA X 0) N M (.int 0) N).heap locs := ⟨by rw [f1]; exact Nat.le_trans hS.1 (by omega), fun q h1 h2 => (fo q (by rw [hTz]; exact Nat.lt_of_lt_of_le h1 hS.1)).trans (hS.2.1 q h1 h2), hS.2.2⟩
  obtain ⟨t, a1, b1⟩ := kk H.size (Jvm.Free.Multi.fill (T.setVm vm₁) (g_dA X 7) (g_dA X 0) N M (.int 0) N).heap locs ls hWn hSn hl _ rfl (X1.more (Nat.le_of_eq (by omega)) (Nat.le_of_eq (by show w.2 + N + N * M = w.2 + (N + N * M); omega)))
  refine ⟨t, st1 t ?_, b1⟩
  rw [hTz]
  exact a1
theorem z_callI0 {y : MethodName} {bytes : ByteArray} {nL1 n na index : Nat} {host : String} {As rest : List Value} {k u a : Nat} {e0 e1 : va_E} {fc fc' : Nat → Nat → Option va_E} (C : g_M cl X cc own ret) (hu : u < cn.getD k 0) (hf : f k u = some e0) (haa : ad k u = a)
    (cw : (CallB (g_R X) (g_s X) (g_as X) own index y bytes nL1 none (ws_ y bytes nL1 none) (g_rm n 0 0) 0 0 na ∧ y.name = "<init>" ∧ (Cond.instanceMethod y).before (g_as X) (g_s X) = true) ∨ (va_CN (g_R X) (g_s X) (g_as X) own index y host bytes nL1 none (ws_ y bytes nL1 none) (g_rm n 0 0) 0 0 na ∧ y.name = "<init>" ∧ (Cond.instanceMethod y).before (g_as X) (g_s X) = true))
    (hM : ∀ A' : Nat → Prop, g_Met cl (g_D X) (g_dA X) A' (g_s0 X) (g_b0 X) (g_l X) y bytes nL1 none n (0, 0) (g_fL [1] fc) (fun _ _ => a) σ (.ref a :: As) (g_fL [1] fc') (fun _ _ => a) σ none) (hfc : fc 0 0 = some e0) (hfc' : fc' 0 0 = some e1) (hst : st = As.reverse ++ .ref a :: rest) (hn : As.length = na) (hcat : (rest.map fun v => v.category).sum ≤ 8) (hff : w.1 ≤ (g_R X).cells ∧ w.2 ≤ (g_R X).slots) (hd : decode cc pc = .ok (.invokespecial index, 3))
    (kk : g_Y cl X (g_fL cn (g_fs f k u e1)) ad σ w (pc + 3) vs (rest)) : g_Y cl X (g_fL cn f) ad σ w (pc) vs (st) := by
  intro H locs ls hW hS hl
  subst hst
  subst haa
  have hAA : ∀ q, (fun q => q = ad k u ∨ H.size ≤ q) q → g_A X q := fun q hq => hq.elim (fun z => by rw [z]; exact hW.2.2 k u hu (g_fpi hf)) (fun z => C.2.2.2.2.2.2.2.1 q (Nat.le_trans hS.1 z))
  have one : ∀ k' u', u' < [1].getD k' 0 → k' = 0 ∧ u' = 0 := fun k' u' h => by
    match k', h with
    | 0, h => exact ⟨rfl, by have : u' < 1 := h; omega⟩
    | k' + 1, h => exact absurd h (by show ¬ u' < 0; omega)
  have hc : g_W cl (g_D X) (g_dA X) (g_fL [1] fc) (fun _ _ => ad k u) σ (fun q => q = ad k u ∨ H.size ≤ q) H := by
    refine ⟨fun k' u' h => ?_, fun k1 u1 k2 u2 h1 h2 _ _ _ => ?_, fun _ _ _ _ => Or.inl rfl⟩
    · obtain ⟨rfl, rfl⟩ := one k' u' h
      rw [g_fc hfc]
      have h0 := hW.1 k u hu
      rw [g_fc hf] at h0
      exact h0
    · obtain ⟨rfl, rfl⟩ := one k1 u1 h1
      obtain ⟨rfl, rfl⟩ := one k2 u2 h2
      exact ⟨rfl, rfl⟩
  have hstart : ∀ U : State, U.heap = H → (g_s X).WarmedH U.vm → va_Pc (.ref (ad k u) :: As) (g_B cl (g_D X) (g_dA X) (g_fL [1] fc) (fun _ _ => ad k u) σ (fun q => q = ad k u ∨ H.size ≤ q) (g_s0 X) (g_b0 X)) (Value.ref (ad k u) :: As).toArray U := by
    intro U hU hWm
    subst hU
    exact ⟨rfl, hc, (C.2.2.2.2.2.2.2.2.moved hS hWm).sub hAA, fun q hq => Or.inr hq⟩
  have fin : ∀ (H1 : Heap) (locs1 : List Loc), g_W cl (g_D X) (g_dA X) (g_fL [1] fc') (fun _ _ => ad k u) σ (fun q => q = ad k u ∨ H.size ≤ q) H1 → H.size ≤ H1.size → (∀ q : Nat, q < H.size → ¬ (fun q => q = ad k u ∨ H.size ≤ q) q → H1[q]? = H[q]?) → va_S (g_A X) (g_s X).heap H1 locs1 → W (g_p X) (g_l X) (g_e X) (g_R X) (g_s X) (g_m X) (g_as X) (g_be X) (g_me X) (g_c X) H1 locs1 (w.1 + 0) (w.2 + 0) (g_Q X) (F0 (g_m X) (pc + 3) ls rest) := by
    intro H1 locs1 hB _ hk hS1
    refine kk H1 locs1 ls (g_frame (fun k' u' => if k' = k ∧ u' = u then .inr (0, 0) else .inl (k', u')) hW hB hk hAA (fun k' u' hu' hp => ?_) (fun k1 u1 k2 u2 _ _ _ _ h3 => ?_)) hS1 hl
    · by_cases hkk : k' = k ∧ u' = u
      · obtain ⟨rfl, rfl⟩ := hkk
        exact Or.inr ⟨0, 0, if_pos ⟨rfl, rfl⟩, Nat.lt_succ_self 0, rfl, by rw [g_fc g_fs_s, g_fc hfc']⟩
      · obtain ⟨e2, h2⟩ := g_fp hp
        have h2' : f k' u' = some e2 := by rw [← h2, g_fs_n hkk]
        refine Or.inl ⟨k', u', if_neg hkk, hu', fun hq => ?_, rfl, by rw [g_fc h2, g_fc h2']⟩
        rcases hq with hq | hq
        · exact hkk (hW.2.1 k' u' k u hu' hu (g_fpi h2') (g_fpi hf) hq)
        · exact absurd ((hW.1 k' u' hu').lt (g_fpi h2')) (Nat.not_lt.mpr hq)
    · by_cases g1 : k1 = k ∧ u1 = u <;> by_cases g2 : k2 = k ∧ u2 = u
      · exact ⟨g1.1.trans g2.1.symm, g1.2.trans g2.2.symm⟩
      · simp only [if_pos g1, if_neg g2] at h3; cases h3
      · simp only [if_neg g1, if_pos g2] at h3; cases h3
      · simp only [if_neg g1, if_neg g2] at h3; cases h3; exact ⟨rfl, rfl⟩
  rcases cw with cw | cw
  · exact g_goF0 (v := none) (va_runI ⟨C.1, C.2.1, C.2.2.1, C.2.2.2.1, C.2.2.2.2.1⟩ (hM _) cw ⟨g_blind, hstart⟩ rfl hn hl.1 rfl (lv_room hcat) hd hff) hS hAA fin
  · exact g_goF0 (v := none) (va_runIN ⟨C.1, C.2.1, C.2.2.1, C.2.2.2.1, C.2.2.2.2.1⟩ (hM _) cw ⟨g_blind, hstart⟩ rfl hn hl.1 rfl (lv_room hcat) hd hff) hS hAA fin
end GZ
section GZS
variable {cl : List vw_C} {X : g_F} {cc : ByteArray} {own : String} {ret : Option FieldType} {cn : List Nat} {f : Nat → Nat → Option va_E} {ad : Nat → Nat → Nat} {σ : g_S} {w : Nat × Nat} {pc : Nat} {vs : List (Nat × Value)} {st : List Value}
/-- a field is set, of a name that another one of the object bears too: they may share a slot, as far as the tables say -/
theorem z_putS {C1 ref : String} {T : u_T} {N ci index a : Nat} {fs : List Value} {v : Value} (C : g_M cl X cc own ret) {k u : Nat} (hu : u < cn.getD k 0) (hcell : f k u = some (.inr (ci, fs))) (haa : ad k u = a) (hin : ∀ z ∈ u_ws C1 T N, z ∈ lw_all) (hc : cl[ci]? = some (C1, T, N)) (ty0 : Nat → FieldType) (hty : ∀ k, k < N → parseFieldDescriptor (T k).2.2.1 = some (ty0 k)) (j j2 : Nat) (hj : j < N) (hj2 : j2 < N) (hnm : ∀ b, b < N → b ≠ j → b ≠ j2 → (T b).2.1 ≠ (T j).2.1) (href : (T j).1 = ref) (q : Cond.fieldLink own index ref (T j).2.1 (T j).2.2.1 ∈ lw_all) (hfin : (T j).2.2.2 = true) (hin2 : (g_me X).name = "<init>") (hdecl : (T j).1 = own) {ty : FieldType} (hd1 : parseFieldDescriptor (T j).2.2.1 = some ty) (hn : narrow ty v = v) (hfit : fits ty v = true) (hlen : j < fs.length) (hlen2 : j2 < fs.length) (hd : decode cc pc = .ok (.putfield index, 3))
    (k1 : g_Y cl X (g_fL cn (g_fs f k u (.inr (ci, fs.set j v)))) ad σ w (pc + 3) vs st) (k2 : g_Y cl X (g_fL cn (g_fs f k u (.inr (ci, (fs.set j v).set j2 v)))) ad σ w (pc + 3) vs st) : g_Y cl X (g_fL cn f) ad σ w pc vs (v :: .ref a :: st) := by
  subst haa
  intro H locs ls hW hS hl
  have hts := C.2.2.2.2.1
  have hK : va_K (g_D X) cl (g_tys (g_dA X)) (g_s X) := C.2.2.2.2.2.2.2.2.1
  obtain ⟨ws, q0, hP, hD, hq, -, back⟩ := g_fset hW hu hcell
  obtain ⟨r, h1, cell, q1, q2, q3, q4⟩ := hP q0 _ hq
  have hr : r = (C1, T, N) := Option.some.inj (h1.symm.trans hc)
  subst hr
  obtain ⟨hSl, hfc, kC, hkC, hkind⟩ := hK.1 ci _ hc
  obtain ⟨cf, kf, fi, fd, hi, hsl⟩ := hSl j hj
  have hlay := hts _ (hin _ (u_in_lay hj))
  unfold u_lay at hlay
  rw [if_pos hfin] at hlay
  have hst := (u_facts hfc hkC (u_lays hts hin hj) hi).1
  have hcf : (g_m X).cls = cf := by
    obtain ⟨_, _, c', _, _, _, -, -, hf', -, -, -, hown2, -⟩ := Cond.laysFinal_spec hlay
    have e1 : c' = cf := by have := hi.symm.trans hf'; simp at this; exact this.1.symm
    rw [hdecl] at hown2
    rw [← e1]; exact Option.some.inj (C.2.2.2.1.symm.trans hown2)
  have h6 := u_fits hfc hkC hkind (Or.inr hlay) hi hd1 hn hfit
  have hap : ∀ b, b < N → b ≠ j → b ≠ j2 → (g_D X).2 ci j ≠ (g_D X).2 ci b := by
    intro b hb hne hne2
    obtain ⟨_, _, _, fb, hib, eb⟩ := hSl b hb
    rw [← hsl, ← eb]
    refine u_apart (u_lays hts hin hj) (u_lays hts hin hb) hi hib ?_
    rw [(State.fieldFound?_type hi (hty j hj)).1, (State.fieldFound?_type hib (hty b hb)).1]
    exact fun z => hnm b hb hne hne2 z.symm
  refine W.putFinK C.1 C.2.1 C.2.2.2.1 (hts _ q) (by rw [← href]; exact hi) hst hcf hin2 (by rw [q2]; exact h6) q1 q3 (by rw [hsl]; exact k2_hasslot (q4 j hj)) rfl rfl hd fun H' e1 e2 e3 => ?_
  rw [hsl] at e1 ⊢
  by_cases hs : (g_D X).2 ci j = (g_D X).2 ci j2
  · have hset : ∀ b, b < N → (cell.setSlot ((g_D X).2 ci j) v).slots[(g_D X).2 ci b]? = some (updV (updV (vp_V fs) j v) j2 v b) := by
      intro b hb
      have hl1 := k2_hasslot (q4 j hj)
      by_cases hb2 : b = j2
      · subst hb2
        rw [← hs]
        simp [Cell.setSlot, updV, hl1]
      · by_cases hbj : b = j
        · subst hbj
          simp [Cell.setSlot, updV, hl1, hb2]
        · rw [slot_ne cell v (hap b hb hbj hb2), q4 b hb]
          simp [updV, hbj, hb2]
    exact k2 H' _ ls (back _ _ (hP.set hD hq ⟨_, hc, t_OB.to (V := updV (updV (vp_V fs) j v) j2 v) ⟨_, e1, q2, q3, hset⟩ (fun b _ => by
      rw [← vp_updV_set (fs := fs.set j v) (by rw [List.length_set]; exact hlen2) v b]
      unfold updV
      split
      · rfl
      · exact vp_updV_set hlen v b)⟩ e3)) (hS.put e2 e3 (hD.2 q0 _ hq)) hl
  · have hset : ∀ b, b < N → (cell.setSlot ((g_D X).2 ci j) v).slots[(g_D X).2 ci b]? = some (updV (vp_V fs) j v b) := by
      intro b hb
      by_cases hbj : b = j
      · subst hbj
        have hl1 := k2_hasslot (q4 b hb)
        simp [Cell.setSlot, updV, hl1]
      · have hx : (g_D X).2 ci j ≠ (g_D X).2 ci b := by
          by_cases hb2 : b = j2
          · subst hb2; exact hs
          · exact hap b hb hbj hb2
        rw [slot_ne cell v hx, q4 b hb]
        simp [updV, hbj]
    exact k1 H' _ ls (back _ _ (hP.set hD hq ⟨_, hc, t_OB.to (V := updV (vp_V fs) j v) ⟨_, e1, q2, q3, hset⟩ (fun b _ => vp_updV_set hlen v b)⟩ e3)) (hS.put e2 e3 (hD.2 q0 _ hq)) hl
end GZS
theorem g_one01 {k u : Nat} (h : u < g_n (g_fL [1] (fun _ _ => none)) k) : k = 0 ∧ u = 0 := by
  match k, h with
  | 0, h => exact ⟨rfl, by have : u < 1 := h; omega⟩
  | k + 1, h => exact absurd h (by show ¬ u < 0; omega)
theorem g_fid {cl : List vw_C} {D : va_G} {dA : Nat → ClassId} {LM LM2 : g_L} {ad : Nat → Nat → Nat} {σ σ2 : g_S} {A : Nat → Prop} {H : Heap} (hc : ∀ k u, u < g_n LM2 k → g_cell LM2 dA ad σ2 k u = g_cell LM dA ad σ k u) (hW : g_W cl D dA LM ad σ A H) (hn : ∀ k u, u < g_n LM2 k → u < g_n LM k := by intro k u h; exact h) : g_W cl D dA LM2 ad σ2 A H :=
  g_relay (fun k u => (k, u)) hW (fun k u hu hp => ⟨hn k u hu, by rw [← hc k u hu]; exact hp, rfl, fun a h => by rw [hc k u hu]; exact h⟩) (fun _ _ _ _ _ _ _ _ h => ⟨congrArg Prod.fst h, congrArg Prod.snd h⟩)
theorem y_relayI {cl : List vw_C} {X : g_F} {LM LM2 : g_L} {ad : Nat → Nat → Nat} {σ σ2 : g_S} {w : Nat × Nat} {pc : Nat} {vs : List (Nat × Value)} {st : List Value} (h : ∀ H, g_W cl (g_D X) (g_dA X) LM ad σ (g_A X) H → g_W cl (g_D X) (g_dA X) LM2 ad σ2 (g_A X) H) (kk : g_Y cl X LM2 ad σ2 w pc vs st) : g_Y cl X LM ad σ w pc vs st := fun H locs ls hW hS hl => kk H locs ls (h H hW) hS hl
theorem z_get {cl : List vw_C} {X : g_F} {cc : ByteArray} {own : String} {ret : Option FieldType} {cn : List Nat} {f : Nat → Nat → Option va_E} {ad : Nat → Nat → Nat} {σ : g_S} {w : Nat × Nat} {pc : Nat} {vs : List (Nat × Value)} {st : List Value} {C1 ref : String} {T : u_T} {N ci index a : Nat} {fs : List Value} {v : Value} (C : g_M cl X cc own ret) {k u : Nat} (hu : u < cn.getD k 0) (hcell : f k u = some (.inr (ci, fs))) (haa : ad k u = a) (hin : ∀ z ∈ u_ws C1 T N, z ∈ lw_all) (hc : cl[ci]? = some (C1, T, N)) (j : Nat) (hj : j < N) (href : (T j).1 = ref) (q : Cond.fieldLink own index ref (T j).2.1 (T j).2.2.1 ∈ lw_all) (hv : fs[j]? = some v) (hd : decode cc pc = .ok (.getfield index, 3))
    (kk : g_Y cl X (g_fL cn f) ad σ w (pc + 3) vs (v :: st)) : g_Y cl X (g_fL cn f) ad σ w pc vs (.ref a :: st) := by
  subst haa
  exact y_get C (LM := g_fL cn f) hu hin hc (g_fc hcell) j hj href q hv hd kk
