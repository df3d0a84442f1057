set_option maxRecDepth 100000
/-! ===== new cells ===== -/
def g_ua (ad : Nat → Nat → Nat) (k u a : Nat) : Nat → Nat → Nat := fun k' u' => if k' = k ∧ u' = u then a else ad k' u'
theorem g_ua_s {ad : Nat → Nat → Nat} {k u a : Nat} : g_ua ad k u a k u = a := if_pos ⟨rfl, rfl⟩
theorem g_ua_n {ad : Nat → Nat → Nat} {k u a k' u' : Nat} (h : ¬ (k' = k ∧ u' = u)) : g_ua ad k u a k' u' = ad k' u' := if_neg h
/-- a new cell (k, u): the others are what they were -/
def g_fresh (LM : g_L) (dA : Nat → ClassId) (ad : Nat → Nat → Nat) (σ σ1 : g_S) (k u : Nat) : Prop := ∀ (q k' u' : Nat), ¬ (k' = k ∧ u' = u) → u' < g_n LM k' → g_cell LM dA (g_ua ad k u q) σ1 k' u' = g_cell LM dA ad σ k' u'
theorem g_RA {U : State} {c : ClassId} {ty : FieldType} (h : va_RA U c ty) : U.vm.findClass ("[" ++ ty.toString) = some c := by
  cases ty with
  | object C => obtain ⟨_, _, _, _, _, h4⟩ := h; exact h4
  | _ => exact h
section GXN
variable {cl : List vw_C} {X : g_F} {cc : ByteArray} {own : String} {ret : Option FieldType} {LM : g_L} {ad : Nat → Nat → Nat} {σ : g_S} {w : Nat × Nat} {pc : Nat} {vs : List (Nat × Value)} {st : List Value}
theorem y_new {σ1 : g_S} {C1 : String} {T : u_T} {N ci index : Nat} {fs : List Value} (C : g_M cl X cc own ret) (k u : Nat) (hin : ∀ w ∈ u_ws C1 T N, w ∈ lw_all) (ty : Nat → FieldType) (hty : ∀ k, k < N → parseFieldDescriptor (T k).2.2.1 = some (ty k)) (qc : Cond.classLink own index C1 ∈ lw_all) (qi : Cond.instantiable C1 N ∈ lw_all) (qn : Cond.initialized C1 ∈ lw_all)
    (hc : cl[ci]? = some (C1, T, N)) (hfs : ∀ j, j < N → defaultValue (ty j) = vp_V fs j) (hf : w.1 + 1 ≤ (g_R X).cells ∧ w.2 + N ≤ (g_R X).slots) (hd : decode cc pc = .ok (.new index, 3)) (hfr : g_fresh LM (g_dA X) ad σ σ1 k u) (hme : ∀ q, g_cell LM (g_dA X) (g_ua ad k u q) σ1 k u = .inl (.inr (ci, fs)))
    (kk : ∀ q, g_Y cl X LM (g_ua ad k u q) σ1 (w.1 + 1, w.2 + N) (pc + 3) vs (.ref q :: st)) : g_Y cl X LM ad σ w pc vs st := by
  intro H locs ls hW hS hl
  obtain ⟨ws, hP, hD, -, hnew⟩ := g_adapt hW
  refine va_new (ci := ci) (fs := fs) C.1 C.2.1 C.2.2.2.2.1 hin ty hty C.2.2.2.1 (C.2.2.2.2.1 _ qc) (C.2.2.2.2.1 _ qi) (C.2.2.2.2.1 _ qn) C.2.2.2.2.2.2.2.2.1 hP hD hS C.2.2.2.2.2.2.2.1 hc hfs hf.1 hf.2 hd (fun q H1 hP1 hD1 hS1 => ?_)
  exact kk q H1 locs ls (hnew (g_ua ad k u q) σ1 k u q _ H1 hP1 hD1 g_ua_s (fun k' u' h => g_ua_n h) (hfr q) (hme q)) hS1 hl
theorem y_newa {σ1 : g_S} {atype : ArrayType} {ty : FieldType} {t0 : Nat} {n : Int32} {N : Nat} {a0 : vp_A} (C : g_M cl X cc own ret) (k u : Nat) (hty : newarray.typeOf atype = ty) (ht : (g_tys (g_dA X))[t0]? = some (g_dA X t0, ty)) (q1 : Cond.arrayClass ty ∈ lw_all) (ha : ∀ cA : ClassId, vp_cell cA a0 = arrV cA N (fun _ => defaultValue ty))
    (hn : ¬ n < 0) (hN : n.toNatClampNeg = N) (hbytes : N * componentBytes ty ≤ 536870912) (hf : w.1 + 1 ≤ (g_R X).cells ∧ w.2 + N ≤ (g_R X).slots) (hd : decode cc pc = .ok (.newarray atype, 2)) (hfr : g_fresh LM (g_dA X) ad σ σ1 k u) (hme : ∀ q, g_cell LM (g_dA X) (g_ua ad k u q) σ1 k u = .inl (.inl (g_dA X t0, a0)))
    (kk : ∀ q, g_Y cl X LM (g_ua ad k u q) σ1 (w.1 + 1, w.2 + N) (pc + 2) vs (.ref q :: st)) : g_Y cl X LM ad σ w pc vs (.int n :: st) := by
  intro H locs ls hW hS hl
  obtain ⟨ws, hP, hD, -, hnew⟩ := g_adapt hW
  have hK := C.2.2.2.2.2.2.2.2.1
  refine va_newa C.1 C.2.1 (by rw [hty]; exact C.2.2.2.2.1 _ q1) hty hK hP hD hS C.2.2.2.2.2.2.2.1 ha hn hN hbytes hf.1 hf.2 hd (fun q cA H1 hK1 hP1 hD1 hS1 => ?_)
  have h1 := g_RA (hK1.2 (g_tys (g_dA X)).length (cA, ty) (by rw [List.getElem?_append_right (Nat.le_refl _), Nat.sub_self]; rfl)).2
  have h2 := g_RA (hK.2 t0 _ ht).2
  have h3 : cA = g_dA X t0 := Option.some.inj (h1.symm.trans h2)
  subst h3
  exact kk q H1 locs ls (hnew (g_ua ad k u q) σ1 k u q _ H1 hP1 hD1 g_ua_s (fun k' u' h => g_ua_n h) (hfr q) (hme q)) hS1 hl
theorem y_newq {σ1 : g_S} {E : String} {t0 index : Nat} {n : Int32} {N : Nat} (C : g_M cl X cc own ret) (k u : Nat) (ht : (g_tys (g_dA X))[t0]? = some (g_dA X t0, .object E)) (qc : Cond.classLink own index E ∈ lw_all) (hov : va_AO E (g_s X))
    (hn : ¬ n < 0) (hN : n.toNatClampNeg = N) (hbytes : N * 4 ≤ 536870912) (hf : w.1 + 1 ≤ (g_R X).cells ∧ w.2 + N ≤ (g_R X).slots) (hd : decode cc pc = .ok (.anewarray index, 3)) (hfr : g_fresh LM (g_dA X) ad σ σ1 k u) (hme : ∀ q, g_cell LM (g_dA X) (g_ua ad k u q) σ1 k u = .inl (.inl (g_dA X t0, N, .inr (.inr (.inr (.inr (fun _ => none)))))))
    (kk : ∀ q, g_Y cl X LM (g_ua ad k u q) σ1 (w.1 + 1, w.2 + N) (pc + 3) vs (.ref q :: st)) : g_Y cl X LM ad σ w pc vs (.int n :: st) := by
  intro H locs ls hW hS hl
  obtain ⟨ws, hP, hD, -, hnew⟩ := g_adapt hW
  have hK := C.2.2.2.2.2.2.2.2.1
  refine va_newq C.1 C.2.1 C.2.2.2.1 (C.2.2.2.2.1 _ qc) hov hK hP hD hS C.2.2.2.2.2.2.2.1 hn hN hbytes hf.1 hf.2 hd (fun q cA H1 hK1 hP1 hD1 hS1 => ?_)
  have h1 := g_RA (hK1.2 (g_tys (g_dA X)).length (cA, .object E) (by rw [List.getElem?_append_right (Nat.le_refl _), Nat.sub_self]; rfl)).2
  have h2 := g_RA (hK.2 t0 _ ht).2
  have h3 : cA = g_dA X t0 := Option.some.inj (h1.symm.trans h2)
  subst h3
  exact kk q H1 locs ls (hnew (g_ua ad k u q) σ1 k u q _ H1 hP1 hD1 g_ua_s (fun k' u' h => g_ua_n h) (hfr q) (hme q)) hS1 hl
/-- a cell is let go -/
theorem y_drop {σ1 : g_S} (h : ∀ k u, u < g_n LM k → g_cell LM (g_dA X) ad σ1 k u = g_cell LM (g_dA X) ad σ k u ∨ g_cell LM (g_dA X) ad σ1 k u = .inr (.inr ())) (kk : g_Y cl X LM ad σ1 w pc vs st) : g_Y cl X LM ad σ w pc vs st := by
  intro H locs ls hW hS hl
  have hpr : ∀ k u, u < g_n LM k → g_pr (g_cell LM (g_dA X) ad σ1 k u) → g_pr (g_cell LM (g_dA X) ad σ k u) := fun k u hu hp => by
    rcases h k u hu with e | e
    · rw [e] at hp; exact hp
    · rw [e] at hp; exact hp.elim
  refine kk H locs ls ⟨fun k u hu => ?_, fun k u k' u' hu hu' h1 h2 h3 => hW.2.1 k u k' u' hu hu' (hpr k u hu h1) (hpr k' u' hu' h2) h3, fun k u hu hp => hW.2.2 k u hu (hpr k u hu hp)⟩ hS hl
  rcases h k u hu with e | e
  · rw [e]; exact hW.1 k u hu
  · rw [e]; trivial
end GXN
/-! ===== thrown: a Fault ===== -/
def g_TE (cl : List vw_C) (D : va_G) (dA : Nat → ClassId) (LM : g_L) (ad : Nat → Nat → Nat) (σ : g_S) (A : Nat → Prop) : Addr → String → State → State → Prop := vx_X (fun _ : Unit => True) (fun q E _ t => E = RX8 ∧ g_W cl D dA LM (g_ua ad 52 0 q) σ A t.heap) A
/-- a contract that throws -/
def g_MetX (cl : List vw_C) (D : va_G) (dA : Nat → ClassId) (A : Nat → Prop) (s0 : State) (b0 : Nat) (l : Launch) (y : MethodName) (cc : ByteArray) (nL : Nat) (ret : Option FieldType) (n : Nat) (LM : g_L) (ad : Nat → Nat → Nat) (σ : g_S) (av : List Value) (LM' : g_L) (ad' : Nat → Nat → Nat) (σ' : g_S) : Prop :=
  vx_Met l y (ws_ y cc nL ret) (g_rm n 1 7) (va_Pc av (g_B cl D dA LM ad σ A s0 b0)) (fun _ _ _ _ => False) (g_TE cl D dA LM' ad' σ' A) 1 7 A
def g_MQX (cl : List vw_C) (X : g_F) (LM : g_L) (ad : Nat → Nat → Nat) (σ : g_S) : State → Prop := vx_MQ (g_be X) (fun _ _ _ _ => False) (g_TE cl (g_D X) (g_dA X) LM ad σ (g_A X)) (g_as X) (g_s X) (g_mc X) (g_ms X) (g_A X)
/-- q is thrown over the frame at pc -/
def g_T (cl : List vw_C) (X : g_F) (LM : g_L) (ad : Nat → Nat → Nat) (σ : g_S) (w : Nat × Nat) (pc : Nat) (vs : List (Nat × Value)) (E : String) (q : Nat) : Prop :=
  ∀ (H : Heap) (locs : List Loc) (ls : Array Slot) (rest : List Value) (ce : Cell), g_W cl (g_D X) (g_dA X) LM ad σ (g_A X) H → va_S (g_A X) (g_s X).heap H locs → lv_has ls (g_nL X) vs → H[q]? = some ce → ce.vm = .none → (g_s X).vm.findClass E = some ce.cls →
    vx_W (g_p X) (g_l X) (g_e X) (g_R X) (g_s X) (g_m X) (g_as X) (g_be X) (g_me X) (g_c X) H locs w.1 w.2 (g_Q X) (F0 (g_m X) pc ls rest) q
theorem g_MetX.of {cl : List vw_C} {D : va_G} {dA : Nat → ClassId} {A : Nat → Prop} {s0 : State} {b0 : Nat} {l : Launch} {y : MethodName} {cc : ByteArray} {nL : Nat} {ret : Option FieldType} {n : Nat} {LM LM' : g_L} {ad ad' : Nat → Nat → Nat} {σ σ' : g_S} {av : List Value}
    (hy : plainName y.cls = true) (hfit : (lg_sl av).length ≤ nL)
    (hb : ∀ X : g_F, g_M cl X cc y.cls ret → g_MQX cl X LM' ad' σ' = g_Q X → g_R X = g_rm n 1 7 → g_mc X = 1 → g_ms X = 7 → g_nL X = nL → (g_me X).name = y.name → g_s0 X = s0 → g_b0 X = b0 → g_l X = l → (g_c X).exceptionTable.toList = [] → g_Y cl X LM ad σ (0, 0) 0 (lv_args 0 av) []) :
    g_MetX cl D dA A s0 b0 l y cc nL ret n LM ad σ av LM' ad' σ' := by
  refine vx_ofW (cc := cc) (maxL := nL) (ret := ret) hy rfl ?_
  intro p e s m args below meth c s₁ B hml ht hv
  obtain ⟨rfl, hW, hK, hA⟩ := hv
  have hts := atoms_spec (ws := ws_ y cc nL ret) B.pre
  have hts : ∀ w ∈ lw_all, w.before _ s = true := fun w h => hts w (List.mem_cons_of_mem _ h)
  have hin : meth.name = y.name := (name_of_methodNamed B.named B.method).1
  have htl : c.exceptionTable.toList = [] := by
    match h : c.exceptionTable.toList with
    | [] => rfl
    | x :: r => exact (ht x (by rw [h]; exact List.mem_cons_self)).elim
  have key := hb ((p, l, e, g_rm n 1 7, s, m, av.toArray, below, meth, c), D, dA, A, 1, 7, vx_MQ below (fun _ _ _ _ => False) (g_TE cl D dA LM' ad' σ' A) av.toArray s 1 7 A, nL, s0, b0)
    ⟨B.exec, B.bytes, hml, findClass_of_methodNamed B.named, hts, B.returns, B.notSynchronized, hA, hK⟩ rfl rfl rfl rfl rfl hin rfl rfl rfl htl
  have hl := lv_entry av (n := nL) hfit
  rw [lg_entry_eq]
  exact key s.heap [] _ hW va_S.rf hl
section GXT
variable {cl : List vw_C} {X : g_F} {cc : ByteArray} {own : String} {ret : Option FieldType} {LM : g_L} {ad : Nat → Nat → Nat} {σ : g_S} {w : Nat × Nat} {pc : Nat} {vs : List (Nat × Value)} {st : List Value}
/-- it leaves the method -/
theorem y_outX {q : Nat} (C : g_M cl X cc own ret) (hT : (g_c X).exceptionTable.toList = []) (hQ : g_MQX cl X LM ad σ = g_Q X) (hw : w.1 ≤ g_mc X ∧ w.2 ≤ g_ms X) : g_T cl X LM (g_ua ad 52 0 q) σ w pc vs RX8 q := by
  intro H locs ls rest ce hW hS hl h1 h2 h3
  rw [← hQ]
  exact vx_out (by rw [hT]; intro x hx; cases hx) C.2.2.2.2.2.2.1 h1 h2 h3 (fun t ht _ => ⟨(), trivial, ⟨rfl, by rw [ht]; exact hW⟩, hS.F ht⟩) hS.2.2 hw.1 hw.2
theorem y_catchX {q : Nat} {E : String} {hh : List (Nat × Nat × Nat × Nat)} {x : ExceptionTableEntry} {suf : List ExceptionTableEntry} (C : g_M cl X cc own ret) (hT : (g_c X).exceptionTable.toList = tableOf hh) (hsplit : tableOf hh = x :: suf) (hx : covers x pc = true) (h0 : x.catchType ≠ 0) (qk : Cond.classLink own x.catchType E ∈ lw_all) (qa : Cond.castable E E ∈ lw_tbl)
    (kk : g_Y cl X LM ad σ w x.handlerPc vs [.ref q]) : g_T cl X LM ad σ w pc vs E q := by
  intro H locs ls rest ce hW hS hl h1 h2 h3
  exact vx_catch C.2.2.2.1 [] x suf (by rw [hT, hsplit]; rfl) (fun z hz => nomatch hz) hx h0 (C.2.2.2.2.1 _ qk) (va_Nw.use rfl (g_nestC C qa)) h1 h2 h3 (kk H locs ls hW hS hl)
theorem y_athrow {k u ci N1 : Nat} {E : String} {T1 : u_T} {fs : List Value} (C : g_M cl X cc own ret) (hu : u < g_n LM k) (hc : cl[ci]? = some (E, T1, N1)) (hcell : g_cell LM (g_dA X) ad σ k u = .inl (.inr (ci, fs))) (hd : decode cc pc = .ok (.athrow, 1)) (kk : g_T cl X LM ad σ w pc vs E (ad k u)) : g_Y cl X LM ad σ w pc vs (.ref (ad k u) :: st) := by
  intro H locs ls hW hS hl
  have h0 := hW.1 k u hu
  rw [hcell] at h0
  obtain ⟨r, h1, ce, h2, h3, h4, -⟩ := h0
  cases hc.symm.trans h1
  exact vx_athrow C.1 C.2.1 hd (kk H locs ls st ce hW hS hl h2 h4 (by rw [h3]; exact (C.2.2.2.2.2.2.2.2.1.1 ci _ hc).2.1))
theorem g_goX {cl : List vw_C} {p : Program} {l : Launch} {e : Env} {R : Room} {s : State} {m : MethodId} {args : Array Value} {below : List Frame} {meth : Method} {c : Code} {H : Heap} {locs : List Loc} {cells slots mc ms pc : Nat} {Q : State → Prop} {ls : Array Slot} {st0 rest : List Value} {D : va_G} {dA : Nat → ClassId} {LM : g_L} {ad : Nat → Nat → Nat} {σ : g_S} {A : Nat → Prop}
    (hr : vx_Run p l e R s m args below meth c H locs cells slots mc ms (F0 m pc ls st0) rest (fun _ _ _ => False) (g_TE cl D dA LM ad σ A) A) (hS : va_S A s.heap H locs)
    (kx : ∀ (q : Nat) (ce : Cell) (H1 : Heap) (locs1 : List Loc), g_W cl D dA LM (g_ua ad 52 0 q) σ A H1 → va_S A s.heap H1 locs1 → H1[q]? = some ce → ce.vm = .none → s.vm.findClass RX8 = some ce.cls → vx_W p l e R s m args below meth c H1 locs1 (cells + mc) (slots + ms) Q (F0 m pc ls rest) q) : W p l e R s m args below meth c H locs cells slots Q (F0 m pc ls st0) := by
  intro T hT X
  rcases hr T hT X with ⟨v, st₀, t, T', L, h0, X', hL, e1, e2, hF, st⟩ | ⟨q, st₀, t, T', L, E, ce, h0, X', hL, e1, e2, ⟨u, hp, ⟨rfl, hb⟩, hF⟩, hce, hcv, hcl, st⟩
  · exact hF.elim
  · obtain ⟨k1, k2, k3⟩ := vx_keep h0 e1 hS (fun q _ h => h) (fun q h => h) hL hF
    obtain ⟨t2, a1, b1⟩ := kx q ce T'.heap (locs ++ L) (by rw [e1]; exact hb) k3 (by rw [e1]; exact hce) hcv hcl T' rfl X'
    exact ⟨t2, st.trans a1, b1⟩
theorem y_callVX {y : MethodName} {bytes : ByteArray} {nL1 : Nat} {ret1 : Option FieldType} {n na index : Nat} {LM1 : g_L} {ad1 : Nat → Nat → Nat} {σ1 : g_S} {As rest : List Value} {C1 : String} (C : g_M cl X cc own ret) {k u ci N1 : Nat} {T1 : u_T} (hu : u < g_n LM k) (hc : cl[ci]? = some (C1, T1, N1)) (hcell : g_obj LM (g_dA X) ad σ k u ci) (cw : CallW (g_R X) (g_s X) (g_as X) own C1 index y bytes nL1 ret1 (ws_ y bytes nL1 ret1) (g_rm n 1 7) 1 7 na)
    (hM : g_MetX cl (g_D X) (g_dA X) (g_A X) (g_s0 X) (g_b0 X) (g_l X) y bytes nL1 ret1 n LM ad σ (.ref (ad k u) :: As) LM1 ad1 σ1) (hst : st = As.reverse ++ .ref (ad k u) :: rest) (hn : As.length = na) (hcat : (rest.map fun v => v.category).sum ≤ 8) (hf : w.1 + 1 ≤ (g_R X).cells ∧ w.2 + 7 ≤ (g_R X).slots) (hd : decode cc pc = .ok (.invokevirtual index, 3))
    (kx : ∀ q, g_T cl X LM1 (g_ua ad1 52 0 q) σ1 (w.1 + 1, w.2 + 7) pc vs RX8 q) : g_Y cl X LM ad σ w pc vs st := by
  intro H locs ls hW hS hl
  subst hst
  exact g_goX (vx_runV ⟨C.1, C.2.1, C.2.2.1, C.2.2.2.1, C.2.2.2.2.1⟩ hM cw ⟨g_blind, g_recv C.2.2.2.2.2.2.2.2.1 hW hu hc hcell, g_start C hW hS⟩ rfl hn hl.1 rfl (lv_room hcat) hd hf) hS (fun q ce H1 locs1 hW1 hS1 h1 h2 h3 => kx q H1 locs1 ls rest ce hW1 hS1 hl h1 h2 h3)
theorem y_callUX {y : MethodName} {bytes : ByteArray} {nL1 : Nat} {ret1 : Option FieldType} {n na index : Nat} {LM1 : g_L} {ad1 : Nat → Nat → Nat} {σ1 : g_S} {As rest : List Value} {C1 owner : String} {x0 : MethodName} (C : g_M cl X cc own ret) {k u ci N1 : Nat} {T1 : u_T} (hu : u < g_n LM k) (hc : cl[ci]? = some (C1, T1, N1)) (hcell : g_obj LM (g_dA X) ad σ k u ci) (cw : va_CU (g_R X) (g_s X) (g_as X) own C1 owner index x0 y bytes nL1 ret1 (ws_ y bytes nL1 ret1) (g_rm n 1 7) 1 7 na)
    (hM : g_MetX cl (g_D X) (g_dA X) (g_A X) (g_s0 X) (g_b0 X) (g_l X) y bytes nL1 ret1 n LM ad σ (.ref (ad k u) :: As) LM1 ad1 σ1) (hst : st = As.reverse ++ .ref (ad k u) :: rest) (hn : As.length = na) (hcat : (rest.map fun v => v.category).sum ≤ 8) (hf : w.1 + 1 ≤ (g_R X).cells ∧ w.2 + 7 ≤ (g_R X).slots) (hd : decode cc pc = .ok (.invokevirtual index, 3))
    (kx : ∀ q, g_T cl X LM1 (g_ua ad1 52 0 q) σ1 (w.1 + 1, w.2 + 7) pc vs RX8 q) : g_Y cl X LM ad σ w pc vs st := by
  intro H locs ls hW hS hl
  subst hst
  exact g_goX (vx_runU ⟨C.1, C.2.1, C.2.2.1, C.2.2.2.1, C.2.2.2.2.1⟩ hM cw ⟨g_blind, g_recv C.2.2.2.2.2.2.2.2.1 hW hu hc hcell, g_start C hW hS⟩ rfl hn hl.1 rfl (lv_room hcat) hd hf) hS (fun q ce H1 locs1 hW1 hS1 h1 h2 h3 => kx q H1 locs1 ls rest ce hW1 hS1 hl h1 h2 h3)
end GXT
theorem pl_X8z : plainName yX8_init.cls = true := by decide +kernel
/-! ===== a Fault is made ===== -/
theorem g_W_new {cl : List vw_C} {D : va_G} {dA : Nat → ClassId} {LM : g_L} {ad : Nat → Nat → Nat} {σ σ1 : g_S} {A : Nat → Prop} {H H1 : Heap} {k u a : Nat} (h : g_W cl D dA LM ad σ A H) (hap : ∀ k' u', u' < g_n LM k' → g_pr (g_cell LM dA ad σ k' u') → ad k' u' ≠ a) (hA : A a) (hk : ∀ q : Nat, q ≠ a → q < H.size → H1[q]? = H[q]?) (hfr : g_fresh LM dA ad σ σ1 k u) (hme : g_at cl D a (g_cell LM dA (g_ua ad k u a) σ1 k u) H1) : g_W cl D dA LM (g_ua ad k u a) σ1 A H1 := by
  refine ⟨fun k' u' hu' => ?_, fun k1 u1 k2 u2 h1 h2 p1 p2 h3 => ?_, fun k' u' hu' hp' => ?_⟩
  · by_cases hz : k' = k ∧ u' = u
    · obtain ⟨rfl, rfl⟩ := hz
      rw [g_ua_s]; exact hme
    · rw [hfr a k' u' hz hu', g_ua_n hz]
      exact (h.1 k' u' hu').kept (fun hp => hk _ (hap k' u' hu' hp) ((h.1 k' u' hu').lt hp))
  · by_cases g1 : k1 = k ∧ u1 = u <;> by_cases g2 : k2 = k ∧ u2 = u
    · exact ⟨g1.1.trans g2.1.symm, g1.2.trans g2.2.symm⟩
    · rw [hfr a k2 u2 g2 h2] at p2
      rw [g1.1, g1.2, g_ua_s, g_ua_n g2] at h3
      exact absurd h3.symm (hap k2 u2 h2 p2)
    · rw [hfr a k1 u1 g1 h1] at p1
      rw [g2.1, g2.2, g_ua_s, g_ua_n g1] at h3
      exact absurd h3 (hap k1 u1 h1 p1)
    · rw [hfr a k1 u1 g1 h1] at p1
      rw [hfr a k2 u2 g2 h2] at p2
      rw [g_ua_n g1, g_ua_n g2] at h3
      exact h.2.1 k1 u1 k2 u2 h1 h2 p1 p2 h3
  · by_cases hz : k' = k ∧ u' = u
    · rw [hz.1, hz.2, g_ua_s]; exact hA
    · rw [hfr a k' u' hz hu'] at hp'
      rw [g_ua_n hz]
      exact h.2.2 k' u' hu' hp'
/-- a newborn object at a -/
def g_raw (C : String) (a : Nat) (U : State) (H : Heap) : Prop := ∃ (cX : ClassId) (kX : Class), U.vm.findClass C = some cX ∧ U.vm.classes[cX]? = some kX ∧ H[a]? = some (freshCell cX kX)
theorem g_raw.moved {C : String} {a : Nat} {s U : State} {H : Heap} (hvm : s.vm.Alike U.vm) (h : g_raw C a s H) : g_raw C a U H := by
  obtain ⟨cX, kX, h1, h2, h3⟩ := h
  obtain ⟨k', hk', he⟩ := hvm.2.2 _ _ h2
  exact ⟨cX, k', by rw [hvm.findClass]; exact h1, hk', by rw [h3, he]⟩
def g_newPc (cl : List vw_C) (D : va_G) (dA : Nat → ClassId) (LM : g_L) (ad : Nat → Nat → Nat) (σ : g_S) (A : Nat → Prop) (s0 : State) (b0 : Nat) (C : String) (a : Nat) : State → Prop := fun U => g_B cl D dA LM ad σ A s0 b0 U ∧ g_raw C a U U.heap ∧ A a ∧ ∀ k' u', u' < g_n LM k' → g_pr (g_cell LM dA ad σ k' u') → ad k' u' ≠ a
theorem g_newBlind {cl : List vw_C} {D : va_G} {dA : Nat → ClassId} {LM : g_L} {ad : Nat → Nat → Nat} {σ : g_S} {A : Nat → Prop} {s0 : State} {b0 : Nat} {av : List Value} {C : String} {a : Nat} : FrameBlind (va_Pc av (g_newPc cl D dA LM ad σ A s0 b0 C a)) := fun a' U g mk h =>
  ⟨h.1, (g_blind (cl := cl) (D := D) (dA := dA) (LM := LM) (ad := ad) (σ := σ) (A := A) (s0 := s0) (b0 := b0) (av := av) a' U g mk ⟨h.1, h.2.1⟩).2, h.2.2.1, h.2.2.2⟩
/-- Fault.<init>(I): its words -/
theorem ct_X8_init {cl : List vw_C} {D : va_G} {dA : Nat → ClassId} {A : Nat → Prop} {s0 : State} {b0 : Nat} {l : Launch} {LM : g_L} {ad : Nat → Nat → Nat} {σ σ0 σ1 : g_S} {ci a : Nat} {v : Int32} (hlt : l.stackTraces = false) (hc : cl[ci]? = some (RX8, TX8a, 1)) (hn : 0 < g_n LM 52)
    (hfr : g_fresh LM dA ad σ σ0 52 0) (hme : ∀ q, g_cell LM dA (g_ua ad 52 0 q) σ0 52 0 = .inl (.inr (ci, [.int 0]))) (hme1 : ∀ q, g_cell LM dA (g_ua ad 52 0 q) σ1 52 0 = .inl (.inr (ci, [.int v]))) (ho : g_oth σ0 σ1 52 0) :
    Met l yX8_init (ws_ yX8_init cX8_init 2 none) (g_rm 5 0 0) (va_Pc [.ref a, .int v] (g_newPc cl D dA LM ad σ A s0 b0 RX8 a)) (g_E cl D dA LM (g_ua ad 52 0 a) σ1 A none) 0 0 A := by
  refine Met.ofW (cc := cX8_init) (maxL := 2) (ret := none) (y := yX8_init) pl_X8z rfl ?_
  intro p e s m args below meth c s₁ B hml hv
  obtain ⟨rfl, ⟨hW, hK, hA⟩, ⟨cX, kX, hf1, hf2, hf3⟩, hAa, hap⟩ := hv
  have hts := atoms_spec (ws := ws_ yX8_init cX8_init 2 none) B.pre
  have hts : ∀ w ∈ lw_all, w.before _ s = true := fun w h => hts w (List.mem_cons_of_mem _ h)
  have hin : meth.name = yX8_init.name := (name_of_methodNamed B.named B.method).1
  obtain ⟨X, hX⟩ : ∃ X : g_F, X = ((p, l, e, g_rm 5 0 0, s, m, #[.ref a, .int v], below, meth, c), D, dA, A, 0, 0, MQ below (g_E cl D dA LM (g_ua ad 52 0 a) σ1 A none) #[.ref a, .int v] s 0 0 A, 2, s0, b0) := ⟨_, rfl⟩
  have C : g_M cl X cX8_init RX8 none := by
    subst hX
    exact ⟨B.exec, B.bytes, hml, findClass_of_methodNamed B.named, hts, B.returns, B.notSynchronized, hA, hK⟩
  have hl := lv_entry [.ref a, .int v] (n := 2) (Nat.le_refl _)
  have hY : g_Y cl X LM (g_ua ad 52 0 a) σ0 (0, 0) 4 (lv_args 0 [.ref a, .int v]) [] := by
    refine y_aload_n C dX8_init_4 0 rfl rfl ?_
    refine y_iload_n C dX8_init_5 1 rfl rfl ?_
    have hv0 : g_ua ad 52 0 a 52 0 = a := g_ua_s
    have hme0' := hme a
    have hme1' := hme1 a
    generalize g_ua ad 52 0 a = ad' at hv0 hme0' hme1' hX ⊢
    suffices key : g_Y cl X LM ad' σ0 (0, 0) 6 (lv_args 0 [.ref a, .int v]) [.int v, .ref (ad' 52 0)] by rw [hv0] at key; exact key
    refine y_putF (T := TX8a) (N := 1) (ci := ci) C hn in_X8a hc (by subst hX; exact hme0') tyX8a tyX8a_ok nmX8a 0 (by decide) rfl q449 rfl (by subst hX; exact hin) rfl rfl rfl rfl (Nat.le_of_ble_eq_true rfl) ho (by subst hX; exact hme1') dX8_init_6 ?_
    exact y_vret C (by subst hX; rfl) (by subst hX; exact ⟨Nat.le_refl _, Nat.le_refl _⟩) dX8_init_9
  suffices main : ∀ ls : Array Slot, lv_has ls 2 (lv_args 0 [.ref a, .int v]) → W p l e (g_rm 5 0 0) s m #[.ref a, .int v] below meth c s.heap [] 0 0 (MQ below (g_E cl D dA LM (g_ua ad 52 0 a) σ1 A none) #[.ref a, .int v] s 0 0 A) (F0 m 0 ls []) by
    rw [lg_entry_eq]
    exact main _ hl
  clear hl
  intro ls hl
  have hsz : ls.size = c.maxLocals := by rw [hml]; exact hl.1
  have hpc : W p l e (g_rm 5 0 0) s m #[.ref a, .int v] below meth c s.heap [] 0 0 (MQ below (g_E cl D dA LM (g_ua ad 52 0 a) σ1 A none) #[.ref a, .int v] s 0 0 A) (F0 m 1 ls [.ref a]) := by
    have CC : g_M cl ((p, l, e, g_rm 5 0 0, s, m, #[.ref a, .int v], below, meth, c), D, dA, A, 0, 0, MQ below (g_E cl D dA LM (g_ua ad 52 0 a) σ1 A none) #[.ref a, .int v] s 0 0 A, 2, s0, b0) cX8_init RX8 none := by rw [← hX]; exact C
    refine g_excInit B.exec B.bytes hlt (own := RX8) (cls := RX8) (XN := "java/lang/Exception") (fn := "at") (names := []) (nn := 7) CC.2.2.2.1 (by decide) (fun n h => nomatch h) (g_thr CC) (g_chE CC) (hts _ q445) (hts _ q446) (hts _ q447) (hts _ q410) (hts _ q411) (hts _ q412) (hts _ q414) (hts _ q416) (hts _ q420) (hts _ q456) (by decide) (by decide) (by decide) (hts _ q404) (hts _ q422) (hts _ q421) (vx_isRefq (g_zU CC).1) (vx_isRefq (g_zN CC).1) hf1 hf2 hf3 hsz dX8_init_1 (by decide) (by decide) ?_
    intro H1 L ce e1 e2 e3 e4 e5 e6 e7
    subst hX
    refine hY H1 L _ (g_W_new hW hap hAa (fun q hq _ => e6 q hq) hfr ?_) ⟨Nat.le_of_eq e5.symm, fun q _ hq => e6 q (fun z => hq (by rw [z]; exact hAa)), fun y hy => by rw [e7 y hy]; exact hAa⟩ hl
    rw [hme]
    have hKc := hK.1.1 ci _ hc
    obtain ⟨hS, hfc, -⟩ := hKc
    refine ⟨_, hc, ce, e1, by rw [e2]; exact Option.some.inj (hf1.symm.trans hfc), e3, fun k hk => ?_⟩
    obtain rfl : k = 0 := Nat.lt_one_iff.mp hk
    obtain ⟨cf, kf, fi, fd, hi, he⟩ := hS 0 hk
    rw [← he, e4 cf kf fi fd hi]
    obtain ⟨cell, z1, z2, z3, z4⟩ := u_born (C := RX8) (T := TX8a) (N := 1) (iS := D.2 ci) (kC := kX) (cC := D.1 ci) (o := a) (H := s.heap) tyX8a hts in_X8a (hK.1.1 ci _ hc) (by rw [← Option.some.inj (hf1.symm.trans hfc)]; exact hf2) (by rw [← Option.some.inj (hf1.symm.trans hfc)]; exact hf3) tyX8a_ok
    cases hf3.symm.trans z1
    have z5 := z4 0 hk
    rw [← he] at z5
    exact z5
  exact lv_aload_n B.exec B.bytes dX8_init_0 rfl (lv_at hl 0 rfl) hpc
/-- new Fault(v): new; dup; what makes v; invokespecial -/
theorem y_newFault {cl : List vw_C} {X : g_F} {cc : ByteArray} {own : String} {ret : Option FieldType} {LM : g_L} {ad : Nat → Nat → Nat} {σ σ0 σ1 : g_S} {w : Nat × Nat} {pc mid ik ic ci : Nat} {v : Int32} {vs : List (Nat × Value)} {st : List Value} (C : g_M cl X cc own ret) (hlt : (g_l X).stackTraces = false) (hc : cl[ci]? = some (RX8, TX8a, 1)) (hn : 0 < g_n LM 52) (qk : Cond.classLink own ik RX8 ∈ lw_all)
    (cw : CallB (g_R X) (g_s X) (g_as X) own ic yX8_init cX8_init 2 none (ws_ yX8_init cX8_init 2 none) (g_rm 5 0 0) 0 0 1 ∧ yX8_init.name = "<init>" ∧ (Cond.instanceMethod yX8_init).before (g_as X) (g_s X) = true) (hcat : ((st.map fun v => v.category).sum) + 1 ≤ 8) (hf : w.1 + 1 ≤ (g_R X).cells ∧ w.2 + 7 ≤ (g_R X).slots)
    (d0 : decode cc pc = .ok (.new ik, 3)) (d3 : decode cc (pc + 3) = .ok (.dup, 1)) (dI : decode cc mid = .ok (.invokespecial ic, 3)) (hfr : g_fresh LM (g_dA X) ad σ σ0 52 0) (hme : ∀ q, g_cell LM (g_dA X) (g_ua ad 52 0 q) σ0 52 0 = .inl (.inr (ci, [.int 0]))) (hme1 : ∀ q, g_cell LM (g_dA X) (g_ua ad 52 0 q) σ1 52 0 = .inl (.inr (ci, [.int v]))) (ho : g_oth σ0 σ1 52 0)
    (hmid : ∀ (H : Heap) (locs : List Loc) (ls : Array Slot) (q c s : Nat), g_W cl (g_D X) (g_dA X) LM ad σ (g_A X) H → va_S (g_A X) (g_s X).heap H locs → lv_has ls (g_nL X) vs →
      W (g_p X) (g_l X) (g_e X) (g_R X) (g_s X) (g_m X) (g_as X) (g_be X) (g_me X) (g_c X) H locs c s (g_Q X) (F0 (g_m X) mid ls (.int v :: .ref q :: .ref q :: st)) → W (g_p X) (g_l X) (g_e X) (g_R X) (g_s X) (g_m X) (g_as X) (g_be X) (g_me X) (g_c X) H locs c s (g_Q X) (F0 (g_m X) (pc + 4) ls (.ref q :: .ref q :: st)))
    (kk : ∀ q, g_Y cl X LM (g_ua ad 52 0 q) σ1 (w.1 + 1, w.2 + 7) (mid + 3) vs (.ref q :: st)) : g_Y cl X LM ad σ w pc vs st := by
  intro H locs ls hW hS hl
  have hts := C.2.2.2.2.1
  obtain ⟨hS2, hfc, -⟩ := C.2.2.2.2.2.2.2.2.1.1 ci _ hc
  refine W.newcK C.1 C.2.1 C.2.2.2.1 (hts _ qk) (hts _ q404) (hts _ q120) rfl d0 hf.1 hf.2 hfc rfl fun H1 kC hkC e1 z1 o1 => ?_
  have hW1 : g_W cl (g_D X) (g_dA X) LM ad σ (g_A X) H1 := hW.kept (fun q hq _ => o1 q hq)
  have hS1 : va_S (g_A X) (g_s X).heap H1 locs := ⟨Nat.le_trans hS.1 (by omega), fun q h1 h2 => (o1 q (Nat.lt_of_lt_of_le h1 hS.1)).trans (hS.2.1 q h1 h2), hS.2.2⟩
  have hAa : g_A X H.size := C.2.2.2.2.2.2.2.1 _ hS.1
  have hap : ∀ k' u', u' < g_n LM k' → g_pr (g_cell LM (g_dA X) ad σ k' u') → ad k' u' ≠ H.size := fun k' u' hu hp => Nat.ne_of_lt ((hW.1 k' u' hu).lt hp)
  have hraw : g_raw RX8 H.size (g_s X) H1 := ⟨_, kC, hfc, hkC, e1⟩
  refine lv_dup C.1 C.2.1 d3 rfl ?_
  refine hmid H1 locs ls H.size _ _ hW1 hS1 hl ?_
  refine g_go (va_runI (As := [.int v]) (rest := .ref H.size :: st) ⟨C.1, C.2.1, C.2.2.1, C.2.2.2.1, hts⟩ (ct_X8_init (LM := LM) (ad := ad) (σ := σ) (a := H.size) (s0 := g_s0 X) (b0 := g_b0 X) (A := g_A X) hlt hc hn hfr hme hme1 ho) cw ⟨g_newBlind, fun U hU hWm => ⟨rfl, (g_start (av := [.ref H.size, .int v]) C hW1 hS1 U hU hWm).2, by rw [hU]; exact hraw.moved hWm.alike, hAa, hap⟩⟩ rfl rfl hl.1 rfl (lv_room (by rw [List.map_cons, List.sum_cons]; have h1 : (Value.ref H.size).category = 1 := rfl; omega)) dI ⟨hf.1, hf.2⟩) hS1 (fun H2 locs2 hW2 hS2 => kk H.size H2 locs2 ls hW2 hS2 hl)
/-! ===== contracts whose end is said by a predicate: what is returned or thrown, the addresses, the heap ===== -/
def g_PE (cl : List vw_C) (D : va_G) (dA : Nat → ClassId) (LM : g_L) (A : Nat → Prop) (Z : Option Value → (Nat → Nat → Nat) → g_S → Prop) : Array Value → State → Outcome → State → Prop := fun _ st o t => (∃ v ad σ, o = .returned v ∧ Z v ad σ ∧ g_W cl D dA LM ad σ A t.heap) ∧ va_F A st t
def g_XE (cl : List vw_C) (D : va_G) (dA : Nat → ClassId) (LM : g_L) (A : Nat → Prop) (Z : String → Nat → (Nat → Nat → Nat) → g_S → Prop) : Addr → String → State → State → Prop := vx_X (fun _ : Unit => True) (fun q E _ t => ∃ ad σ, Z E q ad σ ∧ g_W cl D dA LM ad σ A t.heap) A
def g_MetG (cl : List vw_C) (D : va_G) (dA : Nat → ClassId) (A : Nat → Prop) (s0 : State) (b0 : Nat) (l : Launch) (y : MethodName) (ws : List Cond) (n : Nat) (w : Nat × Nat) (LM : g_L) (ad : Nat → Nat → Nat) (σ : g_S) (av : List Value) (LM' : g_L) (Z1 : Option Value → (Nat → Nat → Nat) → g_S → Prop) (Z2 : String → Nat → (Nat → Nat → Nat) → g_S → Prop) : Prop :=
  vx_Met l y ws (g_rm n w.1 w.2) (va_Pc av (g_B cl D dA LM ad σ A s0 b0)) (g_PE cl D dA LM' A Z1) (g_XE cl D dA LM' A Z2) w.1 w.2 A
def g_MQG (cl : List vw_C) (X : g_F) (LM : g_L) (Z1 : Option Value → (Nat → Nat → Nat) → g_S → Prop) (Z2 : String → Nat → (Nat → Nat → Nat) → g_S → Prop) : State → Prop := vx_MQ (g_be X) (g_PE cl (g_D X) (g_dA X) LM (g_A X) Z1) (g_XE cl (g_D X) (g_dA X) LM (g_A X) Z2) (g_as X) (g_s X) (g_mc X) (g_ms X) (g_A X)
theorem g_tbl0 {l : List ExceptionTableEntry} (h : ∀ x ∈ l, False) : l = [] := by
  match l with
  | [] => rfl
  | x :: r => exact (h x List.mem_cons_self).elim
section GXG
variable {cl : List vw_C} {D : va_G} {dA : Nat → ClassId} {A : Nat → Prop} {s0 : State} {b0 : Nat} {l : Launch} {y : MethodName} {cc : ByteArray} {nL : Nat} {ret : Option FieldType} {n : Nat} {w : Nat × Nat} {LM LM' : g_L} {ad : Nat → Nat → Nat} {σ : g_S} {av : List Value} {Z1 : Option Value → (Nat → Nat → Nat) → g_S → Prop} {Z2 : String → Nat → (Nat → Nat → Nat) → g_S → Prop}
theorem g_MetG.of (hy : plainName y.cls = true) (hfit : (lg_sl av).length ≤ nL)
    (hb : ∀ X : g_F, g_M cl X cc y.cls ret → g_MQG cl X LM' Z1 Z2 = g_Q X → g_R X = g_rm n w.1 w.2 → g_mc X = w.1 → g_ms X = w.2 → g_nL X = nL → (g_me X).name = y.name → g_s0 X = s0 → g_b0 X = b0 → g_l X = l → (g_c X).exceptionTable.toList = [] → g_Y cl X LM ad σ (0, 0) 0 (lv_args 0 av) []) :
    g_MetG cl D dA A s0 b0 l y (ws_ y cc nL ret) n w LM ad σ av LM' Z1 Z2 := by
  refine vx_ofW (cc := cc) (maxL := nL) (ret := ret) hy rfl ?_
  intro p e s m args below meth c s₁ B hml ht hv
  obtain ⟨rfl, hW, hK, hA⟩ := hv
  have hts := atoms_spec (ws := ws_ y cc nL ret) B.pre
  have hts : ∀ w ∈ lw_all, w.before _ s = true := fun w h => hts w (List.mem_cons_of_mem _ h)
  have hin : meth.name = y.name := (name_of_methodNamed B.named B.method).1
  have key := hb ((p, l, e, g_rm n w.1 w.2, s, m, av.toArray, below, meth, c), D, dA, A, w.1, w.2, vx_MQ below (g_PE cl D dA LM' A Z1) (g_XE cl D dA LM' A Z2) av.toArray s w.1 w.2 A, nL, s0, b0)
    ⟨B.exec, B.bytes, hml, findClass_of_methodNamed B.named, hts, B.returns, B.notSynchronized, hA, hK⟩ rfl rfl rfl rfl rfl hin rfl rfl rfl (g_tbl0 ht)
  have hl := lv_entry av (n := nL) hfit
  rw [lg_entry_eq]
  exact key s.heap [] _ hW va_S.rf hl
theorem g_MetG.ofH {hh : List (Nat × Nat × Nat × Nat)} (hy : plainName y.cls = true) (hfit : (lg_sl av).length ≤ nL)
    (hb : ∀ X : g_F, g_M cl X cc y.cls ret → g_MQG cl X LM' Z1 Z2 = g_Q X → g_R X = g_rm n w.1 w.2 → g_mc X = w.1 → g_ms X = w.2 → g_nL X = nL → (g_me X).name = y.name → g_s0 X = s0 → g_b0 X = b0 → g_l X = l → (g_c X).exceptionTable.toList = tableOf hh → g_Y cl X LM ad σ (0, 0) 0 (lv_args 0 av) []) :
    g_MetG cl D dA A s0 b0 l y (wsW_ y cc nL ret hh) n w LM ad σ av LM' Z1 Z2 := by
  refine vx_ofWH (cc := cc) (maxL := nL) (ret := ret) (hh := hh) hy rfl ?_
  intro p e s m args below meth c s₁ B hml hv
  obtain ⟨rfl, hW, hK, hA⟩ := hv
  have hts0 := atoms_spec (ws := wsW_ y cc nL ret hh) B.pre
  have hts : ∀ w ∈ lw_all, w.before _ s = true := fun w h => hts0 w (List.mem_cons_of_mem _ h)
  have hin : meth.name = y.name := (name_of_methodNamed B.named B.method).1
  have htb : c.exceptionTable.toList = tableOf hh := vx_table (x := y) B (hts0 _ List.mem_cons_self)
  have key := hb ((p, l, e, g_rm n w.1 w.2, s, m, av.toArray, below, meth, c), D, dA, A, w.1, w.2, vx_MQ below (g_PE cl D dA LM' A Z1) (g_XE cl D dA LM' A Z2) av.toArray s w.1 w.2 A, nL, s0, b0)
    ⟨B.exec, B.bytes, hml, findClass_of_methodNamed B.named, hts, B.returns, B.notSynchronized, hA, hK⟩ rfl rfl rfl rfl rfl hin rfl rfl rfl htb
  have hl := lv_entry av (n := nL) hfit
  rw [lg_entry_eq]
  exact key s.heap [] _ hW va_S.rf hl
/-- a contract out of the walk of its body, with the launch and the table in hand -/
theorem g_Met.of2 {ad' : Nat → Nat → Nat} {σ' : g_S} {v : Option Value} (hy : plainName y.cls = true) (hfit : (lg_sl av).length ≤ nL)
    (hb : ∀ X : g_F, g_M cl X cc y.cls ret → g_MQ cl X LM' ad' σ' v = g_Q X → g_R X = g_rm n w.1 w.2 → g_mc X = w.1 → g_ms X = w.2 → g_nL X = nL → (g_me X).name = y.name → g_s0 X = s0 → g_b0 X = b0 → g_l X = l → (g_c X).exceptionTable.toList = [] → g_Y cl X LM ad σ (0, 0) 0 (lv_args 0 av) []) :
    g_Met cl D dA A s0 b0 l y cc nL ret n w LM ad σ av LM' ad' σ' v := by
  refine Met.ofW (cc := cc) (maxL := nL) (ret := ret) hy rfl ?_
  intro p e s m args below meth c s₁ B hml hv
  obtain ⟨rfl, hW, hK, hA⟩ := hv
  have hts0 := atoms_spec (ws := ws_ y cc nL ret) B.pre
  have hts : ∀ w ∈ lw_all, w.before _ s = true := fun w h => hts0 w (List.mem_cons_of_mem _ h)
  have hin : meth.name = y.name := (name_of_methodNamed B.named B.method).1
  have ht : ∀ x ∈ c.exceptionTable.toList, False := by
    obtain ⟨meth9, c9, h1, h2, -, -, -, -, h7, -⟩ := Cond.code_spec B.named (hts0 _ List.mem_cons_self)
    cases Option.some.inj (h1.symm.trans B.method)
    cases Option.some.inj (h2.symm.trans (Stand.of_body B).code)
    intro x hx
    rw [Array.isEmpty_iff.mp h7] at hx
    cases hx
  have key := hb ((p, l, e, g_rm n w.1 w.2, s, m, av.toArray, below, meth, c), D, dA, A, w.1, w.2, MQ below (g_E cl D dA LM' ad' σ' A v) av.toArray s w.1 w.2 A, nL, s0, b0)
    ⟨B.exec, B.bytes, hml, findClass_of_methodNamed B.named, hts, B.returns, B.notSynchronized, hA, hK⟩ rfl rfl rfl rfl rfl hin rfl rfl rfl (g_tbl0 ht)
  have hl := lv_entry av (n := nL) hfit
  rw [lg_entry_eq]
  exact key s.heap [] _ hW va_S.rf hl
end GXG
section GXR
variable {cl : List vw_C} {X : g_F} {cc : ByteArray} {own : String} {LM : g_L} {ad : Nat → Nat → Nat} {σ : g_S} {w : Nat × Nat} {pc : Nat} {vs : List (Nat × Value)} {st : List Value} {Z1 : Option Value → (Nat → Nat → Nat) → g_S → Prop} {Z2 : String → Nat → (Nat → Nat → Nat) → g_S → Prop}
theorem y_iretG (C : g_M cl X cc own (some .int)) {v : Int32} (hQ : g_MQG cl X LM Z1 Z2 = g_Q X) (hz : Z1 (some (.int v)) ad σ) (hw : w.1 ≤ g_mc X ∧ w.2 ≤ g_ms X) (hd : decode cc pc = .ok (.ireturn, 1)) : g_Y cl X LM ad σ w pc vs [.int v] := by
  intro H locs ls hW hS hl
  rw [← hQ]
  exact W.widen hw.1 hw.2 (vx_ret (W.iret C.1 C.2.1 C.2.2.2.2.2.1 (fun t ht _ => ⟨⟨_, _, _, rfl, hz, by rw [ht]; exact hW⟩, hS.F ht⟩) hS.2.2 hd C.2.2.2.2.2.2.1))
theorem y_lretG (C : g_M cl X cc own (some .long)) {v : Int64} (hQ : g_MQG cl X LM Z1 Z2 = g_Q X) (hz : Z1 (some (.long v)) ad σ) (hw : w.1 ≤ g_mc X ∧ w.2 ≤ g_ms X) (hd : decode cc pc = .ok (.lreturn, 1)) : g_Y cl X LM ad σ w pc vs [.long v] := by
  intro H locs ls hW hS hl
  rw [← hQ]
  exact W.widen hw.1 hw.2 (vx_ret (W.lret C.1 C.2.1 C.2.2.2.2.2.1 (fun t ht _ => ⟨⟨_, _, _, rfl, hz, by rw [ht]; exact hW⟩, hS.F ht⟩) hS.2.2 hd C.2.2.2.2.2.2.1))
theorem y_zretG {ty : FieldType} (C : g_M cl X cc own (some ty)) {v : Int32} (hn : narrow ty (.int v) = .int v) (hQ : g_MQG cl X LM Z1 Z2 = g_Q X) (hz : Z1 (some (.int v)) ad σ) (hw : w.1 ≤ g_mc X ∧ w.2 ≤ g_ms X) (hd : decode cc pc = .ok (.ireturn, 1)) : g_Y cl X LM ad σ w pc vs [.int v] := by
  intro H locs ls hW hS hl
  rw [← hQ]
  exact W.widen hw.1 hw.2 (vx_ret (W.zret C.1 C.2.1 C.2.2.2.2.2.1 hn (fun t ht _ => ⟨⟨_, _, _, rfl, hz, by rw [ht]; exact hW⟩, hS.F ht⟩) hS.2.2 hd C.2.2.2.2.2.2.1))
theorem y_vretG (C : g_M cl X cc own none) (hQ : g_MQG cl X LM Z1 Z2 = g_Q X) (hz : Z1 none ad σ) (hw : w.1 ≤ g_mc X ∧ w.2 ≤ g_ms X) (hd : decode cc pc = .ok (.return_, 1)) : g_Y cl X LM ad σ w pc vs [] := by
  intro H locs ls hW hS hl
  rw [← hQ]
  exact W.widen hw.1 hw.2 (vx_ret (W.vret C.1 C.2.1 C.2.2.2.2.2.1 (fun t ht _ => ⟨⟨_, _, _, rfl, hz, by rw [ht]; exact hW⟩, hS.F ht⟩) hS.2.2 hd C.2.2.2.2.2.2.1))
theorem y_aretG {rt : FieldType} (C : g_M cl X cc own (some rt)) {v : Value} (hrt : (∃ n, rt = .object n) ∨ ∃ t, rt = .array t) (hv : v = .null ∨ ∃ a, v = .ref a) (hQ : g_MQG cl X LM Z1 Z2 = g_Q X) (hz : Z1 (some v) ad σ) (hw : w.1 ≤ g_mc X ∧ w.2 ≤ g_ms X) (hd : decode cc pc = .ok (.areturn, 1)) : g_Y cl X LM ad σ w pc vs [v] := by
  intro H locs ls hW hS hl
  rw [← hQ]
  exact W.widen hw.1 hw.2 (vx_ret (W.aret C.1 C.2.1 C.2.2.2.2.2.1 hrt hv (fun t ht _ => ⟨⟨_, _, _, rfl, hz, by rw [ht]; exact hW⟩, hS.F ht⟩) hS.2.2 hd C.2.2.2.2.2.2.1))
variable {ret : Option FieldType}
/-- it leaves the method -/
theorem y_outG {E : String} {q : Nat} (C : g_M cl X cc own ret) (hout : ∀ x ∈ (g_c X).exceptionTable.toList, covers x pc = false) (hQ : g_MQG cl X LM Z1 Z2 = g_Q X) (hz : Z2 E q ad σ) (hw : w.1 ≤ g_mc X ∧ w.2 ≤ g_ms X) : g_T cl X LM ad σ w pc vs E q := by
  intro H locs ls rest ce hW hS hl h1 h2 h3
  rw [← hQ]
  exact vx_out hout C.2.2.2.2.2.2.1 h1 h2 h3 (fun t ht _ => ⟨(), trivial, ⟨_, _, hz, by rw [ht]; exact hW⟩, hS.F ht⟩) hS.2.2 hw.1 hw.2
theorem g_goG {cl : List vw_C} {p : Program} {l : Launch} {e : Env} {R : Room} {s : State} {m : MethodId} {args : Array Value} {below : List Frame} {meth : Method} {c : Code} {H : Heap} {locs : List Loc} {cells slots mc ms pc : Nat} {Q : State → Prop} {ls : Array Slot} {st0 rest : List Value} {D : va_G} {dA : Nat → ClassId} {LM : g_L} {A : Nat → Prop} {a : Array Value}
    (hr : vx_Run p l e R s m args below meth c H locs cells slots mc ms (F0 m pc ls st0) rest (g_PE cl D dA LM A Z1 a) (g_XE cl D dA LM A Z2) A) (hS : va_S A s.heap H locs)
    (kk : ∀ (v : Option Value) (ad : Nat → Nat → Nat) (σ : g_S) (H1 : Heap) (locs1 : List Loc), Z1 v ad σ → g_W cl D dA LM ad σ A H1 → va_S A s.heap H1 locs1 → W p l e R s m args below meth c H1 locs1 (cells + mc) (slots + ms) Q (F0 m (pc + 3) ls (v.toList ++ rest)))
    (kx : ∀ (E : String) (q : Nat) (ad : Nat → Nat → Nat) (σ : g_S) (ce : Cell) (H1 : Heap) (locs1 : List Loc), Z2 E q ad σ → g_W cl D dA LM ad σ A H1 → va_S A s.heap H1 locs1 → H1[q]? = some ce → ce.vm = .none → s.vm.findClass E = some ce.cls → vx_W p l e R s m args below meth c H1 locs1 (cells + mc) (slots + ms) Q (F0 m pc ls rest) q) : W p l e R s m args below meth c H locs cells slots Q (F0 m pc ls st0) := by
  intro T hT X
  rcases hr T hT X with ⟨v, st₀, t, T', L, h0, X', hL, e1, e2, ⟨⟨v2, ad, σ, hv, hz, hb⟩, hF⟩, st⟩ | ⟨q, st₀, t, T', L, E, ce, h0, X', hL, e1, e2, ⟨u, hp, ⟨ad, σ, hz, hb⟩, hF⟩, hce, hcv, hcl, st⟩
  · cases hv
    obtain ⟨k1, k2, k3⟩ := vx_keep h0 e1 hS (fun q _ h => h) (fun q h => h) hL hF
    obtain ⟨t2, a1, b1⟩ := kk v ad σ T'.heap (locs ++ L) hz (by rw [e1]; exact hb) k3 T' rfl X'
    exact ⟨t2, st t2 a1, b1⟩
  · obtain ⟨k1, k2, k3⟩ := vx_keep h0 e1 hS (fun q _ h => h) (fun q h => h) hL hF
    obtain ⟨t2, a1, b1⟩ := kx E q ad σ ce T'.heap (locs ++ L) hz (by rw [e1]; exact hb) k3 (by rw [e1]; exact hce) hcv hcl T' rfl X'
    exact ⟨t2, st.trans a1, b1⟩
theorem y_callVG {y : MethodName} {bytes : ByteArray} {nL1 : Nat} {ret1 : Option FieldType} {n na index : Nat} {w1 : Nat × Nat} {LM1 : g_L} {As rest : List Value} {C1 : String} (C : g_M cl X cc own ret) {k u ci N1 : Nat} {T1 : u_T} (hu : u < g_n LM k) (hc : cl[ci]? = some (C1, T1, N1)) (hcell : g_obj LM (g_dA X) ad σ k u ci) (cw : CallW (g_R X) (g_s X) (g_as X) own C1 index y bytes nL1 ret1 (ws_ y bytes nL1 ret1) (g_rm n w1.1 w1.2) w1.1 w1.2 na)
    (hM : g_MetG cl (g_D X) (g_dA X) (g_A X) (g_s0 X) (g_b0 X) (g_l X) y (ws_ y bytes nL1 ret1) n w1 LM ad σ (.ref (ad k u) :: As) LM1 Z1 Z2) (hst : st = As.reverse ++ .ref (ad k u) :: rest) (hn : As.length = na) (hcat : (rest.map fun v => v.category).sum ≤ 8) (hf : w.1 + w1.1 ≤ (g_R X).cells ∧ w.2 + w1.2 ≤ (g_R X).slots) (hd : decode cc pc = .ok (.invokevirtual index, 3))
    (kk : ∀ v ad1 σ1, Z1 v ad1 σ1 → g_Y cl X LM1 ad1 σ1 (w.1 + w1.1, w.2 + w1.2) (pc + 3) vs (v.toList ++ rest)) (kx : ∀ E q ad1 σ1, Z2 E q ad1 σ1 → g_T cl X LM1 ad1 σ1 (w.1 + w1.1, w.2 + w1.2) pc vs E q) : g_Y cl X LM ad σ w pc vs st := by
  intro H locs ls hW hS hl
  subst hst
  exact g_goG (vx_runV ⟨C.1, C.2.1, C.2.2.1, C.2.2.2.1, C.2.2.2.2.1⟩ hM cw ⟨g_blind, g_recv C.2.2.2.2.2.2.2.2.1 hW hu hc hcell, g_start C hW hS⟩ rfl hn hl.1 rfl (lv_room hcat) hd hf) hS (fun v ad1 σ1 H1 locs1 hz hW1 hS1 => kk v ad1 σ1 hz H1 locs1 ls hW1 hS1 hl) (fun E q ad1 σ1 ce H1 locs1 hz hW1 hS1 h1 h2 h3 => kx E q ad1 σ1 hz H1 locs1 ls rest ce hW1 hS1 hl h1 h2 h3)
theorem y_callVH {y : MethodName} {bytes : ByteArray} {nL1 : Nat} {ret1 : Option FieldType} {hh : List (Nat × Nat × Nat × Nat)} {n na index : Nat} {w1 : Nat × Nat} {LM1 : g_L} {As rest : List Value} {C1 : String} (C : g_M cl X cc own ret) {k u ci N1 : Nat} {T1 : u_T} (hu : u < g_n LM k) (hc : cl[ci]? = some (C1, T1, N1)) (hcell : g_obj LM (g_dA X) ad σ k u ci) (cw : vx_CVW (g_R X) (g_s X) (g_as X) own C1 index y bytes nL1 ret1 hh (wsW_ y bytes nL1 ret1 hh) (g_rm n w1.1 w1.2) w1.1 w1.2 na)
    (hM : g_MetG cl (g_D X) (g_dA X) (g_A X) (g_s0 X) (g_b0 X) (g_l X) y (wsW_ y bytes nL1 ret1 hh) n w1 LM ad σ (.ref (ad k u) :: As) LM1 Z1 Z2) (hst : st = As.reverse ++ .ref (ad k u) :: rest) (hn : As.length = na) (hcat : (rest.map fun v => v.category).sum ≤ 8) (hf : w.1 + w1.1 ≤ (g_R X).cells ∧ w.2 + w1.2 ≤ (g_R X).slots) (hd : decode cc pc = .ok (.invokevirtual index, 3))
    (kk : ∀ v ad1 σ1, Z1 v ad1 σ1 → g_Y cl X LM1 ad1 σ1 (w.1 + w1.1, w.2 + w1.2) (pc + 3) vs (v.toList ++ rest)) (kx : ∀ E q ad1 σ1, Z2 E q ad1 σ1 → g_T cl X LM1 ad1 σ1 (w.1 + w1.1, w.2 + w1.2) pc vs E q) : g_Y cl X LM ad σ w pc vs st := by
  intro H locs ls hW hS hl
  subst hst
  exact g_goG (vx_runVX ⟨C.1, C.2.1, C.2.2.1, C.2.2.2.1, C.2.2.2.2.1⟩ hM cw ⟨g_blind, g_recv C.2.2.2.2.2.2.2.2.1 hW hu hc hcell, g_start C hW hS⟩ rfl hn hl.1 rfl (lv_room hcat) hd hf) hS (fun v ad1 σ1 H1 locs1 hz hW1 hS1 => kk v ad1 σ1 hz H1 locs1 ls hW1 hS1 hl) (fun E q ad1 σ1 ce H1 locs1 hz hW1 hS1 h1 h2 h3 => kx E q ad1 σ1 hz H1 locs1 ls rest ce hW1 hS1 hl h1 h2 h3)
end GXR
def g_tx {β : Type} (m : Option (g_S ⊕ g_S)) (hd : g_S → Option β) (k : g_S → Option β) : Option β := match m with
  | none => none
  | some (.inl z) => hd z
  | some (.inr s) => k s
def g_t2 {α β : Type} (m : Option (g_S ⊕ α × g_S)) (hd : g_S → Option β) (k : α → g_S → Option β) : Option β := match m with
  | none => none
  | some (.inl z) => hd z
  | some (.inr (a, s)) => k a s
theorem g_txE {β : Type} {m : Option (g_S ⊕ g_S)} {hd : g_S → Option β} {k : g_S → Option β} {o : β} (h : g_tx m hd k = some o) : (∃ z, m = some (.inl z) ∧ hd z = some o) ∨ ∃ s, m = some (.inr s) ∧ k s = some o := by
  match m, h with
  | some (.inl z), h => exact Or.inl ⟨z, rfl, h⟩
  | some (.inr s), h => exact Or.inr ⟨s, rfl, h⟩
theorem g_t2E {α β : Type} {m : Option (g_S ⊕ α × g_S)} {hd : g_S → Option β} {k : α → g_S → Option β} {o : β} (h : g_t2 m hd k = some o) : (∃ z, m = some (.inl z) ∧ hd z = some o) ∨ ∃ a s, m = some (.inr (a, s)) ∧ k a s = some o := by
  match m, h with
  | some (.inl z), h => exact Or.inl ⟨z, rfl, h⟩
  | some (.inr (a, s)), h => exact Or.inr ⟨a, s, rfl, h⟩
/-! ===== constructors that make cells, clone, checkcast, a cell under another name, arrays of arrays ===== -/
/-- a new cell, all at its default: r at 200 -/
def g_nw (σ : g_S) (k u r : Nat) : g_S := (g_up σ.1 k u (fun _ => 0), g_up σ.2.1 k u (fun _ => 0), g_up σ.2.2 k u (fun j => if j = 200 then r else 0))
/-- a new array of n, its type at 1 -/
def g_na (σ : g_S) (k u n t : Nat) : g_S := (g_up σ.1 k u (fun _ => 0), g_up σ.2.1 k u (fun _ => 0), g_up σ.2.2 k u (fun j => if j = 0 then n else if j = 1 then t else 1))
theorem g_nw_n {σ : g_S} {k u r : Nat} : g_oth σ (g_nw σ k u r) k u := fun _ _ h => ⟨g_up_n h, g_up_n h, g_up_n h⟩
theorem g_na_n {σ : g_S} {k u n t : Nat} : g_oth σ (g_na σ k u n t) k u := fun _ _ h => ⟨g_up_n h, g_up_n h, g_up_n h⟩
theorem g_nw_1 {σ : g_S} {k u r : Nat} : (g_nw σ k u r).1 k u = fun _ => 0 := g_up_s _ _ _ _
theorem g_nw_2 {σ : g_S} {k u r : Nat} : (g_nw σ k u r).2.1 k u = fun _ => 0 := g_up_s _ _ _ _
theorem g_nw_3 {σ : g_S} {k u r : Nat} : (g_nw σ k u r).2.2 k u = fun j => if j = 200 then r else 0 := g_up_s _ _ _ _
theorem g_na_1 {σ : g_S} {k u n t : Nat} : (g_na σ k u n t).1 k u = fun _ => 0 := g_up_s _ _ _ _
theorem g_na_2 {σ : g_S} {k u n t : Nat} : (g_na σ k u n t).2.1 k u = fun _ => 0 := g_up_s _ _ _ _
theorem g_na_3 {σ : g_S} {k u n t : Nat} : (g_na σ k u n t).2.2 k u = fun j => if j = 0 then n else if j = 1 then t else 1 := g_up_s _ _ _ _
section GX7
variable {cl : List vw_C} {X : g_F} {cc : ByteArray} {own : String} {ret : Option FieldType} {LM : g_L} {ad : Nat → Nat → Nat} {σ : g_S} {w : Nat × Nat} {pc : Nat} {vs : List (Nat × Value)} {st : List Value} {Z1 : Option Value → (Nat → Nat → Nat) → g_S → Prop} {Z2 : String → Nat → (Nat → Nat → Nat) → g_S → Prop}
theorem y_callIG {y : MethodName} {bytes : ByteArray} {nL1 n na index b : Nat} {w1 : Nat × Nat} {LM1 : g_L} {As rest : List Value} (C : g_M cl X cc own ret) (cw : CallB (g_R X) (g_s X) (g_as X) own index y bytes nL1 none (ws_ y bytes nL1 none) (g_rm n w1.1 w1.2) w1.1 w1.2 na ∧ y.name = "<init>" ∧ (Cond.instanceMethod y).before (g_as X) (g_s X) = true)
    (hM : g_MetG cl (g_D X) (g_dA X) (g_A X) (g_s0 X) (g_b0 X) (g_l X) y (ws_ y bytes nL1 none) n w1 LM ad σ (.ref b :: As) LM1 Z1 Z2) (hst : st = As.reverse ++ .ref b :: rest) (hn : As.length = na) (hcat : (rest.map fun v => v.category).sum ≤ 8) (hf : w.1 + w1.1 ≤ (g_R X).cells ∧ w.2 + w1.2 ≤ (g_R X).slots) (hd : decode cc pc = .ok (.invokespecial index, 3))
    (kk : ∀ v ad1 σ1, Z1 v ad1 σ1 → g_Y cl X LM1 ad1 σ1 (w.1 + w1.1, w.2 + w1.2) (pc + 3) vs (v.toList ++ rest)) (kx : ∀ E q ad1 σ1, Z2 E q ad1 σ1 → g_T cl X LM1 ad1 σ1 (w.1 + w1.1, w.2 + w1.2) pc vs E q) : g_Y cl X LM ad σ w pc vs st := by
  intro H locs ls hW hS hl
  subst hst
  exact g_goG (vx_runI ⟨C.1, C.2.1, C.2.2.1, C.2.2.2.1, C.2.2.2.2.1⟩ hM cw ⟨g_blind, g_start C hW hS⟩ rfl hn hl.1 rfl (lv_room hcat) hd hf) hS (fun v ad1 σ1 H1 locs1 hz hW1 hS1 => kk v ad1 σ1 hz H1 locs1 ls hW1 hS1 hl) (fun E q ad1 σ1 ce H1 locs1 hz hW1 hS1 h1 h2 h3 => kx E q ad1 σ1 hz H1 locs1 ls rest ce hW1 hS1 hl h1 h2 h3)
theorem y_callING {y : MethodName} {bytes : ByteArray} {nL1 n na index b : Nat} {host : String} {w1 : Nat × Nat} {LM1 : g_L} {As rest : List Value} (C : g_M cl X cc own ret) (cw : va_CN (g_R X) (g_s X) (g_as X) own index y host bytes nL1 none (ws_ y bytes nL1 none) (g_rm n w1.1 w1.2) w1.1 w1.2 na ∧ y.name = "<init>" ∧ (Cond.instanceMethod y).before (g_as X) (g_s X) = true)
    (hM : g_MetG cl (g_D X) (g_dA X) (g_A X) (g_s0 X) (g_b0 X) (g_l X) y (ws_ y bytes nL1 none) n w1 LM ad σ (.ref b :: As) LM1 Z1 Z2) (hst : st = As.reverse ++ .ref b :: rest) (hn : As.length = na) (hcat : (rest.map fun v => v.category).sum ≤ 8) (hf : w.1 + w1.1 ≤ (g_R X).cells ∧ w.2 + w1.2 ≤ (g_R X).slots) (hd : decode cc pc = .ok (.invokespecial index, 3))
    (kk : ∀ v ad1 σ1, Z1 v ad1 σ1 → g_Y cl X LM1 ad1 σ1 (w.1 + w1.1, w.2 + w1.2) (pc + 3) vs (v.toList ++ rest)) (kx : ∀ E q ad1 σ1, Z2 E q ad1 σ1 → g_T cl X LM1 ad1 σ1 (w.1 + w1.1, w.2 + w1.2) pc vs E q) : g_Y cl X LM ad σ w pc vs st := by
  intro H locs ls hW hS hl
  subst hst
  exact g_goG (vx_runIN ⟨C.1, C.2.1, C.2.2.1, C.2.2.2.1, C.2.2.2.2.1⟩ hM cw ⟨g_blind, g_start C hW hS⟩ rfl hn hl.1 rfl (lv_room hcat) hd hf) hS (fun v ad1 σ1 H1 locs1 hz hW1 hS1 => kk v ad1 σ1 hz H1 locs1 ls hW1 hS1 hl) (fun E q ad1 σ1 ce H1 locs1 hz hW1 hS1 h1 h2 h3 => kx E q ad1 σ1 hz H1 locs1 ls rest ce hW1 hS1 hl h1 h2 h3)
theorem g_nmB (C : g_M cl X cc own ret) : (g_s X).vm.findClass "[B" = some (g_dA X 3) := va_nm_byte (C.2.2.2.2.2.2.2.2.1.2 3 _ rfl).2
theorem g_nmS (C : g_M cl X cc own ret) : (g_s X).vm.findClass "[S" = some (g_dA X 4) := va_nm_short (C.2.2.2.2.2.2.2.2.1.2 4 _ rfl).2
theorem g_nmI (C : g_M cl X cc own ret) : (g_s X).vm.findClass "[I" = some (g_dA X 0) := va_nm_int (C.2.2.2.2.2.2.2.2.1.2 0 _ rfl).2
/-- all fit a byte -/
def g_fb (f : Nat → Int32) (n : Nat) : Bool := (List.range n).all fun i => fits .byte (.int (f i))
theorem g_fb_at {f : Nat → Int32} {n i : Nat} (h : g_fb f n = true) (hi : i < n) : fits .byte (.int (f i)) = true := List.all_eq_true.mp h i (List.mem_range.mpr hi)
/-- a byte array's clone() -/
theorem y_cloneB {σ1 : g_S} {index N k0 u0 : Nat} {f : Nat → Int32} (C : g_M cl X cc own ret) (hu0 : u0 < g_n LM k0) (hcell : g_cell LM (g_dA X) ad σ k0 u0 = .inl (.inl (g_dA X 3, N, .inl f))) (hfb : g_fb f N = true) (k u : Nat) (q1 : Cond.methodLink own index ⟨"[B", "clone", "()Ljava/lang/Object;"⟩ ∈ lw_all) (q2 : Cond.sameMethod "[B" "java/lang/Object" "clone" "()Ljava/lang/Object;" ∈ lw_all)
    (q3 : Cond.native ⟨"java/lang/Object", "clone", "()Ljava/lang/Object;"⟩ ∈ lw_all) (q4 : Cond.instanceMethod ⟨"java/lang/Object", "clone", "()Ljava/lang/Object;"⟩ ∈ lw_all) (q5 : Cond.selects "[B" ⟨"[B", "clone", "()Ljava/lang/Object;"⟩ ⟨"java/lang/Object", "clone", "()Ljava/lang/Object;"⟩ ∈ lw_all) (q6 : Cond.castable "[B" "java/lang/Cloneable" ∈ lw_tbl)
    (hR : 1 ≤ (g_R X).frames ∧ 40 ≤ (g_R X).locals) (hcat : (st.map fun v => v.category).sum ≤ 8) (hf : w.1 + 1 ≤ (g_R X).cells ∧ w.2 + N ≤ (g_R X).slots) (hd : decode cc pc = .ok (.invokevirtual index, 3)) (hfr : g_fresh LM (g_dA X) ad σ σ1 k u) (hme : ∀ q, g_cell LM (g_dA X) (g_ua ad k u q) σ1 k u = .inl (.inl (g_dA X 3, N, .inl f)))
    (kk : ∀ q, g_Y cl X LM (g_ua ad k u q) σ1 (w.1 + 1, w.2 + N) (pc + 3) vs (.ref q :: st)) : g_Y cl X LM ad σ w pc vs (.ref (ad k0 u0) :: st) := by
  intro H locs ls hW hS hl
  obtain ⟨ws, hP, hD, hat, hnew⟩ := g_adapt hW
  obtain ⟨q0, hq0, -⟩ := hat k0 u0 _ hu0 hcell
  have hts := C.2.2.2.2.1
  refine va_clone C.1 C.2.1 (C.2.2.1.trans hl.1.symm) C.2.2.2.1 (hts _ q1) (hts _ q2) (hts _ q3) (hts _ q4) (hts _ q5) (g_nestC C q6) C.2.2.2.2.2.2.2.2.1 hP hD hS C.2.2.2.2.2.2.2.1 q0 3 hq0 rfl (g_nmB C) (va_fit (fun i hi => g_fb_at hfb hi)) hR.1 (by omega) hf.1 hf.2 hd (fun q H1 hK1 hP1 hD1 hS1 => ?_)
  exact kk q H1 locs ls (hnew (g_ua ad k u q) σ1 k u q _ H1 hP1 hD1 g_ua_s (fun k' u' h => g_ua_n h) (hfr q) (hme q)) hS1 hl
theorem y_castB {index N k0 u0 : Nat} {f : Nat → Int32} (C : g_M cl X cc own ret) (hu0 : u0 < g_n LM k0) (hcell : g_cell LM (g_dA X) ad σ k0 u0 = .inl (.inl (g_dA X 3, N, .inl f))) (q1 : Cond.classLink own index "[B" ∈ lw_all) (hd : decode cc pc = .ok (.checkcast index, 3)) (kk : g_Y cl X LM ad σ w (pc + 3) vs (.ref (ad k0 u0) :: st)) : g_Y cl X LM ad σ w pc vs (.ref (ad k0 u0) :: st) :=
  fun H locs ls hW hS hl => va_castA C.1 C.2.1 C.2.2.2.1 (C.2.2.2.2.1 _ q1) (hW.at hu0 hcell) 0 rfl (g_nmB C) hd (kk H locs ls hW hS hl)
theorem y_castSh {index N k0 u0 : Nat} {f : Nat → Int32} (C : g_M cl X cc own ret) (hu0 : u0 < g_n LM k0) (hcell : g_cell LM (g_dA X) ad σ k0 u0 = .inl (.inl (g_dA X 4, N, .inl f))) (q1 : Cond.classLink own index "[S" ∈ lw_all) (hd : decode cc pc = .ok (.checkcast index, 3)) (kk : g_Y cl X LM ad σ w (pc + 3) vs (.ref (ad k0 u0) :: st)) : g_Y cl X LM ad σ w pc vs (.ref (ad k0 u0) :: st) :=
  fun H locs ls hW hS hl => va_castA C.1 C.2.1 C.2.2.2.1 (C.2.2.2.2.1 _ q1) (hW.at hu0 hcell) 0 rfl (g_nmS C) hd (kk H locs ls hW hS hl)
theorem y_castI {index N k0 u0 : Nat} {f : Nat → Int32} (C : g_M cl X cc own ret) (hu0 : u0 < g_n LM k0) (hcell : g_cell LM (g_dA X) ad σ k0 u0 = .inl (.inl (g_dA X 0, N, .inl f))) (q1 : Cond.classLink own index "[I" ∈ lw_all) (hd : decode cc pc = .ok (.checkcast index, 3)) (kk : g_Y cl X LM ad σ w (pc + 3) vs (.ref (ad k0 u0) :: st)) : g_Y cl X LM ad σ w pc vs (.ref (ad k0 u0) :: st) :=
  fun H locs ls hW hS hl => va_castA C.1 C.2.1 C.2.2.2.1 (C.2.2.2.2.1 _ q1) (hW.at hu0 hcell) 0 rfl (g_nmI C) hd (kk H locs ls hW hS hl)
theorem g_arecv {H : Heap} {k0 u0 N : Nat} {cA : ClassId} {f : Nat → Int32} {nm : String} {s : State} {A : Nat → Prop} {D : va_G} {dA : Nat → ClassId} (hW : g_W cl D dA LM ad σ A H) (hu0 : u0 < g_n LM k0) (hcell : g_cell LM dA ad σ k0 u0 = .inl (.inl (cA, N, .inl f))) (hn : s.vm.findClass nm = some cA) : ∃ cell : Cell, H[ad k0 u0]? = some cell ∧ cell.vm.isStatics = false ∧ s.vm.findClass nm = some cell.cls :=
  ⟨_, (hW.at hu0 hcell) 0 _ rfl, rfl, hn⟩
theorem y_instA {index N t0 k0 u0 : Nat} {f : Nat → Int32} {nm : String} (C : g_M cl X cc own ret) (hu0 : u0 < g_n LM k0) (hcell : g_cell LM (g_dA X) ad σ k0 u0 = .inl (.inl (g_dA X t0, N, .inl f))) (hn : (g_s X).vm.findClass nm = some (g_dA X t0)) (q1 : Cond.classLink own index nm ∈ lw_all) (hd : decode cc pc = .ok (.instanceof index, 3)) (kk : g_Y cl X LM ad σ w (pc + 3) vs (.int 1 :: st)) : g_Y cl X LM ad σ w pc vs (.ref (ad k0 u0) :: st) :=
  fun H locs ls hW hS hl => va_instE C.1 C.2.1 C.2.2.2.1 (C.2.2.2.2.1 _ q1) (g_arecv hW hu0 hcell hn) hd (kk H locs ls hW hS hl)
theorem g_nc (C : g_M cl X cc own ret) {x y : String} (h : (Cond.not (.castable x y)).before #[Value.ref (g_b0 X)] (g_s0 X) = true) : va_Nc x y (g_s X) := va_Nc.moved C.2.2.2.2.2.2.2.2.2.2.1.alike (va_Nc.of h)
theorem y_instNo {index N t0 k0 u0 : Nat} {f : Nat → Int32} {nm nm0 : String} (C : g_M cl X cc own ret) (hu0 : u0 < g_n LM k0) (hcell : g_cell LM (g_dA X) ad σ k0 u0 = .inl (.inl (g_dA X t0, N, .inl f))) (hn : (g_s X).vm.findClass nm0 = some (g_dA X t0)) (hc : va_Nc nm0 nm (g_s X)) (q1 : Cond.classLink own index nm ∈ lw_all) (hd : decode cc pc = .ok (.instanceof index, 3)) (kk : g_Y cl X LM ad σ w (pc + 3) vs (.int 0 :: st)) : g_Y cl X LM ad σ w pc vs (.ref (ad k0 u0) :: st) :=
  fun H locs ls hW hS hl => va_instNo C.1 C.2.1 C.2.2.2.1 (C.2.2.2.2.1 _ q1) hc (g_arecv hW hu0 hcell hn) hd (kk H locs ls hW hS hl)
/-- a cell gets another name -/
theorem y_move {σ1 : g_S} {k u k1 u1 : Nat} (hu : u < g_n LM k) (hne : ¬ (k1 = k ∧ u1 = u)) (hp : g_pr (g_cell LM (g_dA X) ad σ k u)) (ha : g_cell LM (g_dA X) (g_ua ad k1 u1 (ad k u)) σ1 k u = .inr (.inr ())) (hb : ∀ (a : Nat) (H : Heap), g_at cl (g_D X) a (g_cell LM (g_dA X) ad σ k u) H → g_at cl (g_D X) a (g_cell LM (g_dA X) (g_ua ad k1 u1 (ad k u)) σ1 k1 u1) H)
    (hc : ∀ k' u', ¬ (k' = k ∧ u' = u) → ¬ (k' = k1 ∧ u' = u1) → u' < g_n LM k' → g_cell LM (g_dA X) (g_ua ad k1 u1 (ad k u)) σ1 k' u' = g_cell LM (g_dA X) ad σ k' u') (kk : g_Y cl X LM (g_ua ad k1 u1 (ad k u)) σ1 w pc vs st) : g_Y cl X LM ad σ w pc vs st := by
  intro H locs ls hW hS hl
  -- each cell that is there has a cell that was there, of the same address
  have key : ∀ k' u', u' < g_n LM k' → g_pr (g_cell LM (g_dA X) (g_ua ad k1 u1 (ad k u)) σ1 k' u') → ∃ k0 u0, u0 < g_n LM k0 ∧ g_pr (g_cell LM (g_dA X) ad σ k0 u0) ∧ ad k0 u0 = g_ua ad k1 u1 (ad k u) k' u' ∧ ((k' = k1 ∧ u' = u1 ∧ k0 = k ∧ u0 = u) ∨ (¬ (k' = k1 ∧ u' = u1) ∧ ¬ (k' = k ∧ u' = u) ∧ k0 = k' ∧ u0 = u')) := by
    intro k' u' hu' hp'
    by_cases h1 : k' = k1 ∧ u' = u1
    · obtain ⟨rfl, rfl⟩ := h1
      exact ⟨k, u, hu, hp, g_ua_s.symm, Or.inl ⟨rfl, rfl, rfl, rfl⟩⟩
    · by_cases h2 : k' = k ∧ u' = u
      · obtain ⟨rfl, rfl⟩ := h2
        rw [ha] at hp'
        exact hp'.elim
      · exact ⟨k', u', hu', by rw [← hc k' u' h2 h1 hu']; exact hp', (g_ua_n h1).symm, Or.inr ⟨h1, h2, rfl, rfl⟩⟩
  refine kk H locs ls ⟨fun k' u' hu' => ?_, fun k' u' k2 u2 hu' hu2 h1 h2 h3 => ?_, fun k' u' hu' hp' => ?_⟩ hS hl
  · by_cases h2 : k' = k ∧ u' = u
    · obtain ⟨rfl, rfl⟩ := h2
      rw [ha]
      trivial
    · by_cases h1 : k' = k1 ∧ u' = u1
      · obtain ⟨rfl, rfl⟩ := h1
        rw [g_ua_s]
        exact hb _ _ (hW.1 k u hu)
      · rw [hc k' u' h2 h1 hu', g_ua_n h1]
        exact hW.1 k' u' hu'
  · obtain ⟨a1, b1, c1, d1, e1, f1⟩ := key k' u' hu' h1
    obtain ⟨a2, b2, c2, d2, e2, f2⟩ := key k2 u2 hu2 h2
    obtain ⟨g1, g2⟩ := hW.2.1 a1 b1 a2 b2 c1 c2 d1 d2 (e1.trans (h3.trans e2.symm))
    subst g1; subst g2
    rcases f1 with ⟨p1, p2, p3, p4⟩ | ⟨p1, p2, p3, p4⟩ <;> rcases f2 with ⟨r1, r2, r3, r4⟩ | ⟨r1, r2, r3, r4⟩
    · exact ⟨p1.trans r1.symm, p2.trans r2.symm⟩
    · exact absurd ⟨r3.symm.trans p3, r4.symm.trans p4⟩ r2
    · exact absurd ⟨p3.symm.trans r3, p4.symm.trans r4⟩ p2
    · exact ⟨p3.symm.trans r3, p4.symm.trans r4⟩
  · obtain ⟨a1, b1, c1, d1, e1, f1⟩ := key k' u' hu' hp'
    rw [← e1]
    exact hW.2.2 a1 b1 c1 d1
end GX7
/-! ===== arrays of arrays ===== -/
theorem g_AOspec {s : State} {args : Array Value} (h : (Cond.arrayOver (.array .int)).before args s = true) : ∃ (comp c : ClassId) (k : Class), s.vm.findClass (FieldType.array .int).toString = some comp ∧ (s.vm.classes.findIdx? fun (x : Class) => match x.kind with | .array component _ => component == comp | _ => false) = some c ∧ s.vm.classes[c]? = some k ∧ k.kind = .array comp (.array .int) ∧ s.vm.findClass ("[" ++ (FieldType.array .int).toString) = some c := by
  simp only [Cond.before, Cond.holds, Cond.value, beq_iff_eq] at h
  cases hc : s.vm.findClass (FieldType.array .int).toString with
  | none => simp [hc] at h
  | some comp =>
    simp only [hc, Option.bind_some, Option.bind_eq_some_iff, Option.map_eq_some_iff] at h
    obtain ⟨c, hi, k, hk, hb⟩ := h
    obtain ⟨hlt, hp, -⟩ := Array.findIdx?_eq_some_iff_getElem.mp hi
    have hkk : s.vm.classes[c] = k := (Array.getElem?_eq_some_iff.mp hk).2
    rw [hkk] at hp
    cases hkind : k.kind with
    | array component ty =>
      rw [hkind] at hb hp
      simp at hb hp
      exact ⟨comp, c, k, rfl, hi, hk, by rw [hkind, hp, hb.1], hb.2⟩
    | _ => rw [hkind] at hb; simp at hb
theorem g_AOmoved {u U : State} {a a' : Array Value} (hvm : u.vm.Alike U.vm) (h : (Cond.arrayOver (.array .int)).before a u = true) : (Cond.arrayOver (.array .int)).before a' U = true := by
  obtain ⟨comp, c, k, h1, h2, h3, h4, h5⟩ := g_AOspec h
  obtain ⟨k', hk', he⟩ := hvm.2.2 _ _ h3
  have hi : (U.vm.classes.findIdx? fun (x : Class) => match x.kind with | .array component _ => component == comp | _ => false) = some c := by
    refine (va_idx_bare U.vm comp).symm.trans ?_
    first | rw [hvm.bare_eq] | rw [← hvm.bare_eq]
    exact (va_idx_bare u.vm comp).trans h2
  have hkind : k'.kind = .array comp (.array .int) := by rw [he]; exact h4
  have f1 : U.vm.findClass (FieldType.array .int).toString = some comp := by rw [hvm.findClass]; exact h1
  have f2 : U.vm.findClass ("[" ++ (FieldType.array .int).toString) = some c := by rw [hvm.findClass]; exact h5
  unfold Cond.before Cond.holds
  simp only [Cond.value]
  rw [f1, Option.bind_some]
  refine (congrArg (fun o : Option Nat => (o.bind (fun c => (U.vm.classes[c]?).map fun (k : Class) => match k.kind with | .array _ ty => decide (ty = FieldType.array .int) && decide (U.vm.findClass ("[" ++ (FieldType.array .int).toString) = some c) | _ => false) == some true)) hi).trans ?_
  simp [hk', hkind, f2]
theorem g_outer {c : ClassId} {N h0 : Nat} : Jvm.Free.Multi.outerC c N h0 N = arrV c N (fun j => va_rf (some (h0 + 1 + j))) := by
  obtain ⟨o1, o2, o3⟩ := Jvm.Free.Multi.outerC_facts c N h0 N
  have e : (Jvm.Free.Multi.outerC c N h0 N).slots = (arrV c N (fun j => va_rf (some (h0 + 1 + j)))).slots := by
    apply Array.ext_getElem?
    intro j
    by_cases hj : j < N
    · rw [Jvm.Free.Multi.outerC_slot c N h0 N j hj, if_pos hj, arrV_read _ _ hj]; rfl
    · rw [Array.getElem?_eq_none (by omega), Array.getElem?_eq_none (by rw [arrV_size]; omega)]
  have h : ∀ i, Jvm.Free.Multi.outerC c N h0 i = { cls := c, slots := (Jvm.Free.Multi.outerC c N h0 i).slots, vm := .none } := by
    intro i
    induction i with
    | zero => rfl
    | succ i ih =>
      show (Jvm.Free.Multi.outerC c N h0 i).setSlot i (.ref (h0 + 1 + i)) = { cls := c, slots := ((Jvm.Free.Multi.outerC c N h0 i).setSlot i (.ref (h0 + 1 + i))).slots, vm := .none }
      rw [ih]
      rfl
  rw [h N, e]
  rfl
theorem g_inner {c : ClassId} {M : Nat} : Jvm.Free.Multi.innerC c M (.int 0) = arrV c M (fun _ => .int 0) := by
  have e : Array.replicate M (Value.int 0) = (arrV c M (fun _ => .int 0)).slots := by
    apply Array.ext_getElem?
    intro j
    by_cases hj : j < M
    · rw [arrV_read _ _ hj]; simp [hj]
    · rw [Array.getElem?_eq_none (by simp; omega), Array.getElem?_eq_none (by rw [arrV_size]; omega)]
  show ({ cls := c, slots := Array.replicate M (Value.int 0), vm := .none } : Cell) = _
  rw [e]
  rfl
/-- new addresses of an array of arrays and of these -/
def g_um (ad : Nat → Nat → Nat) (kO kI q : Nat) : Nat → Nat → Nat := fun k u => if k = kO ∧ u = 0 then q else if k = kI then q + 1 + u else ad k u
section GX8
variable {cl : List vw_C} {X : g_F} {cc : ByteArray} {own : String} {ret : Option FieldType} {LM : g_L} {ad : Nat → Nat → Nat} {σ : g_S} {w : Nat × Nat} {pc : Nat} {vs : List (Nat × Value)} {st : List Value}
theorem y_mnew {σ1 : g_S} {index N M : Nat} {n m : Int32} (C : g_M cl X cc own ret) (kO kI : Nat) (hne : kO ≠ kI) (hI : g_n LM kI = N) (qc : Cond.classLink own index "[[I" ∈ lw_all) (hn : ¬ n < 0) (hm : ¬ m < 0) (hN : n.toNatClampNeg = N) (hM : m.toNatClampNeg = M) (hb1 : N * 4 ≤ 536870912) (hb2 : M * 4 ≤ 536870912) (hf : w.1 + (1 + N) ≤ (g_R X).cells ∧ w.2 + (N + N * M) ≤ (g_R X).slots) (hd : decode cc pc = .ok (.multianewarray index 2, 4))
    (hfr : ∀ q k' u', ¬ (k' = kO ∧ u' = 0) → k' ≠ kI → u' < g_n LM k' → g_cell LM (g_dA X) (g_um ad kO kI q) σ1 k' u' = g_cell LM (g_dA X) ad σ k' u') (hO1 : g_n LM kO = 1)
    (hmeO : ∀ q, g_cell LM (g_dA X) (g_um ad kO kI q) σ1 kO 0 = .inl (.inl (g_dA X 7, N, .inr (.inr (.inr (.inr fun j => some (q + 1 + j))))))) (hmeI : ∀ q u, u < N → g_cell LM (g_dA X) (g_um ad kO kI q) σ1 kI u = .inl (.inl (g_dA X 0, M, .inl fun _ => 0)))
    (kk : ∀ q, g_Y cl X LM (g_um ad kO kI q) σ1 (w.1 + (1 + N), w.2 + (N + N * M)) (pc + 4) vs (.ref q :: st)) : g_Y cl X LM ad σ w pc vs (.int m :: .int n :: st) := by
  intro H locs ls hW hS hl T hT XS
  have hts := C.2.2.2.2.1
  have hK := C.2.2.2.2.2.2.2.2.1
  obtain ⟨vm₁, cA, comp, hW1, hfA, hfC, hOa, hIa, X1, st1⟩ := XS.multianewarray2F C.1 (own := own) (index := index) (ty := .int) C.2.2.2.1 (hts _ qc) (g_AOmoved C.2.2.2.2.2.2.2.2.2.2.1.alike (C.2.2.2.2.2.2.2.2.2.1.1 _ q224)) (hts _ q221) (g := F0 (g_m X) pc ls (.int m :: .int n :: st)) rfl (by show decode (g_c X).code pc = _; rw [C.2.1]; exact hd) rfl hn hm (by rw [hN]; exact hb1) (by rw [hM]; exact hb2) (by rw [hM]; omega) rfl rfl (by rw [hN]; exact hf.1) (by rw [hN, hM]; exact hf.2)
  rw [hN, hM] at X1 st1
  obtain ⟨f1, f2, f3, f4⟩ := Jvm.Free.Multi.fill_facts (T.setVm vm₁) cA comp N M (.int 0) N
  have fo := fun (a : Addr) (ha : a < T.heap.size) => Jvm.Free.Multi.fill_old (T.setVm vm₁) cA comp N M (.int 0) (a := a) ha N
  have fi := fun (j : Nat) (hj : j < N) => Jvm.Free.Multi.fill_inner (T.setVm vm₁) cA comp N M (.int 0) N j hj
  have hcA : cA = g_dA X 7 := Option.some.inj (hfA.symm.trans (g_RA (hK.2 7 _ rfl).2))
  have hcI : comp = g_dA X 0 := Option.some.inj (hfC.symm.trans (va_nm_int (hK.2 0 _ rfl).2))
  subst hcA; subst hcI
  have hTs : (T.setVm vm₁).heap = H := hT
  rw [hTs] at f1 f2 fo fi
  rw [g_outer] at f2
  simp only [g_inner] at fi
  have hTz : T.heap.size = H.size := by rw [hT]
  have hWn : g_W cl (g_D X) (g_dA X) LM (g_um ad kO kI H.size) σ1 (g_A X) (Jvm.Free.Multi.fill (T.setVm vm₁) (g_dA X 7) (g_dA X 0) N M (.int 0) N).heap := by
    have hlt : ∀ k' u', u' < g_n LM k' → g_pr (g_cell LM (g_dA X) ad σ k' u') → ad k' u' < H.size := fun k' u' hu hp => (hW.1 k' u' hu).lt hp
    have hA0 : ∀ q : Nat, H.size ≤ q → g_A X q := fun q hq => C.2.2.2.2.2.2.2.1 q (Nat.le_trans hS.1 hq)
    -- where each cell that is there stands
    have key : ∀ k' u', u' < g_n LM k' → g_pr (g_cell LM (g_dA X) (g_um ad kO kI H.size) σ1 k' u') → (k' = kO ∧ u' = 0 ∧ g_um ad kO kI H.size k' u' = H.size) ∨ (k' = kI ∧ g_um ad kO kI H.size k' u' = H.size + 1 + u') ∨ (¬ (k' = kO ∧ u' = 0) ∧ k' ≠ kI ∧ g_um ad kO kI H.size k' u' = ad k' u' ∧ ad k' u' < H.size ∧ g_pr (g_cell LM (g_dA X) ad σ k' u')) := by
      intro k' u' hu hp
      by_cases h1 : k' = kO ∧ u' = 0
      · exact Or.inl ⟨h1.1, h1.2, if_pos h1⟩
      · by_cases h2 : k' = kI
        · exact Or.inr (Or.inl ⟨h2, (if_neg h1).trans (if_pos h2)⟩)
        · have hp' := hp
          rw [hfr _ k' u' h1 h2 hu] at hp'
          exact Or.inr (Or.inr ⟨h1, h2, (if_neg h1).trans (if_neg h2), hlt k' u' hu hp', hp'⟩)
    refine ⟨fun k' u' hu => ?_, fun k1 u1 k2 u2 h1 h2 p1 p2 h3 => ?_, fun k' u' hu hp => ?_⟩
    · by_cases h1 : k' = kO ∧ u' = 0
      · obtain ⟨rfl, rfl⟩ := h1
        rw [hmeO, show g_um ad k' kI H.size k' 0 = H.size from if_pos ⟨rfl, rfl⟩]
        exact f2
      · by_cases h2 : k' = kI
        · subst h2
          rw [hI] at hu
          rw [hmeI _ u' hu, show g_um ad kO k' H.size k' u' = H.size + 1 + u' from (if_neg h1).trans (if_pos rfl)]
          exact fi u' hu
        · rw [hfr _ k' u' h1 h2 hu, show g_um ad kO kI H.size k' u' = ad k' u' from (if_neg h1).trans (if_neg h2)]
          exact (hW.1 k' u' hu).kept (fun hp => fo _ (by rw [hTz]; exact hlt k' u' hu hp))
    · rcases key k1 u1 h1 p1 with ⟨a1, a2, a3⟩ | ⟨a1, a3⟩ | ⟨a1, a2, a3, a4, a5⟩ <;> rcases key k2 u2 h2 p2 with ⟨b1, b2, b3⟩ | ⟨b1, b3⟩ | ⟨b1, b2, b3, b4, b5⟩ <;> rw [a3, b3] at h3
      · exact ⟨a1.trans b1.symm, a2.trans b2.symm⟩
      · omega
      · omega
      · omega
      · exact ⟨a1.trans b1.symm, by omega⟩
      · omega
      · omega
      · omega
      · exact hW.2.1 k1 u1 k2 u2 h1 h2 a5 b5 h3
    · rcases key k' u' hu hp with ⟨a1, a2, a3⟩ | ⟨a1, a3⟩ | ⟨a1, a2, a3, a4, a5⟩ <;> rw [a3]
      · exact hA0 _ (Nat.le_refl _)
      · exact hA0 _ (by omega)
      · exact hW.2.2 k' u' hu a5
  have hSn : va_S (g_A X) (g_s X).heap (Jvm.Free.Multi.fill (T.setVm vm₁) (g_dA X 7) (g_dA X 0) N M (.int 0) N).heap locs := ⟨by rw [f1]; exact Nat.le_trans hS.1 (by omega), fun q h1 h2 => (fo q (by rw [hTz]; exact Nat.lt_of_lt_of_le h1 hS.1)).trans (hS.2.1 q h1 h2), hS.2.2⟩
  obtain ⟨t, a1, b1⟩ := kk H.size (Jvm.Free.Multi.fill (T.setVm vm₁) (g_dA X 7) (g_dA X 0) N M (.int 0) N).heap locs ls hWn hSn hl _ rfl (X1.more (Nat.le_of_eq (by omega)) (Nat.le_of_eq (by show w.2 + N + N * M = w.2 + (N + N * M); omega)))
  refine ⟨t, st1 t ?_, b1⟩
  rw [hTz]
  exact a1
end GX8
section GX9
variable {cl : List vw_C} {X : g_F} {cc : ByteArray} {own : String} {ret : Option FieldType} {LM : g_L} {ad : Nat → Nat → Nat} {σ : g_S} {w : Nat × Nat} {pc : Nat} {vs : List (Nat × Value)} {st : List Value} {Z1 : Option Value → (Nat → Nat → Nat) → g_S → Prop} {Z2 : String → Nat → (Nat → Nat → Nat) → g_S → Prop}
theorem y_callSG {y : MethodName} {bytes : ByteArray} {nL1 n na index : Nat} {ret1 : Option FieldType} {w1 : Nat × Nat} {LM1 : g_L} {As rest : List Value} (C : g_M cl X cc own ret) (cw : CallB (g_R X) (g_s X) (g_as X) own index y bytes nL1 ret1 (ws_ y bytes nL1 ret1) (g_rm n w1.1 w1.2) w1.1 w1.2 na ∧ (Cond.static y).before (g_as X) (g_s X) = true)
    (hM : g_MetG cl (g_D X) (g_dA X) (g_A X) (g_s0 X) (g_b0 X) (g_l X) y (ws_ y bytes nL1 ret1) n w1 LM ad σ As LM1 Z1 Z2) (hst : st = As.reverse ++ rest) (hn : As.length = na) (hcat : (rest.map fun v => v.category).sum ≤ 8) (hf : w.1 + w1.1 ≤ (g_R X).cells ∧ w.2 + w1.2 ≤ (g_R X).slots) (hd : decode cc pc = .ok (.invokestatic index, 3))
    (kk : ∀ v ad1 σ1, Z1 v ad1 σ1 → g_Y cl X LM1 ad1 σ1 (w.1 + w1.1, w.2 + w1.2) (pc + 3) vs (v.toList ++ rest)) (kx : ∀ E q ad1 σ1, Z2 E q ad1 σ1 → g_T cl X LM1 ad1 σ1 (w.1 + w1.1, w.2 + w1.2) pc vs E q) : g_Y cl X LM ad σ w pc vs st := by
  intro H locs ls hW hS hl
  subst hst
  exact g_goG (vx_runS ⟨C.1, C.2.1, C.2.2.1, C.2.2.2.1, C.2.2.2.2.1⟩ hM cw ⟨g_blind, g_start C hW hS⟩ rfl hn hl.1 rfl (lv_room hcat) hd hf) hS (fun v ad1 σ1 H1 locs1 hz hW1 hS1 => kk v ad1 σ1 hz H1 locs1 ls hW1 hS1 hl) (fun E q ad1 σ1 ce H1 locs1 hz hW1 hS1 h1 h2 h3 => kx E q ad1 σ1 hz H1 locs1 ls rest ce hW1 hS1 hl h1 h2 h3)
end GX9
