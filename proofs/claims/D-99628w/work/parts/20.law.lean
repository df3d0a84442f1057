set_option maxRecDepth 100000
def g_Prs (Rel : Nat → g_S → g_S → Prop) : Prop := (∀ (j : Nat) (σC σM : g_S), Rel j σC σM → Rel (j + 1) σC σM) ∧ pr_sign Rel ∧ pr_end Rel ∧ pr_valley Rel ∧ pr_people Rel ∧ pr_things Rel ∧ pr_light Rel ∧ pr_rule Rel ∧ pr_person Rel ∧ pr_thing Rel ∧ pr_sheet Rel ∧ pr_hours Rel ∧ pr_faces Rel ∧ pr_steps Rel ∧ pr_trims Rel ∧ pr_puts Rel ∧ pr_day Rel ∧ pr_undo Rel ∧ pr_sees Rel ∧ pr_seers Rel ∧ pr_hidden Rel ∧ pr_pairs Rel ∧ pr_behind Rel ∧ pr_widest Rel ∧ pr_watch Rel ∧ pr_learns Rel ∧ pr_all Rel ∧ pr_ahead Rel ∧ pr_gossip Rel ∧ pr_eighths Rel ∧ pr_turned Rel ∧ pr_best Rel ∧ pr_bears Rel ∧ pr_back Rel ∧ pr_open Rel ∧ pr_heard Rel ∧ pr_forget Rel ∧ pr_lost Rel ∧ pr_asks Rel ∧ pr_storm Rel ∧ pr_cock Rel ∧ pr_law Rel ∧ pr_rests Rel ∧ pr_years Rel ∧ pr_keep Rel ∧ pr_again Rel ∧ pr_count Rel ∧ pr_row Rel
theorem g_and63 (x : Int32) : ∃ n : Nat, n < 64 ∧ x &&& 63 = Int32.ofNat n := by
  refine ⟨(x &&& 63).toBitVec.toNat, ?_, ?_⟩
  · rw [Int32.toBitVec_and, BitVec.toNat_and]
    exact Nat.lt_of_le_of_lt Nat.and_le_right (by decide)
  · apply Int32.toBitVec_inj.mp
    rw [Int32.toBitVec_ofNat', BitVec.ofNat_toNat, BitVec.setWidth_eq]
theorem g_ofn {n : Nat} (h : n < 2147483648) : (Int32.ofNat n).toInt = n := Int32.toInt_ofNat_of_lt (by simpa using h)
theorem g_loopc {L j : Nat} (hL : L ≤ 320) (hj : j ≤ 65) : (Int32.ofNat L - 5 < Int32.ofNat (5 * j)) ↔ L < 5 * j + 5 := by
  rw [Int32.lt_iff_toInt_lt, Int32.toInt_sub, g_ofn (by omega), g_ofn (by omega), show (5 : Int32).toInt = 5 from rfl, Int.bmod_eq_of_le (by omega) (by omega)]
  omega
theorem g_ini {L j k : Nat} (hL : L ≤ 320) (hj : 5 * j + 5 ≤ L) (hk : k < 5) {i : Int32} (hi : i = Int32.ofNat (5 * j + k)) : g_in i L = true := by
  subst hi
  unfold g_in
  rw [g_ofn (by omega)]
  exact decide_eq_true (by omega)
theorem law_turn {Rel : Nat → g_S → g_S → Prop} {X : g_F} {b L : Nat} {xs : Nat → Int32} (C : g_M gCl X cL_law RX0 ret) (hR : g_R X = room_1) (hX : va_X b L xs (g_s X) (g_s X).heap) (hb : b < (g_s X).heap.size) (hbA : ¬ g_A X b) (hnL : g_nL X = 8) (hlt : (g_l X).stackTraces = false) (hp : g_Prs Rel) {ax am ao : Nat} {σC σM : g_S} {o : Int64} {j : Nat} (hj : j < 65) (hI : Rel j σC σM) {i : Int32} (h0 : g_in i L = true) (h1 : g_in (i + 1) L = true) (h2 : g_in (i + 2) L = true) (h3 : g_in (i + 3) L = true) (h4 : g_in (i + 4) L = true) {w : Nat × Nat} (hw : w.1 + 11 ≤ 603072 ∧ w.2 + 196 ≤ 7088234) (next : ∀ σC1 σM1 o1, Rel (j + 1) σC1 σM1 → g_YP X (g_P2 (g_D X) (g_dA X) (g_A X) ax am ao σC1 σM1 o1) (w.1 + 11, w.2 + 196) 1534 [(4, .int i), (3, .ref ao), (2, .ref am), (1, .ref ax), (0, .ref b)] []) : g_YP X (g_P2 (g_D X) (g_dA X) (g_A X) ax am ao σC σM o) w 32 [(4, .int i), (3, .ref ao), (2, .ref am), (1, .ref ax), (0, .ref b)] [] := by
  obtain ⟨pm, p0, p1, p2, p3, p4, p5, p6, p7, p8, p9, p10, p11, p12, p13, p14, p15, p16, p17, p18, p19, p20, p21, p22, p23, p24, p25, p26, p27, p28, p29, p30, p31, p32, p33, p34, p35, p36, p37, p38, p39, p40, p41, p42, p43, p44, p45, p46⟩ := hp
  refine p_aload_n C dL_law_32 4 rfl rfl ?_
  refine p_iload C dL_law_33 0 rfl ?_
  refine p_sld C hX hb hbA h0 dL_law_35 ?_
  refine p_bipush (v := 63) C dL_law_36 rfl ?_
  refine p_iand C dL_law_38 ?_
  obtain ⟨n, hn, e⟩ := g_and63 (xs i.toNatClampNeg)
  by_cases h47 : 47 ≤ n
  · refine p_tswO (tgt := 1534) C dL_law_39 (Or.inr (by rw [e, g_ofn (by omega)]; omega)) rfl ?_
    exact p_widen ⟨Nat.le_add_right _ _, Nat.le_add_right _ _⟩ (next _ _ _ (pm _ _ _ hI))
  · match n, h47, e with
    | 0, _, e => exact p_tswI (tgt := 240) (kk := 0) C dL_law_39 e ⟨by decide, by decide, rfl⟩ rfl (lc_sign C hR hX hb hbA hnL hlt p0 hj hI h1 h2 h3 h4 hw next)
    | 1, _, e => exact p_tswI (tgt := 265) (kk := 1) C dL_law_39 e ⟨by decide, by decide, rfl⟩ rfl (lc_end C hR hX hb hbA hnL hlt p1 hj hI h1 h2 h3 h4 hw next)
    | 2, _, e => exact p_tswI (tgt := 290) (kk := 2) C dL_law_39 e ⟨by decide, by decide, rfl⟩ rfl (lc_valley C hR hX hb hbA hnL hlt p2 hj hI h1 h2 h3 h4 hw next)
    | 3, _, e => exact p_tswI (tgt := 303) (kk := 3) C dL_law_39 e ⟨by decide, by decide, rfl⟩ rfl (lc_people C hR hX hb hbA hnL hlt p3 hj hI h1 h2 h3 h4 hw next)
    | 4, _, e => exact p_tswI (tgt := 316) (kk := 4) C dL_law_39 e ⟨by decide, by decide, rfl⟩ rfl (lc_things C hR hX hb hbA hnL hlt p4 hj hI h1 h2 h3 h4 hw next)
    | 5, _, e => exact p_tswI (tgt := 329) (kk := 5) C dL_law_39 e ⟨by decide, by decide, rfl⟩ rfl (lc_light C hR hX hb hbA hnL hlt p5 hj hI h1 h2 h3 h4 hw next)
    | 6, _, e => exact p_tswI (tgt := 342) (kk := 6) C dL_law_39 e ⟨by decide, by decide, rfl⟩ rfl (lc_rule C hR hX hb hbA hnL hlt p6 hj hI h1 h2 h3 h4 hw next)
    | 7, _, e => exact p_tswI (tgt := 355) (kk := 7) C dL_law_39 e ⟨by decide, by decide, rfl⟩ rfl (lc_person C hR hX hb hbA hnL hlt p7 hj hI h1 h2 h3 h4 hw next)
    | 8, _, e => exact p_tswI (tgt := 423) (kk := 8) C dL_law_39 e ⟨by decide, by decide, rfl⟩ rfl (lc_thing C hR hX hb hbA hnL hlt p8 hj hI h1 h2 h3 h4 hw next)
    | 9, _, e => exact p_tswI (tgt := 491) (kk := 9) C dL_law_39 e ⟨by decide, by decide, rfl⟩ rfl (lc_sheet C hR hX hb hbA hnL hlt p9 hj hI h1 h2 h3 h4 hw next)
    | 10, _, e => exact p_tswI (tgt := 552) (kk := 10) C dL_law_39 e ⟨by decide, by decide, rfl⟩ rfl (lc_hours C hR hX hb hbA hnL hlt p10 hj hI h1 h2 h3 h4 hw next)
    | 11, _, e => exact p_tswI (tgt := 577) (kk := 11) C dL_law_39 e ⟨by decide, by decide, rfl⟩ rfl (lc_faces C hR hX hb hbA hnL hlt p11 hj hI h1 h2 h3 h4 hw next)
    | 12, _, e => exact p_tswI (tgt := 614) (kk := 12) C dL_law_39 e ⟨by decide, by decide, rfl⟩ rfl (lc_steps C hR hX hb hbA hnL hlt p12 hj hI h1 h2 h3 h4 hw next)
    | 13, _, e => exact p_tswI (tgt := 651) (kk := 13) C dL_law_39 e ⟨by decide, by decide, rfl⟩ rfl (lc_trims C hR hX hb hbA hnL hlt p13 hj hI h1 h2 h3 h4 hw next)
    | 14, _, e => exact p_tswI (tgt := 688) (kk := 14) C dL_law_39 e ⟨by decide, by decide, rfl⟩ rfl (lc_puts C hR hX hb hbA hnL hlt p14 hj hI h1 h2 h3 h4 hw next)
    | 15, _, e => exact p_tswI (tgt := 725) (kk := 15) C dL_law_39 e ⟨by decide, by decide, rfl⟩ rfl (lc_day C hR hX hb hbA hnL hlt p15 hj hI h1 h2 h3 h4 hw next)
    | 16, _, e => exact p_tswI (tgt := 738) (kk := 16) C dL_law_39 e ⟨by decide, by decide, rfl⟩ rfl (lc_undo C hR hX hb hbA hnL hlt p16 hj hI h1 h2 h3 h4 hw next)
    | 17, _, e => exact p_tswI (tgt := 751) (kk := 17) C dL_law_39 e ⟨by decide, by decide, rfl⟩ rfl (lc_sees C hR hX hb hbA hnL hlt p17 hj hI h1 h2 h3 h4 hw next)
    | 18, _, e => exact p_tswI (tgt := 777) (kk := 18) C dL_law_39 e ⟨by decide, by decide, rfl⟩ rfl (lc_seers C hR hX hb hbA hnL hlt p18 hj hI h1 h2 h3 h4 hw next)
    | 19, _, e => exact p_tswI (tgt := 802) (kk := 19) C dL_law_39 e ⟨by decide, by decide, rfl⟩ rfl (lc_hidden C hR hX hb hbA hnL hlt p19 hj hI h1 h2 h3 h4 hw next)
    | 20, _, e => exact p_tswI (tgt := 816) (kk := 20) C dL_law_39 e ⟨by decide, by decide, rfl⟩ rfl (lc_pairs C hR hX hb hbA hnL hlt p20 hj hI h1 h2 h3 h4 hw next)
    | 21, _, e => exact p_tswI (tgt := 829) (kk := 21) C dL_law_39 e ⟨by decide, by decide, rfl⟩ rfl (lc_behind C hR hX hb hbA hnL hlt p21 hj hI h1 h2 h3 h4 hw next)
    | 22, _, e => exact p_tswI (tgt := 854) (kk := 22) C dL_law_39 e ⟨by decide, by decide, rfl⟩ rfl (lc_widest C hR hX hb hbA hnL hlt p22 hj hI h1 h2 h3 h4 hw next)
    | 23, _, e => exact p_tswI (tgt := 867) (kk := 23) C dL_law_39 e ⟨by decide, by decide, rfl⟩ rfl (lc_watch C hR hX hb hbA hnL hlt p23 hj hI h1 h2 h3 h4 hw next)
    | 24, _, e => exact p_tswI (tgt := 880) (kk := 24) C dL_law_39 e ⟨by decide, by decide, rfl⟩ rfl (lc_learns C hR hX hb hbA hnL hlt p24 hj hI h1 h2 h3 h4 hw next)
    | 25, _, e => exact p_tswI (tgt := 917) (kk := 25) C dL_law_39 e ⟨by decide, by decide, rfl⟩ rfl (lc_all C hR hX hb hbA hnL hlt p25 hj hI h1 h2 h3 h4 hw next)
    | 26, _, e => exact p_tswI (tgt := 930) (kk := 26) C dL_law_39 e ⟨by decide, by decide, rfl⟩ rfl (lc_ahead C hR hX hb hbA hnL hlt p26 hj hI h1 h2 h3 h4 hw next)
    | 27, _, e => exact p_tswI (tgt := 955) (kk := 27) C dL_law_39 e ⟨by decide, by decide, rfl⟩ rfl (lc_gossip C hR hX hb hbA hnL hlt p27 hj hI h1 h2 h3 h4 hw next)
    | 28, _, e => exact p_tswI (tgt := 980) (kk := 28) C dL_law_39 e ⟨by decide, by decide, rfl⟩ rfl (lc_eighths C hR hX hb hbA hnL hlt p28 hj hI h1 h2 h3 h4 hw next)
    | 29, _, e => exact p_tswI (tgt := 1017) (kk := 29) C dL_law_39 e ⟨by decide, by decide, rfl⟩ rfl (lc_turned C hR hX hb hbA hnL hlt p29 hj hI h1 h2 h3 h4 hw next)
    | 30, _, e => exact p_tswI (tgt := 1030) (kk := 30) C dL_law_39 e ⟨by decide, by decide, rfl⟩ rfl (lc_best C hR hX hb hbA hnL hlt p30 hj hI h1 h2 h3 h4 hw next)
    | 31, _, e => exact p_tswI (tgt := 1055) (kk := 31) C dL_law_39 e ⟨by decide, by decide, rfl⟩ rfl (lc_bears C hR hX hb hbA hnL hlt p31 hj hI h1 h2 h3 h4 hw next)
    | 32, _, e => exact p_tswI (tgt := 1092) (kk := 32) C dL_law_39 e ⟨by decide, by decide, rfl⟩ rfl (lc_back C hR hX hb hbA hnL hlt p32 hj hI h1 h2 h3 h4 hw next)
    | 33, _, e => exact p_tswI (tgt := 1129) (kk := 33) C dL_law_39 e ⟨by decide, by decide, rfl⟩ rfl (lc_open C hR hX hb hbA hnL hlt p33 hj hI h1 h2 h3 h4 hw next)
    | 34, _, e => exact p_tswI (tgt := 1166) (kk := 34) C dL_law_39 e ⟨by decide, by decide, rfl⟩ rfl (lc_heard C hR hX hb hbA hnL hlt p34 hj hI h1 h2 h3 h4 hw next)
    | 35, _, e => exact p_tswI (tgt := 1203) (kk := 35) C dL_law_39 e ⟨by decide, by decide, rfl⟩ rfl (lc_forget C hR hX hb hbA hnL hlt p35 hj hI h1 h2 h3 h4 hw next)
    | 36, _, e => exact p_tswI (tgt := 1216) (kk := 36) C dL_law_39 e ⟨by decide, by decide, rfl⟩ rfl (lc_lost C hR hX hb hbA hnL hlt p36 hj hI h1 h2 h3 h4 hw next)
    | 37, _, e => exact p_tswI (tgt := 1230) (kk := 37) C dL_law_39 e ⟨by decide, by decide, rfl⟩ rfl (lc_asks C hR hX hb hbA hnL hlt p37 hj hI h1 h2 h3 h4 hw next)
    | 38, _, e => exact p_tswI (tgt := 1243) (kk := 38) C dL_law_39 e ⟨by decide, by decide, rfl⟩ rfl (lc_storm C hR hX hb hbA hnL hlt p38 hj hI h1 h2 h3 h4 hw next)
    | 39, _, e => exact p_tswI (tgt := 1292) (kk := 39) C dL_law_39 e ⟨by decide, by decide, rfl⟩ rfl (lc_cock C hR hX hb hbA hnL hlt p39 hj hI h1 h2 h3 h4 hw next)
    | 40, _, e => exact p_tswI (tgt := 1329) (kk := 40) C dL_law_39 e ⟨by decide, by decide, rfl⟩ rfl (lc_law C hR hX hb hbA hnL hlt p40 hj hI h1 h2 h3 h4 hw next)
    | 41, _, e => exact p_tswI (tgt := 1342) (kk := 41) C dL_law_39 e ⟨by decide, by decide, rfl⟩ rfl (lc_rests C hR hX hb hbA hnL hlt p41 hj hI h1 h2 h3 h4 hw next)
    | 42, _, e => exact p_tswI (tgt := 1367) (kk := 42) C dL_law_39 e ⟨by decide, by decide, rfl⟩ rfl (lc_years C hR hX hb hbA hnL hlt p42 hj hI h1 h2 h3 h4 hw next)
    | 43, _, e => exact p_tswI (tgt := 1404) (kk := 43) C dL_law_39 e ⟨by decide, by decide, rfl⟩ rfl (lc_keep C hR hX hb hbA hnL hlt p43 hj hI h1 h2 h3 h4 hw next)
    | 44, _, e => exact p_tswI (tgt := 1429) (kk := 44) C dL_law_39 e ⟨by decide, by decide, rfl⟩ rfl (lc_again C hR hX hb hbA hnL hlt p44 hj hI h1 h2 h3 h4 hw next)
    | 45, _, e => exact p_tswI (tgt := 1454) (kk := 45) C dL_law_39 e ⟨by decide, by decide, rfl⟩ rfl (lc_count C hR hX hb hbA hnL hlt p45 hj hI h1 h2 h3 h4 hw next)
    | 46, _, e => exact p_tswI (tgt := 1479) (kk := 46) C dL_law_39 e ⟨by decide, by decide, rfl⟩ rfl (lc_row C hR hX hb hbA hnL hlt p46 hj hI h1 h2 h3 h4 hw next)
    | n + 47, h47, _ => exact absurd (Nat.le_add_left 47 n) h47

theorem law_loop {Rel : Nat → g_S → g_S → Prop} {X : g_F} {b L : Nat} {xs : Nat → Int32} (C : g_M gCl X cL_law RX0 ret) (hR : g_R X = room_1) (hX : va_X b L xs (g_s X) (g_s X).heap) (hb : b < (g_s X).heap.size) (hbA : ¬ g_A X b) (hnL : g_nL X = 8) (hlt : (g_l X).stackTraces = false) (hp : g_Prs Rel) (hL : L ≤ 320) {ax am ao : Nat} (exit : ∀ (P : Heap → Prop) (w : Nat × Nat), w.1 ≤ 603072 → w.2 ≤ 7088234 → ∀ vs, g_YP X P w 1541 vs [.int 1]) : ∀ (m j : Nat), m + j = 65 → ∀ (σC σM : g_S) (o : Int64), Rel j σC σM → g_YP X (g_P2 (g_D X) (g_dA X) (g_A X) ax am ao σC σM o) (234 + 11 * j, 8993 + 196 * j) 23 [(4, .int (Int32.ofNat (5 * j))), (3, .ref ao), (2, .ref am), (1, .ref ax), (0, .ref b)] [] := by
  intro m
  induction m with
  | zero =>
    intro j hj σC σM o hI
    refine p_iload C dL_law_23 0 rfl ?_
    refine p_aload_n C dL_law_25 4 rfl rfl ?_
    refine p_slen C hX hb hbA dL_law_26 ?_
    refine p_iconst (v := 5) C dL_law_27 rfl ?_
    refine p_isub C dL_law_28 ?_
    refine p_icmp_gt (tgt := 1540) C dL_law_29 rfl (fun _ => ?_) (fun hne => absurd ((g_loopc hL (by omega)).mpr (by omega)) hne)
    refine p_iconst (v := 1) C dL_law_1540 rfl ?_
    exact exit _ _ (by show 234 + 11 * j ≤ _; omega) (by show 8993 + 196 * j ≤ _; omega) _
  | succ m ih =>
    intro j hj σC σM o hI
    refine p_iload C dL_law_23 0 rfl ?_
    refine p_aload_n C dL_law_25 4 rfl rfl ?_
    refine p_slen C hX hb hbA dL_law_26 ?_
    refine p_iconst (v := 5) C dL_law_27 rfl ?_
    refine p_isub C dL_law_28 ?_
    refine p_icmp_gt (tgt := 1540) C dL_law_29 rfl (fun _ => ?_) (fun hne => ?_)
    · refine p_iconst (v := 1) C dL_law_1540 rfl ?_
      exact exit _ _ (by show 234 + 11 * j ≤ _; omega) (by show 8993 + 196 * j ≤ _; omega) _
    · have hlt2 : 5 * j + 5 ≤ L := Nat.not_lt.mp (fun z => hne ((g_loopc hL (by omega)).mpr z))
      have ho : ∀ k : Nat, Int32.ofNat (5 * j) + Int32.ofNat k = Int32.ofNat (5 * j + k) := fun k => (Int32.ofNat_add _ _).symm
      refine law_turn C hR hX hb hbA hnL hlt hp (by omega) hI (g_ini hL hlt2 (k := 0) (by omega) rfl) (g_ini hL hlt2 (k := 1) (by omega) (ho 1)) (g_ini hL hlt2 (k := 2) (by omega) (ho 2)) (g_ini hL hlt2 (k := 3) (by omega) (ho 3)) (g_ini hL hlt2 (k := 4) (by omega) (ho 4)) ⟨show 234 + 11 * j + 11 ≤ 603072 by omega, show 8993 + 196 * j + 196 ≤ 7088234 by omega⟩ (fun σC1 σM1 o1 hI1 => ?_)
      refine p_iinc (v := Int32.ofNat (5 * (j + 1))) (c := 5) (vs1 := [(4, .int (Int32.ofNat (5 * (j + 1)))), (3, .ref ao), (2, .ref am), (1, .ref ax), (0, .ref b)]) C (by rw [show 5 * (j + 1) = 5 * j + 5 by omega]; exact (ho 5).symm) rfl dL_law_1534 0 rfl (by rw [hnL]; decide) rfl ?_
      refine p_goto (tgt := 23) C dL_law_1537 rfl ?_
      have := ih (j + 1) (by omega) σC1 σM1 o1 hI1
      rw [show 234 + 11 * (j + 1) = 234 + 11 * j + 11 by omega, show 8993 + 196 * (j + 1) = 8993 + 196 * j + 196 by omega] at this
      exact this
theorem ddC_X1_init : yX1_init.cls = RX1 ∧ yX1_init.cls ≠ "java/lang/invoke/MethodHandle" ∧ yX1_init.cls ≠ "java/lang/invoke/VarHandle" ∧ (parseMethodDescriptor yX1_init.desc).map (fun d => d.parameters.length) = some 0 := by decide +kernel
theorem ddD_X1_init : yX1_init.cls ≠ "java/lang/invoke/MethodHandle" ∧ yX1_init.cls ≠ "java/lang/invoke/VarHandle" ∧ (parseMethodDescriptor yX1_init.desc).map (fun d => d.parameters.length) = some 0 := by decide +kernel
theorem ddC_X6_init : yX6_init.cls = RX6 ∧ yX6_init.cls ≠ "java/lang/invoke/MethodHandle" ∧ yX6_init.cls ≠ "java/lang/invoke/VarHandle" ∧ (parseMethodDescriptor yX6_init.desc).map (fun d => d.parameters.length) = some 0 := by decide +kernel
theorem ddD_X6_init : yX6_init.cls ≠ "java/lang/invoke/MethodHandle" ∧ yX6_init.cls ≠ "java/lang/invoke/VarHandle" ∧ (parseMethodDescriptor yX6_init.desc).map (fun d => d.parameters.length) = some 0 := by decide +kernel
theorem lkL_X0_22_l3_w201 {X : g_F} {cc : ByteArray} {ret : Option FieldType} (C : g_M gCl X cc RX0 ret) (hR : g_R X = room_1) : CallB (g_R X) (g_s X) (g_as X) RX0 22 yX1_init cX1_init 2 none (ws_ yX1_init cX1_init 2 none) (g_rm 3 201 4129) 201 4129 0 ∧ yX1_init.name = "<init>" ∧ (Cond.instanceMethod yX1_init).before (g_as X) (g_s X) = true :=
  cwI 0 C.2.2.2.2.1 (lw_meth q140) rfl rfl rfl (C.2.2.2.2.1 _ q110) (C.2.2.2.2.1 _ q138) (C.2.2.2.2.1 _ q139) rfl ddD_X1_init (by rw [hR]; decide)
theorem lkL_X0_25_l2_w30 {X : g_F} {cc : ByteArray} {ret : Option FieldType} (C : g_M gCl X cc RX0 ret) (hR : g_R X = room_1) : CallB (g_R X) (g_s X) (g_as X) RX0 25 yX6_init cX6_init 1 none (ws_ yX6_init cX6_init 1 none) (g_rm 2 30 4783) 30 4783 0 ∧ yX6_init.name = "<init>" ∧ (Cond.instanceMethod yX6_init).before (g_as X) (g_s X) = true :=
  cwI 0 C.2.2.2.2.1 (lw_meth q1286) rfl rfl rfl (C.2.2.2.2.1 _ q115) (C.2.2.2.2.1 _ q1284) (C.2.2.2.2.1 _ q1285) rfl ddD_X6_init (by rw [hR]; decide)
theorem law_body {Rel : Nat → g_S → g_S → Prop} {X : g_F} {b L : Nat} {xs : Nat → Int32} (C : g_M gCl X cL_law RX0 ret) (hR : g_R X = room_1) (hX : va_X b L xs (g_s X) (g_s X).heap) (hb : b < (g_s X).heap.size) (hbA : ¬ g_A X b) (hnL : g_nL X = 8) (hlt : (g_l X).stackTraces = false) (hp : g_Prs Rel) (hL : L ≤ 320) (hI : Rel 0 g_iC g_iM) (exit : ∀ (P : Heap → Prop) (w : Nat × Nat), w.1 ≤ 603072 → w.2 ≤ 7088234 → ∀ vs, g_YP X P w 1541 vs [.int 1]) : g_YP X (fun _ => True) (0, 0) 0 [(0, .ref b)] [] := by
  refine p_new (P1 := fun q H => va_at (g_D X) gCl (q, .inr (0, [.null, .null, .null, .int 0, .int 0, .int 0, .int 0, .int 0, .int 0, .long 0, .null, .null, .null, .null, .null, .null, .int 0, .null, .int 0, .null, .null, .null, .null, .null, .null, .null, .int 0, .int 0, .null, .int 0, .null])) H ∧ g_A X q) (ci := 0) (fs := [.null, .null, .null, .int 0, .int 0, .int 0, .int 0, .int 0, .int 0, .long 0, .null, .null, .null, .null, .null, .null, .int 0, .null, .int 0, .null, .null, .null, .null, .null, .null, .null, .int 0, .int 0, .null, .int 0, .null]) (N := 31) C in_X1 tyX1 tyX1_ok q136 q137 q110 rfl (by decide) (by rw [hR]; exact ⟨by decide, by decide⟩) dL_law_0 (fun H _ => ⟨[], fun k q h => (by simp at h), ⟨fun i j p q h => (by simp at h), fun k q h => (by simp at h)⟩, fun q H1 hP hD => ⟨hP 0 _ rfl, hD.2 0 _ rfl⟩⟩) (fun ax => ?_)
  refine p_dup C dL_law_3 rfl ?_
  refine p_callIG (Z := fun s2 => s2 = g_iC) (As := []) (w1 := (201, 4129)) C (g_splK1 (σ := g_iC)) (lkL_X0_22_l3_w201 C hR) (fun ad A1 => ct_K1) (fun _ _ _ _ hh => ⟨⟨hh.1, hh.2.1⟩, hh.2.2⟩) rfl rfl (Nat.le_of_ble_eq_true rfl) (by rw [hR]; exact ⟨by decide, by decide⟩) dL_law_4 ?_
  rintro _ rfl
  refine p_astore_n (vs1 := [(1, .ref ax), (0, .ref b)]) C rfl dL_law_7 rfl (by rw [hnL]; decide) rfl ?_
  refine p_new (P1 := fun q => g_P1n (g_D X) (g_dA X) (g_A X) ax g_iC q (.inr (5, [.int 0, .int 0, .null, .int 0, .int 0, .int 0, .int 0, .int 0, .int 0, .null, .null, .null, .null, .null, .int 0, .int 0, .int 0, .int 0, .null, .null, .int 0, .null, .null, .int 0, .int 0, .null, .null, .int 0, .null, .null, .null, .null, .null, .null, .int 0, .null, .null, .null, .null, .int 0, .null, .null, .null, .null, .null, .int 0, .null, .null, .null]))) (ci := 5) (fs := [.int 0, .int 0, .null, .int 0, .int 0, .int 0, .int 0, .int 0, .int 0, .null, .null, .null, .null, .null, .int 0, .int 0, .int 0, .int 0, .null, .null, .int 0, .null, .null, .int 0, .int 0, .null, .null, .int 0, .null, .null, .null, .null, .null, .null, .int 0, .null, .null, .null, .null, .int 0, .null, .null, .null, .null, .null, .int 0, .null, .null, .null]) (N := 49) C in_X6 tyX6 tyX6_ok q1282 q1283 q115 rfl (by decide) (by rw [hR]; exact ⟨by decide, by decide⟩) dL_law_8 (fun H hP => by
    obtain ⟨ws, a1, a2, a3⟩ := hP.list
    exact ⟨ws, a1, a2, fun q H1 h1 h2 => a3 q _ H1 h1 h2⟩) (fun am => ?_)
  refine p_dup C dL_law_11 rfl ?_
  refine p_callIG (Z := fun s2 => s2 = g_iM) (As := []) (w1 := (30, 4783)) C (g_splKM (σ := g_iM)) (lkL_X0_25_l2_w30 C hR) (fun ad A1 => ct_KM) (fun _ _ _ _ hh => ⟨⟨hh.1, hh.2.1⟩, hh.2.2⟩) rfl rfl (Nat.le_of_ble_eq_true rfl) (by rw [hR]; exact ⟨by decide, by decide⟩) dL_law_12 ?_
  rintro _ rfl
  refine p_astore_n (vs1 := [(2, .ref am), (1, .ref ax), (0, .ref b)]) C rfl dL_law_15 rfl (by rw [hnL]; decide) rfl ?_
  refine p_iconst (v := 1) C dL_law_16 rfl ?_
  refine p_newL (P1 := fun q => g_P2 (g_D X) (g_dA X) (g_A X) ax am q g_iC g_iM 0) C q330 (by rw [hR]; exact ⟨by decide, by decide⟩) dL_law_17 (fun H hP => by
    obtain ⟨ws, a1, a2, a3⟩ := hP.list
    exact ⟨ws, a1, a2, fun q H1 h1 h2 => a3 q 0 H1 h1 h2⟩) (fun ao => ?_)
  refine p_astore_n (vs1 := [(3, .ref ao), (2, .ref am), (1, .ref ax), (0, .ref b)]) C rfl dL_law_19 rfl (by rw [hnL]; decide) rfl ?_
  refine p_iconst (v := 0) C dL_law_20 rfl ?_
  refine p_istore (vs1 := [(4, .int 0), (3, .ref ao), (2, .ref am), (1, .ref ax), (0, .ref b)]) C rfl dL_law_21 (by rw [hnL]; decide) rfl ?_
  exact law_loop C hR hX hb hbA hnL hlt hp hL exit 65 0 rfl g_iC g_iM 0 hI
