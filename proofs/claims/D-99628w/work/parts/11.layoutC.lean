set_option maxRecDepth 100000
/-- whether the i-th reference is set: 1: all; n + 2: n of them -/
abbrev g_set (r i : Nat) : Prop := r = 1 ∨ i + 2 < r
theorem g_setp {r i : Nat} (h : g_set r i) : ¬ r = 0 := by rcases h with h | h <;> omega
def gC_f0 (ad : Nat → Nat → Nat) (u : Nat) (I : Nat → Int32) (L : Nat → Int64) (R : Nat → Nat) : List Value := [.ref (ad 1 0), .ref (ad 2 0), .ref (ad 3 0), .int (I 3), .int (I 4), .int (I 5), .int (I 6), .int (I 7), .int (I 8), .long (L 9), .ref (ad 4 0), .ref (ad 4 1), .ref (ad 4 2), .ref (ad 10 0), .ref (ad 11 (R 14)), .ref (ad 12 0), .int (I 16), .ref (ad 13 0), .int (I 18), (if R 19 = 0 then .null else .ref (ad 26 (R 19 - 1))), .ref (ad 14 0), .ref (ad 15 0), .ref (ad 16 0), .ref (ad 18 0), .ref (ad 20 0), .ref (ad 23 0), .int (I 26), .int (I 27), .ref (ad 21 0), .int (I 29), .ref (ad 24 0)]
def gC_f1 (ad : Nat → Nat → Nat) (u : Nat) (I : Nat → Int32) (L : Nat → Int64) (R : Nat → Nat) : List Value := [.ref (ad 0 0)]
def gC_f2 (ad : Nat → Nat → Nat) (u : Nat) (I : Nat → Int32) (L : Nat → Int64) (R : Nat → Nat) : List Value := [.ref (ad 0 0), .int (I 1), .ref (ad 0 0)]
def gC_f3 (ad : Nat → Nat → Nat) (u : Nat) (I : Nat → Int32) (L : Nat → Int64) (R : Nat → Nat) : List Value := [.ref (ad 0 0), .int (I 1), .ref (ad 0 0)]
def gC_f4 (ad : Nat → Nat → Nat) (u : Nat) (I : Nat → Int32) (L : Nat → Int64) (R : Nat → Nat) : List Value := [.ref (ad 5 u), .ref (ad 6 u), .ref (ad 7 u), .ref (ad 8 u), .ref (ad 9 u), .int (I 5)]
def gC_f25 (ad : Nat → Nat → Nat) (u : Nat) (I : Nat → Int32) (L : Nat → Int64) (R : Nat → Nat) : List Value := [(if g_set (R 200) 1 then .ref (ad 34 u) else .null), .int (I 1), (if g_set (R 200) 0 then .ref (ad 0 0) else .null)]
def gC_f26 (ad : Nat → Nat → Nat) (u : Nat) (I : Nat → Int32) (L : Nat → Int64) (R : Nat → Nat) : List Value := [(if g_set (R 200) 1 then .ref (ad 27 u) else .null), .int (I 1), .int (I 2), .int (I 3), (if R 4 = 0 then .null else .ref (ad 4 (R 4 - 1))), .int (I 5), .int (I 6), (if g_set (R 200) 0 then .ref (ad 0 0) else .null)]
def gC_f34 (ad : Nat → Nat → Nat) (u : Nat) (I : Nat → Int32) (L : Nat → Int64) (R : Nat → Nat) : List Value := [(if g_set (R 200) 0 then .ref (ad 35 u) else .null), (if g_set (R 200) 1 then .ref (ad 36 u) else .null), (if g_set (R 200) 2 then .ref (ad 37 u) else .null), (if g_set (R 200) 3 then .ref (ad 38 u) else .null), (if g_set (R 200) 4 then .ref (ad 39 u) else .null), .int (I 5)]
def gC_f40 (ad : Nat → Nat → Nat) (u : Nat) (I : Nat → Int32) (L : Nat → Int64) (R : Nat → Nat) : List Value := [(if g_set (R 200) 0 then .ref (ad 12 0) else .null), .int (I 1), .int (I 2), .int (I 3)]
def gC_f44 (ad : Nat → Nat → Nat) (u : Nat) (I : Nat → Int32) (L : Nat → Int64) (R : Nat → Nat) : List Value := [(if g_set (R 200) 1 then .ref (ad 12 0) else .null), .int (I 1), .int (I 2), .int (I 3), (if g_set (R 200) 2 then .ref (ad 45 0) else .null), (if g_set (R 200) 3 then .ref (ad 46 0) else .null), (if g_set (R 200) 4 then .ref (ad 47 0) else .null), .int (I 7), (if g_set (R 200) 0 then .ref (ad 0 0) else .null)]
def gC_f52 (ad : Nat → Nat → Nat) (u : Nat) (I : Nat → Int32) (L : Nat → Int64) (R : Nat → Nat) : List Value := [.int (I 0)]
def gC_f53 (ad : Nat → Nat → Nat) (u : Nat) (I : Nat → Int32) (L : Nat → Int64) (R : Nat → Nat) : List Value := [(if g_set (R 200) 1 then .ref (ad 27 (R 201)) else .null), .int (I 1), .int (I 2), .int (I 3), (if R 4 = 0 then .null else .ref (ad 4 (R 4 - 1))), .int (I 5), .int (I 6), (if g_set (R 200) 0 then .ref (ad 0 0) else .null)]
def gC_h26 (ad : Nat → Nat → Nat) (u : Nat) (I : Nat → Int32) (R : Nat → Nat) (z : g_Z) : List Value := [(if g_set (R 200) 1 then .ref (ad 27 u) else .null), .int (I 1), .int (I 2), .int (z.1 3), (if z.2 4 = 0 then .null else .ref (ad 4 (z.2 4 - 1))), .int (z.1 5), .int (z.1 6), (if g_set (R 200) 0 then .ref (ad 0 0) else .null)]
/-- a cell that is there when n isn't 0 -/
def g_opt (n : Nat) (x : g_C) : g_C := if n = 0 then .inr (.inr ()) else x
/-- the component's cells; what the working of a rule leaves in it may be hidden -/
def gCcell (hid : Bool) (dA : Nat → ClassId) (ad : Nat → Nat → Nat) (k u : Nat) (I : Nat → Int32) (L : Nat → Int64) (R : Nat → Nat) : g_C := match k with
  | 0 => .inl (.inr (0, gC_f0 ad u I L R))
  | 1 => .inl (.inr (1, gC_f1 ad u I L R))
  | 2 => .inl (.inr (2, gC_f2 ad u I L R))
  | 3 => .inl (.inr (3, gC_f3 ad u I L R))
  | 4 => .inl (.inr (4, gC_f4 ad u I L R))
  | 5 => .inl (.inl (dA 0, 8, .inl I))
  | 6 => .inl (.inl (dA 0, 8, .inl I))
  | 7 => .inl (.inl (dA 0, 8, .inl I))
  | 8 => .inl (.inl (dA 0, 8, .inl I))
  | 9 => .inl (.inl (dA 0, 8, .inl I))
  | 10 => .inl (.inl (dA 6, 15, .inr (.inr (.inr (.inr (fun j => some (ad 4 (R j))))))))
  | 11 => g_opt (R 0) (.inl (.inl (dA 3, (R 0), .inl I)))
  | 12 => .inl (.inl (dA 3, 80, .inl I))
  | 13 => .inl (.inl (dA 1, 64, .inr (.inl L)))
  | 14 => .inl (.inl (dA 0, 8, .inl I))
  | 15 => .inl (.inl (dA 1, 8, .inr (.inl L)))
  | 16 => .inl (.inl (dA 7, 8, .inr (.inr (.inr (.inr (fun j => some (ad 17 j)))))))
  | 17 => .inl (.inl (dA 0, 8, .inl I))
  | 18 => .inl (.inl (dA 7, 9, .inr (.inr (.inr (.inr (fun j => some (ad 19 j)))))))
  | 19 => .inl (.inl (dA 0, 256, .inl I))
  | 20 => .inl (.inl (dA 0, 49, .inl I))
  | 21 => .inl (.inl (dA 7, 61, .inr (.inr (.inr (.inr (fun j => some (ad 22 j)))))))
  | 22 => .inl (.inl (dA 0, 10, .inl I))
  | 23 => .inl (.inl (dA 0, 10, .inl I))
  | 24 => .inl (.inl (dA 8, 3, .inr (.inr (.inr (.inr (fun j => if j < 3 then (if R j = 0 then none else some (ad 25 (R j - 1))) else none))))))
  | 25 => g_opt (R 200) (.inl (.inr (9, gC_f25 ad u I L R)))
  | 26 => g_opt (R 200) (match hid with
    | true => .inr (.inl (fun z => .inr (7, gC_h26 ad u I R z)))
    | false => .inl (.inr (7, gC_f26 ad u I L R)))
  | 27 => g_opt (R 200) (.inl (.inl (dA 3, 80, .inl I)))
  | 34 => g_opt (R 200) (.inl (.inr (4, gC_f34 ad u I L R)))
  | 35 => g_opt (R 200) (.inl (.inl (dA 0, 8, .inl I)))
  | 36 => g_opt (R 200) (.inl (.inl (dA 0, 8, .inl I)))
  | 37 => g_opt (R 200) (.inl (.inl (dA 0, 8, .inl I)))
  | 38 => g_opt (R 200) (.inl (.inl (dA 0, 8, .inl I)))
  | 39 => g_opt (R 200) (.inl (.inl (dA 0, 8, .inl I)))
  | 40 => g_opt (R 200) (.inl (.inr (6, gC_f40 ad u I L R)))
  | 41 => g_opt (R 200) (.inl (.inl (dA 7, 8, .inr (.inr (.inr (.inr (fun j => some (ad 42 j))))))))
  | 42 => g_opt (R 200) (.inl (.inl (dA 0, 3, .inl I)))
  | 43 => g_opt (R 200) (.inl (.inl (dA 0, 8, .inl I)))
  | 44 => g_opt (R 200) (.inl (.inr (8, gC_f44 ad u I L R)))
  | 45 => g_opt (R 200) (.inl (.inl (dA 5, 60, .inl I)))
  | 46 => g_opt (R 200) (.inl (.inl (dA 0, 60, .inl I)))
  | 47 => g_opt (R 200) (.inl (.inl (dA 0, 60, .inl I)))
  | 48 => g_opt (R 200) (match R 1 with
    | 1 => .inl (.inl (dA 3, R 0, .inl I))
    | 2 => .inl (.inl (dA 4, R 0, .inl I))
    | _ => .inl (.inl (dA 0, R 0, .inl I)))
  | 51 => g_opt (R 200) (.inl (.inl (dA 1, 10, .inr (.inl L))))
  | 52 => g_opt (R 200) (.inl (.inr (10, gC_f52 ad u I L R)))
  | 53 => g_opt (R 200) (.inl (.inr (7, gC_f53 ad u I L R)))
  | _ => .inr (.inr ())
def gC (hid : Bool) : g_L := (gCcell hid, [1, 1, 1, 1, 18, 18, 18, 18, 18, 18, 1, 2, 1, 1, 1, 1, 1, 8, 1, 9, 1, 1, 61, 1, 1, 4, 2, 2, 0, 0, 0, 0, 0, 0, 4, 4, 4, 4, 4, 4, 1, 1, 8, 1, 1, 1, 1, 1, 1, 0, 0, 1, 1, 1])
theorem nC_0_0 {hid : Bool} : 0 < g_n (gC hid) 0 := Nat.le_of_ble_eq_true rfl
theorem nC_1_0 {hid : Bool} : 0 < g_n (gC hid) 1 := Nat.le_of_ble_eq_true rfl
theorem nC_2_0 {hid : Bool} : 0 < g_n (gC hid) 2 := Nat.le_of_ble_eq_true rfl
theorem nC_3_0 {hid : Bool} : 0 < g_n (gC hid) 3 := Nat.le_of_ble_eq_true rfl
theorem nC_4_0 {hid : Bool} : 0 < g_n (gC hid) 4 := Nat.le_of_ble_eq_true rfl
theorem nC_4_1 {hid : Bool} : 1 < g_n (gC hid) 4 := Nat.le_of_ble_eq_true rfl
theorem nC_4_2 {hid : Bool} : 2 < g_n (gC hid) 4 := Nat.le_of_ble_eq_true rfl
theorem nC_5_0 {hid : Bool} : 0 < g_n (gC hid) 5 := Nat.le_of_ble_eq_true rfl
theorem nC_5_1 {hid : Bool} : 1 < g_n (gC hid) 5 := Nat.le_of_ble_eq_true rfl
theorem nC_5_2 {hid : Bool} : 2 < g_n (gC hid) 5 := Nat.le_of_ble_eq_true rfl
theorem nC_6_0 {hid : Bool} : 0 < g_n (gC hid) 6 := Nat.le_of_ble_eq_true rfl
theorem nC_6_1 {hid : Bool} : 1 < g_n (gC hid) 6 := Nat.le_of_ble_eq_true rfl
theorem nC_6_2 {hid : Bool} : 2 < g_n (gC hid) 6 := Nat.le_of_ble_eq_true rfl
theorem nC_7_0 {hid : Bool} : 0 < g_n (gC hid) 7 := Nat.le_of_ble_eq_true rfl
theorem nC_7_1 {hid : Bool} : 1 < g_n (gC hid) 7 := Nat.le_of_ble_eq_true rfl
theorem nC_7_2 {hid : Bool} : 2 < g_n (gC hid) 7 := Nat.le_of_ble_eq_true rfl
theorem nC_8_0 {hid : Bool} : 0 < g_n (gC hid) 8 := Nat.le_of_ble_eq_true rfl
theorem nC_8_1 {hid : Bool} : 1 < g_n (gC hid) 8 := Nat.le_of_ble_eq_true rfl
theorem nC_8_2 {hid : Bool} : 2 < g_n (gC hid) 8 := Nat.le_of_ble_eq_true rfl
theorem nC_9_0 {hid : Bool} : 0 < g_n (gC hid) 9 := Nat.le_of_ble_eq_true rfl
theorem nC_9_1 {hid : Bool} : 1 < g_n (gC hid) 9 := Nat.le_of_ble_eq_true rfl
theorem nC_9_2 {hid : Bool} : 2 < g_n (gC hid) 9 := Nat.le_of_ble_eq_true rfl
theorem nC_10_0 {hid : Bool} : 0 < g_n (gC hid) 10 := Nat.le_of_ble_eq_true rfl
theorem nC_11_0 {hid : Bool} : 0 < g_n (gC hid) 11 := Nat.le_of_ble_eq_true rfl
theorem nC_11_1 {hid : Bool} : 1 < g_n (gC hid) 11 := Nat.le_of_ble_eq_true rfl
theorem nC_12_0 {hid : Bool} : 0 < g_n (gC hid) 12 := Nat.le_of_ble_eq_true rfl
theorem nC_13_0 {hid : Bool} : 0 < g_n (gC hid) 13 := Nat.le_of_ble_eq_true rfl
theorem nC_14_0 {hid : Bool} : 0 < g_n (gC hid) 14 := Nat.le_of_ble_eq_true rfl
theorem nC_15_0 {hid : Bool} : 0 < g_n (gC hid) 15 := Nat.le_of_ble_eq_true rfl
theorem nC_16_0 {hid : Bool} : 0 < g_n (gC hid) 16 := Nat.le_of_ble_eq_true rfl
theorem nC_18_0 {hid : Bool} : 0 < g_n (gC hid) 18 := Nat.le_of_ble_eq_true rfl
theorem nC_20_0 {hid : Bool} : 0 < g_n (gC hid) 20 := Nat.le_of_ble_eq_true rfl
theorem nC_21_0 {hid : Bool} : 0 < g_n (gC hid) 21 := Nat.le_of_ble_eq_true rfl
theorem nC_23_0 {hid : Bool} : 0 < g_n (gC hid) 23 := Nat.le_of_ble_eq_true rfl
theorem nC_24_0 {hid : Bool} : 0 < g_n (gC hid) 24 := Nat.le_of_ble_eq_true rfl
theorem nC_25_0 {hid : Bool} : 0 < g_n (gC hid) 25 := Nat.le_of_ble_eq_true rfl
theorem nC_25_1 {hid : Bool} : 1 < g_n (gC hid) 25 := Nat.le_of_ble_eq_true rfl
theorem nC_25_2 {hid : Bool} : 2 < g_n (gC hid) 25 := Nat.le_of_ble_eq_true rfl
theorem nC_25_3 {hid : Bool} : 3 < g_n (gC hid) 25 := Nat.le_of_ble_eq_true rfl
theorem nC_26_0 {hid : Bool} : 0 < g_n (gC hid) 26 := Nat.le_of_ble_eq_true rfl
theorem nC_26_1 {hid : Bool} : 1 < g_n (gC hid) 26 := Nat.le_of_ble_eq_true rfl
theorem nC_27_0 {hid : Bool} : 0 < g_n (gC hid) 27 := Nat.le_of_ble_eq_true rfl
theorem nC_27_1 {hid : Bool} : 1 < g_n (gC hid) 27 := Nat.le_of_ble_eq_true rfl
theorem nC_34_0 {hid : Bool} : 0 < g_n (gC hid) 34 := Nat.le_of_ble_eq_true rfl
theorem nC_34_1 {hid : Bool} : 1 < g_n (gC hid) 34 := Nat.le_of_ble_eq_true rfl
theorem nC_34_2 {hid : Bool} : 2 < g_n (gC hid) 34 := Nat.le_of_ble_eq_true rfl
theorem nC_34_3 {hid : Bool} : 3 < g_n (gC hid) 34 := Nat.le_of_ble_eq_true rfl
theorem nC_35_0 {hid : Bool} : 0 < g_n (gC hid) 35 := Nat.le_of_ble_eq_true rfl
theorem nC_35_1 {hid : Bool} : 1 < g_n (gC hid) 35 := Nat.le_of_ble_eq_true rfl
theorem nC_35_2 {hid : Bool} : 2 < g_n (gC hid) 35 := Nat.le_of_ble_eq_true rfl
theorem nC_35_3 {hid : Bool} : 3 < g_n (gC hid) 35 := Nat.le_of_ble_eq_true rfl
theorem nC_36_0 {hid : Bool} : 0 < g_n (gC hid) 36 := Nat.le_of_ble_eq_true rfl
theorem nC_36_1 {hid : Bool} : 1 < g_n (gC hid) 36 := Nat.le_of_ble_eq_true rfl
theorem nC_36_2 {hid : Bool} : 2 < g_n (gC hid) 36 := Nat.le_of_ble_eq_true rfl
theorem nC_36_3 {hid : Bool} : 3 < g_n (gC hid) 36 := Nat.le_of_ble_eq_true rfl
theorem nC_37_0 {hid : Bool} : 0 < g_n (gC hid) 37 := Nat.le_of_ble_eq_true rfl
theorem nC_37_1 {hid : Bool} : 1 < g_n (gC hid) 37 := Nat.le_of_ble_eq_true rfl
theorem nC_37_2 {hid : Bool} : 2 < g_n (gC hid) 37 := Nat.le_of_ble_eq_true rfl
theorem nC_37_3 {hid : Bool} : 3 < g_n (gC hid) 37 := Nat.le_of_ble_eq_true rfl
theorem nC_38_0 {hid : Bool} : 0 < g_n (gC hid) 38 := Nat.le_of_ble_eq_true rfl
theorem nC_38_1 {hid : Bool} : 1 < g_n (gC hid) 38 := Nat.le_of_ble_eq_true rfl
theorem nC_38_2 {hid : Bool} : 2 < g_n (gC hid) 38 := Nat.le_of_ble_eq_true rfl
theorem nC_38_3 {hid : Bool} : 3 < g_n (gC hid) 38 := Nat.le_of_ble_eq_true rfl
theorem nC_39_0 {hid : Bool} : 0 < g_n (gC hid) 39 := Nat.le_of_ble_eq_true rfl
theorem nC_39_1 {hid : Bool} : 1 < g_n (gC hid) 39 := Nat.le_of_ble_eq_true rfl
theorem nC_39_2 {hid : Bool} : 2 < g_n (gC hid) 39 := Nat.le_of_ble_eq_true rfl
theorem nC_39_3 {hid : Bool} : 3 < g_n (gC hid) 39 := Nat.le_of_ble_eq_true rfl
theorem nC_40_0 {hid : Bool} : 0 < g_n (gC hid) 40 := Nat.le_of_ble_eq_true rfl
theorem nC_41_0 {hid : Bool} : 0 < g_n (gC hid) 41 := Nat.le_of_ble_eq_true rfl
theorem nC_43_0 {hid : Bool} : 0 < g_n (gC hid) 43 := Nat.le_of_ble_eq_true rfl
theorem nC_44_0 {hid : Bool} : 0 < g_n (gC hid) 44 := Nat.le_of_ble_eq_true rfl
theorem nC_45_0 {hid : Bool} : 0 < g_n (gC hid) 45 := Nat.le_of_ble_eq_true rfl
theorem nC_46_0 {hid : Bool} : 0 < g_n (gC hid) 46 := Nat.le_of_ble_eq_true rfl
theorem nC_47_0 {hid : Bool} : 0 < g_n (gC hid) 47 := Nat.le_of_ble_eq_true rfl
theorem nC_48_0 {hid : Bool} : 0 < g_n (gC hid) 48 := Nat.le_of_ble_eq_true rfl
theorem nC_51_0 {hid : Bool} : 0 < g_n (gC hid) 51 := Nat.le_of_ble_eq_true rfl
theorem nC_52_0 {hid : Bool} : 0 < g_n (gC hid) 52 := Nat.le_of_ble_eq_true rfl
theorem nC_53_0 {hid : Bool} : 0 < g_n (gC hid) 53 := Nat.le_of_ble_eq_true rfl
theorem obC_0 {hid : Bool} {dA : Nat → ClassId} {ad : Nat → Nat → Nat} {σ : g_S} {u : Nat} : g_obj (gC hid) dA ad σ 0 u 0 := ⟨_, rfl⟩
theorem obC_1 {hid : Bool} {dA : Nat → ClassId} {ad : Nat → Nat → Nat} {σ : g_S} {u : Nat} : g_obj (gC hid) dA ad σ 1 u 1 := ⟨_, rfl⟩
theorem obC_2 {hid : Bool} {dA : Nat → ClassId} {ad : Nat → Nat → Nat} {σ : g_S} {u : Nat} : g_obj (gC hid) dA ad σ 2 u 2 := ⟨_, rfl⟩
theorem obC_3 {hid : Bool} {dA : Nat → ClassId} {ad : Nat → Nat → Nat} {σ : g_S} {u : Nat} : g_obj (gC hid) dA ad σ 3 u 3 := ⟨_, rfl⟩
theorem obC_4 {hid : Bool} {dA : Nat → ClassId} {ad : Nat → Nat → Nat} {σ : g_S} {u : Nat} : g_obj (gC hid) dA ad σ 4 u 4 := ⟨_, rfl⟩
theorem obC_25 {hid : Bool} {dA : Nat → ClassId} {ad : Nat → Nat → Nat} {σ : g_S} {u : Nat} (hp : ¬ σ.2.2 25 u 200 = 0) : g_obj (gC hid) dA ad σ 25 u 9 := by
  unfold g_obj; rw [show g_cell (gC hid) dA ad σ 25 u = _ from if_neg hp]; exact ⟨_, rfl⟩
theorem obC_26 {hid : Bool} {dA : Nat → ClassId} {ad : Nat → Nat → Nat} {σ : g_S} {u : Nat} (hp : ¬ σ.2.2 26 u 200 = 0) : g_obj (gC hid) dA ad σ 26 u 7 := by
  cases hid
  · unfold g_obj; rw [show g_cell (gC false) dA ad σ 26 u = _ from if_neg hp]; exact ⟨_, rfl⟩
  · unfold g_obj; rw [show g_cell (gC true) dA ad σ 26 u = _ from if_neg hp]; exact fun z => ⟨_, rfl⟩
theorem obC_34 {hid : Bool} {dA : Nat → ClassId} {ad : Nat → Nat → Nat} {σ : g_S} {u : Nat} (hp : ¬ σ.2.2 34 u 200 = 0) : g_obj (gC hid) dA ad σ 34 u 4 := by
  unfold g_obj; rw [show g_cell (gC hid) dA ad σ 34 u = _ from if_neg hp]; exact ⟨_, rfl⟩
theorem obC_40 {hid : Bool} {dA : Nat → ClassId} {ad : Nat → Nat → Nat} {σ : g_S} {u : Nat} (hp : ¬ σ.2.2 40 u 200 = 0) : g_obj (gC hid) dA ad σ 40 u 6 := by
  unfold g_obj; rw [show g_cell (gC hid) dA ad σ 40 u = _ from if_neg hp]; exact ⟨_, rfl⟩
theorem obC_44 {hid : Bool} {dA : Nat → ClassId} {ad : Nat → Nat → Nat} {σ : g_S} {u : Nat} (hp : ¬ σ.2.2 44 u 200 = 0) : g_obj (gC hid) dA ad σ 44 u 8 := by
  unfold g_obj; rw [show g_cell (gC hid) dA ad σ 44 u = _ from if_neg hp]; exact ⟨_, rfl⟩
theorem obC_52 {hid : Bool} {dA : Nat → ClassId} {ad : Nat → Nat → Nat} {σ : g_S} {u : Nat} (hp : ¬ σ.2.2 52 u 200 = 0) : g_obj (gC hid) dA ad σ 52 u 10 := by
  unfold g_obj; rw [show g_cell (gC hid) dA ad σ 52 u = _ from if_neg hp]; exact ⟨_, rfl⟩
theorem obC_53 {hid : Bool} {dA : Nat → ClassId} {ad : Nat → Nat → Nat} {σ : g_S} {u : Nat} (hp : ¬ σ.2.2 53 u 200 = 0) : g_obj (gC hid) dA ad σ 53 u 7 := by
  unfold g_obj; rw [show g_cell (gC hid) dA ad σ 53 u = _ from if_neg hp]; exact ⟨_, rfl⟩
theorem g_sR_s (σ : g_S) (k u j v : Nat) : (g_sR σ k u j v).2.2 k u = g_updN (σ.2.2 k u) j v := g_up_s _ _ _ _
theorem g_sR_n {σ : g_S} {k u j v : Nat} : g_oth σ (g_sR σ k u j v) k u := g_sC_n
theorem al_C_5 {hid : Bool} {X : g_F} {own : String} {cc : ByteArray} {ret : Option FieldType} {ad : Nat → Nat → Nat} {σ : g_S} {w : Nat × Nat} {pc : Nat} {vs : List (Nat × Value)} {st : List Value} {u : Nat} {i : Int32} (C : g_M gCl X cc own ret) (hu : u < g_n (gC hid) 5) (hi : g_in i 8 = true) (hd : decode cc pc = .ok (.iaload, 1)) (k : g_Y gCl X (gC hid) ad σ w (pc + 1) vs (.int (σ.1 5 u i.toNatClampNeg) :: st)) : g_Y gCl X (gC hid) ad σ w pc vs (.int i :: .ref (ad 5 u) :: st) := y_iald C hu rfl hi hd k
theorem as_C_5 {hid : Bool} {X : g_F} {own : String} {cc : ByteArray} {ret : Option FieldType} {ad : Nat → Nat → Nat} {σ : g_S} {w : Nat × Nat} {pc : Nat} {vs : List (Nat × Value)} {st : List Value} {u : Nat} {i : Int32} {x : Int32} {σ1 : g_S} (C : g_M gCl X cc own ret) (hu : u < g_n (gC hid) 5) (e : σ1 = g_sI σ 5 u i.toNatClampNeg x) (hi : g_in i 8 = true) (hd : decode cc pc = .ok (.iastore, 1)) (k : g_Y gCl X (gC hid) ad σ1 w (pc + 1) vs st) : g_Y gCl X (gC hid) ad σ w pc vs (.int x :: .int i :: .ref (ad 5 u) :: st) := by
  subst e
  exact y_iast C hu rfl g_sI_n (by show Sum.inl (Sum.inl (_, _, _)) = _; rw [g_sI_s]) hi hd k
theorem al_C_6 {hid : Bool} {X : g_F} {own : String} {cc : ByteArray} {ret : Option FieldType} {ad : Nat → Nat → Nat} {σ : g_S} {w : Nat × Nat} {pc : Nat} {vs : List (Nat × Value)} {st : List Value} {u : Nat} {i : Int32} (C : g_M gCl X cc own ret) (hu : u < g_n (gC hid) 6) (hi : g_in i 8 = true) (hd : decode cc pc = .ok (.iaload, 1)) (k : g_Y gCl X (gC hid) ad σ w (pc + 1) vs (.int (σ.1 6 u i.toNatClampNeg) :: st)) : g_Y gCl X (gC hid) ad σ w pc vs (.int i :: .ref (ad 6 u) :: st) := y_iald C hu rfl hi hd k
theorem as_C_6 {hid : Bool} {X : g_F} {own : String} {cc : ByteArray} {ret : Option FieldType} {ad : Nat → Nat → Nat} {σ : g_S} {w : Nat × Nat} {pc : Nat} {vs : List (Nat × Value)} {st : List Value} {u : Nat} {i : Int32} {x : Int32} {σ1 : g_S} (C : g_M gCl X cc own ret) (hu : u < g_n (gC hid) 6) (e : σ1 = g_sI σ 6 u i.toNatClampNeg x) (hi : g_in i 8 = true) (hd : decode cc pc = .ok (.iastore, 1)) (k : g_Y gCl X (gC hid) ad σ1 w (pc + 1) vs st) : g_Y gCl X (gC hid) ad σ w pc vs (.int x :: .int i :: .ref (ad 6 u) :: st) := by
  subst e
  exact y_iast C hu rfl g_sI_n (by show Sum.inl (Sum.inl (_, _, _)) = _; rw [g_sI_s]) hi hd k
theorem al_C_7 {hid : Bool} {X : g_F} {own : String} {cc : ByteArray} {ret : Option FieldType} {ad : Nat → Nat → Nat} {σ : g_S} {w : Nat × Nat} {pc : Nat} {vs : List (Nat × Value)} {st : List Value} {u : Nat} {i : Int32} (C : g_M gCl X cc own ret) (hu : u < g_n (gC hid) 7) (hi : g_in i 8 = true) (hd : decode cc pc = .ok (.iaload, 1)) (k : g_Y gCl X (gC hid) ad σ w (pc + 1) vs (.int (σ.1 7 u i.toNatClampNeg) :: st)) : g_Y gCl X (gC hid) ad σ w pc vs (.int i :: .ref (ad 7 u) :: st) := y_iald C hu rfl hi hd k
theorem as_C_7 {hid : Bool} {X : g_F} {own : String} {cc : ByteArray} {ret : Option FieldType} {ad : Nat → Nat → Nat} {σ : g_S} {w : Nat × Nat} {pc : Nat} {vs : List (Nat × Value)} {st : List Value} {u : Nat} {i : Int32} {x : Int32} {σ1 : g_S} (C : g_M gCl X cc own ret) (hu : u < g_n (gC hid) 7) (e : σ1 = g_sI σ 7 u i.toNatClampNeg x) (hi : g_in i 8 = true) (hd : decode cc pc = .ok (.iastore, 1)) (k : g_Y gCl X (gC hid) ad σ1 w (pc + 1) vs st) : g_Y gCl X (gC hid) ad σ w pc vs (.int x :: .int i :: .ref (ad 7 u) :: st) := by
  subst e
  exact y_iast C hu rfl g_sI_n (by show Sum.inl (Sum.inl (_, _, _)) = _; rw [g_sI_s]) hi hd k
theorem al_C_8 {hid : Bool} {X : g_F} {own : String} {cc : ByteArray} {ret : Option FieldType} {ad : Nat → Nat → Nat} {σ : g_S} {w : Nat × Nat} {pc : Nat} {vs : List (Nat × Value)} {st : List Value} {u : Nat} {i : Int32} (C : g_M gCl X cc own ret) (hu : u < g_n (gC hid) 8) (hi : g_in i 8 = true) (hd : decode cc pc = .ok (.iaload, 1)) (k : g_Y gCl X (gC hid) ad σ w (pc + 1) vs (.int (σ.1 8 u i.toNatClampNeg) :: st)) : g_Y gCl X (gC hid) ad σ w pc vs (.int i :: .ref (ad 8 u) :: st) := y_iald C hu rfl hi hd k
theorem as_C_8 {hid : Bool} {X : g_F} {own : String} {cc : ByteArray} {ret : Option FieldType} {ad : Nat → Nat → Nat} {σ : g_S} {w : Nat × Nat} {pc : Nat} {vs : List (Nat × Value)} {st : List Value} {u : Nat} {i : Int32} {x : Int32} {σ1 : g_S} (C : g_M gCl X cc own ret) (hu : u < g_n (gC hid) 8) (e : σ1 = g_sI σ 8 u i.toNatClampNeg x) (hi : g_in i 8 = true) (hd : decode cc pc = .ok (.iastore, 1)) (k : g_Y gCl X (gC hid) ad σ1 w (pc + 1) vs st) : g_Y gCl X (gC hid) ad σ w pc vs (.int x :: .int i :: .ref (ad 8 u) :: st) := by
  subst e
  exact y_iast C hu rfl g_sI_n (by show Sum.inl (Sum.inl (_, _, _)) = _; rw [g_sI_s]) hi hd k
theorem al_C_9 {hid : Bool} {X : g_F} {own : String} {cc : ByteArray} {ret : Option FieldType} {ad : Nat → Nat → Nat} {σ : g_S} {w : Nat × Nat} {pc : Nat} {vs : List (Nat × Value)} {st : List Value} {u : Nat} {i : Int32} (C : g_M gCl X cc own ret) (hu : u < g_n (gC hid) 9) (hi : g_in i 8 = true) (hd : decode cc pc = .ok (.iaload, 1)) (k : g_Y gCl X (gC hid) ad σ w (pc + 1) vs (.int (σ.1 9 u i.toNatClampNeg) :: st)) : g_Y gCl X (gC hid) ad σ w pc vs (.int i :: .ref (ad 9 u) :: st) := y_iald C hu rfl hi hd k
theorem as_C_9 {hid : Bool} {X : g_F} {own : String} {cc : ByteArray} {ret : Option FieldType} {ad : Nat → Nat → Nat} {σ : g_S} {w : Nat × Nat} {pc : Nat} {vs : List (Nat × Value)} {st : List Value} {u : Nat} {i : Int32} {x : Int32} {σ1 : g_S} (C : g_M gCl X cc own ret) (hu : u < g_n (gC hid) 9) (e : σ1 = g_sI σ 9 u i.toNatClampNeg x) (hi : g_in i 8 = true) (hd : decode cc pc = .ok (.iastore, 1)) (k : g_Y gCl X (gC hid) ad σ1 w (pc + 1) vs st) : g_Y gCl X (gC hid) ad σ w pc vs (.int x :: .int i :: .ref (ad 9 u) :: st) := by
  subst e
  exact y_iast C hu rfl g_sI_n (by show Sum.inl (Sum.inl (_, _, _)) = _; rw [g_sI_s]) hi hd k
theorem al_C_12 {hid : Bool} {X : g_F} {own : String} {cc : ByteArray} {ret : Option FieldType} {ad : Nat → Nat → Nat} {σ : g_S} {w : Nat × Nat} {pc : Nat} {vs : List (Nat × Value)} {st : List Value} {u : Nat} {i : Int32} (C : g_M gCl X cc own ret) (hu : u < g_n (gC hid) 12) (hi : g_in i 80 = true) (hd : decode cc pc = .ok (.baload, 1)) (k : g_Y gCl X (gC hid) ad σ w (pc + 1) vs (.int (σ.1 12 u i.toNatClampNeg) :: st)) : g_Y gCl X (gC hid) ad σ w pc vs (.int i :: .ref (ad 12 u) :: st) := y_bald C hu rfl hi hd k
theorem as_C_12 {hid : Bool} {X : g_F} {own : String} {cc : ByteArray} {ret : Option FieldType} {ad : Nat → Nat → Nat} {σ : g_S} {w : Nat × Nat} {pc : Nat} {vs : List (Nat × Value)} {st : List Value} {u : Nat} {i : Int32} {x : Int32} {σ1 : g_S} (C : g_M gCl X cc own ret) (hu : u < g_n (gC hid) 12) (e : σ1 = g_sI σ 12 u i.toNatClampNeg (vp_nar .byte x)) (hi : g_in i 80 = true) (hd : decode cc pc = .ok (.bastore, 1)) (k : g_Y gCl X (gC hid) ad σ1 w (pc + 1) vs st) : g_Y gCl X (gC hid) ad σ w pc vs (.int x :: .int i :: .ref (ad 12 u) :: st) := by
  subst e
  exact y_bast C hu rfl g_sI_n (by show Sum.inl (Sum.inl (_, _, _)) = _; rw [g_sI_s]) hi hd k
theorem al_C_13 {hid : Bool} {X : g_F} {own : String} {cc : ByteArray} {ret : Option FieldType} {ad : Nat → Nat → Nat} {σ : g_S} {w : Nat × Nat} {pc : Nat} {vs : List (Nat × Value)} {st : List Value} {u : Nat} {i : Int32} (C : g_M gCl X cc own ret) (hu : u < g_n (gC hid) 13) (hi : g_in i 64 = true) (hd : decode cc pc = .ok (.laload, 1)) (k : g_Y gCl X (gC hid) ad σ w (pc + 1) vs (.long (σ.2.1 13 u i.toNatClampNeg) :: st)) : g_Y gCl X (gC hid) ad σ w pc vs (.int i :: .ref (ad 13 u) :: st) := y_lald C hu rfl hi hd k
theorem as_C_13 {hid : Bool} {X : g_F} {own : String} {cc : ByteArray} {ret : Option FieldType} {ad : Nat → Nat → Nat} {σ : g_S} {w : Nat × Nat} {pc : Nat} {vs : List (Nat × Value)} {st : List Value} {u : Nat} {i : Int32} {x : Int64} {σ1 : g_S} (C : g_M gCl X cc own ret) (hu : u < g_n (gC hid) 13) (e : σ1 = g_sL σ 13 u i.toNatClampNeg x) (hi : g_in i 64 = true) (hd : decode cc pc = .ok (.lastore, 1)) (k : g_Y gCl X (gC hid) ad σ1 w (pc + 1) vs st) : g_Y gCl X (gC hid) ad σ w pc vs (.long x :: .int i :: .ref (ad 13 u) :: st) := by
  subst e
  exact y_last C hu rfl g_sL_n (by show Sum.inl (Sum.inl (_, _, _)) = _; rw [g_sL_s]) hi hd k
theorem al_C_14 {hid : Bool} {X : g_F} {own : String} {cc : ByteArray} {ret : Option FieldType} {ad : Nat → Nat → Nat} {σ : g_S} {w : Nat × Nat} {pc : Nat} {vs : List (Nat × Value)} {st : List Value} {u : Nat} {i : Int32} (C : g_M gCl X cc own ret) (hu : u < g_n (gC hid) 14) (hi : g_in i 8 = true) (hd : decode cc pc = .ok (.iaload, 1)) (k : g_Y gCl X (gC hid) ad σ w (pc + 1) vs (.int (σ.1 14 u i.toNatClampNeg) :: st)) : g_Y gCl X (gC hid) ad σ w pc vs (.int i :: .ref (ad 14 u) :: st) := y_iald C hu rfl hi hd k
theorem as_C_14 {hid : Bool} {X : g_F} {own : String} {cc : ByteArray} {ret : Option FieldType} {ad : Nat → Nat → Nat} {σ : g_S} {w : Nat × Nat} {pc : Nat} {vs : List (Nat × Value)} {st : List Value} {u : Nat} {i : Int32} {x : Int32} {σ1 : g_S} (C : g_M gCl X cc own ret) (hu : u < g_n (gC hid) 14) (e : σ1 = g_sI σ 14 u i.toNatClampNeg x) (hi : g_in i 8 = true) (hd : decode cc pc = .ok (.iastore, 1)) (k : g_Y gCl X (gC hid) ad σ1 w (pc + 1) vs st) : g_Y gCl X (gC hid) ad σ w pc vs (.int x :: .int i :: .ref (ad 14 u) :: st) := by
  subst e
  exact y_iast C hu rfl g_sI_n (by show Sum.inl (Sum.inl (_, _, _)) = _; rw [g_sI_s]) hi hd k
theorem al_C_15 {hid : Bool} {X : g_F} {own : String} {cc : ByteArray} {ret : Option FieldType} {ad : Nat → Nat → Nat} {σ : g_S} {w : Nat × Nat} {pc : Nat} {vs : List (Nat × Value)} {st : List Value} {u : Nat} {i : Int32} (C : g_M gCl X cc own ret) (hu : u < g_n (gC hid) 15) (hi : g_in i 8 = true) (hd : decode cc pc = .ok (.laload, 1)) (k : g_Y gCl X (gC hid) ad σ w (pc + 1) vs (.long (σ.2.1 15 u i.toNatClampNeg) :: st)) : g_Y gCl X (gC hid) ad σ w pc vs (.int i :: .ref (ad 15 u) :: st) := y_lald C hu rfl hi hd k
theorem as_C_15 {hid : Bool} {X : g_F} {own : String} {cc : ByteArray} {ret : Option FieldType} {ad : Nat → Nat → Nat} {σ : g_S} {w : Nat × Nat} {pc : Nat} {vs : List (Nat × Value)} {st : List Value} {u : Nat} {i : Int32} {x : Int64} {σ1 : g_S} (C : g_M gCl X cc own ret) (hu : u < g_n (gC hid) 15) (e : σ1 = g_sL σ 15 u i.toNatClampNeg x) (hi : g_in i 8 = true) (hd : decode cc pc = .ok (.lastore, 1)) (k : g_Y gCl X (gC hid) ad σ1 w (pc + 1) vs st) : g_Y gCl X (gC hid) ad σ w pc vs (.long x :: .int i :: .ref (ad 15 u) :: st) := by
  subst e
  exact y_last C hu rfl g_sL_n (by show Sum.inl (Sum.inl (_, _, _)) = _; rw [g_sL_s]) hi hd k
theorem al_C_17 {hid : Bool} {X : g_F} {own : String} {cc : ByteArray} {ret : Option FieldType} {ad : Nat → Nat → Nat} {σ : g_S} {w : Nat × Nat} {pc : Nat} {vs : List (Nat × Value)} {st : List Value} {u : Nat} {i : Int32} (C : g_M gCl X cc own ret) (hu : u < g_n (gC hid) 17) (hi : g_in i 8 = true) (hd : decode cc pc = .ok (.iaload, 1)) (k : g_Y gCl X (gC hid) ad σ w (pc + 1) vs (.int (σ.1 17 u i.toNatClampNeg) :: st)) : g_Y gCl X (gC hid) ad σ w pc vs (.int i :: .ref (ad 17 u) :: st) := y_iald C hu rfl hi hd k
theorem as_C_17 {hid : Bool} {X : g_F} {own : String} {cc : ByteArray} {ret : Option FieldType} {ad : Nat → Nat → Nat} {σ : g_S} {w : Nat × Nat} {pc : Nat} {vs : List (Nat × Value)} {st : List Value} {u : Nat} {i : Int32} {x : Int32} {σ1 : g_S} (C : g_M gCl X cc own ret) (hu : u < g_n (gC hid) 17) (e : σ1 = g_sI σ 17 u i.toNatClampNeg x) (hi : g_in i 8 = true) (hd : decode cc pc = .ok (.iastore, 1)) (k : g_Y gCl X (gC hid) ad σ1 w (pc + 1) vs st) : g_Y gCl X (gC hid) ad σ w pc vs (.int x :: .int i :: .ref (ad 17 u) :: st) := by
  subst e
  exact y_iast C hu rfl g_sI_n (by show Sum.inl (Sum.inl (_, _, _)) = _; rw [g_sI_s]) hi hd k
theorem al_C_19 {hid : Bool} {X : g_F} {own : String} {cc : ByteArray} {ret : Option FieldType} {ad : Nat → Nat → Nat} {σ : g_S} {w : Nat × Nat} {pc : Nat} {vs : List (Nat × Value)} {st : List Value} {u : Nat} {i : Int32} (C : g_M gCl X cc own ret) (hu : u < g_n (gC hid) 19) (hi : g_in i 256 = true) (hd : decode cc pc = .ok (.iaload, 1)) (k : g_Y gCl X (gC hid) ad σ w (pc + 1) vs (.int (σ.1 19 u i.toNatClampNeg) :: st)) : g_Y gCl X (gC hid) ad σ w pc vs (.int i :: .ref (ad 19 u) :: st) := y_iald C hu rfl hi hd k
theorem as_C_19 {hid : Bool} {X : g_F} {own : String} {cc : ByteArray} {ret : Option FieldType} {ad : Nat → Nat → Nat} {σ : g_S} {w : Nat × Nat} {pc : Nat} {vs : List (Nat × Value)} {st : List Value} {u : Nat} {i : Int32} {x : Int32} {σ1 : g_S} (C : g_M gCl X cc own ret) (hu : u < g_n (gC hid) 19) (e : σ1 = g_sI σ 19 u i.toNatClampNeg x) (hi : g_in i 256 = true) (hd : decode cc pc = .ok (.iastore, 1)) (k : g_Y gCl X (gC hid) ad σ1 w (pc + 1) vs st) : g_Y gCl X (gC hid) ad σ w pc vs (.int x :: .int i :: .ref (ad 19 u) :: st) := by
  subst e
  exact y_iast C hu rfl g_sI_n (by show Sum.inl (Sum.inl (_, _, _)) = _; rw [g_sI_s]) hi hd k
theorem al_C_20 {hid : Bool} {X : g_F} {own : String} {cc : ByteArray} {ret : Option FieldType} {ad : Nat → Nat → Nat} {σ : g_S} {w : Nat × Nat} {pc : Nat} {vs : List (Nat × Value)} {st : List Value} {u : Nat} {i : Int32} (C : g_M gCl X cc own ret) (hu : u < g_n (gC hid) 20) (hi : g_in i 49 = true) (hd : decode cc pc = .ok (.iaload, 1)) (k : g_Y gCl X (gC hid) ad σ w (pc + 1) vs (.int (σ.1 20 u i.toNatClampNeg) :: st)) : g_Y gCl X (gC hid) ad σ w pc vs (.int i :: .ref (ad 20 u) :: st) := y_iald C hu rfl hi hd k
theorem as_C_20 {hid : Bool} {X : g_F} {own : String} {cc : ByteArray} {ret : Option FieldType} {ad : Nat → Nat → Nat} {σ : g_S} {w : Nat × Nat} {pc : Nat} {vs : List (Nat × Value)} {st : List Value} {u : Nat} {i : Int32} {x : Int32} {σ1 : g_S} (C : g_M gCl X cc own ret) (hu : u < g_n (gC hid) 20) (e : σ1 = g_sI σ 20 u i.toNatClampNeg x) (hi : g_in i 49 = true) (hd : decode cc pc = .ok (.iastore, 1)) (k : g_Y gCl X (gC hid) ad σ1 w (pc + 1) vs st) : g_Y gCl X (gC hid) ad σ w pc vs (.int x :: .int i :: .ref (ad 20 u) :: st) := by
  subst e
  exact y_iast C hu rfl g_sI_n (by show Sum.inl (Sum.inl (_, _, _)) = _; rw [g_sI_s]) hi hd k
theorem al_C_22 {hid : Bool} {X : g_F} {own : String} {cc : ByteArray} {ret : Option FieldType} {ad : Nat → Nat → Nat} {σ : g_S} {w : Nat × Nat} {pc : Nat} {vs : List (Nat × Value)} {st : List Value} {u : Nat} {i : Int32} (C : g_M gCl X cc own ret) (hu : u < g_n (gC hid) 22) (hi : g_in i 10 = true) (hd : decode cc pc = .ok (.iaload, 1)) (k : g_Y gCl X (gC hid) ad σ w (pc + 1) vs (.int (σ.1 22 u i.toNatClampNeg) :: st)) : g_Y gCl X (gC hid) ad σ w pc vs (.int i :: .ref (ad 22 u) :: st) := y_iald C hu rfl hi hd k
theorem as_C_22 {hid : Bool} {X : g_F} {own : String} {cc : ByteArray} {ret : Option FieldType} {ad : Nat → Nat → Nat} {σ : g_S} {w : Nat × Nat} {pc : Nat} {vs : List (Nat × Value)} {st : List Value} {u : Nat} {i : Int32} {x : Int32} {σ1 : g_S} (C : g_M gCl X cc own ret) (hu : u < g_n (gC hid) 22) (e : σ1 = g_sI σ 22 u i.toNatClampNeg x) (hi : g_in i 10 = true) (hd : decode cc pc = .ok (.iastore, 1)) (k : g_Y gCl X (gC hid) ad σ1 w (pc + 1) vs st) : g_Y gCl X (gC hid) ad σ w pc vs (.int x :: .int i :: .ref (ad 22 u) :: st) := by
  subst e
  exact y_iast C hu rfl g_sI_n (by show Sum.inl (Sum.inl (_, _, _)) = _; rw [g_sI_s]) hi hd k
theorem al_C_23 {hid : Bool} {X : g_F} {own : String} {cc : ByteArray} {ret : Option FieldType} {ad : Nat → Nat → Nat} {σ : g_S} {w : Nat × Nat} {pc : Nat} {vs : List (Nat × Value)} {st : List Value} {u : Nat} {i : Int32} (C : g_M gCl X cc own ret) (hu : u < g_n (gC hid) 23) (hi : g_in i 10 = true) (hd : decode cc pc = .ok (.iaload, 1)) (k : g_Y gCl X (gC hid) ad σ w (pc + 1) vs (.int (σ.1 23 u i.toNatClampNeg) :: st)) : g_Y gCl X (gC hid) ad σ w pc vs (.int i :: .ref (ad 23 u) :: st) := y_iald C hu rfl hi hd k
theorem as_C_23 {hid : Bool} {X : g_F} {own : String} {cc : ByteArray} {ret : Option FieldType} {ad : Nat → Nat → Nat} {σ : g_S} {w : Nat × Nat} {pc : Nat} {vs : List (Nat × Value)} {st : List Value} {u : Nat} {i : Int32} {x : Int32} {σ1 : g_S} (C : g_M gCl X cc own ret) (hu : u < g_n (gC hid) 23) (e : σ1 = g_sI σ 23 u i.toNatClampNeg x) (hi : g_in i 10 = true) (hd : decode cc pc = .ok (.iastore, 1)) (k : g_Y gCl X (gC hid) ad σ1 w (pc + 1) vs st) : g_Y gCl X (gC hid) ad σ w pc vs (.int x :: .int i :: .ref (ad 23 u) :: st) := by
  subst e
  exact y_iast C hu rfl g_sI_n (by show Sum.inl (Sum.inl (_, _, _)) = _; rw [g_sI_s]) hi hd k
theorem al_C_27 {hid : Bool} {X : g_F} {own : String} {cc : ByteArray} {ret : Option FieldType} {ad : Nat → Nat → Nat} {σ : g_S} {w : Nat × Nat} {pc : Nat} {vs : List (Nat × Value)} {st : List Value} {u : Nat} {i : Int32} (C : g_M gCl X cc own ret) (hu : u < g_n (gC hid) 27) (hi : g_in i 80 = true ∧ ¬ σ.2.2 27 u 200 = 0) (hd : decode cc pc = .ok (.baload, 1)) (k : g_Y gCl X (gC hid) ad σ w (pc + 1) vs (.int (σ.1 27 u i.toNatClampNeg) :: st)) : g_Y gCl X (gC hid) ad σ w pc vs (.int i :: .ref (ad 27 u) :: st) := y_bald C hu (if_neg hi.2) hi.1 hd k
theorem as_C_27 {hid : Bool} {X : g_F} {own : String} {cc : ByteArray} {ret : Option FieldType} {ad : Nat → Nat → Nat} {σ : g_S} {w : Nat × Nat} {pc : Nat} {vs : List (Nat × Value)} {st : List Value} {u : Nat} {i : Int32} {x : Int32} {σ1 : g_S} (C : g_M gCl X cc own ret) (hu : u < g_n (gC hid) 27) (e : σ1 = g_sI σ 27 u i.toNatClampNeg (vp_nar .byte x)) (hi : g_in i 80 = true ∧ ¬ σ.2.2 27 u 200 = 0) (hd : decode cc pc = .ok (.bastore, 1)) (k : g_Y gCl X (gC hid) ad σ1 w (pc + 1) vs st) : g_Y gCl X (gC hid) ad σ w pc vs (.int x :: .int i :: .ref (ad 27 u) :: st) := by
  subst e
  exact y_bast C hu (if_neg hi.2) g_sI_n (by show g_opt (σ.2.2 27 u 200) (Sum.inl (Sum.inl (_, _, _))) = _; rw [g_sI_s]; exact if_neg hi.2) hi.1 hd k
theorem al_C_35 {hid : Bool} {X : g_F} {own : String} {cc : ByteArray} {ret : Option FieldType} {ad : Nat → Nat → Nat} {σ : g_S} {w : Nat × Nat} {pc : Nat} {vs : List (Nat × Value)} {st : List Value} {u : Nat} {i : Int32} (C : g_M gCl X cc own ret) (hu : u < g_n (gC hid) 35) (hi : g_in i 8 = true ∧ ¬ σ.2.2 35 u 200 = 0) (hd : decode cc pc = .ok (.iaload, 1)) (k : g_Y gCl X (gC hid) ad σ w (pc + 1) vs (.int (σ.1 35 u i.toNatClampNeg) :: st)) : g_Y gCl X (gC hid) ad σ w pc vs (.int i :: .ref (ad 35 u) :: st) := y_iald C hu (if_neg hi.2) hi.1 hd k
theorem as_C_35 {hid : Bool} {X : g_F} {own : String} {cc : ByteArray} {ret : Option FieldType} {ad : Nat → Nat → Nat} {σ : g_S} {w : Nat × Nat} {pc : Nat} {vs : List (Nat × Value)} {st : List Value} {u : Nat} {i : Int32} {x : Int32} {σ1 : g_S} (C : g_M gCl X cc own ret) (hu : u < g_n (gC hid) 35) (e : σ1 = g_sI σ 35 u i.toNatClampNeg x) (hi : g_in i 8 = true ∧ ¬ σ.2.2 35 u 200 = 0) (hd : decode cc pc = .ok (.iastore, 1)) (k : g_Y gCl X (gC hid) ad σ1 w (pc + 1) vs st) : g_Y gCl X (gC hid) ad σ w pc vs (.int x :: .int i :: .ref (ad 35 u) :: st) := by
  subst e
  exact y_iast C hu (if_neg hi.2) g_sI_n (by show g_opt (σ.2.2 35 u 200) (Sum.inl (Sum.inl (_, _, _))) = _; rw [g_sI_s]; exact if_neg hi.2) hi.1 hd k
theorem al_C_36 {hid : Bool} {X : g_F} {own : String} {cc : ByteArray} {ret : Option FieldType} {ad : Nat → Nat → Nat} {σ : g_S} {w : Nat × Nat} {pc : Nat} {vs : List (Nat × Value)} {st : List Value} {u : Nat} {i : Int32} (C : g_M gCl X cc own ret) (hu : u < g_n (gC hid) 36) (hi : g_in i 8 = true ∧ ¬ σ.2.2 36 u 200 = 0) (hd : decode cc pc = .ok (.iaload, 1)) (k : g_Y gCl X (gC hid) ad σ w (pc + 1) vs (.int (σ.1 36 u i.toNatClampNeg) :: st)) : g_Y gCl X (gC hid) ad σ w pc vs (.int i :: .ref (ad 36 u) :: st) := y_iald C hu (if_neg hi.2) hi.1 hd k
theorem as_C_36 {hid : Bool} {X : g_F} {own : String} {cc : ByteArray} {ret : Option FieldType} {ad : Nat → Nat → Nat} {σ : g_S} {w : Nat × Nat} {pc : Nat} {vs : List (Nat × Value)} {st : List Value} {u : Nat} {i : Int32} {x : Int32} {σ1 : g_S} (C : g_M gCl X cc own ret) (hu : u < g_n (gC hid) 36) (e : σ1 = g_sI σ 36 u i.toNatClampNeg x) (hi : g_in i 8 = true ∧ ¬ σ.2.2 36 u 200 = 0) (hd : decode cc pc = .ok (.iastore, 1)) (k : g_Y gCl X (gC hid) ad σ1 w (pc + 1) vs st) : g_Y gCl X (gC hid) ad σ w pc vs (.int x :: .int i :: .ref (ad 36 u) :: st) := by
  subst e
  exact y_iast C hu (if_neg hi.2) g_sI_n (by show g_opt (σ.2.2 36 u 200) (Sum.inl (Sum.inl (_, _, _))) = _; rw [g_sI_s]; exact if_neg hi.2) hi.1 hd k
theorem al_C_37 {hid : Bool} {X : g_F} {own : String} {cc : ByteArray} {ret : Option FieldType} {ad : Nat → Nat → Nat} {σ : g_S} {w : Nat × Nat} {pc : Nat} {vs : List (Nat × Value)} {st : List Value} {u : Nat} {i : Int32} (C : g_M gCl X cc own ret) (hu : u < g_n (gC hid) 37) (hi : g_in i 8 = true ∧ ¬ σ.2.2 37 u 200 = 0) (hd : decode cc pc = .ok (.iaload, 1)) (k : g_Y gCl X (gC hid) ad σ w (pc + 1) vs (.int (σ.1 37 u i.toNatClampNeg) :: st)) : g_Y gCl X (gC hid) ad σ w pc vs (.int i :: .ref (ad 37 u) :: st) := y_iald C hu (if_neg hi.2) hi.1 hd k
theorem as_C_37 {hid : Bool} {X : g_F} {own : String} {cc : ByteArray} {ret : Option FieldType} {ad : Nat → Nat → Nat} {σ : g_S} {w : Nat × Nat} {pc : Nat} {vs : List (Nat × Value)} {st : List Value} {u : Nat} {i : Int32} {x : Int32} {σ1 : g_S} (C : g_M gCl X cc own ret) (hu : u < g_n (gC hid) 37) (e : σ1 = g_sI σ 37 u i.toNatClampNeg x) (hi : g_in i 8 = true ∧ ¬ σ.2.2 37 u 200 = 0) (hd : decode cc pc = .ok (.iastore, 1)) (k : g_Y gCl X (gC hid) ad σ1 w (pc + 1) vs st) : g_Y gCl X (gC hid) ad σ w pc vs (.int x :: .int i :: .ref (ad 37 u) :: st) := by
  subst e
  exact y_iast C hu (if_neg hi.2) g_sI_n (by show g_opt (σ.2.2 37 u 200) (Sum.inl (Sum.inl (_, _, _))) = _; rw [g_sI_s]; exact if_neg hi.2) hi.1 hd k
theorem al_C_38 {hid : Bool} {X : g_F} {own : String} {cc : ByteArray} {ret : Option FieldType} {ad : Nat → Nat → Nat} {σ : g_S} {w : Nat × Nat} {pc : Nat} {vs : List (Nat × Value)} {st : List Value} {u : Nat} {i : Int32} (C : g_M gCl X cc own ret) (hu : u < g_n (gC hid) 38) (hi : g_in i 8 = true ∧ ¬ σ.2.2 38 u 200 = 0) (hd : decode cc pc = .ok (.iaload, 1)) (k : g_Y gCl X (gC hid) ad σ w (pc + 1) vs (.int (σ.1 38 u i.toNatClampNeg) :: st)) : g_Y gCl X (gC hid) ad σ w pc vs (.int i :: .ref (ad 38 u) :: st) := y_iald C hu (if_neg hi.2) hi.1 hd k
theorem as_C_38 {hid : Bool} {X : g_F} {own : String} {cc : ByteArray} {ret : Option FieldType} {ad : Nat → Nat → Nat} {σ : g_S} {w : Nat × Nat} {pc : Nat} {vs : List (Nat × Value)} {st : List Value} {u : Nat} {i : Int32} {x : Int32} {σ1 : g_S} (C : g_M gCl X cc own ret) (hu : u < g_n (gC hid) 38) (e : σ1 = g_sI σ 38 u i.toNatClampNeg x) (hi : g_in i 8 = true ∧ ¬ σ.2.2 38 u 200 = 0) (hd : decode cc pc = .ok (.iastore, 1)) (k : g_Y gCl X (gC hid) ad σ1 w (pc + 1) vs st) : g_Y gCl X (gC hid) ad σ w pc vs (.int x :: .int i :: .ref (ad 38 u) :: st) := by
  subst e
  exact y_iast C hu (if_neg hi.2) g_sI_n (by show g_opt (σ.2.2 38 u 200) (Sum.inl (Sum.inl (_, _, _))) = _; rw [g_sI_s]; exact if_neg hi.2) hi.1 hd k
theorem al_C_39 {hid : Bool} {X : g_F} {own : String} {cc : ByteArray} {ret : Option FieldType} {ad : Nat → Nat → Nat} {σ : g_S} {w : Nat × Nat} {pc : Nat} {vs : List (Nat × Value)} {st : List Value} {u : Nat} {i : Int32} (C : g_M gCl X cc own ret) (hu : u < g_n (gC hid) 39) (hi : g_in i 8 = true ∧ ¬ σ.2.2 39 u 200 = 0) (hd : decode cc pc = .ok (.iaload, 1)) (k : g_Y gCl X (gC hid) ad σ w (pc + 1) vs (.int (σ.1 39 u i.toNatClampNeg) :: st)) : g_Y gCl X (gC hid) ad σ w pc vs (.int i :: .ref (ad 39 u) :: st) := y_iald C hu (if_neg hi.2) hi.1 hd k
theorem as_C_39 {hid : Bool} {X : g_F} {own : String} {cc : ByteArray} {ret : Option FieldType} {ad : Nat → Nat → Nat} {σ : g_S} {w : Nat × Nat} {pc : Nat} {vs : List (Nat × Value)} {st : List Value} {u : Nat} {i : Int32} {x : Int32} {σ1 : g_S} (C : g_M gCl X cc own ret) (hu : u < g_n (gC hid) 39) (e : σ1 = g_sI σ 39 u i.toNatClampNeg x) (hi : g_in i 8 = true ∧ ¬ σ.2.2 39 u 200 = 0) (hd : decode cc pc = .ok (.iastore, 1)) (k : g_Y gCl X (gC hid) ad σ1 w (pc + 1) vs st) : g_Y gCl X (gC hid) ad σ w pc vs (.int x :: .int i :: .ref (ad 39 u) :: st) := by
  subst e
  exact y_iast C hu (if_neg hi.2) g_sI_n (by show g_opt (σ.2.2 39 u 200) (Sum.inl (Sum.inl (_, _, _))) = _; rw [g_sI_s]; exact if_neg hi.2) hi.1 hd k
theorem al_C_42 {hid : Bool} {X : g_F} {own : String} {cc : ByteArray} {ret : Option FieldType} {ad : Nat → Nat → Nat} {σ : g_S} {w : Nat × Nat} {pc : Nat} {vs : List (Nat × Value)} {st : List Value} {u : Nat} {i : Int32} (C : g_M gCl X cc own ret) (hu : u < g_n (gC hid) 42) (hi : g_in i 3 = true ∧ ¬ σ.2.2 42 u 200 = 0) (hd : decode cc pc = .ok (.iaload, 1)) (k : g_Y gCl X (gC hid) ad σ w (pc + 1) vs (.int (σ.1 42 u i.toNatClampNeg) :: st)) : g_Y gCl X (gC hid) ad σ w pc vs (.int i :: .ref (ad 42 u) :: st) := y_iald C hu (if_neg hi.2) hi.1 hd k
theorem as_C_42 {hid : Bool} {X : g_F} {own : String} {cc : ByteArray} {ret : Option FieldType} {ad : Nat → Nat → Nat} {σ : g_S} {w : Nat × Nat} {pc : Nat} {vs : List (Nat × Value)} {st : List Value} {u : Nat} {i : Int32} {x : Int32} {σ1 : g_S} (C : g_M gCl X cc own ret) (hu : u < g_n (gC hid) 42) (e : σ1 = g_sI σ 42 u i.toNatClampNeg x) (hi : g_in i 3 = true ∧ ¬ σ.2.2 42 u 200 = 0) (hd : decode cc pc = .ok (.iastore, 1)) (k : g_Y gCl X (gC hid) ad σ1 w (pc + 1) vs st) : g_Y gCl X (gC hid) ad σ w pc vs (.int x :: .int i :: .ref (ad 42 u) :: st) := by
  subst e
  exact y_iast C hu (if_neg hi.2) g_sI_n (by show g_opt (σ.2.2 42 u 200) (Sum.inl (Sum.inl (_, _, _))) = _; rw [g_sI_s]; exact if_neg hi.2) hi.1 hd k
theorem al_C_43 {hid : Bool} {X : g_F} {own : String} {cc : ByteArray} {ret : Option FieldType} {ad : Nat → Nat → Nat} {σ : g_S} {w : Nat × Nat} {pc : Nat} {vs : List (Nat × Value)} {st : List Value} {u : Nat} {i : Int32} (C : g_M gCl X cc own ret) (hu : u < g_n (gC hid) 43) (hi : g_in i 8 = true ∧ ¬ σ.2.2 43 u 200 = 0) (hd : decode cc pc = .ok (.iaload, 1)) (k : g_Y gCl X (gC hid) ad σ w (pc + 1) vs (.int (σ.1 43 u i.toNatClampNeg) :: st)) : g_Y gCl X (gC hid) ad σ w pc vs (.int i :: .ref (ad 43 u) :: st) := y_iald C hu (if_neg hi.2) hi.1 hd k
theorem as_C_43 {hid : Bool} {X : g_F} {own : String} {cc : ByteArray} {ret : Option FieldType} {ad : Nat → Nat → Nat} {σ : g_S} {w : Nat × Nat} {pc : Nat} {vs : List (Nat × Value)} {st : List Value} {u : Nat} {i : Int32} {x : Int32} {σ1 : g_S} (C : g_M gCl X cc own ret) (hu : u < g_n (gC hid) 43) (e : σ1 = g_sI σ 43 u i.toNatClampNeg x) (hi : g_in i 8 = true ∧ ¬ σ.2.2 43 u 200 = 0) (hd : decode cc pc = .ok (.iastore, 1)) (k : g_Y gCl X (gC hid) ad σ1 w (pc + 1) vs st) : g_Y gCl X (gC hid) ad σ w pc vs (.int x :: .int i :: .ref (ad 43 u) :: st) := by
  subst e
  exact y_iast C hu (if_neg hi.2) g_sI_n (by show g_opt (σ.2.2 43 u 200) (Sum.inl (Sum.inl (_, _, _))) = _; rw [g_sI_s]; exact if_neg hi.2) hi.1 hd k
theorem al_C_45 {hid : Bool} {X : g_F} {own : String} {cc : ByteArray} {ret : Option FieldType} {ad : Nat → Nat → Nat} {σ : g_S} {w : Nat × Nat} {pc : Nat} {vs : List (Nat × Value)} {st : List Value} {u : Nat} {i : Int32} (C : g_M gCl X cc own ret) (hu : u < g_n (gC hid) 45) (hi : g_in i 60 = true ∧ ¬ σ.2.2 45 u 200 = 0) (hd : decode cc pc = .ok (.caload, 1)) (k : g_Y gCl X (gC hid) ad σ w (pc + 1) vs (.int (σ.1 45 u i.toNatClampNeg) :: st)) : g_Y gCl X (gC hid) ad σ w pc vs (.int i :: .ref (ad 45 u) :: st) := y_cald C hu (if_neg hi.2) hi.1 hd k
theorem as_C_45 {hid : Bool} {X : g_F} {own : String} {cc : ByteArray} {ret : Option FieldType} {ad : Nat → Nat → Nat} {σ : g_S} {w : Nat × Nat} {pc : Nat} {vs : List (Nat × Value)} {st : List Value} {u : Nat} {i : Int32} {x : Int32} {σ1 : g_S} (C : g_M gCl X cc own ret) (hu : u < g_n (gC hid) 45) (e : σ1 = g_sI σ 45 u i.toNatClampNeg (vp_nar .char x)) (hi : g_in i 60 = true ∧ ¬ σ.2.2 45 u 200 = 0) (hd : decode cc pc = .ok (.castore, 1)) (k : g_Y gCl X (gC hid) ad σ1 w (pc + 1) vs st) : g_Y gCl X (gC hid) ad σ w pc vs (.int x :: .int i :: .ref (ad 45 u) :: st) := by
  subst e
  exact y_cast C hu (if_neg hi.2) g_sI_n (by show g_opt (σ.2.2 45 u 200) (Sum.inl (Sum.inl (_, _, _))) = _; rw [g_sI_s]; exact if_neg hi.2) hi.1 hd k
theorem al_C_46 {hid : Bool} {X : g_F} {own : String} {cc : ByteArray} {ret : Option FieldType} {ad : Nat → Nat → Nat} {σ : g_S} {w : Nat × Nat} {pc : Nat} {vs : List (Nat × Value)} {st : List Value} {u : Nat} {i : Int32} (C : g_M gCl X cc own ret) (hu : u < g_n (gC hid) 46) (hi : g_in i 60 = true ∧ ¬ σ.2.2 46 u 200 = 0) (hd : decode cc pc = .ok (.iaload, 1)) (k : g_Y gCl X (gC hid) ad σ w (pc + 1) vs (.int (σ.1 46 u i.toNatClampNeg) :: st)) : g_Y gCl X (gC hid) ad σ w pc vs (.int i :: .ref (ad 46 u) :: st) := y_iald C hu (if_neg hi.2) hi.1 hd k
theorem as_C_46 {hid : Bool} {X : g_F} {own : String} {cc : ByteArray} {ret : Option FieldType} {ad : Nat → Nat → Nat} {σ : g_S} {w : Nat × Nat} {pc : Nat} {vs : List (Nat × Value)} {st : List Value} {u : Nat} {i : Int32} {x : Int32} {σ1 : g_S} (C : g_M gCl X cc own ret) (hu : u < g_n (gC hid) 46) (e : σ1 = g_sI σ 46 u i.toNatClampNeg x) (hi : g_in i 60 = true ∧ ¬ σ.2.2 46 u 200 = 0) (hd : decode cc pc = .ok (.iastore, 1)) (k : g_Y gCl X (gC hid) ad σ1 w (pc + 1) vs st) : g_Y gCl X (gC hid) ad σ w pc vs (.int x :: .int i :: .ref (ad 46 u) :: st) := by
  subst e
  exact y_iast C hu (if_neg hi.2) g_sI_n (by show g_opt (σ.2.2 46 u 200) (Sum.inl (Sum.inl (_, _, _))) = _; rw [g_sI_s]; exact if_neg hi.2) hi.1 hd k
theorem al_C_47 {hid : Bool} {X : g_F} {own : String} {cc : ByteArray} {ret : Option FieldType} {ad : Nat → Nat → Nat} {σ : g_S} {w : Nat × Nat} {pc : Nat} {vs : List (Nat × Value)} {st : List Value} {u : Nat} {i : Int32} (C : g_M gCl X cc own ret) (hu : u < g_n (gC hid) 47) (hi : g_in i 60 = true ∧ ¬ σ.2.2 47 u 200 = 0) (hd : decode cc pc = .ok (.iaload, 1)) (k : g_Y gCl X (gC hid) ad σ w (pc + 1) vs (.int (σ.1 47 u i.toNatClampNeg) :: st)) : g_Y gCl X (gC hid) ad σ w pc vs (.int i :: .ref (ad 47 u) :: st) := y_iald C hu (if_neg hi.2) hi.1 hd k
theorem as_C_47 {hid : Bool} {X : g_F} {own : String} {cc : ByteArray} {ret : Option FieldType} {ad : Nat → Nat → Nat} {σ : g_S} {w : Nat × Nat} {pc : Nat} {vs : List (Nat × Value)} {st : List Value} {u : Nat} {i : Int32} {x : Int32} {σ1 : g_S} (C : g_M gCl X cc own ret) (hu : u < g_n (gC hid) 47) (e : σ1 = g_sI σ 47 u i.toNatClampNeg x) (hi : g_in i 60 = true ∧ ¬ σ.2.2 47 u 200 = 0) (hd : decode cc pc = .ok (.iastore, 1)) (k : g_Y gCl X (gC hid) ad σ1 w (pc + 1) vs st) : g_Y gCl X (gC hid) ad σ w pc vs (.int x :: .int i :: .ref (ad 47 u) :: st) := by
  subst e
  exact y_iast C hu (if_neg hi.2) g_sI_n (by show g_opt (σ.2.2 47 u 200) (Sum.inl (Sum.inl (_, _, _))) = _; rw [g_sI_s]; exact if_neg hi.2) hi.1 hd k
theorem al_C_51 {hid : Bool} {X : g_F} {own : String} {cc : ByteArray} {ret : Option FieldType} {ad : Nat → Nat → Nat} {σ : g_S} {w : Nat × Nat} {pc : Nat} {vs : List (Nat × Value)} {st : List Value} {u : Nat} {i : Int32} (C : g_M gCl X cc own ret) (hu : u < g_n (gC hid) 51) (hi : g_in i 10 = true ∧ ¬ σ.2.2 51 u 200 = 0) (hd : decode cc pc = .ok (.laload, 1)) (k : g_Y gCl X (gC hid) ad σ w (pc + 1) vs (.long (σ.2.1 51 u i.toNatClampNeg) :: st)) : g_Y gCl X (gC hid) ad σ w pc vs (.int i :: .ref (ad 51 u) :: st) := y_lald C hu (if_neg hi.2) hi.1 hd k
theorem as_C_51 {hid : Bool} {X : g_F} {own : String} {cc : ByteArray} {ret : Option FieldType} {ad : Nat → Nat → Nat} {σ : g_S} {w : Nat × Nat} {pc : Nat} {vs : List (Nat × Value)} {st : List Value} {u : Nat} {i : Int32} {x : Int64} {σ1 : g_S} (C : g_M gCl X cc own ret) (hu : u < g_n (gC hid) 51) (e : σ1 = g_sL σ 51 u i.toNatClampNeg x) (hi : g_in i 10 = true ∧ ¬ σ.2.2 51 u 200 = 0) (hd : decode cc pc = .ok (.lastore, 1)) (k : g_Y gCl X (gC hid) ad σ1 w (pc + 1) vs st) : g_Y gCl X (gC hid) ad σ w pc vs (.long x :: .int i :: .ref (ad 51 u) :: st) := by
  subst e
  exact y_last C hu (if_neg hi.2) g_sL_n (by show g_opt (σ.2.2 51 u 200) (Sum.inl (Sum.inl (_, _, _))) = _; rw [g_sL_s]; exact if_neg hi.2) hi.1 hd k
theorem al_C_11 {hid : Bool} {X : g_F} {own : String} {cc : ByteArray} {ret : Option FieldType} {ad : Nat → Nat → Nat} {σ : g_S} {w : Nat × Nat} {pc : Nat} {vs : List (Nat × Value)} {st : List Value} {u : Nat} {i : Int32} (C : g_M gCl X cc own ret) (hu : u < g_n (gC hid) 11) (hi : g_in i (σ.2.2 11 u 0) = true) (hd : decode cc pc = .ok (.baload, 1)) (k : g_Y gCl X (gC hid) ad σ w (pc + 1) vs (.int (σ.1 11 u i.toNatClampNeg) :: st)) : g_Y gCl X (gC hid) ad σ w pc vs (.int i :: .ref (ad 11 u) :: st) := by
  have hne : ¬ σ.2.2 11 u 0 = 0 := fun z => by rw [z] at hi; have := of_decide_eq_true hi; omega
  exact y_bald C hu (n := σ.2.2 11 u 0) (f := σ.1 11 u) (if_neg hne) hi hd k
theorem ln_C_11 {hid : Bool} {X : g_F} {own : String} {cc : ByteArray} {ret : Option FieldType} {ad : Nat → Nat → Nat} {σ : g_S} {w : Nat × Nat} {pc : Nat} {vs : List (Nat × Value)} {st : List Value} {u : Nat} (C : g_M gCl X cc own ret) (hu : u < g_n (gC hid) 11) (hne : ¬ σ.2.2 11 u 0 = 0) (hd : decode cc pc = .ok (.arraylength, 1)) (k : g_Y gCl X (gC hid) ad σ w (pc + 1) vs (.int (Int32.ofNat (σ.2.2 11 u 0)) :: st)) : g_Y gCl X (gC hid) ad σ w pc vs (.ref (ad 11 u) :: st) := y_alen C hu 3 (x := (σ.2.2 11 u 0, .inl (σ.1 11 u))) (if_neg hne) rfl rfl hd k
theorem aa_C_16 {hid : Bool} {X : g_F} {own : String} {cc : ByteArray} {ret : Option FieldType} {ad : Nat → Nat → Nat} {σ : g_S} {w : Nat × Nat} {pc : Nat} {vs : List (Nat × Value)} {st : List Value} {i : Int32} (C : g_M gCl X cc own ret) (hi : g_in i 8 = true) (hd : decode cc pc = .ok (.aaload, 1)) (k : g_Y gCl X (gC hid) ad σ w (pc + 1) vs (.ref (ad 17 i.toNatClampNeg) :: st)) : g_Y gCl X (gC hid) ad σ w pc vs (.int i :: .ref (ad 16 0) :: st) := y_aald C nC_16_0 7 rfl rfl rfl rfl hi hd k
theorem ux_C_16 {hid : Bool} {i : Int32} (hi : g_in i 8 = true) : i.toNatClampNeg < g_n (gC hid) 17 := Nat.not_le.mp fun q => g_in_vp hi (Or.inr q)
theorem aa_C_18 {hid : Bool} {X : g_F} {own : String} {cc : ByteArray} {ret : Option FieldType} {ad : Nat → Nat → Nat} {σ : g_S} {w : Nat × Nat} {pc : Nat} {vs : List (Nat × Value)} {st : List Value} {i : Int32} (C : g_M gCl X cc own ret) (hi : g_in i 9 = true) (hd : decode cc pc = .ok (.aaload, 1)) (k : g_Y gCl X (gC hid) ad σ w (pc + 1) vs (.ref (ad 19 i.toNatClampNeg) :: st)) : g_Y gCl X (gC hid) ad σ w pc vs (.int i :: .ref (ad 18 0) :: st) := y_aald C nC_18_0 7 rfl rfl rfl rfl hi hd k
theorem ux_C_18 {hid : Bool} {i : Int32} (hi : g_in i 9 = true) : i.toNatClampNeg < g_n (gC hid) 19 := Nat.not_le.mp fun q => g_in_vp hi (Or.inr q)
theorem aa_C_21 {hid : Bool} {X : g_F} {own : String} {cc : ByteArray} {ret : Option FieldType} {ad : Nat → Nat → Nat} {σ : g_S} {w : Nat × Nat} {pc : Nat} {vs : List (Nat × Value)} {st : List Value} {i : Int32} (C : g_M gCl X cc own ret) (hi : g_in i 61 = true) (hd : decode cc pc = .ok (.aaload, 1)) (k : g_Y gCl X (gC hid) ad σ w (pc + 1) vs (.ref (ad 22 i.toNatClampNeg) :: st)) : g_Y gCl X (gC hid) ad σ w pc vs (.int i :: .ref (ad 21 0) :: st) := y_aald C nC_21_0 7 rfl rfl rfl rfl hi hd k
theorem ux_C_21 {hid : Bool} {i : Int32} (hi : g_in i 61 = true) : i.toNatClampNeg < g_n (gC hid) 22 := Nat.not_le.mp fun q => g_in_vp hi (Or.inr q)
theorem aa_C_10 {hid : Bool} {X : g_F} {own : String} {cc : ByteArray} {ret : Option FieldType} {ad : Nat → Nat → Nat} {σ : g_S} {w : Nat × Nat} {pc : Nat} {vs : List (Nat × Value)} {st : List Value} {i : Int32} (C : g_M gCl X cc own ret) (hi : g_in i 15 = true) (hd : decode cc pc = .ok (.aaload, 1)) (k : g_Y gCl X (gC hid) ad σ w (pc + 1) vs (.ref (ad 4 (σ.2.2 10 0 i.toNatClampNeg)) :: st)) : g_Y gCl X (gC hid) ad σ w pc vs (.int i :: .ref (ad 10 0) :: st) := y_aald C nC_10_0 6 rfl rfl rfl rfl hi hd k
/-! ===== new cells of the component ===== -/
theorem g_strR {s0 : State} {b0 : Nat} (h : g_R0 s0 b0) : (Term.string "BonnetValley$Rule" 71).eval #[Value.ref b0] s0 none [] s0 = some (.ref (g_str s0 b0 1)) := g_strEq (flat_of_before _ h.2 (.eq (.string "BonnetValley$Rule" 71) (.string "BonnetValleyModel" 237)) (by decide +kernel)) (g_strEv (i := 1) h (by decide))
theorem g_strO {s0 : State} {b0 : Nat} (h : g_R0 s0 b0) : (Term.string "BonnetValley$Order" 47).eval #[Value.ref b0] s0 none [] s0 = some (.ref (g_str s0 b0 5)) := g_strEq (flat_of_before _ h.2 (.eq (.string "BonnetValley$Order" 47) (.string "BonnetValleyModel" 395)) (by decide +kernel)) (g_strEv (i := 5) h (by decide))
theorem ip_52 {hid : Bool} {dA : Nat → ClassId} {ad : Nat → Nat → Nat} {q : Nat} (k' u' : Nat) (I : Nat → Int32) (L : Nat → Int64) (R : Nat → Nat) (hx : ¬ (k' = 52 ∧ u' = 0)) : gCcell hid dA (g_ua ad 52 0 q) k' u' I L R = gCcell hid dA ad k' u' I L R := by
  match k' with
  | 0 => rfl
  | 1 => rfl
  | 2 => rfl
  | 3 => rfl
  | 4 => rfl
  | 5 => rfl
  | 6 => rfl
  | 7 => rfl
  | 8 => rfl
  | 9 => rfl
  | 10 => rfl
  | 11 => rfl
  | 12 => rfl
  | 13 => rfl
  | 14 => rfl
  | 15 => rfl
  | 16 => rfl
  | 17 => rfl
  | 18 => rfl
  | 19 => rfl
  | 20 => rfl
  | 21 => rfl
  | 22 => rfl
  | 23 => rfl
  | 24 => rfl
  | 25 => rfl
  | 26 => cases hid <;> rfl
  | 27 => rfl
  | 28 => rfl
  | 29 => rfl
  | 30 => rfl
  | 31 => rfl
  | 32 => rfl
  | 33 => rfl
  | 34 => rfl
  | 35 => rfl
  | 36 => rfl
  | 37 => rfl
  | 38 => rfl
  | 39 => rfl
  | 40 => rfl
  | 41 => rfl
  | 42 => rfl
  | 43 => rfl
  | 44 => rfl
  | 45 => rfl
  | 46 => rfl
  | 47 => rfl
  | 48 => rfl
  | 49 => rfl
  | 50 => rfl
  | 51 => rfl
  | 52 => rfl
  | 53 => rfl
  | n + 54 => rfl
theorem ip_40 {hid : Bool} {dA : Nat → ClassId} {ad : Nat → Nat → Nat} {q : Nat} (k' u' : Nat) (I : Nat → Int32) (L : Nat → Int64) (R : Nat → Nat) (hx : ¬ (k' = 40 ∧ u' = 0)) : gCcell hid dA (g_ua ad 40 0 q) k' u' I L R = gCcell hid dA ad k' u' I L R := by
  match k' with
  | 0 => rfl
  | 1 => rfl
  | 2 => rfl
  | 3 => rfl
  | 4 => rfl
  | 5 => rfl
  | 6 => rfl
  | 7 => rfl
  | 8 => rfl
  | 9 => rfl
  | 10 => rfl
  | 11 => rfl
  | 12 => rfl
  | 13 => rfl
  | 14 => rfl
  | 15 => rfl
  | 16 => rfl
  | 17 => rfl
  | 18 => rfl
  | 19 => rfl
  | 20 => rfl
  | 21 => rfl
  | 22 => rfl
  | 23 => rfl
  | 24 => rfl
  | 25 => rfl
  | 26 => cases hid <;> rfl
  | 27 => rfl
  | 28 => rfl
  | 29 => rfl
  | 30 => rfl
  | 31 => rfl
  | 32 => rfl
  | 33 => rfl
  | 34 => rfl
  | 35 => rfl
  | 36 => rfl
  | 37 => rfl
  | 38 => rfl
  | 39 => rfl
  | 40 => rfl
  | 41 => rfl
  | 42 => rfl
  | 43 => rfl
  | 44 => rfl
  | 45 => rfl
  | 46 => rfl
  | 47 => rfl
  | 48 => rfl
  | 49 => rfl
  | 50 => rfl
  | 51 => rfl
  | 52 => rfl
  | 53 => rfl
  | n + 54 => rfl
theorem ip_44 {hid : Bool} {dA : Nat → ClassId} {ad : Nat → Nat → Nat} {q : Nat} (k' u' : Nat) (I : Nat → Int32) (L : Nat → Int64) (R : Nat → Nat) (hx : ¬ (k' = 44 ∧ u' = 0)) : gCcell hid dA (g_ua ad 44 0 q) k' u' I L R = gCcell hid dA ad k' u' I L R := by
  match k' with
  | 0 => rfl
  | 1 => rfl
  | 2 => rfl
  | 3 => rfl
  | 4 => rfl
  | 5 => rfl
  | 6 => rfl
  | 7 => rfl
  | 8 => rfl
  | 9 => rfl
  | 10 => rfl
  | 11 => rfl
  | 12 => rfl
  | 13 => rfl
  | 14 => rfl
  | 15 => rfl
  | 16 => rfl
  | 17 => rfl
  | 18 => rfl
  | 19 => rfl
  | 20 => rfl
  | 21 => rfl
  | 22 => rfl
  | 23 => rfl
  | 24 => rfl
  | 25 => rfl
  | 26 => cases hid <;> rfl
  | 27 => rfl
  | 28 => rfl
  | 29 => rfl
  | 30 => rfl
  | 31 => rfl
  | 32 => rfl
  | 33 => rfl
  | 34 => rfl
  | 35 => rfl
  | 36 => rfl
  | 37 => rfl
  | 38 => rfl
  | 39 => rfl
  | 40 => rfl
  | 41 => rfl
  | 42 => rfl
  | 43 => rfl
  | 44 => rfl
  | 45 => rfl
  | 46 => rfl
  | 47 => rfl
  | 48 => rfl
  | 49 => rfl
  | 50 => rfl
  | 51 => rfl
  | 52 => rfl
  | 53 => rfl
  | n + 54 => rfl
theorem ip_43 {hid : Bool} {dA : Nat → ClassId} {ad : Nat → Nat → Nat} {q : Nat} (k' u' : Nat) (I : Nat → Int32) (L : Nat → Int64) (R : Nat → Nat) (hx : ¬ (k' = 43 ∧ u' = 0)) : gCcell hid dA (g_ua ad 43 0 q) k' u' I L R = gCcell hid dA ad k' u' I L R := by
  match k' with
  | 0 => rfl
  | 1 => rfl
  | 2 => rfl
  | 3 => rfl
  | 4 => rfl
  | 5 => rfl
  | 6 => rfl
  | 7 => rfl
  | 8 => rfl
  | 9 => rfl
  | 10 => rfl
  | 11 => rfl
  | 12 => rfl
  | 13 => rfl
  | 14 => rfl
  | 15 => rfl
  | 16 => rfl
  | 17 => rfl
  | 18 => rfl
  | 19 => rfl
  | 20 => rfl
  | 21 => rfl
  | 22 => rfl
  | 23 => rfl
  | 24 => rfl
  | 25 => rfl
  | 26 => cases hid <;> rfl
  | 27 => rfl
  | 28 => rfl
  | 29 => rfl
  | 30 => rfl
  | 31 => rfl
  | 32 => rfl
  | 33 => rfl
  | 34 => rfl
  | 35 => rfl
  | 36 => rfl
  | 37 => rfl
  | 38 => rfl
  | 39 => rfl
  | 40 => rfl
  | 41 => rfl
  | 42 => rfl
  | 43 => rfl
  | 44 => rfl
  | 45 => rfl
  | 46 => rfl
  | 47 => rfl
  | 48 => rfl
  | 49 => rfl
  | 50 => rfl
  | 51 => rfl
  | 52 => rfl
  | 53 => rfl
  | n + 54 => rfl
theorem ip_48 {hid : Bool} {dA : Nat → ClassId} {ad : Nat → Nat → Nat} {q : Nat} (k' u' : Nat) (I : Nat → Int32) (L : Nat → Int64) (R : Nat → Nat) (hx : ¬ (k' = 48 ∧ u' = 0)) : gCcell hid dA (g_ua ad 48 0 q) k' u' I L R = gCcell hid dA ad k' u' I L R := by
  match k' with
  | 0 => rfl
  | 1 => rfl
  | 2 => rfl
  | 3 => rfl
  | 4 => rfl
  | 5 => rfl
  | 6 => rfl
  | 7 => rfl
  | 8 => rfl
  | 9 => rfl
  | 10 => rfl
  | 11 => rfl
  | 12 => rfl
  | 13 => rfl
  | 14 => rfl
  | 15 => rfl
  | 16 => rfl
  | 17 => rfl
  | 18 => rfl
  | 19 => rfl
  | 20 => rfl
  | 21 => rfl
  | 22 => rfl
  | 23 => rfl
  | 24 => rfl
  | 25 => rfl
  | 26 => cases hid <;> rfl
  | 27 => rfl
  | 28 => rfl
  | 29 => rfl
  | 30 => rfl
  | 31 => rfl
  | 32 => rfl
  | 33 => rfl
  | 34 => rfl
  | 35 => rfl
  | 36 => rfl
  | 37 => rfl
  | 38 => rfl
  | 39 => rfl
  | 40 => rfl
  | 41 => rfl
  | 42 => rfl
  | 43 => rfl
  | 44 => rfl
  | 45 => rfl
  | 46 => rfl
  | 47 => rfl
  | 48 => rfl
  | 49 => rfl
  | 50 => rfl
  | 51 => rfl
  | 52 => rfl
  | 53 => rfl
  | n + 54 => rfl
theorem ip_51 {hid : Bool} {dA : Nat → ClassId} {ad : Nat → Nat → Nat} {q : Nat} (k' u' : Nat) (I : Nat → Int32) (L : Nat → Int64) (R : Nat → Nat) (hx : ¬ (k' = 51 ∧ u' = 0)) : gCcell hid dA (g_ua ad 51 0 q) k' u' I L R = gCcell hid dA ad k' u' I L R := by
  match k' with
  | 0 => rfl
  | 1 => rfl
  | 2 => rfl
  | 3 => rfl
  | 4 => rfl
  | 5 => rfl
  | 6 => rfl
  | 7 => rfl
  | 8 => rfl
  | 9 => rfl
  | 10 => rfl
  | 11 => rfl
  | 12 => rfl
  | 13 => rfl
  | 14 => rfl
  | 15 => rfl
  | 16 => rfl
  | 17 => rfl
  | 18 => rfl
  | 19 => rfl
  | 20 => rfl
  | 21 => rfl
  | 22 => rfl
  | 23 => rfl
  | 24 => rfl
  | 25 => rfl
  | 26 => cases hid <;> rfl
  | 27 => rfl
  | 28 => rfl
  | 29 => rfl
  | 30 => rfl
  | 31 => rfl
  | 32 => rfl
  | 33 => rfl
  | 34 => rfl
  | 35 => rfl
  | 36 => rfl
  | 37 => rfl
  | 38 => rfl
  | 39 => rfl
  | 40 => rfl
  | 41 => rfl
  | 42 => rfl
  | 43 => rfl
  | 44 => rfl
  | 45 => rfl
  | 46 => rfl
  | 47 => rfl
  | 48 => rfl
  | 49 => rfl
  | 50 => rfl
  | 51 => rfl
  | 52 => rfl
  | 53 => rfl
  | n + 54 => rfl
theorem ip_41 {hid : Bool} {dA : Nat → ClassId} {ad : Nat → Nat → Nat} {q : Nat} (k' u' : Nat) (I : Nat → Int32) (L : Nat → Int64) (R : Nat → Nat) (hx : ¬ (k' = 41 ∧ u' = 0)) : gCcell hid dA (g_ua ad 41 0 q) k' u' I L R = gCcell hid dA ad k' u' I L R := by
  match k' with
  | 0 => rfl
  | 1 => rfl
  | 2 => rfl
  | 3 => rfl
  | 4 => rfl
  | 5 => rfl
  | 6 => rfl
  | 7 => rfl
  | 8 => rfl
  | 9 => rfl
  | 10 => rfl
  | 11 => rfl
  | 12 => rfl
  | 13 => rfl
  | 14 => rfl
  | 15 => rfl
  | 16 => rfl
  | 17 => rfl
  | 18 => rfl
  | 19 => rfl
  | 20 => rfl
  | 21 => rfl
  | 22 => rfl
  | 23 => rfl
  | 24 => rfl
  | 25 => rfl
  | 26 => cases hid <;> rfl
  | 27 => rfl
  | 28 => rfl
  | 29 => rfl
  | 30 => rfl
  | 31 => rfl
  | 32 => rfl
  | 33 => rfl
  | 34 => rfl
  | 35 => rfl
  | 36 => rfl
  | 37 => rfl
  | 38 => rfl
  | 39 => rfl
  | 40 => rfl
  | 41 => rfl
  | 42 => rfl
  | 43 => rfl
  | 44 => rfl
  | 45 => rfl
  | 46 => rfl
  | 47 => rfl
  | 48 => rfl
  | 49 => rfl
  | 50 => rfl
  | 51 => rfl
  | 52 => rfl
  | 53 => rfl
  | n + 54 => rfl
theorem ip_53 {hid : Bool} {dA : Nat → ClassId} {ad : Nat → Nat → Nat} {q : Nat} (k' u' : Nat) (I : Nat → Int32) (L : Nat → Int64) (R : Nat → Nat) (hx : ¬ (k' = 53 ∧ u' = 0)) : gCcell hid dA (g_ua ad 53 0 q) k' u' I L R = gCcell hid dA ad k' u' I L R := by
  match k' with
  | 0 => rfl
  | 1 => rfl
  | 2 => rfl
  | 3 => rfl
  | 4 => rfl
  | 5 => rfl
  | 6 => rfl
  | 7 => rfl
  | 8 => rfl
  | 9 => rfl
  | 10 => rfl
  | 11 => rfl
  | 12 => rfl
  | 13 => rfl
  | 14 => rfl
  | 15 => rfl
  | 16 => rfl
  | 17 => rfl
  | 18 => rfl
  | 19 => rfl
  | 20 => rfl
  | 21 => rfl
  | 22 => rfl
  | 23 => rfl
  | 24 => rfl
  | 25 => rfl
  | 26 => cases hid <;> rfl
  | 27 => rfl
  | 28 => rfl
  | 29 => rfl
  | 30 => rfl
  | 31 => rfl
  | 32 => rfl
  | 33 => rfl
  | 34 => rfl
  | 35 => rfl
  | 36 => rfl
  | 37 => rfl
  | 38 => rfl
  | 39 => rfl
  | 40 => rfl
  | 41 => rfl
  | 42 => rfl
  | 43 => rfl
  | 44 => rfl
  | 45 => rfl
  | 46 => rfl
  | 47 => rfl
  | 48 => rfl
  | 49 => rfl
  | 50 => rfl
  | 51 => rfl
  | 52 => rfl
  | 53 => rfl
  | n + 54 => rfl
def g_f0 (σ : g_S) : g_S := g_sR (g_sI σ 52 0 0 0) 52 0 200 1
def g_f1 (σ : g_S) (v : Int32) : g_S := g_sI (g_f0 σ) 52 0 0 v
theorem fr_52 {hid : Bool} {dA : Nat → ClassId} {ad : Nat → Nat → Nat} {σ : g_S} : g_fresh (gC hid) dA ad σ (g_f0 σ) 52 0 := by
  intro q k' u' hk hu'
  have e1 : (g_f0 σ).1 k' u' = σ.1 k' u' := g_up_n hk
  have e2 : (g_f0 σ).2.1 k' u' = σ.2.1 k' u' := rfl
  have e3 : (g_f0 σ).2.2 k' u' = σ.2.2 k' u' := g_up_n hk
  show gCcell hid dA (g_ua ad 52 0 q) k' u' _ _ _ = gCcell hid dA ad k' u' _ _ _
  rw [e1, e2, e3]
  exact ip_52 k' u' _ _ _ hk
theorem me_52 {hid : Bool} {dA : Nat → ClassId} {ad : Nat → Nat → Nat} {σ : g_S} : g_cell (gC hid) dA ad (g_f0 σ) 52 0 = .inl (.inr (10, [.int 0])) := by
  show gCcell hid dA ad 52 0 ((g_sI σ 52 0 0 0).1 52 0) _ ((g_sR (g_sI σ 52 0 0 0) 52 0 200 1).2.2 52 0) = _
  rw [g_sI_s, g_sR_s]
  rfl
theorem me1_52 {hid : Bool} {dA : Nat → ClassId} {ad : Nat → Nat → Nat} {σ : g_S} {v : Int32} : g_cell (gC hid) dA ad (g_f1 σ v) 52 0 = .inl (.inr (10, [.int v])) := by
  show gCcell hid dA ad 52 0 ((g_sI (g_f0 σ) 52 0 0 v).1 52 0) _ ((g_sR (g_sI σ 52 0 0 0) 52 0 200 1).2.2 52 0) = _
  rw [g_sI_s, g_sR_s]
  rfl
theorem ho_52 {σ : g_S} {v : Int32} : g_oth (g_f0 σ) (g_f1 σ v) 52 0 := g_sI_n
/-! ===== new cells: what does not mention them ===== -/
theorem ip_25 {hid : Bool} {dA : Nat → ClassId} {ad : Nat → Nat → Nat} {q u : Nat} (k' u' : Nat) (I : Nat → Int32) (L : Nat → Int64) (R : Nat → Nat) (hx : ¬ (k' = 25 ∧ u' = u)) (h24 : k' = 24 → ∀ j < 3, R j ≠ u + 1) : gCcell hid dA (g_ua ad 25 u q) k' u' I L R = gCcell hid dA ad k' u' I L R := by
  match k', hx, h24 with
  | 0, _, _ => rfl
  | 1, _, _ => rfl
  | 2, _, _ => rfl
  | 3, _, _ => rfl
  | 4, _, _ => rfl
  | 5, _, _ => rfl
  | 6, _, _ => rfl
  | 7, _, _ => rfl
  | 8, _, _ => rfl
  | 9, _, _ => rfl
  | 10, _, _ => rfl
  | 11, _, _ => rfl
  | 12, _, _ => rfl
  | 13, _, _ => rfl
  | 14, _, _ => rfl
  | 15, _, _ => rfl
  | 16, _, _ => rfl
  | 17, _, _ => rfl
  | 18, _, _ => rfl
  | 19, _, _ => rfl
  | 20, _, _ => rfl
  | 21, _, _ => rfl
  | 22, _, _ => rfl
  | 23, _, _ => rfl
  | 24, hx, h24 =>
    have e : (fun j => if j < 3 then (if R j = 0 then none else some (g_ua ad 25 u q 25 (R j - 1))) else none) = (fun j => if j < 3 then (if R j = 0 then none else some (ad 25 (R j - 1))) else none) := by
      funext j
      by_cases h1 : j < 3
      · rw [if_pos h1, if_pos h1]
        by_cases h2 : R j = 0
        · rw [if_pos h2, if_pos h2]
        · rw [if_neg h2, if_neg h2, g_ua_n (fun z => h24 rfl j h1 (by omega))]
      · rw [if_neg h1, if_neg h1]
    exact congrArg (fun f => Sum.inl (Sum.inl (dA 8, 3, Sum.inr (Sum.inr (Sum.inr (Sum.inr f)))))) e
  | 25, _, _ => rfl
  | 26, _, _ => cases hid <;> rfl
  | 27, _, _ => rfl
  | 28, _, _ => rfl
  | 29, _, _ => rfl
  | 30, _, _ => rfl
  | 31, _, _ => rfl
  | 32, _, _ => rfl
  | 33, _, _ => rfl
  | 34, _, _ => rfl
  | 35, _, _ => rfl
  | 36, _, _ => rfl
  | 37, _, _ => rfl
  | 38, _, _ => rfl
  | 39, _, _ => rfl
  | 40, _, _ => rfl
  | 41, _, _ => rfl
  | 42, _, _ => rfl
  | 43, _, _ => rfl
  | 44, _, _ => rfl
  | 45, _, _ => rfl
  | 46, _, _ => rfl
  | 47, _, _ => rfl
  | 48, _, _ => rfl
  | 49, _, _ => rfl
  | 50, _, _ => rfl
  | 51, _, _ => rfl
  | 52, _, _ => rfl
  | 53, _, _ => rfl
  | n + 54, _, _ => rfl
theorem ip_27 {hid : Bool} {dA : Nat → ClassId} {ad : Nat → Nat → Nat} {q u : Nat} (k' u' : Nat) (I : Nat → Int32) (L : Nat → Int64) (R : Nat → Nat) (hx : ¬ (k' = 27 ∧ u' = u)) (h26 : k' = 26 → u' = u → R 200 = 0) (h53 : k' = 53 → R 200 = 0) : gCcell hid dA (g_ua ad 27 u q) k' u' I L R = gCcell hid dA ad k' u' I L R := by
  match k', hx, h26, h53 with
  | 0, _, _, _ => rfl
  | 1, _, _, _ => rfl
  | 2, _, _, _ => rfl
  | 3, _, _, _ => rfl
  | 4, _, _, _ => rfl
  | 5, _, _, _ => rfl
  | 6, _, _, _ => rfl
  | 7, _, _, _ => rfl
  | 8, _, _, _ => rfl
  | 9, _, _, _ => rfl
  | 10, _, _, _ => rfl
  | 11, _, _, _ => rfl
  | 12, _, _, _ => rfl
  | 13, _, _, _ => rfl
  | 14, _, _, _ => rfl
  | 15, _, _, _ => rfl
  | 16, _, _, _ => rfl
  | 17, _, _, _ => rfl
  | 18, _, _, _ => rfl
  | 19, _, _, _ => rfl
  | 20, _, _, _ => rfl
  | 21, _, _, _ => rfl
  | 22, _, _, _ => rfl
  | 23, _, _, _ => rfl
  | 24, _, _, _ => rfl
  | 25, _, _, _ => rfl
  | 26, hx, h26, h53 =>
    by_cases hu : u' = u
    · have h0 := h26 rfl hu
      show g_opt (R 200) _ = g_opt (R 200) _
      unfold g_opt
      rw [if_pos h0, if_pos h0]
    · have e : g_ua ad 27 u q 27 u' = ad 27 u' := g_ua_n (fun z => hu z.2)
      have hf : gC_f26 (g_ua ad 27 u q) u' I L R = gC_f26 ad u' I L R := by simp only [gC_f26, e]; first | done | rfl
      have hh : (fun z => (Sum.inr (7, gC_h26 (g_ua ad 27 u q) u' I R z) : va_E)) = fun z => Sum.inr (7, gC_h26 ad u' I R z) := by funext z; simp only [gC_h26, e]; first | done | rfl
      cases hid
      · exact congrArg (fun f => g_opt (R 200) (Sum.inl (Sum.inr (7, f)))) hf
      · exact congrArg (fun f => g_opt (R 200) (Sum.inr (Sum.inl f))) hh
  | 27, _, _, _ => rfl
  | 28, _, _, _ => rfl
  | 29, _, _, _ => rfl
  | 30, _, _, _ => rfl
  | 31, _, _, _ => rfl
  | 32, _, _, _ => rfl
  | 33, _, _, _ => rfl
  | 34, _, _, _ => rfl
  | 35, _, _, _ => rfl
  | 36, _, _, _ => rfl
  | 37, _, _, _ => rfl
  | 38, _, _, _ => rfl
  | 39, _, _, _ => rfl
  | 40, _, _, _ => rfl
  | 41, _, _, _ => rfl
  | 42, _, _, _ => rfl
  | 43, _, _, _ => rfl
  | 44, _, _, _ => rfl
  | 45, _, _, _ => rfl
  | 46, _, _, _ => rfl
  | 47, _, _, _ => rfl
  | 48, _, _, _ => rfl
  | 49, _, _, _ => rfl
  | 50, _, _, _ => rfl
  | 51, _, _, _ => rfl
  | 52, _, _, _ => rfl
  | 53, hx, h26, h53 =>
    have h0 := h53 rfl
    show g_opt (R 200) _ = g_opt (R 200) _
    unfold g_opt
    rw [if_pos h0, if_pos h0]
  | n + 54, _, _, _ => rfl
theorem ip_34 {hid : Bool} {dA : Nat → ClassId} {ad : Nat → Nat → Nat} {q u : Nat} (k' u' : Nat) (I : Nat → Int32) (L : Nat → Int64) (R : Nat → Nat) (hx : ¬ (k' = 34 ∧ u' = u)) (h0 : k' = 25 → u' = u → ¬ g_set (R 200) 1) : gCcell hid dA (g_ua ad 34 u q) k' u' I L R = gCcell hid dA ad k' u' I L R := by
  match k', hx, h0 with
  | 0, _, _ => rfl
  | 1, _, _ => rfl
  | 2, _, _ => rfl
  | 3, _, _ => rfl
  | 4, _, _ => rfl
  | 5, _, _ => rfl
  | 6, _, _ => rfl
  | 7, _, _ => rfl
  | 8, _, _ => rfl
  | 9, _, _ => rfl
  | 10, _, _ => rfl
  | 11, _, _ => rfl
  | 12, _, _ => rfl
  | 13, _, _ => rfl
  | 14, _, _ => rfl
  | 15, _, _ => rfl
  | 16, _, _ => rfl
  | 17, _, _ => rfl
  | 18, _, _ => rfl
  | 19, _, _ => rfl
  | 20, _, _ => rfl
  | 21, _, _ => rfl
  | 22, _, _ => rfl
  | 23, _, _ => rfl
  | 24, _, _ => rfl
  | 25, hx, h0 =>
    by_cases hu : u' = u
    · have h0 : ¬ g_set (R 200) 1 := h0 rfl hu
      have hf : gC_f25 (g_ua ad 34 u q) u' I L R = gC_f25 ad u' I L R := by simp only [gC_f25, if_neg h0]; first | done | rfl
      exact congrArg (fun f => g_opt (R 200) (Sum.inl (Sum.inr (9, f)))) hf
    · have e : g_ua ad 34 u q 34 u' = ad 34 u' := g_ua_n (fun z => hu z.2)
      have hf : gC_f25 (g_ua ad 34 u q) u' I L R = gC_f25 ad u' I L R := by simp only [gC_f25, e]; first | done | rfl
      exact congrArg (fun f => g_opt (R 200) (Sum.inl (Sum.inr (9, f)))) hf
  | 26, _, _ => cases hid <;> rfl
  | 27, _, _ => rfl
  | 28, _, _ => rfl
  | 29, _, _ => rfl
  | 30, _, _ => rfl
  | 31, _, _ => rfl
  | 32, _, _ => rfl
  | 33, _, _ => rfl
  | 34, _, _ => rfl
  | 35, _, _ => rfl
  | 36, _, _ => rfl
  | 37, _, _ => rfl
  | 38, _, _ => rfl
  | 39, _, _ => rfl
  | 40, _, _ => rfl
  | 41, _, _ => rfl
  | 42, _, _ => rfl
  | 43, _, _ => rfl
  | 44, _, _ => rfl
  | 45, _, _ => rfl
  | 46, _, _ => rfl
  | 47, _, _ => rfl
  | 48, _, _ => rfl
  | 49, _, _ => rfl
  | 50, _, _ => rfl
  | 51, _, _ => rfl
  | 52, _, _ => rfl
  | 53, _, _ => rfl
  | n + 54, _, _ => rfl
theorem ip_35 {hid : Bool} {dA : Nat → ClassId} {ad : Nat → Nat → Nat} {q u : Nat} (k' u' : Nat) (I : Nat → Int32) (L : Nat → Int64) (R : Nat → Nat) (hx : ¬ (k' = 35 ∧ u' = u)) (h0 : k' = 34 → u' = u → ¬ g_set (R 200) 0) : gCcell hid dA (g_ua ad 35 u q) k' u' I L R = gCcell hid dA ad k' u' I L R := by
  match k', hx, h0 with
  | 0, _, _ => rfl
  | 1, _, _ => rfl
  | 2, _, _ => rfl
  | 3, _, _ => rfl
  | 4, _, _ => rfl
  | 5, _, _ => rfl
  | 6, _, _ => rfl
  | 7, _, _ => rfl
  | 8, _, _ => rfl
  | 9, _, _ => rfl
  | 10, _, _ => rfl
  | 11, _, _ => rfl
  | 12, _, _ => rfl
  | 13, _, _ => rfl
  | 14, _, _ => rfl
  | 15, _, _ => rfl
  | 16, _, _ => rfl
  | 17, _, _ => rfl
  | 18, _, _ => rfl
  | 19, _, _ => rfl
  | 20, _, _ => rfl
  | 21, _, _ => rfl
  | 22, _, _ => rfl
  | 23, _, _ => rfl
  | 24, _, _ => rfl
  | 25, _, _ => rfl
  | 26, _, _ => cases hid <;> rfl
  | 27, _, _ => rfl
  | 28, _, _ => rfl
  | 29, _, _ => rfl
  | 30, _, _ => rfl
  | 31, _, _ => rfl
  | 32, _, _ => rfl
  | 33, _, _ => rfl
  | 34, hx, h0 =>
    by_cases hu : u' = u
    · have h0 : ¬ g_set (R 200) 0 := h0 rfl hu
      have hf : gC_f34 (g_ua ad 35 u q) u' I L R = gC_f34 ad u' I L R := by simp only [gC_f34, if_neg h0]; first | done | rfl
      exact congrArg (fun f => g_opt (R 200) (Sum.inl (Sum.inr (4, f)))) hf
    · have e : g_ua ad 35 u q 35 u' = ad 35 u' := g_ua_n (fun z => hu z.2)
      have hf : gC_f34 (g_ua ad 35 u q) u' I L R = gC_f34 ad u' I L R := by simp only [gC_f34, e]; first | done | rfl
      exact congrArg (fun f => g_opt (R 200) (Sum.inl (Sum.inr (4, f)))) hf
  | 35, _, _ => rfl
  | 36, _, _ => rfl
  | 37, _, _ => rfl
  | 38, _, _ => rfl
  | 39, _, _ => rfl
  | 40, _, _ => rfl
  | 41, _, _ => rfl
  | 42, _, _ => rfl
  | 43, _, _ => rfl
  | 44, _, _ => rfl
  | 45, _, _ => rfl
  | 46, _, _ => rfl
  | 47, _, _ => rfl
  | 48, _, _ => rfl
  | 49, _, _ => rfl
  | 50, _, _ => rfl
  | 51, _, _ => rfl
  | 52, _, _ => rfl
  | 53, _, _ => rfl
  | n + 54, _, _ => rfl
theorem ip_36 {hid : Bool} {dA : Nat → ClassId} {ad : Nat → Nat → Nat} {q u : Nat} (k' u' : Nat) (I : Nat → Int32) (L : Nat → Int64) (R : Nat → Nat) (hx : ¬ (k' = 36 ∧ u' = u)) (h0 : k' = 34 → u' = u → ¬ g_set (R 200) 1) : gCcell hid dA (g_ua ad 36 u q) k' u' I L R = gCcell hid dA ad k' u' I L R := by
  match k', hx, h0 with
  | 0, _, _ => rfl
  | 1, _, _ => rfl
  | 2, _, _ => rfl
  | 3, _, _ => rfl
  | 4, _, _ => rfl
  | 5, _, _ => rfl
  | 6, _, _ => rfl
  | 7, _, _ => rfl
  | 8, _, _ => rfl
  | 9, _, _ => rfl
  | 10, _, _ => rfl
  | 11, _, _ => rfl
  | 12, _, _ => rfl
  | 13, _, _ => rfl
  | 14, _, _ => rfl
  | 15, _, _ => rfl
  | 16, _, _ => rfl
  | 17, _, _ => rfl
  | 18, _, _ => rfl
  | 19, _, _ => rfl
  | 20, _, _ => rfl
  | 21, _, _ => rfl
  | 22, _, _ => rfl
  | 23, _, _ => rfl
  | 24, _, _ => rfl
  | 25, _, _ => rfl
  | 26, _, _ => cases hid <;> rfl
  | 27, _, _ => rfl
  | 28, _, _ => rfl
  | 29, _, _ => rfl
  | 30, _, _ => rfl
  | 31, _, _ => rfl
  | 32, _, _ => rfl
  | 33, _, _ => rfl
  | 34, hx, h0 =>
    by_cases hu : u' = u
    · have h0 : ¬ g_set (R 200) 1 := h0 rfl hu
      have hf : gC_f34 (g_ua ad 36 u q) u' I L R = gC_f34 ad u' I L R := by simp only [gC_f34, if_neg h0]; first | done | rfl
      exact congrArg (fun f => g_opt (R 200) (Sum.inl (Sum.inr (4, f)))) hf
    · have e : g_ua ad 36 u q 36 u' = ad 36 u' := g_ua_n (fun z => hu z.2)
      have hf : gC_f34 (g_ua ad 36 u q) u' I L R = gC_f34 ad u' I L R := by simp only [gC_f34, e]; first | done | rfl
      exact congrArg (fun f => g_opt (R 200) (Sum.inl (Sum.inr (4, f)))) hf
  | 35, _, _ => rfl
  | 36, _, _ => rfl
  | 37, _, _ => rfl
  | 38, _, _ => rfl
  | 39, _, _ => rfl
  | 40, _, _ => rfl
  | 41, _, _ => rfl
  | 42, _, _ => rfl
  | 43, _, _ => rfl
  | 44, _, _ => rfl
  | 45, _, _ => rfl
  | 46, _, _ => rfl
  | 47, _, _ => rfl
  | 48, _, _ => rfl
  | 49, _, _ => rfl
  | 50, _, _ => rfl
  | 51, _, _ => rfl
  | 52, _, _ => rfl
  | 53, _, _ => rfl
  | n + 54, _, _ => rfl
theorem ip_37 {hid : Bool} {dA : Nat → ClassId} {ad : Nat → Nat → Nat} {q u : Nat} (k' u' : Nat) (I : Nat → Int32) (L : Nat → Int64) (R : Nat → Nat) (hx : ¬ (k' = 37 ∧ u' = u)) (h0 : k' = 34 → u' = u → ¬ g_set (R 200) 2) : gCcell hid dA (g_ua ad 37 u q) k' u' I L R = gCcell hid dA ad k' u' I L R := by
  match k', hx, h0 with
  | 0, _, _ => rfl
  | 1, _, _ => rfl
  | 2, _, _ => rfl
  | 3, _, _ => rfl
  | 4, _, _ => rfl
  | 5, _, _ => rfl
  | 6, _, _ => rfl
  | 7, _, _ => rfl
  | 8, _, _ => rfl
  | 9, _, _ => rfl
  | 10, _, _ => rfl
  | 11, _, _ => rfl
  | 12, _, _ => rfl
  | 13, _, _ => rfl
  | 14, _, _ => rfl
  | 15, _, _ => rfl
  | 16, _, _ => rfl
  | 17, _, _ => rfl
  | 18, _, _ => rfl
  | 19, _, _ => rfl
  | 20, _, _ => rfl
  | 21, _, _ => rfl
  | 22, _, _ => rfl
  | 23, _, _ => rfl
  | 24, _, _ => rfl
  | 25, _, _ => rfl
  | 26, _, _ => cases hid <;> rfl
  | 27, _, _ => rfl
  | 28, _, _ => rfl
  | 29, _, _ => rfl
  | 30, _, _ => rfl
  | 31, _, _ => rfl
  | 32, _, _ => rfl
  | 33, _, _ => rfl
  | 34, hx, h0 =>
    by_cases hu : u' = u
    · have h0 : ¬ g_set (R 200) 2 := h0 rfl hu
      have hf : gC_f34 (g_ua ad 37 u q) u' I L R = gC_f34 ad u' I L R := by simp only [gC_f34, if_neg h0]; first | done | rfl
      exact congrArg (fun f => g_opt (R 200) (Sum.inl (Sum.inr (4, f)))) hf
    · have e : g_ua ad 37 u q 37 u' = ad 37 u' := g_ua_n (fun z => hu z.2)
      have hf : gC_f34 (g_ua ad 37 u q) u' I L R = gC_f34 ad u' I L R := by simp only [gC_f34, e]; first | done | rfl
      exact congrArg (fun f => g_opt (R 200) (Sum.inl (Sum.inr (4, f)))) hf
  | 35, _, _ => rfl
  | 36, _, _ => rfl
  | 37, _, _ => rfl
  | 38, _, _ => rfl
  | 39, _, _ => rfl
  | 40, _, _ => rfl
  | 41, _, _ => rfl
  | 42, _, _ => rfl
  | 43, _, _ => rfl
  | 44, _, _ => rfl
  | 45, _, _ => rfl
  | 46, _, _ => rfl
  | 47, _, _ => rfl
  | 48, _, _ => rfl
  | 49, _, _ => rfl
  | 50, _, _ => rfl
  | 51, _, _ => rfl
  | 52, _, _ => rfl
  | 53, _, _ => rfl
  | n + 54, _, _ => rfl
theorem ip_38 {hid : Bool} {dA : Nat → ClassId} {ad : Nat → Nat → Nat} {q u : Nat} (k' u' : Nat) (I : Nat → Int32) (L : Nat → Int64) (R : Nat → Nat) (hx : ¬ (k' = 38 ∧ u' = u)) (h0 : k' = 34 → u' = u → ¬ g_set (R 200) 3) : gCcell hid dA (g_ua ad 38 u q) k' u' I L R = gCcell hid dA ad k' u' I L R := by
  match k', hx, h0 with
  | 0, _, _ => rfl
  | 1, _, _ => rfl
  | 2, _, _ => rfl
  | 3, _, _ => rfl
  | 4, _, _ => rfl
  | 5, _, _ => rfl
  | 6, _, _ => rfl
  | 7, _, _ => rfl
  | 8, _, _ => rfl
  | 9, _, _ => rfl
  | 10, _, _ => rfl
  | 11, _, _ => rfl
  | 12, _, _ => rfl
  | 13, _, _ => rfl
  | 14, _, _ => rfl
  | 15, _, _ => rfl
  | 16, _, _ => rfl
  | 17, _, _ => rfl
  | 18, _, _ => rfl
  | 19, _, _ => rfl
  | 20, _, _ => rfl
  | 21, _, _ => rfl
  | 22, _, _ => rfl
  | 23, _, _ => rfl
  | 24, _, _ => rfl
  | 25, _, _ => rfl
  | 26, _, _ => cases hid <;> rfl
  | 27, _, _ => rfl
  | 28, _, _ => rfl
  | 29, _, _ => rfl
  | 30, _, _ => rfl
  | 31, _, _ => rfl
  | 32, _, _ => rfl
  | 33, _, _ => rfl
  | 34, hx, h0 =>
    by_cases hu : u' = u
    · have h0 : ¬ g_set (R 200) 3 := h0 rfl hu
      have hf : gC_f34 (g_ua ad 38 u q) u' I L R = gC_f34 ad u' I L R := by simp only [gC_f34, if_neg h0]; first | done | rfl
      exact congrArg (fun f => g_opt (R 200) (Sum.inl (Sum.inr (4, f)))) hf
    · have e : g_ua ad 38 u q 38 u' = ad 38 u' := g_ua_n (fun z => hu z.2)
      have hf : gC_f34 (g_ua ad 38 u q) u' I L R = gC_f34 ad u' I L R := by simp only [gC_f34, e]; first | done | rfl
      exact congrArg (fun f => g_opt (R 200) (Sum.inl (Sum.inr (4, f)))) hf
  | 35, _, _ => rfl
  | 36, _, _ => rfl
  | 37, _, _ => rfl
  | 38, _, _ => rfl
  | 39, _, _ => rfl
  | 40, _, _ => rfl
  | 41, _, _ => rfl
  | 42, _, _ => rfl
  | 43, _, _ => rfl
  | 44, _, _ => rfl
  | 45, _, _ => rfl
  | 46, _, _ => rfl
  | 47, _, _ => rfl
  | 48, _, _ => rfl
  | 49, _, _ => rfl
  | 50, _, _ => rfl
  | 51, _, _ => rfl
  | 52, _, _ => rfl
  | 53, _, _ => rfl
  | n + 54, _, _ => rfl
theorem ip_39 {hid : Bool} {dA : Nat → ClassId} {ad : Nat → Nat → Nat} {q u : Nat} (k' u' : Nat) (I : Nat → Int32) (L : Nat → Int64) (R : Nat → Nat) (hx : ¬ (k' = 39 ∧ u' = u)) (h0 : k' = 34 → u' = u → ¬ g_set (R 200) 4) : gCcell hid dA (g_ua ad 39 u q) k' u' I L R = gCcell hid dA ad k' u' I L R := by
  match k', hx, h0 with
  | 0, _, _ => rfl
  | 1, _, _ => rfl
  | 2, _, _ => rfl
  | 3, _, _ => rfl
  | 4, _, _ => rfl
  | 5, _, _ => rfl
  | 6, _, _ => rfl
  | 7, _, _ => rfl
  | 8, _, _ => rfl
  | 9, _, _ => rfl
  | 10, _, _ => rfl
  | 11, _, _ => rfl
  | 12, _, _ => rfl
  | 13, _, _ => rfl
  | 14, _, _ => rfl
  | 15, _, _ => rfl
  | 16, _, _ => rfl
  | 17, _, _ => rfl
  | 18, _, _ => rfl
  | 19, _, _ => rfl
  | 20, _, _ => rfl
  | 21, _, _ => rfl
  | 22, _, _ => rfl
  | 23, _, _ => rfl
  | 24, _, _ => rfl
  | 25, _, _ => rfl
  | 26, _, _ => cases hid <;> rfl
  | 27, _, _ => rfl
  | 28, _, _ => rfl
  | 29, _, _ => rfl
  | 30, _, _ => rfl
  | 31, _, _ => rfl
  | 32, _, _ => rfl
  | 33, _, _ => rfl
  | 34, hx, h0 =>
    by_cases hu : u' = u
    · have h0 : ¬ g_set (R 200) 4 := h0 rfl hu
      have hf : gC_f34 (g_ua ad 39 u q) u' I L R = gC_f34 ad u' I L R := by simp only [gC_f34, if_neg h0]; first | done | rfl
      exact congrArg (fun f => g_opt (R 200) (Sum.inl (Sum.inr (4, f)))) hf
    · have e : g_ua ad 39 u q 39 u' = ad 39 u' := g_ua_n (fun z => hu z.2)
      have hf : gC_f34 (g_ua ad 39 u q) u' I L R = gC_f34 ad u' I L R := by simp only [gC_f34, e]; first | done | rfl
      exact congrArg (fun f => g_opt (R 200) (Sum.inl (Sum.inr (4, f)))) hf
  | 35, _, _ => rfl
  | 36, _, _ => rfl
  | 37, _, _ => rfl
  | 38, _, _ => rfl
  | 39, _, _ => rfl
  | 40, _, _ => rfl
  | 41, _, _ => rfl
  | 42, _, _ => rfl
  | 43, _, _ => rfl
  | 44, _, _ => rfl
  | 45, _, _ => rfl
  | 46, _, _ => rfl
  | 47, _, _ => rfl
  | 48, _, _ => rfl
  | 49, _, _ => rfl
  | 50, _, _ => rfl
  | 51, _, _ => rfl
  | 52, _, _ => rfl
  | 53, _, _ => rfl
  | n + 54, _, _ => rfl
theorem ip_45 {hid : Bool} {dA : Nat → ClassId} {ad : Nat → Nat → Nat} {q u : Nat} (k' u' : Nat) (I : Nat → Int32) (L : Nat → Int64) (R : Nat → Nat) (hx : ¬ (k' = 45 ∧ u' = u)) (h0 : k' = 44 → ¬ g_set (R 200) 2) : gCcell hid dA (g_ua ad 45 u q) k' u' I L R = gCcell hid dA ad k' u' I L R := by
  match k', hx, h0 with
  | 0, _, _ => rfl
  | 1, _, _ => rfl
  | 2, _, _ => rfl
  | 3, _, _ => rfl
  | 4, _, _ => rfl
  | 5, _, _ => rfl
  | 6, _, _ => rfl
  | 7, _, _ => rfl
  | 8, _, _ => rfl
  | 9, _, _ => rfl
  | 10, _, _ => rfl
  | 11, _, _ => rfl
  | 12, _, _ => rfl
  | 13, _, _ => rfl
  | 14, _, _ => rfl
  | 15, _, _ => rfl
  | 16, _, _ => rfl
  | 17, _, _ => rfl
  | 18, _, _ => rfl
  | 19, _, _ => rfl
  | 20, _, _ => rfl
  | 21, _, _ => rfl
  | 22, _, _ => rfl
  | 23, _, _ => rfl
  | 24, _, _ => rfl
  | 25, _, _ => rfl
  | 26, _, _ => cases hid <;> rfl
  | 27, _, _ => rfl
  | 28, _, _ => rfl
  | 29, _, _ => rfl
  | 30, _, _ => rfl
  | 31, _, _ => rfl
  | 32, _, _ => rfl
  | 33, _, _ => rfl
  | 34, _, _ => rfl
  | 35, _, _ => rfl
  | 36, _, _ => rfl
  | 37, _, _ => rfl
  | 38, _, _ => rfl
  | 39, _, _ => rfl
  | 40, _, _ => rfl
  | 41, _, _ => rfl
  | 42, _, _ => rfl
  | 43, _, _ => rfl
  | 44, hx, h0 =>
    have h0 : ¬ g_set (R 200) 2 := h0 rfl
    have hf : gC_f44 (g_ua ad 45 u q) u' I L R = gC_f44 ad u' I L R := by simp only [gC_f44, if_neg h0]; first | done | rfl
    exact congrArg (fun f => g_opt (R 200) (Sum.inl (Sum.inr (8, f)))) hf
  | 45, _, _ => rfl
  | 46, _, _ => rfl
  | 47, _, _ => rfl
  | 48, _, _ => rfl
  | 49, _, _ => rfl
  | 50, _, _ => rfl
  | 51, _, _ => rfl
  | 52, _, _ => rfl
  | 53, _, _ => rfl
  | n + 54, _, _ => rfl
theorem ip_46 {hid : Bool} {dA : Nat → ClassId} {ad : Nat → Nat → Nat} {q u : Nat} (k' u' : Nat) (I : Nat → Int32) (L : Nat → Int64) (R : Nat → Nat) (hx : ¬ (k' = 46 ∧ u' = u)) (h0 : k' = 44 → ¬ g_set (R 200) 3) : gCcell hid dA (g_ua ad 46 u q) k' u' I L R = gCcell hid dA ad k' u' I L R := by
  match k', hx, h0 with
  | 0, _, _ => rfl
  | 1, _, _ => rfl
  | 2, _, _ => rfl
  | 3, _, _ => rfl
  | 4, _, _ => rfl
  | 5, _, _ => rfl
  | 6, _, _ => rfl
  | 7, _, _ => rfl
  | 8, _, _ => rfl
  | 9, _, _ => rfl
  | 10, _, _ => rfl
  | 11, _, _ => rfl
  | 12, _, _ => rfl
  | 13, _, _ => rfl
  | 14, _, _ => rfl
  | 15, _, _ => rfl
  | 16, _, _ => rfl
  | 17, _, _ => rfl
  | 18, _, _ => rfl
  | 19, _, _ => rfl
  | 20, _, _ => rfl
  | 21, _, _ => rfl
  | 22, _, _ => rfl
  | 23, _, _ => rfl
  | 24, _, _ => rfl
  | 25, _, _ => rfl
  | 26, _, _ => cases hid <;> rfl
  | 27, _, _ => rfl
  | 28, _, _ => rfl
  | 29, _, _ => rfl
  | 30, _, _ => rfl
  | 31, _, _ => rfl
  | 32, _, _ => rfl
  | 33, _, _ => rfl
  | 34, _, _ => rfl
  | 35, _, _ => rfl
  | 36, _, _ => rfl
  | 37, _, _ => rfl
  | 38, _, _ => rfl
  | 39, _, _ => rfl
  | 40, _, _ => rfl
  | 41, _, _ => rfl
  | 42, _, _ => rfl
  | 43, _, _ => rfl
  | 44, hx, h0 =>
    have h0 : ¬ g_set (R 200) 3 := h0 rfl
    have hf : gC_f44 (g_ua ad 46 u q) u' I L R = gC_f44 ad u' I L R := by simp only [gC_f44, if_neg h0]; first | done | rfl
    exact congrArg (fun f => g_opt (R 200) (Sum.inl (Sum.inr (8, f)))) hf
  | 45, _, _ => rfl
  | 46, _, _ => rfl
  | 47, _, _ => rfl
  | 48, _, _ => rfl
  | 49, _, _ => rfl
  | 50, _, _ => rfl
  | 51, _, _ => rfl
  | 52, _, _ => rfl
  | 53, _, _ => rfl
  | n + 54, _, _ => rfl
theorem ip_47 {hid : Bool} {dA : Nat → ClassId} {ad : Nat → Nat → Nat} {q u : Nat} (k' u' : Nat) (I : Nat → Int32) (L : Nat → Int64) (R : Nat → Nat) (hx : ¬ (k' = 47 ∧ u' = u)) (h0 : k' = 44 → ¬ g_set (R 200) 4) : gCcell hid dA (g_ua ad 47 u q) k' u' I L R = gCcell hid dA ad k' u' I L R := by
  match k', hx, h0 with
  | 0, _, _ => rfl
  | 1, _, _ => rfl
  | 2, _, _ => rfl
  | 3, _, _ => rfl
  | 4, _, _ => rfl
  | 5, _, _ => rfl
  | 6, _, _ => rfl
  | 7, _, _ => rfl
  | 8, _, _ => rfl
  | 9, _, _ => rfl
  | 10, _, _ => rfl
  | 11, _, _ => rfl
  | 12, _, _ => rfl
  | 13, _, _ => rfl
  | 14, _, _ => rfl
  | 15, _, _ => rfl
  | 16, _, _ => rfl
  | 17, _, _ => rfl
  | 18, _, _ => rfl
  | 19, _, _ => rfl
  | 20, _, _ => rfl
  | 21, _, _ => rfl
  | 22, _, _ => rfl
  | 23, _, _ => rfl
  | 24, _, _ => rfl
  | 25, _, _ => rfl
  | 26, _, _ => cases hid <;> rfl
  | 27, _, _ => rfl
  | 28, _, _ => rfl
  | 29, _, _ => rfl
  | 30, _, _ => rfl
  | 31, _, _ => rfl
  | 32, _, _ => rfl
  | 33, _, _ => rfl
  | 34, _, _ => rfl
  | 35, _, _ => rfl
  | 36, _, _ => rfl
  | 37, _, _ => rfl
  | 38, _, _ => rfl
  | 39, _, _ => rfl
  | 40, _, _ => rfl
  | 41, _, _ => rfl
  | 42, _, _ => rfl
  | 43, _, _ => rfl
  | 44, hx, h0 =>
    have h0 : ¬ g_set (R 200) 4 := h0 rfl
    have hf : gC_f44 (g_ua ad 47 u q) u' I L R = gC_f44 ad u' I L R := by simp only [gC_f44, if_neg h0]; first | done | rfl
    exact congrArg (fun f => g_opt (R 200) (Sum.inl (Sum.inr (8, f)))) hf
  | 45, _, _ => rfl
  | 46, _, _ => rfl
  | 47, _, _ => rfl
  | 48, _, _ => rfl
  | 49, _, _ => rfl
  | 50, _, _ => rfl
  | 51, _, _ => rfl
  | 52, _, _ => rfl
  | 53, _, _ => rfl
  | n + 54, _, _ => rfl
theorem ip_11 {hid : Bool} {dA : Nat → ClassId} {ad : Nat → Nat → Nat} {q u : Nat} (k' u' : Nat) (I : Nat → Int32) (L : Nat → Int64) (R : Nat → Nat) (hx : ¬ (k' = 11 ∧ u' = u)) (h0 : k' = 0 → R 14 ≠ u) : gCcell hid dA (g_ua ad 11 u q) k' u' I L R = gCcell hid dA ad k' u' I L R := by
  match k', hx, h0 with
  | 0, hx, h0 =>
    have e : g_ua ad 11 u q 11 (R 14) = ad 11 (R 14) := g_ua_n (fun z => h0 rfl z.2)
    have hf : gC_f0 (g_ua ad 11 u q) u' I L R = gC_f0 ad u' I L R := by simp only [gC_f0, e]; first | done | rfl
    exact congrArg (fun f => Sum.inl (Sum.inr (0, f))) hf
  | 1, _, _ => rfl
  | 2, _, _ => rfl
  | 3, _, _ => rfl
  | 4, _, _ => rfl
  | 5, _, _ => rfl
  | 6, _, _ => rfl
  | 7, _, _ => rfl
  | 8, _, _ => rfl
  | 9, _, _ => rfl
  | 10, _, _ => rfl
  | 11, _, _ => rfl
  | 12, _, _ => rfl
  | 13, _, _ => rfl
  | 14, _, _ => rfl
  | 15, _, _ => rfl
  | 16, _, _ => rfl
  | 17, _, _ => rfl
  | 18, _, _ => rfl
  | 19, _, _ => rfl
  | 20, _, _ => rfl
  | 21, _, _ => rfl
  | 22, _, _ => rfl
  | 23, _, _ => rfl
  | 24, _, _ => rfl
  | 25, _, _ => rfl
  | 26, _, _ => cases hid <;> rfl
  | 27, _, _ => rfl
  | 28, _, _ => rfl
  | 29, _, _ => rfl
  | 30, _, _ => rfl
  | 31, _, _ => rfl
  | 32, _, _ => rfl
  | 33, _, _ => rfl
  | 34, _, _ => rfl
  | 35, _, _ => rfl
  | 36, _, _ => rfl
  | 37, _, _ => rfl
  | 38, _, _ => rfl
  | 39, _, _ => rfl
  | 40, _, _ => rfl
  | 41, _, _ => rfl
  | 42, _, _ => rfl
  | 43, _, _ => rfl
  | 44, _, _ => rfl
  | 45, _, _ => rfl
  | 46, _, _ => rfl
  | 47, _, _ => rfl
  | 48, _, _ => rfl
  | 49, _, _ => rfl
  | 50, _, _ => rfl
  | 51, _, _ => rfl
  | 52, _, _ => rfl
  | 53, _, _ => rfl
  | n + 54, _, _ => rfl
theorem fr_40 {hid : Bool} {dA : Nat → ClassId} {ad : Nat → Nat → Nat} {σ : g_S} : g_fresh (gC hid) dA ad σ (g_nw σ 40 0 2) 40 0 := by
  intro q k' u' hk hu'
  obtain ⟨e1, e2, e3⟩ := g_nw_n (σ := σ) k' u' hk
  show gCcell hid dA (g_ua ad 40 0 q) k' u' _ _ _ = gCcell hid dA ad k' u' _ _ _
  rw [e1, e2, e3]
  exact ip_40 k' u' _ _ _ hk
theorem me_40 {hid : Bool} {dA : Nat → ClassId} {ad : Nat → Nat → Nat} {σ : g_S} : g_cell (gC hid) dA ad (g_nw σ 40 0 2) 40 0 = .inl (.inr (6, [.null, .int 0, .int 0, .int 0])) := by
  show gCcell hid dA ad 40 0 ((g_nw σ 40 0 2).1 40 0) ((g_nw σ 40 0 2).2.1 40 0) ((g_nw σ 40 0 2).2.2 40 0) = _
  rw [g_nw_1, g_nw_2, g_nw_3]
  rfl
theorem fr_44 {hid : Bool} {dA : Nat → ClassId} {ad : Nat → Nat → Nat} {σ : g_S} : g_fresh (gC hid) dA ad σ (g_nw σ 44 0 2) 44 0 := by
  intro q k' u' hk hu'
  obtain ⟨e1, e2, e3⟩ := g_nw_n (σ := σ) k' u' hk
  show gCcell hid dA (g_ua ad 44 0 q) k' u' _ _ _ = gCcell hid dA ad k' u' _ _ _
  rw [e1, e2, e3]
  exact ip_44 k' u' _ _ _ hk
theorem me_44 {hid : Bool} {dA : Nat → ClassId} {ad : Nat → Nat → Nat} {σ : g_S} : g_cell (gC hid) dA ad (g_nw σ 44 0 2) 44 0 = .inl (.inr (8, [.null, .int 0, .int 0, .int 0, .null, .null, .null, .int 0, .null])) := by
  show gCcell hid dA ad 44 0 ((g_nw σ 44 0 2).1 44 0) ((g_nw σ 44 0 2).2.1 44 0) ((g_nw σ 44 0 2).2.2 44 0) = _
  rw [g_nw_1, g_nw_2, g_nw_3]
  rfl
theorem fr_43 {hid : Bool} {dA : Nat → ClassId} {ad : Nat → Nat → Nat} {σ : g_S} : g_fresh (gC hid) dA ad σ (g_nw σ 43 0 1) 43 0 := by
  intro q k' u' hk hu'
  obtain ⟨e1, e2, e3⟩ := g_nw_n (σ := σ) k' u' hk
  show gCcell hid dA (g_ua ad 43 0 q) k' u' _ _ _ = gCcell hid dA ad k' u' _ _ _
  rw [e1, e2, e3]
  exact ip_43 k' u' _ _ _ hk
theorem me_43 {hid : Bool} {dA : Nat → ClassId} {ad : Nat → Nat → Nat} {σ : g_S} : g_cell (gC hid) dA ad (g_nw σ 43 0 1) 43 0 = .inl (.inl (dA 0, 8, .inl fun _ => 0)) := by
  show gCcell hid dA ad 43 0 ((g_nw σ 43 0 1).1 43 0) ((g_nw σ 43 0 1).2.1 43 0) ((g_nw σ 43 0 1).2.2 43 0) = _
  rw [g_nw_1, g_nw_2, g_nw_3]
  rfl
theorem fr_51 {hid : Bool} {dA : Nat → ClassId} {ad : Nat → Nat → Nat} {σ : g_S} : g_fresh (gC hid) dA ad σ (g_nw σ 51 0 1) 51 0 := by
  intro q k' u' hk hu'
  obtain ⟨e1, e2, e3⟩ := g_nw_n (σ := σ) k' u' hk
  show gCcell hid dA (g_ua ad 51 0 q) k' u' _ _ _ = gCcell hid dA ad k' u' _ _ _
  rw [e1, e2, e3]
  exact ip_51 k' u' _ _ _ hk
theorem me_51 {hid : Bool} {dA : Nat → ClassId} {ad : Nat → Nat → Nat} {σ : g_S} : g_cell (gC hid) dA ad (g_nw σ 51 0 1) 51 0 = .inl (.inl (dA 1, 10, .inr (.inl fun _ => 0))) := by
  show gCcell hid dA ad 51 0 ((g_nw σ 51 0 1).1 51 0) ((g_nw σ 51 0 1).2.1 51 0) ((g_nw σ 51 0 1).2.2 51 0) = _
  rw [g_nw_1, g_nw_2, g_nw_3]
  rfl
theorem fr_45 {hid : Bool} {dA : Nat → ClassId} {ad : Nat → Nat → Nat} {σ : g_S} (h : (σ.2.2 44 0 200) = 4) : g_fresh (gC hid) dA ad σ (g_nw σ 45 0 1) 45 0 := by
  intro q k' u' hk hu'
  obtain ⟨e1, e2, e3⟩ := g_nw_n (σ := σ) k' u' hk
  show gCcell hid dA (g_ua ad 45 0 q) k' u' _ _ _ = gCcell hid dA ad k' u' _ _ _
  rw [e1, e2, e3]
  exact ip_45 k' u' _ _ _ hk (fun a => by subst a; have z : u' < 1 := hu'; have z : u' = 0 := (by omega); subst z; rw [h]; decide)
theorem me_45 {hid : Bool} {dA : Nat → ClassId} {ad : Nat → Nat → Nat} {σ : g_S} : g_cell (gC hid) dA ad (g_nw σ 45 0 1) 45 0 = .inl (.inl (dA 5, 60, .inl fun _ => 0)) := by
  show gCcell hid dA ad 45 0 ((g_nw σ 45 0 1).1 45 0) ((g_nw σ 45 0 1).2.1 45 0) ((g_nw σ 45 0 1).2.2 45 0) = _
  rw [g_nw_1, g_nw_2, g_nw_3]
  rfl
theorem fr_46 {hid : Bool} {dA : Nat → ClassId} {ad : Nat → Nat → Nat} {σ : g_S} (h : (σ.2.2 44 0 200) = 5) : g_fresh (gC hid) dA ad σ (g_nw σ 46 0 1) 46 0 := by
  intro q k' u' hk hu'
  obtain ⟨e1, e2, e3⟩ := g_nw_n (σ := σ) k' u' hk
  show gCcell hid dA (g_ua ad 46 0 q) k' u' _ _ _ = gCcell hid dA ad k' u' _ _ _
  rw [e1, e2, e3]
  exact ip_46 k' u' _ _ _ hk (fun a => by subst a; have z : u' < 1 := hu'; have z : u' = 0 := (by omega); subst z; rw [h]; decide)
theorem me_46 {hid : Bool} {dA : Nat → ClassId} {ad : Nat → Nat → Nat} {σ : g_S} : g_cell (gC hid) dA ad (g_nw σ 46 0 1) 46 0 = .inl (.inl (dA 0, 60, .inl fun _ => 0)) := by
  show gCcell hid dA ad 46 0 ((g_nw σ 46 0 1).1 46 0) ((g_nw σ 46 0 1).2.1 46 0) ((g_nw σ 46 0 1).2.2 46 0) = _
  rw [g_nw_1, g_nw_2, g_nw_3]
  rfl
theorem fr_47 {hid : Bool} {dA : Nat → ClassId} {ad : Nat → Nat → Nat} {σ : g_S} (h : (σ.2.2 44 0 200) = 6) : g_fresh (gC hid) dA ad σ (g_nw σ 47 0 1) 47 0 := by
  intro q k' u' hk hu'
  obtain ⟨e1, e2, e3⟩ := g_nw_n (σ := σ) k' u' hk
  show gCcell hid dA (g_ua ad 47 0 q) k' u' _ _ _ = gCcell hid dA ad k' u' _ _ _
  rw [e1, e2, e3]
  exact ip_47 k' u' _ _ _ hk (fun a => by subst a; have z : u' < 1 := hu'; have z : u' = 0 := (by omega); subst z; rw [h]; decide)
theorem me_47 {hid : Bool} {dA : Nat → ClassId} {ad : Nat → Nat → Nat} {σ : g_S} : g_cell (gC hid) dA ad (g_nw σ 47 0 1) 47 0 = .inl (.inl (dA 0, 60, .inl fun _ => 0)) := by
  show gCcell hid dA ad 47 0 ((g_nw σ 47 0 1).1 47 0) ((g_nw σ 47 0 1).2.1 47 0) ((g_nw σ 47 0 1).2.2 47 0) = _
  rw [g_nw_1, g_nw_2, g_nw_3]
  rfl
theorem fr_25 {hid : Bool} {dA : Nat → ClassId} {ad : Nat → Nat → Nat} {σ : g_S} {u : Nat} (h : ∀ j < 3, σ.2.2 24 0 j ≠ u + 1) : g_fresh (gC hid) dA ad σ (g_nw σ 25 u 2) 25 u := by
  intro q k' u' hk hu'
  obtain ⟨e1, e2, e3⟩ := g_nw_n (σ := σ) k' u' hk
  show gCcell hid dA (g_ua ad 25 u q) k' u' _ _ _ = gCcell hid dA ad k' u' _ _ _
  rw [e1, e2, e3]
  exact ip_25 k' u' _ _ _ hk (fun a => by subst a; have z : u' < 1 := hu'; have z : u' = 0 := (by omega); subst z; exact h)
theorem me_25 {hid : Bool} {dA : Nat → ClassId} {ad : Nat → Nat → Nat} {σ : g_S} {u : Nat} : g_cell (gC hid) dA ad (g_nw σ 25 u 2) 25 u = .inl (.inr (9, [.null, .int 0, .null])) := by
  show gCcell hid dA ad 25 u ((g_nw σ 25 u 2).1 25 u) ((g_nw σ 25 u 2).2.1 25 u) ((g_nw σ 25 u 2).2.2 25 u) = _
  rw [g_nw_1, g_nw_2, g_nw_3]
  rfl
theorem fr_34 {hid : Bool} {dA : Nat → ClassId} {ad : Nat → Nat → Nat} {σ : g_S} {u : Nat} (h : (σ.2.2 25 u 200) = 3) : g_fresh (gC hid) dA ad σ (g_nw σ 34 u 2) 34 u := by
  intro q k' u' hk hu'
  obtain ⟨e1, e2, e3⟩ := g_nw_n (σ := σ) k' u' hk
  show gCcell hid dA (g_ua ad 34 u q) k' u' _ _ _ = gCcell hid dA ad k' u' _ _ _
  rw [e1, e2, e3]
  exact ip_34 k' u' _ _ _ hk (fun a b => by subst a; subst b; rw [h]; decide)
theorem me_34 {hid : Bool} {dA : Nat → ClassId} {ad : Nat → Nat → Nat} {σ : g_S} {u : Nat} : g_cell (gC hid) dA ad (g_nw σ 34 u 2) 34 u = .inl (.inr (4, [.null, .null, .null, .null, .null, .int 0])) := by
  show gCcell hid dA ad 34 u ((g_nw σ 34 u 2).1 34 u) ((g_nw σ 34 u 2).2.1 34 u) ((g_nw σ 34 u 2).2.2 34 u) = _
  rw [g_nw_1, g_nw_2, g_nw_3]
  rfl
theorem fr_35 {hid : Bool} {dA : Nat → ClassId} {ad : Nat → Nat → Nat} {σ : g_S} {u : Nat} (h : (σ.2.2 34 u 200) = 2) : g_fresh (gC hid) dA ad σ (g_nw σ 35 u 1) 35 u := by
  intro q k' u' hk hu'
  obtain ⟨e1, e2, e3⟩ := g_nw_n (σ := σ) k' u' hk
  show gCcell hid dA (g_ua ad 35 u q) k' u' _ _ _ = gCcell hid dA ad k' u' _ _ _
  rw [e1, e2, e3]
  exact ip_35 k' u' _ _ _ hk (fun a b => by subst a; subst b; rw [h]; decide)
theorem me_35 {hid : Bool} {dA : Nat → ClassId} {ad : Nat → Nat → Nat} {σ : g_S} {u : Nat} : g_cell (gC hid) dA ad (g_nw σ 35 u 1) 35 u = .inl (.inl (dA 0, 8, .inl fun _ => 0)) := by
  show gCcell hid dA ad 35 u ((g_nw σ 35 u 1).1 35 u) ((g_nw σ 35 u 1).2.1 35 u) ((g_nw σ 35 u 1).2.2 35 u) = _
  rw [g_nw_1, g_nw_2, g_nw_3]
  rfl
theorem fr_36 {hid : Bool} {dA : Nat → ClassId} {ad : Nat → Nat → Nat} {σ : g_S} {u : Nat} (h : (σ.2.2 34 u 200) = 3) : g_fresh (gC hid) dA ad σ (g_nw σ 36 u 1) 36 u := by
  intro q k' u' hk hu'
  obtain ⟨e1, e2, e3⟩ := g_nw_n (σ := σ) k' u' hk
  show gCcell hid dA (g_ua ad 36 u q) k' u' _ _ _ = gCcell hid dA ad k' u' _ _ _
  rw [e1, e2, e3]
  exact ip_36 k' u' _ _ _ hk (fun a b => by subst a; subst b; rw [h]; decide)
theorem me_36 {hid : Bool} {dA : Nat → ClassId} {ad : Nat → Nat → Nat} {σ : g_S} {u : Nat} : g_cell (gC hid) dA ad (g_nw σ 36 u 1) 36 u = .inl (.inl (dA 0, 8, .inl fun _ => 0)) := by
  show gCcell hid dA ad 36 u ((g_nw σ 36 u 1).1 36 u) ((g_nw σ 36 u 1).2.1 36 u) ((g_nw σ 36 u 1).2.2 36 u) = _
  rw [g_nw_1, g_nw_2, g_nw_3]
  rfl
theorem fr_37 {hid : Bool} {dA : Nat → ClassId} {ad : Nat → Nat → Nat} {σ : g_S} {u : Nat} (h : (σ.2.2 34 u 200) = 4) : g_fresh (gC hid) dA ad σ (g_nw σ 37 u 1) 37 u := by
  intro q k' u' hk hu'
  obtain ⟨e1, e2, e3⟩ := g_nw_n (σ := σ) k' u' hk
  show gCcell hid dA (g_ua ad 37 u q) k' u' _ _ _ = gCcell hid dA ad k' u' _ _ _
  rw [e1, e2, e3]
  exact ip_37 k' u' _ _ _ hk (fun a b => by subst a; subst b; rw [h]; decide)
theorem me_37 {hid : Bool} {dA : Nat → ClassId} {ad : Nat → Nat → Nat} {σ : g_S} {u : Nat} : g_cell (gC hid) dA ad (g_nw σ 37 u 1) 37 u = .inl (.inl (dA 0, 8, .inl fun _ => 0)) := by
  show gCcell hid dA ad 37 u ((g_nw σ 37 u 1).1 37 u) ((g_nw σ 37 u 1).2.1 37 u) ((g_nw σ 37 u 1).2.2 37 u) = _
  rw [g_nw_1, g_nw_2, g_nw_3]
  rfl
theorem fr_38 {hid : Bool} {dA : Nat → ClassId} {ad : Nat → Nat → Nat} {σ : g_S} {u : Nat} (h : (σ.2.2 34 u 200) = 5) : g_fresh (gC hid) dA ad σ (g_nw σ 38 u 1) 38 u := by
  intro q k' u' hk hu'
  obtain ⟨e1, e2, e3⟩ := g_nw_n (σ := σ) k' u' hk
  show gCcell hid dA (g_ua ad 38 u q) k' u' _ _ _ = gCcell hid dA ad k' u' _ _ _
  rw [e1, e2, e3]
  exact ip_38 k' u' _ _ _ hk (fun a b => by subst a; subst b; rw [h]; decide)
theorem me_38 {hid : Bool} {dA : Nat → ClassId} {ad : Nat → Nat → Nat} {σ : g_S} {u : Nat} : g_cell (gC hid) dA ad (g_nw σ 38 u 1) 38 u = .inl (.inl (dA 0, 8, .inl fun _ => 0)) := by
  show gCcell hid dA ad 38 u ((g_nw σ 38 u 1).1 38 u) ((g_nw σ 38 u 1).2.1 38 u) ((g_nw σ 38 u 1).2.2 38 u) = _
  rw [g_nw_1, g_nw_2, g_nw_3]
  rfl
theorem fr_39 {hid : Bool} {dA : Nat → ClassId} {ad : Nat → Nat → Nat} {σ : g_S} {u : Nat} (h : (σ.2.2 34 u 200) = 6) : g_fresh (gC hid) dA ad σ (g_nw σ 39 u 1) 39 u := by
  intro q k' u' hk hu'
  obtain ⟨e1, e2, e3⟩ := g_nw_n (σ := σ) k' u' hk
  show gCcell hid dA (g_ua ad 39 u q) k' u' _ _ _ = gCcell hid dA ad k' u' _ _ _
  rw [e1, e2, e3]
  exact ip_39 k' u' _ _ _ hk (fun a b => by subst a; subst b; rw [h]; decide)
theorem me_39 {hid : Bool} {dA : Nat → ClassId} {ad : Nat → Nat → Nat} {σ : g_S} {u : Nat} : g_cell (gC hid) dA ad (g_nw σ 39 u 1) 39 u = .inl (.inl (dA 0, 8, .inl fun _ => 0)) := by
  show gCcell hid dA ad 39 u ((g_nw σ 39 u 1).1 39 u) ((g_nw σ 39 u 1).2.1 39 u) ((g_nw σ 39 u 1).2.2 39 u) = _
  rw [g_nw_1, g_nw_2, g_nw_3]
  rfl
theorem fr_11 {hid : Bool} {dA : Nat → ClassId} {ad : Nat → Nat → Nat} {σ : g_S} {u n t : Nat} (h : (σ.2.2 0 0 14) ≠ u) : g_fresh (gC hid) dA ad σ (g_na σ 11 u n t) 11 u := by
  intro q k' u' hk hu'
  obtain ⟨e1, e2, e3⟩ := g_na_n (σ := σ) (n := n) (t := t) k' u' hk
  show gCcell hid dA (g_ua ad 11 u q) k' u' _ _ _ = gCcell hid dA ad k' u' _ _ _
  rw [e1, e2, e3]
  exact ip_11 k' u' _ _ _ hk (fun a => by subst a; have z : u' < 1 := hu'; have z : u' = 0 := (by omega); subst z; exact h)
theorem me_11 {hid : Bool} {dA : Nat → ClassId} {ad : Nat → Nat → Nat} {σ : g_S} {u n t : Nat} (h : ¬ n = 0) : g_cell (gC hid) dA ad (g_na σ 11 u n t) 11 u = .inl (.inl (dA 3, n, .inl fun _ => 0)) := by
  show gCcell hid dA ad 11 u ((g_na σ 11 u n t).1 11 u) ((g_na σ 11 u n t).2.1 11 u) ((g_na σ 11 u n t).2.2 11 u) = _
  rw [g_na_1, g_na_2, g_na_3]
  exact if_neg h
theorem fr_48 {hid : Bool} {dA : Nat → ClassId} {ad : Nat → Nat → Nat} {σ : g_S} {n t : Nat} : g_fresh (gC hid) dA ad σ (g_na σ 48 0 n t) 48 0 := by
  intro q k' u' hk hu'
  obtain ⟨e1, e2, e3⟩ := g_na_n (σ := σ) (n := n) (t := t) k' u' hk
  show gCcell hid dA (g_ua ad 48 0 q) k' u' _ _ _ = gCcell hid dA ad k' u' _ _ _
  rw [e1, e2, e3]
  exact ip_48 k' u' _ _ _ hk
theorem me_48_1 {hid : Bool} {dA : Nat → ClassId} {ad : Nat → Nat → Nat} {σ : g_S} {n : Nat} : g_cell (gC hid) dA ad (g_na σ 48 0 n 1) 48 0 = .inl (.inl (dA 3, n, .inl fun _ => 0)) := by
  show gCcell hid dA ad 48 0 ((g_na σ 48 0 n 1).1 48 0) ((g_na σ 48 0 n 1).2.1 48 0) ((g_na σ 48 0 n 1).2.2 48 0) = _
  rw [g_na_1, g_na_2, g_na_3]
  rfl
theorem me_48_2 {hid : Bool} {dA : Nat → ClassId} {ad : Nat → Nat → Nat} {σ : g_S} {n : Nat} : g_cell (gC hid) dA ad (g_na σ 48 0 n 2) 48 0 = .inl (.inl (dA 4, n, .inl fun _ => 0)) := by
  show gCcell hid dA ad 48 0 ((g_na σ 48 0 n 2).1 48 0) ((g_na σ 48 0 n 2).2.1 48 0) ((g_na σ 48 0 n 2).2.2 48 0) = _
  rw [g_na_1, g_na_2, g_na_3]
  rfl
theorem me_48_0 {hid : Bool} {dA : Nat → ClassId} {ad : Nat → Nat → Nat} {σ : g_S} {n : Nat} : g_cell (gC hid) dA ad (g_na σ 48 0 n 0) 48 0 = .inl (.inl (dA 0, n, .inl fun _ => 0)) := by
  show gCcell hid dA ad 48 0 ((g_na σ 48 0 n 0).1 48 0) ((g_na σ 48 0 n 0).2.1 48 0) ((g_na σ 48 0 n 0).2.2 48 0) = _
  rw [g_na_1, g_na_2, g_na_3]
  rfl
def g_cl (σ : g_S) (u : Nat) : g_S := g_sA (g_nw σ 27 u 1) 27 u (σ.1 12 0)
theorem g_cl_n {σ : g_S} {u : Nat} : g_oth σ (g_cl σ u) 27 u := fun k' u' h => ⟨(g_up_n h).trans (g_up_n h), g_up_n h, g_up_n h⟩
theorem fr_27 {hid : Bool} {dA : Nat → ClassId} {ad : Nat → Nat → Nat} {σ : g_S} {u : Nat} (h : (σ.2.2 26 u 200) = 0 ∧ (σ.2.2 53 0 200) = 0) : g_fresh (gC hid) dA ad σ (g_cl σ u) 27 u := by
  intro q k' u' hk hu'
  obtain ⟨e1, e2, e3⟩ := g_cl_n (σ := σ) k' u' hk
  show gCcell hid dA (g_ua ad 27 u q) k' u' _ _ _ = gCcell hid dA ad k' u' _ _ _
  rw [e1, e2, e3]
  exact ip_27 k' u' _ _ _ hk (fun a b => by subst a; subst b; exact h.1) (fun a => by subst a; have z : u' < 1 := hu'; have z : u' = 0 := (by omega); subst z; exact h.2)
theorem me_27 {hid : Bool} {dA : Nat → ClassId} {ad : Nat → Nat → Nat} {σ : g_S} {u : Nat} : g_cell (gC hid) dA ad (g_cl σ u) 27 u = .inl (.inl (dA 3, 80, .inl (σ.1 12 0))) := by
  show gCcell hid dA ad 27 u ((g_sA (g_nw σ 27 u 1) 27 u (σ.1 12 0)).1 27 u) ((g_nw σ 27 u 1).2.1 27 u) ((g_nw σ 27 u 1).2.2 27 u) = _
  rw [g_sA_s, g_nw_2, g_nw_3]
  rfl
def g_nr (σ : g_S) (s : Nat) : g_S := g_sR (g_nw σ 53 0 2) 53 0 201 s
theorem g_nr_n {σ : g_S} {s : Nat} : g_oth σ (g_nr σ s) 53 0 := fun k' u' h => ⟨g_up_n h, g_up_n h, (g_up_n h).trans (g_up_n h)⟩
theorem fr_53 {hid : Bool} {dA : Nat → ClassId} {ad : Nat → Nat → Nat} {σ : g_S} {s : Nat} : g_fresh (gC hid) dA ad σ (g_nr σ s) 53 0 := by
  intro q k' u' hk hu'
  obtain ⟨e1, e2, e3⟩ := g_nr_n (σ := σ) (s := s) k' u' hk
  show gCcell hid dA (g_ua ad 53 0 q) k' u' _ _ _ = gCcell hid dA ad k' u' _ _ _
  rw [e1, e2, e3]
  exact ip_53 k' u' _ _ _ hk
theorem me_53 {hid : Bool} {dA : Nat → ClassId} {ad : Nat → Nat → Nat} {σ : g_S} {s : Nat} : g_cell (gC hid) dA ad (g_nr σ s) 53 0 = .inl (.inr (7, [.null, .int 0, .int 0, .int 0, .null, .int 0, .int 0, .null])) := by
  show gCcell hid dA ad 53 0 ((g_nw σ 53 0 2).1 53 0) ((g_nw σ 53 0 2).2.1 53 0) ((g_sR (g_nw σ 53 0 2) 53 0 201 s).2.2 53 0) = _
  rw [g_nw_1, g_nw_2, g_sR_s, g_nw_3]
  rfl
theorem dr_26 {hid : Bool} {dA : Nat → ClassId} {ad : Nat → Nat → Nat} {σ : g_S} {u : Nat} (k' u' : Nat) (hu' : u' < g_n (gC hid) k') : g_cell (gC hid) dA ad (g_sR σ 26 u 200 0) k' u' = g_cell (gC hid) dA ad σ k' u' ∨ g_cell (gC hid) dA ad (g_sR σ 26 u 200 0) k' u' = .inr (.inr ()) := by
  by_cases h : k' = 26 ∧ u' = u
  · obtain ⟨rfl, rfl⟩ := h
    right
    show gCcell hid dA ad 26 _ _ _ ((g_sR σ 26 _ 200 0).2.2 26 _) = _
    rw [g_sR_s]
    rfl
  · left
    obtain ⟨e1, e2, e3⟩ := g_sR_n (σ := σ) (k := 26) (u := u) (j := 200) (v := 0) k' u' h
    show gCcell hid dA ad k' u' _ _ _ = gCcell hid dA ad k' u' _ _ _
    rw [e1, e2, e3]
theorem dr_53 {hid : Bool} {dA : Nat → ClassId} {ad : Nat → Nat → Nat} {σ : g_S} (k' u' : Nat) (hu' : u' < g_n (gC hid) k') : g_cell (gC hid) dA ad (g_sR σ 53 0 200 0) k' u' = g_cell (gC hid) dA ad σ k' u' ∨ g_cell (gC hid) dA ad (g_sR σ 53 0 200 0) k' u' = .inr (.inr ()) := by
  by_cases h : k' = 53 ∧ u' = 0
  · obtain ⟨rfl, rfl⟩ := h
    right
    show gCcell hid dA ad 53 0 (σ.1 53 0) (σ.2.1 53 0) ((g_sR σ 53 0 200 0).2.2 53 0) = _
    rw [g_sR_s]
    rfl
  · left
    obtain ⟨e1, e2, e3⟩ := g_sR_n (σ := σ) (k := 53) (u := 0) (j := 200) (v := 0) k' u' h
    show gCcell hid dA ad k' u' _ _ _ = gCcell hid dA ad k' u' _ _ _
    rw [e1, e2, e3]
def g_mv (σ : g_S) (s : Nat) : g_S := (g_up σ.1 26 s (σ.1 53 0), g_up σ.2.1 26 s (σ.2.1 53 0), g_up (g_up σ.2.2 26 s (σ.2.2 53 0)) 53 0 (g_updN (σ.2.2 53 0) 200 0))
theorem ip_26 {hid : Bool} {dA : Nat → ClassId} {ad : Nat → Nat → Nat} {q u : Nat} (k' u' : Nat) (I : Nat → Int32) (L : Nat → Int64) (R : Nat → Nat) (hx : ¬ (k' = 26 ∧ u' = u)) (h0 : k' = 0 → R 19 ≠ u + 1) : gCcell hid dA (g_ua ad 26 u q) k' u' I L R = gCcell hid dA ad k' u' I L R := by
  match k', hx, h0 with
  | 0, hx, h0 =>
    have hf : gC_f0 (g_ua ad 26 u q) u' I L R = gC_f0 ad u' I L R := by
      by_cases z : R 19 = 0
      · simp only [gC_f0, if_pos z]; first | done | rfl
      · have e : g_ua ad 26 u q 26 (R 19 - 1) = ad 26 (R 19 - 1) := g_ua_n (fun y => h0 rfl (by omega))
        simp only [gC_f0, e]; first | done | rfl
    exact congrArg (fun f => Sum.inl (Sum.inr (0, f))) hf
  | 1, _, _ => rfl
  | 2, _, _ => rfl
  | 3, _, _ => rfl
  | 4, _, _ => rfl
  | 5, _, _ => rfl
  | 6, _, _ => rfl
  | 7, _, _ => rfl
  | 8, _, _ => rfl
  | 9, _, _ => rfl
  | 10, _, _ => rfl
  | 11, _, _ => rfl
  | 12, _, _ => rfl
  | 13, _, _ => rfl
  | 14, _, _ => rfl
  | 15, _, _ => rfl
  | 16, _, _ => rfl
  | 17, _, _ => rfl
  | 18, _, _ => rfl
  | 19, _, _ => rfl
  | 20, _, _ => rfl
  | 21, _, _ => rfl
  | 22, _, _ => rfl
  | 23, _, _ => rfl
  | 24, _, _ => rfl
  | 25, _, _ => rfl
  | 26, _, _ => cases hid <;> rfl
  | 27, _, _ => rfl
  | 28, _, _ => rfl
  | 29, _, _ => rfl
  | 30, _, _ => rfl
  | 31, _, _ => rfl
  | 32, _, _ => rfl
  | 33, _, _ => rfl
  | 34, _, _ => rfl
  | 35, _, _ => rfl
  | 36, _, _ => rfl
  | 37, _, _ => rfl
  | 38, _, _ => rfl
  | 39, _, _ => rfl
  | 40, _, _ => rfl
  | 41, _, _ => rfl
  | 42, _, _ => rfl
  | 43, _, _ => rfl
  | 44, _, _ => rfl
  | 45, _, _ => rfl
  | 46, _, _ => rfl
  | 47, _, _ => rfl
  | 48, _, _ => rfl
  | 49, _, _ => rfl
  | 50, _, _ => rfl
  | 51, _, _ => rfl
  | 52, _, _ => rfl
  | 53, _, _ => rfl
  | n + 54, _, _ => rfl
theorem y_mv53 {hid : Bool} {X : g_F} {cc : ByteArray} {own : String} {ret : Option FieldType} {ad : Nat → Nat → Nat} {σ σ1 : g_S} {s : Nat} {w : Nat × Nat} {pc : Nat} {vs : List (Nat × Value)} {st : List Value} (C : g_M gCl X cc own ret) (e : σ1 = g_mv σ s) (hg : s < 2 ∧ (σ.2.2 0 0 19) ≠ s + 1 ∧ (σ.2.2 53 0 200) = 1 ∧ (σ.2.2 53 0 201) = s) (kk : g_Y gCl X (gC hid) (g_ua ad 26 s (ad 53 0)) σ1 w pc vs st) : g_Y gCl X (gC hid) ad σ w pc vs st := by
  subst e
  obtain ⟨hs, h0, h1, h2⟩ := hg
  have hc53 : g_cell (gC hid) (g_dA X) ad σ 53 0 = .inl (.inr (7, gC_f53 ad 0 (σ.1 53 0) (σ.2.1 53 0) (σ.2.2 53 0))) := if_neg (by rw [h1]; decide)
  refine y_move (k := 53) (u := 0) (k1 := 26) (u1 := s) nC_53_0 (by omega) (by rw [hc53]; trivial) ?_ ?_ ?_ kk
  · have r : (g_mv σ s).2.2 53 0 200 = 0 := by rw [show (g_mv σ s).2.2 53 0 = g_updN (σ.2.2 53 0) 200 0 from g_up_s (g_up σ.2.2 26 s (σ.2.2 53 0)) 53 0 (g_updN (σ.2.2 53 0) 200 0)]; rfl
    exact if_pos (e := Sum.inl (Sum.inr (7, gC_f53 (g_ua ad 26 s (ad 53 0)) 0 ((g_mv σ s).1 53 0) ((g_mv σ s).2.1 53 0) ((g_mv σ s).2.2 53 0)))) r
  · intro a H ha
    rw [hc53] at ha
    have hf : gC_f26 (g_ua ad 26 s (ad 53 0)) s (σ.1 53 0) (σ.2.1 53 0) (σ.2.2 53 0) = gC_f53 ad 0 (σ.1 53 0) (σ.2.1 53 0) (σ.2.2 53 0) := by
      simp only [gC_f26, gC_f53, h2]
      first | done | rfl
    have r1 : (g_mv σ s).1 26 s = σ.1 53 0 := g_up_s _ _ _ _
    have r2 : (g_mv σ s).2.1 26 s = σ.2.1 53 0 := g_up_s _ _ _ _
    have r3 : (g_mv σ s).2.2 26 s = σ.2.2 53 0 := (g_up_n (f := g_up σ.2.2 26 s (σ.2.2 53 0)) (g := g_updN (σ.2.2 53 0) 200 0) (k := 53) (u := 0) (k' := 26) (u' := s) (by omega)).trans (g_up_s _ _ _ _)
    cases hid
    · have hc : g_cell (gC false) (g_dA X) (g_ua ad 26 s (ad 53 0)) (g_mv σ s) 26 s = .inl (.inr (7, gC_f26 (g_ua ad 26 s (ad 53 0)) s ((g_mv σ s).1 26 s) ((g_mv σ s).2.1 26 s) ((g_mv σ s).2.2 26 s))) := if_neg (by rw [r3, h1]; decide)
      rw [hc, r1, r2, r3, hf]
      exact ha
    · have hc : g_cell (gC true) (g_dA X) (g_ua ad 26 s (ad 53 0)) (g_mv σ s) 26 s = .inr (.inl fun z => .inr (7, gC_h26 (g_ua ad 26 s (ad 53 0)) s ((g_mv σ s).1 26 s) ((g_mv σ s).2.2 26 s) z)) := if_neg (by rw [r3, h1]; decide)
      rw [hc, r1, r3]
      refine ⟨(σ.1 53 0, σ.2.2 53 0), ?_⟩
      show va_at (g_D X) gCl (a, .inr (7, gC_f26 (g_ua ad 26 s (ad 53 0)) s (σ.1 53 0) (σ.2.1 53 0) (σ.2.2 53 0))) H
      rw [hf]
      exact ha
  · intro k' u' hk1 hk2 hu'
    have e1 : (g_mv σ s).1 k' u' = σ.1 k' u' := g_up_n hk2
    have e2 : (g_mv σ s).2.1 k' u' = σ.2.1 k' u' := g_up_n hk2
    have e3 : (g_mv σ s).2.2 k' u' = σ.2.2 k' u' := (g_up_n hk1).trans (g_up_n hk2)
    show gCcell hid (g_dA X) (g_ua ad 26 s (ad 53 0)) k' u' _ _ _ = gCcell hid (g_dA X) ad k' u' _ _ _
    rw [e1, e2, e3]
    exact ip_26 k' u' _ _ _ hk2 (fun a => by subst a; have z : u' < 1 := hu'; have z : u' = 0 := (by omega); subst z; exact h0)
theorem aa_C_24_n {hid : Bool} {X : g_F} {own : String} {cc : ByteArray} {ret : Option FieldType} {ad : Nat → Nat → Nat} {σ : g_S} {w : Nat × Nat} {pc : Nat} {vs : List (Nat × Value)} {st : List Value} {i : Int32} (C : g_M gCl X cc own ret) (hi : g_in i 3 = true) (hz : σ.2.2 24 0 i.toNatClampNeg = 0) (hd : decode cc pc = .ok (.aaload, 1)) (k : g_Y gCl X (gC hid) ad σ w (pc + 1) vs (.null :: st)) : g_Y gCl X (gC hid) ad σ w pc vs (.int i :: .ref (ad 24 0) :: st) := y_aald C nC_24_0 8 rfl rfl rfl (by have h1 : i.toNatClampNeg < 3 := Nat.not_le.mp fun q => g_in_vp hi (Or.inr q); show va_rf (ite _ _ _) = _; rw [if_pos h1, if_pos hz]; rfl) hi hd k
theorem aa_C_24_r {hid : Bool} {X : g_F} {own : String} {cc : ByteArray} {ret : Option FieldType} {ad : Nat → Nat → Nat} {σ : g_S} {w : Nat × Nat} {pc : Nat} {vs : List (Nat × Value)} {st : List Value} {i : Int32} (C : g_M gCl X cc own ret) (hi : g_in i 3 = true) (hz : ¬ σ.2.2 24 0 i.toNatClampNeg = 0) (hd : decode cc pc = .ok (.aaload, 1)) (k : g_Y gCl X (gC hid) ad σ w (pc + 1) vs (.ref (ad 25 (σ.2.2 24 0 i.toNatClampNeg - 1)) :: st)) : g_Y gCl X (gC hid) ad σ w pc vs (.int i :: .ref (ad 24 0) :: st) := y_aald C nC_24_0 8 rfl rfl rfl (by have h1 : i.toNatClampNeg < 3 := Nat.not_le.mp fun q => g_in_vp hi (Or.inr q); show va_rf (ite _ _ _) = _; rw [if_pos h1, if_neg hz]; rfl) hi hd k
theorem y_ast24 {hid : Bool} {X : g_F} {own : String} {cc : ByteArray} {ret : Option FieldType} {ad : Nat → Nat → Nat} {σ : g_S} {w : Nat × Nat} {pc : Nat} {vs : List (Nat × Value)} {st : List Value} {σ1 : g_S} {i : Int32} {u : Nat} (C : g_M gCl X cc own ret) (hu : u < g_n (gC hid) 25) (e : σ1 = g_sR σ 24 0 i.toNatClampNeg (u + 1)) (hi : g_in i 3 = true ∧ ¬ σ.2.2 25 u 200 = 0) (hd : decode cc pc = .ok (.aastore, 1))
    (kk : g_Y gCl X (gC hid) ad σ1 w (pc + 1) vs st) : g_Y gCl X (gC hid) ad σ w pc vs (.ref (ad 25 u) :: .int i :: .ref (ad 24 0) :: st) := by
  subst e
  intro H locs ls hW hS hl
  obtain ⟨ws, hP, hD, hat, -⟩ := g_adapt hW
  obtain ⟨q1, hq1, back⟩ := hat 24 0 _ nC_24_0 rfl
  obtain ⟨qk, hqk, -⟩ := hat 25 u _ hu (if_neg hi.2)
  refine va_astq C.1 C.2.1 C.2.2.2.2.2.2.2.2.1 hP hD hS q1 8 qk 9 (r := (RX11, TX11, 3)) hq1 rfl hqk rfl (g_in_vp hi.1) hd (fun H1 locs1 hP1 _ hS1 => ?_)
  refine kk H1 locs1 ls (back _ _ _ hP1 (fun k' u' hk _ => by
    obtain ⟨e1, e2, e3⟩ := g_sR_n (σ := σ) (j := i.toNatClampNeg) (v := u + 1) k' u' hk
    show gCcell hid (g_dA X) ad k' u' _ _ _ = gCcell hid (g_dA X) ad k' u' _ _ _
    rw [e1, e2, e3]) ?_) hS1 hl
  show Sum.inl (Sum.inl (g_dA X 8, 3, Sum.inr (Sum.inr (Sum.inr (Sum.inr fun j => if j < 3 then (if (g_sR σ 24 0 _ _).2.2 24 0 j = 0 then none else some (ad 25 ((g_sR σ 24 0 _ _).2.2 24 0 j - 1))) else none))))) = _
  rw [g_sR_s]
  have h1 : i.toNatClampNeg < 3 := Nat.not_le.mp fun q => g_in_vp hi.1 (Or.inr q)
  congr 8
  funext j
  simp only [g_updN, va_up]
  split
  · split
    · rename_i h3; rw [if_neg (by omega)]; rfl
    · rfl
  · rw [if_neg (by omega)]
theorem as_C_11 {hid : Bool} {X : g_F} {own : String} {cc : ByteArray} {ret : Option FieldType} {ad : Nat → Nat → Nat} {σ : g_S} {w : Nat × Nat} {pc : Nat} {vs : List (Nat × Value)} {st : List Value} {u : Nat} {i x : Int32} {σ1 : g_S} (C : g_M gCl X cc own ret) (hu : u < g_n (gC hid) 11) (e : σ1 = g_sI σ 11 u i.toNatClampNeg (vp_nar .byte x)) (hi : g_in i (σ.2.2 11 u 0) = true) (hd : decode cc pc = .ok (.bastore, 1)) (k : g_Y gCl X (gC hid) ad σ1 w (pc + 1) vs st) : g_Y gCl X (gC hid) ad σ w pc vs (.int x :: .int i :: .ref (ad 11 u) :: st) := by
  subst e
  have hne : ¬ σ.2.2 11 u 0 = 0 := fun z => by rw [z] at hi; have := of_decide_eq_true hi; omega
  exact y_bast C hu (n := σ.2.2 11 u 0) (f := σ.1 11 u) (if_neg hne) g_sI_n (by show g_opt (σ.2.2 11 u 0) (Sum.inl (Sum.inl (_, _, Sum.inl ((g_sI σ 11 u _ _).1 11 u)))) = _; rw [g_sI_s]; exact if_neg hne) hi hd k
theorem c48_1 {hid : Bool} {dA : Nat → ClassId} {ad : Nat → Nat → Nat} {σ : g_S} (h : ¬ (σ.2.2 48 0 200) = 0 ∧ (σ.2.2 48 0 1) = 1) : g_cell (gC hid) dA ad σ 48 0 = .inl (.inl (dA 3, σ.2.2 48 0 0, .inl (σ.1 48 0))) := by
  show g_opt (σ.2.2 48 0 200) _ = _
  unfold g_opt
  rw [if_neg h.1, h.2]
  rfl
theorem al_C_48_1 {hid : Bool} {X : g_F} {own : String} {cc : ByteArray} {ret : Option FieldType} {ad : Nat → Nat → Nat} {σ : g_S} {w : Nat × Nat} {pc : Nat} {vs : List (Nat × Value)} {st : List Value} {i : Int32} (C : g_M gCl X cc own ret) (hi : g_in i (σ.2.2 48 0 0) = true ∧ ¬ (σ.2.2 48 0 200) = 0 ∧ (σ.2.2 48 0 1) = 1) (hd : decode cc pc = .ok (.baload, 1)) (k : g_Y gCl X (gC hid) ad σ w (pc + 1) vs (.int (σ.1 48 0 i.toNatClampNeg) :: st)) : g_Y gCl X (gC hid) ad σ w pc vs (.int i :: .ref (ad 48 0) :: st) := y_bald C nC_48_0 (c48_1 hi.2) hi.1 hd k
theorem as_C_48_1 {hid : Bool} {X : g_F} {own : String} {cc : ByteArray} {ret : Option FieldType} {ad : Nat → Nat → Nat} {σ : g_S} {w : Nat × Nat} {pc : Nat} {vs : List (Nat × Value)} {st : List Value} {i x : Int32} {σ1 : g_S} (C : g_M gCl X cc own ret) (e : σ1 = g_sI σ 48 0 i.toNatClampNeg (vp_nar .byte x)) (hi : g_in i (σ.2.2 48 0 0) = true ∧ ¬ (σ.2.2 48 0 200) = 0 ∧ (σ.2.2 48 0 1) = 1) (hd : decode cc pc = .ok (.bastore, 1)) (k : g_Y gCl X (gC hid) ad σ1 w (pc + 1) vs st) : g_Y gCl X (gC hid) ad σ w pc vs (.int x :: .int i :: .ref (ad 48 0) :: st) := by
  subst e
  exact y_bast C nC_48_0 (c48_1 hi.2) g_sI_n (by rw [c48_1 (σ := g_sI σ 48 0 i.toNatClampNeg (vp_nar .byte x)) hi.2]; show Sum.inl (Sum.inl (_, _, Sum.inl ((g_sI σ 48 0 _ _).1 48 0))) = _; rw [g_sI_s]; rfl) hi.1 hd k
theorem c48_2 {hid : Bool} {dA : Nat → ClassId} {ad : Nat → Nat → Nat} {σ : g_S} (h : ¬ (σ.2.2 48 0 200) = 0 ∧ (σ.2.2 48 0 1) = 2) : g_cell (gC hid) dA ad σ 48 0 = .inl (.inl (dA 4, σ.2.2 48 0 0, .inl (σ.1 48 0))) := by
  show g_opt (σ.2.2 48 0 200) _ = _
  unfold g_opt
  rw [if_neg h.1, h.2]
  rfl
theorem al_C_48_2 {hid : Bool} {X : g_F} {own : String} {cc : ByteArray} {ret : Option FieldType} {ad : Nat → Nat → Nat} {σ : g_S} {w : Nat × Nat} {pc : Nat} {vs : List (Nat × Value)} {st : List Value} {i : Int32} (C : g_M gCl X cc own ret) (hi : g_in i (σ.2.2 48 0 0) = true ∧ ¬ (σ.2.2 48 0 200) = 0 ∧ (σ.2.2 48 0 1) = 2) (hd : decode cc pc = .ok (.saload, 1)) (k : g_Y gCl X (gC hid) ad σ w (pc + 1) vs (.int (σ.1 48 0 i.toNatClampNeg) :: st)) : g_Y gCl X (gC hid) ad σ w pc vs (.int i :: .ref (ad 48 0) :: st) := y_sald C nC_48_0 (c48_2 hi.2) hi.1 hd k
theorem as_C_48_2 {hid : Bool} {X : g_F} {own : String} {cc : ByteArray} {ret : Option FieldType} {ad : Nat → Nat → Nat} {σ : g_S} {w : Nat × Nat} {pc : Nat} {vs : List (Nat × Value)} {st : List Value} {i x : Int32} {σ1 : g_S} (C : g_M gCl X cc own ret) (e : σ1 = g_sI σ 48 0 i.toNatClampNeg (vp_nar .short x)) (hi : g_in i (σ.2.2 48 0 0) = true ∧ ¬ (σ.2.2 48 0 200) = 0 ∧ (σ.2.2 48 0 1) = 2) (hd : decode cc pc = .ok (.sastore, 1)) (k : g_Y gCl X (gC hid) ad σ1 w (pc + 1) vs st) : g_Y gCl X (gC hid) ad σ w pc vs (.int x :: .int i :: .ref (ad 48 0) :: st) := by
  subst e
  exact y_sast C nC_48_0 (c48_2 hi.2) g_sI_n (by rw [c48_2 (σ := g_sI σ 48 0 i.toNatClampNeg (vp_nar .short x)) hi.2]; show Sum.inl (Sum.inl (_, _, Sum.inl ((g_sI σ 48 0 _ _).1 48 0))) = _; rw [g_sI_s]; rfl) hi.1 hd k
theorem c48_0 {hid : Bool} {dA : Nat → ClassId} {ad : Nat → Nat → Nat} {σ : g_S} (h : ¬ (σ.2.2 48 0 200) = 0 ∧ (σ.2.2 48 0 1) = 0) : g_cell (gC hid) dA ad σ 48 0 = .inl (.inl (dA 0, σ.2.2 48 0 0, .inl (σ.1 48 0))) := by
  show g_opt (σ.2.2 48 0 200) _ = _
  unfold g_opt
  rw [if_neg h.1, h.2]
  rfl
theorem al_C_48_0 {hid : Bool} {X : g_F} {own : String} {cc : ByteArray} {ret : Option FieldType} {ad : Nat → Nat → Nat} {σ : g_S} {w : Nat × Nat} {pc : Nat} {vs : List (Nat × Value)} {st : List Value} {i : Int32} (C : g_M gCl X cc own ret) (hi : g_in i (σ.2.2 48 0 0) = true ∧ ¬ (σ.2.2 48 0 200) = 0 ∧ (σ.2.2 48 0 1) = 0) (hd : decode cc pc = .ok (.iaload, 1)) (k : g_Y gCl X (gC hid) ad σ w (pc + 1) vs (.int (σ.1 48 0 i.toNatClampNeg) :: st)) : g_Y gCl X (gC hid) ad σ w pc vs (.int i :: .ref (ad 48 0) :: st) := y_iald C nC_48_0 (c48_0 hi.2) hi.1 hd k
theorem as_C_48_0 {hid : Bool} {X : g_F} {own : String} {cc : ByteArray} {ret : Option FieldType} {ad : Nat → Nat → Nat} {σ : g_S} {w : Nat × Nat} {pc : Nat} {vs : List (Nat × Value)} {st : List Value} {i x : Int32} {σ1 : g_S} (C : g_M gCl X cc own ret) (e : σ1 = g_sI σ 48 0 i.toNatClampNeg x) (hi : g_in i (σ.2.2 48 0 0) = true ∧ ¬ (σ.2.2 48 0 200) = 0 ∧ (σ.2.2 48 0 1) = 0) (hd : decode cc pc = .ok (.iastore, 1)) (k : g_Y gCl X (gC hid) ad σ1 w (pc + 1) vs st) : g_Y gCl X (gC hid) ad σ w pc vs (.int x :: .int i :: .ref (ad 48 0) :: st) := by
  subst e
  exact y_iast C nC_48_0 (c48_0 hi.2) g_sI_n (by rw [c48_0 (σ := g_sI σ 48 0 i.toNatClampNeg x) hi.2]; show Sum.inl (Sum.inl (_, _, Sum.inl ((g_sI σ 48 0 _ _).1 48 0))) = _; rw [g_sI_s]; rfl) hi.1 hd k
theorem y_throwN {hid : Bool} {X : g_F} {cc : ByteArray} {ret : Option FieldType} {ad : Nat → Nat → Nat} {σ : g_S} {w : Nat × Nat} {pc : Nat} {vs : List (Nat × Value)} {st : List Value} {Z1 : Option Value → (Nat → Nat → Nat) → g_S → Prop} {Z2 : String → Nat → (Nat → Nat → Nat) → g_S → Prop} (C : g_M gCl X cc RX1 ret) (hlt : (g_l X).stackTraces = false) (hT : (g_c X).exceptionTable.toList = []) (hQ : g_MQG gCl X (gC hid) Z1 Z2 = g_Q X) (hz : ∀ q, Z2 "java/util/NoSuchElementException" q ad σ) (hR : 10 ≤ (g_R X).frames ∧ 400 ≤ (g_R X).locals) (hf : w.1 + 1 ≤ (g_R X).cells ∧ w.2 + 6 ≤ (g_R X).slots) (hw : w.1 + 1 ≤ g_mc X ∧ w.2 + 6 ≤ g_ms X) (hcat : (st.map fun v => v.category).sum ≤ 8)
    (d0 : decode cc pc = .ok (.new 253, 3)) (d3 : decode cc (pc + 3) = .ok (.dup, 1)) (d4 : decode cc (pc + 4) = .ok (.invokespecial 255, 3)) (d7 : decode cc (pc + 7) = .ok (.athrow, 1)) : g_Y gCl X (gC hid) ad σ w pc vs st := by
  intro H locs ls hW hS hl
  rw [← hQ]
  exact vx_throw0 (names := ["java/lang/RuntimeException", "java/lang/Exception"]) C.1 C.2.1 hlt C.2.2.2.1 (by decide +kernel) (by decide +kernel) (C.2.2.2.2.1 _ q1245) (C.2.2.2.2.1 _ q129) (fun w hw => g_ownN C w (List.mem_filter.mp hw).1) (by decide +kernel) (g_zU C) (g_zN C) hS (hl.1.trans C.2.2.1.symm) d0 d3 d4 d7 (by rw [hT]; intro x hx; cases hx) (by have := hR.1; show 2 + 3 < _; omega) (by have := hR.2; show _ + (13 * (2 + 1) + 42) ≤ _; omega) hf.1 hf.2 C.2.2.2.2.2.2.1 (fun q9 t h1 h2 h3 => ⟨(), trivial, ⟨ad, σ, hz q9, hW.kept (fun q hq _ => h3 q hq)⟩, ⟨Nat.le_trans hS.1 h2, fun q k1 k2 => (h3 q (Nat.lt_of_lt_of_le k1 hS.1)).trans (hS.2.1 q k1 k2)⟩⟩) hS.2.2 hw.1 hw.2

/-! ===== a table of eight rows of three ===== -/
def g_mt (σ : g_S) : g_S := (fun k u => if k = 42 then fun _ => 0 else σ.1 k u, σ.2.1, fun k u => if (k = 41 ∧ u = 0) ∨ k = 42 then (fun j => if j = 200 then 1 else 0) else σ.2.2 k u)
theorem ip_um {hid : Bool} {dA : Nat → ClassId} {ad : Nat → Nat → Nat} {q : Nat} (k' u' : Nat) (I : Nat → Int32) (L : Nat → Int64) (R : Nat → Nat) (hu : u' < g_n (gC hid) k') (h1 : ¬ (k' = 41 ∧ u' = 0)) (h2 : k' ≠ 42) : gCcell hid dA (g_um ad 41 42 q) k' u' I L R = gCcell hid dA ad k' u' I L R := by
  match k', hu, h1, h2 with
  | 0, _, _, _ => rfl
  | 1, _, _, _ => rfl
  | 2, _, _, _ => rfl
  | 3, _, _, _ => rfl
  | 4, _, _, _ => rfl
  | 5, _, _, _ => rfl
  | 6, _, _, _ => rfl
  | 7, _, _, _ => rfl
  | 8, _, _, _ => rfl
  | 9, _, _, _ => rfl
  | 10, _, _, _ => rfl
  | 11, _, _, _ => rfl
  | 12, _, _, _ => rfl
  | 13, _, _, _ => rfl
  | 14, _, _, _ => rfl
  | 15, _, _, _ => rfl
  | 16, _, _, _ => rfl
  | 17, _, _, _ => rfl
  | 18, _, _, _ => rfl
  | 19, _, _, _ => rfl
  | 20, _, _, _ => rfl
  | 21, _, _, _ => rfl
  | 22, _, _, _ => rfl
  | 23, _, _, _ => rfl
  | 24, _, _, _ => rfl
  | 25, _, _, _ => rfl
  | 26, _, _, _ => cases hid <;> rfl
  | 27, _, _, _ => rfl
  | 28, _, _, _ => rfl
  | 29, _, _, _ => rfl
  | 30, _, _, _ => rfl
  | 31, _, _, _ => rfl
  | 32, _, _, _ => rfl
  | 33, _, _, _ => rfl
  | 34, _, _, _ => rfl
  | 35, _, _, _ => rfl
  | 36, _, _, _ => rfl
  | 37, _, _, _ => rfl
  | 38, _, _, _ => rfl
  | 39, _, _, _ => rfl
  | 40, _, _, _ => rfl
  | 41, hu, h1, _ => exact absurd ⟨rfl, by have z : u' < 1 := hu; omega⟩ h1
  | 42, _, _, h2 => exact absurd rfl h2
  | 43, _, _, _ => rfl
  | 44, _, _, _ => rfl
  | 45, _, _, _ => rfl
  | 46, _, _, _ => rfl
  | 47, _, _, _ => rfl
  | 48, _, _, _ => rfl
  | 49, _, _, _ => rfl
  | 50, _, _, _ => rfl
  | 51, _, _, _ => rfl
  | 52, _, _, _ => rfl
  | 53, _, _, _ => rfl
  | n + 54, _, _, _ => rfl
theorem y_mnew42 {hid : Bool} {X : g_F} {cc : ByteArray} {ret : Option FieldType} {ad : Nat → Nat → Nat} {σ : g_S} {w : Nat × Nat} {pc : Nat} {vs : List (Nat × Value)} {st : List Value} {own : String} {σ1 : g_S} {index : Nat} (C : g_M gCl X cc own ret) (e : σ1 = g_mt σ) (qc : Cond.classLink own index "[[I" ∈ lw_all) (hf : w.1 + 9 ≤ (g_R X).cells ∧ w.2 + 32 ≤ (g_R X).slots) (hd : decode cc pc = .ok (.multianewarray index 2, 4)) (kk : ∀ q, g_Y gCl X (gC hid) (g_um ad 41 42 q) σ1 (w.1 + 9, w.2 + 32) (pc + 4) vs (.ref q :: st)) : g_Y gCl X (gC hid) ad σ w pc vs (.int 3 :: .int 8 :: st) := by
  subst e
  refine y_mnew (σ1 := g_mt σ) (N := 8) (M := 3) C 41 42 (by decide) rfl qc (by decide) (by decide) rfl rfl (by decide) (by decide) hf hd (fun q k' u' h1 h2 hu => ?_) rfl (fun q => rfl) (fun q u hu => ?_) kk
  · have e1 : (g_mt σ).1 k' u' = σ.1 k' u' := if_neg h2
    have e3 : (g_mt σ).2.2 k' u' = σ.2.2 k' u' := if_neg (fun z => z.elim h1 h2)
    show gCcell hid (g_dA X) (g_um ad 41 42 q) k' u' ((g_mt σ).1 k' u') (σ.2.1 k' u') ((g_mt σ).2.2 k' u') = gCcell hid (g_dA X) ad k' u' _ _ _
    rw [e1, e3]
    exact ip_um k' u' _ _ _ hu h1 h2
  · have e1 : (g_mt σ).1 42 u = fun _ => 0 := rfl
    have e3 : (g_mt σ).2.2 42 u = fun j => if j = 200 then 1 else 0 := rfl
    show gCcell hid (g_dA X) (g_um ad 41 42 q) 42 u ((g_mt σ).1 42 u) (σ.2.1 42 u) ((g_mt σ).2.2 42 u) = _
    rw [e1, e3]
    rfl
theorem aa_C_41 {hid : Bool} {X : g_F} {cc : ByteArray} {ret : Option FieldType} {ad : Nat → Nat → Nat} {σ : g_S} {w : Nat × Nat} {pc : Nat} {vs : List (Nat × Value)} {st : List Value} {own : String} {i : Int32} (C : g_M gCl X cc own ret) (hi : g_in i 8 = true ∧ ¬ (σ.2.2 41 0 200) = 0) (hd : decode cc pc = .ok (.aaload, 1)) (k : g_Y gCl X (gC hid) ad σ w (pc + 1) vs (.ref (ad 42 i.toNatClampNeg) :: st)) : g_Y gCl X (gC hid) ad σ w pc vs (.int i :: .ref (ad 41 0) :: st) := y_aald C nC_41_0 7 (if_neg hi.2) rfl rfl rfl hi.1 hd k
theorem ux_C_41 {hid : Bool} {i : Int32} {σ : g_S} (hi : g_in i 8 = true ∧ ¬ (σ.2.2 41 0 200) = 0) : i.toNatClampNeg < g_n (gC hid) 42 := Nat.not_le.mp fun q => g_in_vp hi.1 (Or.inr q)

abbrev g_cp (sp dp n : Int32) (n0 n1 : Nat) : Prop := 0 ≤ sp.toInt ∧ 0 ≤ dp.toInt ∧ 0 ≤ n.toInt ∧ sp.toInt + n.toInt ≤ n0 ∧ dp.toInt + n.toInt ≤ n1
theorem g_nn {z : Int32} (h : 0 ≤ z.toInt) : ¬ z < 0 := fun q => by
  have := Int32.lt_iff_toInt_lt.mp q
  have e : (0 : Int32).toInt = 0 := by decide
  omega
theorem g_cpn {a n : Int32} {m : Nat} (h1 : 0 ≤ a.toInt) (h2 : 0 ≤ n.toInt) (h : a.toInt + n.toInt ≤ m) : a.toNatClampNeg + n.toNatClampNeg ≤ m := by
  show a.toInt.toNat + n.toInt.toNat ≤ m
  omega
theorem y_copyi {cl : List vw_C} {X : g_F} {cc : ByteArray} {own : String} {ret : Option FieldType} {LM : g_L} {ad : Nat → Nat → Nat} {σ σ1 : g_S} {w : Nat × Nat} {pc : Nat} {vs : List (Nat × Value)} {st : List Value} {k0 u0 k u n0 n1 index : Nat} {f g : Nat → Int32} {sp dp n : Int32} (C : g_M cl X cc own ret)
    (hu0 : u0 < g_n LM k0) (hu : u < g_n LM k) (hc0 : g_cell LM (g_dA X) ad σ k0 u0 = .inl (.inl (g_dA X 0, n0, .inl f))) (hc1 : g_cell LM (g_dA X) ad σ k u = .inl (.inl (g_dA X 0, n1, .inl g))) (hc2 : ∀ g', g_cell LM (g_dA X) ad (g_sA σ k u g') k u = .inl (.inl (g_dA X 0, n1, .inl g')))
    (e : σ1 = g_sA σ k u (va_cpy f g sp.toNatClampNeg dp.toNatClampNeg n.toNatClampNeg)) (hg : g_cp sp dp n n0 n1) (q : Cond.methodLink own index arraycopyName ∈ lw_all) (hR : 1 ≤ (g_R X).frames ∧ 40 ≤ (g_R X).locals) (hcat : (st.map fun v => v.category).sum ≤ 8) (hd : decode cc pc = .ok (.invokestatic index, 3))
    (kk : g_Y cl X LM ad σ1 w (pc + 3) vs st) : g_Y cl X LM ad σ w pc vs (.int n :: .int dp :: .ref (ad k u) :: .int sp :: .ref (ad k0 u0) :: st) := by
  subst e
  intro H locs ls hW hS hl
  obtain ⟨ws, hP, hD, hat, -⟩ := g_adapt hW
  obtain ⟨q0, hq0, -⟩ := hat k0 u0 _ hu0 hc0
  obtain ⟨q1, hq1, back⟩ := hat k u _ hu hc1
  refine va_copyi C.1 C.2.1 (C.2.2.1.trans hl.1.symm) C.2.2.2.1 (C.2.2.2.2.1 _ q) (C.2.2.2.2.1 _ q755) (C.2.2.2.2.1 _ q754) (C.2.2.2.2.1 _ q131) C.2.2.2.2.2.2.2.2.1 hP hD hS q0 q1 0 0 hq0 hq1 rfl rfl rfl (g_nn hg.1) (g_nn hg.2.1) (g_nn hg.2.2.1) (g_cpn hg.1 hg.2.2.1 hg.2.2.2.1) (g_cpn hg.2.1 hg.2.2.1 hg.2.2.2.2) (fun _ _ => rfl) hR.1 (by have h7 : nativeFrameWords "java/lang/System" "arraycopy" 5 = 7 := (by decide +kernel); rw [h7]; exact Nat.le_trans (Nat.add_le_add_right hcat _) (Nat.le_trans (by decide) hR.2)) hd (fun H1 locs1 hP1 _ hS1 => ?_)
  exact kk H1 locs1 ls (back _ _ _ hP1 (fun k' u' hk _ => by
    obtain ⟨e1, e2, e3⟩ := g_sA_n (σ := σ) (g := va_cpy f g sp.toNatClampNeg dp.toNatClampNeg n.toNatClampNeg) k' u' hk
    show LM.1 (g_dA X) ad k' u' _ _ _ = LM.1 (g_dA X) ad k' u' _ _ _
    rw [e1, e2, e3]) (hc2 _)) hS1 hl
theorem y_putX {cl : List vw_C} {X : g_F} {cc : ByteArray} {own : String} {ret : Option FieldType} {LM : g_L} {ad : Nat → Nat → Nat} {σ : g_S} {w : Nat × Nat} {pc : Nat} {vs : List (Nat × Value)} {st : List Value} (C : g_M cl X cc own ret) {C1 ref : String} {T : u_T} {N ci index : Nat} {fs : List Value} {v : Value} {σ' : g_S} {k u : Nat} (hu : u < g_n LM k)
    (hin : ∀ z ∈ u_ws C1 T N, z ∈ lw_all) (hc : cl[ci]? = some (C1, T, N)) (hcell : g_cell LM (g_dA X) ad σ k u = .inl (.inr (ci, fs))) (ty0 : Nat → FieldType) (hty : ∀ k, k < N → parseFieldDescriptor (T k).2.2.1 = some (ty0 k)) (j : Nat) (hj : j < N) (hnm : ∀ b, b < N → b ≠ j → (T b).2.1 ≠ (T j).2.1) (href : (T j).1 = ref) (q : Cond.fieldLink own index ref (T j).2.1 (T j).2.2.1 ∈ lw_all) (hfin : (T j).2.2.2 = false) {ty : FieldType} (hd1 : parseFieldDescriptor (T j).2.2.1 = some ty) (hn : narrow ty v = v) (hfit : fits ty v = true) (hlen : j < fs.length) (ho : g_oth σ σ' k u) (hcell2 : g_cell LM (g_dA X) ad σ' k u = .inl (.inr (ci, fs.set j v))) (hd : decode cc pc = .ok (.putfield index, 3)) (kk : g_Y cl X LM ad σ' w (pc + 3) vs st) : g_Y cl X LM ad σ w pc vs (v :: .ref (ad k u) :: st) := by
  intro H locs ls hW hS hl
  have hts := C.2.2.2.2.1
  have hK : va_K (g_D X) cl (g_tys (g_dA X)) (g_s X) := C.2.2.2.2.2.2.2.2.1
  obtain ⟨ws, q0, hP, hD, hq, back⟩ := g_one hW hu hcell
  obtain ⟨r, h1, cell, q1, q2, q3, q4⟩ := hP q0 _ hq
  have hr : r = (C1, T, N) := Option.some.inj (h1.symm.trans hc)
  subst hr
  obtain ⟨hSl, hfc, kC, hkC, hkind⟩ := hK.1 ci _ hc
  obtain ⟨cf, kf, fi, f, hi, hsl⟩ := hSl j hj
  have hlay := hts _ (hin _ (u_in_lay hj))
  unfold u_lay at hlay
  rw [if_neg (by rw [hfin]; decide)] at hlay
  have hst := (u_facts hfc hkC (u_lays hts hin hj) hi).1
  have h6 := u_store hfc hkC hkind hlay hi hd1 hn hfit
  have hap : ∀ b, b < N → b ≠ j → (g_D X).2 ci j ≠ (g_D X).2 ci b := by
    intro b hb hne
    obtain ⟨_, _, _, fb, hib, eb⟩ := hSl b hb
    rw [← hsl, ← eb]
    refine u_apart (u_lays hts hin hj) (u_lays hts hin hb) hi hib ?_
    rw [(State.fieldFound?_type hi (hty j hj)).1, (State.fieldFound?_type hib (hty b hb)).1]
    exact fun z => hnm b hb hne z.symm
  refine W.putK C.1 C.2.1 (f := f) ⟨C.2.2.2.1, hts _ q, ⟨_, _, _, (by rw [← href]; exact hi)⟩, hst⟩ (by rw [q2]; exact h6) q1 q3 (by rw [hsl]; exact k2_hasslot (q4 j hj)) rfl rfl hd fun H' e1 e2 e3 => ?_
  rw [hsl] at e1 ⊢
  have hset : ∀ b, b < N → (cell.setSlot ((g_D X).2 ci j) v).slots[(g_D X).2 ci b]? = some (updV (vp_V fs) j v b) := by
    intro b hb
    by_cases hbj : b = j
    · subst hbj
      have hl1 := k2_hasslot (q4 b hb)
      simp [Cell.setSlot, updV, hl1]
    · rw [slot_ne cell v (hap b hb hbj), q4 b hb]
      simp [updV, hbj]
  exact kk H' _ ls (back _ _ _ ho hcell2 (hP.set hD hq ⟨_, hc, t_OB.to (V := updV (vp_V fs) j v) ⟨_, e1, q2, q3, hset⟩ (fun b _ => vp_updV_set hlen v b)⟩ e3)) (hS.put e2 e3 (hD.2 q0 _ hq)) hl
/-! the two static tables -/
def gTbn : Nat → String := fun i => match i with
  | 0 => "DOWN"
  | _ => "OVER"
def gTbl : Nat → List Int32 := fun i => match i with
  | 0 => [-1, -1, 0, 1, 1, 1, 0, -1]
  | _ => [0, 1, 1, 1, 0, -1, -1, -1]
noncomputable def g_tb (s0 : State) (b0 i : Nat) : Nat := match (Term.static "BonnetValley" (gTbn i) "[I").eval #[Value.ref b0] s0 none [] s0 with
  | some (.ref a) => a
  | _ => 0
theorem g_tbE {s0 : State} {b0 i a : Nat} (h : (Term.static "BonnetValley" (gTbn i) "[I").eval #[Value.ref b0] s0 none [] s0 = some (.ref a)) : g_tb s0 b0 i = a := by unfold g_tb; rw [h]
set_option maxHeartbeats 4000000 in
theorem g_tbs {s0 : State} {b0 : Nat} (h : g_R0 s0 b0) {i : Nat} (hi : i < 2) : (Term.static "BonnetValley" (gTbn i) "[I").eval #[Value.ref b0] s0 none [] s0 = some (.ref (g_tb s0 b0 i)) ∧ va_T .int (g_tb s0 b0 i) 8 (fun j => .int ((gTbl i).getD j 0)) (fun q => s0.heap.size ≤ q) s0 s0.heap := by
  have hs := flat_of_before _ h.2
  have key : ∃ t : Nat, (Term.static "BonnetValley" (gTbn i) "[I").eval #[Value.ref b0] s0 none [] s0 = some (.ref t) ∧ va_T .int t 8 (fun j => .int ((gTbl i).getD j 0)) (fun q => s0.heap.size ≤ q) s0 s0.heap := by
    match i, hi with
    | 0, _ => exact va_Tof (args := #[Value.ref b0]) (by decide) (hs _ (by decide +kernel)) (va_eqt (hs _ (by decide +kernel))) (fun j hj => va_eqt (by
      match j, hj with
      | 0, _ => exact hs _ (by decide +kernel)
      | 1, _ => exact hs _ (by decide +kernel)
      | 2, _ => exact hs _ (by decide +kernel)
      | 3, _ => exact hs _ (by decide +kernel)
      | 4, _ => exact hs _ (by decide +kernel)
      | 5, _ => exact hs _ (by decide +kernel)
      | 6, _ => exact hs _ (by decide +kernel)
      | 7, _ => exact hs _ (by decide +kernel)
      | j + 8, h => exact absurd h (by omega))) (fun a h1 h2 => absurd h2 (Nat.not_le.mpr h1))
    | 1, _ => exact va_Tof (args := #[Value.ref b0]) (by decide) (hs _ (by decide +kernel)) (va_eqt (hs _ (by decide +kernel))) (fun j hj => va_eqt (by
      match j, hj with
      | 0, _ => exact hs _ (by decide +kernel)
      | 1, _ => exact hs _ (by decide +kernel)
      | 2, _ => exact hs _ (by decide +kernel)
      | 3, _ => exact hs _ (by decide +kernel)
      | 4, _ => exact hs _ (by decide +kernel)
      | 5, _ => exact hs _ (by decide +kernel)
      | 6, _ => exact hs _ (by decide +kernel)
      | 7, _ => exact hs _ (by decide +kernel)
      | j + 8, h => exact absurd h (by omega))) (fun a h1 h2 => absurd h2 (Nat.not_le.mpr h1))
    | i + 2, h => exact absurd h (by omega)
  obtain ⟨t, h1, h2⟩ := key
  rw [g_tbE h1]
  exact ⟨h1, h2⟩
theorem g_tbX {cl : List vw_C} {X : g_F} {cc : ByteArray} {own : String} {ret : Option FieldType} (C : g_M cl X cc own ret) {i : Nat} (hi : i < 2) : va_T .int (g_tb (g_s0 X) (g_b0 X) i) 8 (fun j => .int ((gTbl i).getD j 0)) (g_A X) (g_s X) (g_s X).heap := by
  obtain ⟨-, h0, hw, -, hq, hA⟩ := C.2.2.2.2.2.2.2.2
  exact va_T.moved hw.alike (((g_tbs h0 hi).2.narrow hA).kept (fun a ha _ => hq a ha))
theorem y_tbg0 {cl : List vw_C} {X : g_F} {cc : ByteArray} {own : String} {ret : Option FieldType} {LM : g_L} {ad : Nat → Nat → Nat} {σ : g_S} {w : Nat × Nat} {pc : Nat} {vs : List (Nat × Value)} {st : List Value} (C : g_M cl X cc own ret) {index : Nat} (q : Cond.fieldLink own index "BonnetValley" "DOWN" "[I" ∈ lw_all) (hd : decode cc pc = .ok (.getstatic index, 3)) (k : g_Y cl X LM ad σ w (pc + 3) vs (.ref (g_tb (g_s0 X) (g_b0 X) 0) :: st)) : g_Y cl X LM ad σ w pc vs st :=
  fun H locs ls hW hS hl => va_gets C.1 C.2.1 (g_rootZ C (va_Zof (C.2.2.2.2.2.2.2.2.2.1.1 _ q888) (C.2.2.2.2.2.2.2.2.2.1.1 _ (lw_all_tbl q110)) (g_tbs C.2.2.2.2.2.2.2.2.2.1 (i := 0) (by decide)).1 (fun a h1 h2 => absurd h2 (Nat.not_le.mpr h1)))) hS C.2.2.2.1 (C.2.2.2.2.1 _ q) (fun x h => h) hd (k H locs ls hW hS hl)
theorem y_tbg1 {cl : List vw_C} {X : g_F} {cc : ByteArray} {own : String} {ret : Option FieldType} {LM : g_L} {ad : Nat → Nat → Nat} {σ : g_S} {w : Nat × Nat} {pc : Nat} {vs : List (Nat × Value)} {st : List Value} (C : g_M cl X cc own ret) {index : Nat} (q : Cond.fieldLink own index "BonnetValley" "OVER" "[I" ∈ lw_all) (hd : decode cc pc = .ok (.getstatic index, 3)) (k : g_Y cl X LM ad σ w (pc + 3) vs (.ref (g_tb (g_s0 X) (g_b0 X) 1) :: st)) : g_Y cl X LM ad σ w pc vs st :=
  fun H locs ls hW hS hl => va_gets C.1 C.2.1 (g_rootZ C (va_Zof (C.2.2.2.2.2.2.2.2.2.1.1 _ q890) (C.2.2.2.2.2.2.2.2.2.1.1 _ (lw_all_tbl q110)) (g_tbs C.2.2.2.2.2.2.2.2.2.1 (i := 1) (by decide)).1 (fun a h1 h2 => absurd h2 (Nat.not_le.mpr h1)))) hS C.2.2.2.1 (C.2.2.2.2.1 _ q) (fun x h => h) hd (k H locs ls hW hS hl)
theorem y_tbl {cl : List vw_C} {X : g_F} {cc : ByteArray} {own : String} {ret : Option FieldType} {LM : g_L} {ad : Nat → Nat → Nat} {σ : g_S} {w : Nat × Nat} {pc : Nat} {vs : List (Nat × Value)} {st : List Value} (C : g_M cl X cc own ret) {t : Nat} {i : Int32} (ht : t < 2) (hi : g_in i 8 = true) (hd : decode cc pc = .ok (.iaload, 1)) (k : g_Y cl X LM ad σ w (pc + 1) vs (.int ((gTbl t).getD i.toNatClampNeg 0) :: st)) : g_Y cl X LM ad σ w pc vs (.int i :: .ref (g_tb (g_s0 X) (g_b0 X) t) :: st) :=
  fun H locs ls hW hS hl => va_ti C.1 C.2.1 (g_tbX C ht) hS (g_in_vp hi) rfl hd (k H locs ls hW hS hl)
abbrev g_ah (σ : g_S) : Prop := ∀ j < 15, σ.2.2 10 0 j < 18
theorem y_copyA {X : g_F} {cc : ByteArray} {own : String} {ret : Option FieldType} {hid : Bool} {ad : Nat → Nat → Nat} {σ : g_S} {w : Nat × Nat} {pc : Nat} {vs : List (Nat × Value)} {st : List Value} {σ1 : g_S} {sp dp n : Int32} {index : Nat} (C : g_M gCl X cc own ret) (e : σ1 = g_sC σ 10 0 (va_cpy (σ.2.2 10 0) (σ.2.2 10 0) sp.toNatClampNeg dp.toNatClampNeg n.toNatClampNeg)) (hg : g_cp sp dp n 15 15 ∧ g_ah σ) (q : Cond.methodLink own index arraycopyName ∈ lw_all) (hR : 1 ≤ (g_R X).frames ∧ 40 ≤ (g_R X).locals) (hcat : (st.map fun v => v.category).sum ≤ 8) (hd : decode cc pc = .ok (.invokestatic index, 3))
    (kk : g_Y gCl X (gC hid) ad σ1 w (pc + 3) vs st) : g_Y gCl X (gC hid) ad σ w pc vs (.int n :: .int dp :: .ref (ad 10 0) :: .int sp :: .ref (ad 10 0) :: st) := by
  subst e
  intro H locs ls hW hS hl
  obtain ⟨ws, hP, hD, hat, -⟩ := g_adapt hW
  obtain ⟨q1, hq1, back⟩ := hat 10 0 _ nC_10_0 rfl
  obtain ⟨hg, ha⟩ := hg
  have h4 := g_cpn hg.1 hg.2.2.1 hg.2.2.2.1
  refine va_copyq C.1 C.2.1 (C.2.2.1.trans hl.1.symm) C.2.2.2.1 (C.2.2.2.2.1 _ q) (C.2.2.2.2.1 _ q755) (C.2.2.2.2.1 _ q754) (C.2.2.2.2.1 _ q131) C.2.2.2.2.2.2.2.2.1 hP hD hS q1 q1 6 6 (C := "BonnetValley$Upland") hq1 hq1 rfl rfl (g_nn hg.1) (g_nn hg.2.1) (g_nn hg.2.2.1) h4 (g_cpn hg.2.1 hg.2.2.1 hg.2.2.2.2) (fun i hi y hy => ?_) (fun comp c0 h1 h2 => by cases h1.symm.trans h2; exact va_asg _ _) hR.1 (by have h7 : nativeFrameWords "java/lang/System" "arraycopy" 5 = 7 := (by decide +kernel); rw [h7]; exact Nat.le_trans (Nat.add_le_add_right hcat _) (Nat.le_trans (by decide) hR.2)) hd (fun H1 locs1 hP1 _ hS1 => ?_)
  · cases hy
    exact g_recv C.2.2.2.2.2.2.2.2.1 hW (q := (RX5, TX5, 6)) (k := 4) (ha _ (by omega)) rfl obC_4
  · refine kk H1 locs1 ls (back _ _ _ hP1 (fun k' u' hk _ => by
      obtain ⟨e1, e2, e3⟩ := g_sC_n (σ := σ) (g := va_cpy (σ.2.2 10 0) (σ.2.2 10 0) sp.toNatClampNeg dp.toNatClampNeg n.toNatClampNeg) k' u' hk
      show gCcell hid (g_dA X) ad k' u' _ _ _ = gCcell hid (g_dA X) ad k' u' _ _ _
      rw [e1, e2, e3]) ?_) hS1 hl
    show Sum.inl (Sum.inl (g_dA X 6, 15, Sum.inr (Sum.inr (Sum.inr (Sum.inr fun j => some (ad 4 ((g_sC σ 10 0 _).2.2 10 0 j))))))) = _
    rw [g_sC_s]
    congr 8
    funext j
    unfold va_cpy
    split <;> rfl
theorem y_astA {X : g_F} {cc : ByteArray} {own : String} {ret : Option FieldType} {hid : Bool} {ad : Nat → Nat → Nat} {σ : g_S} {w : Nat × Nat} {pc : Nat} {vs : List (Nat × Value)} {st : List Value} {σ1 : g_S} {i : Int32} {u : Nat} (C : g_M gCl X cc own ret) (hu : u < g_n (gC hid) 4) (e : σ1 = g_sR σ 10 0 i.toNatClampNeg u) (hi : g_in i 15 = true) (hd : decode cc pc = .ok (.aastore, 1))
    (kk : g_Y gCl X (gC hid) ad σ1 w (pc + 1) vs st) : g_Y gCl X (gC hid) ad σ w pc vs (.ref (ad 4 u) :: .int i :: .ref (ad 10 0) :: st) := by
  subst e
  intro H locs ls hW hS hl
  obtain ⟨ws, hP, hD, hat, -⟩ := g_adapt hW
  obtain ⟨q1, hq1, back⟩ := hat 10 0 _ nC_10_0 rfl
  obtain ⟨qk, hqk, -⟩ := hat 4 u _ hu rfl
  refine va_astq C.1 C.2.1 C.2.2.2.2.2.2.2.2.1 hP hD hS q1 6 qk 4 (r := (RX5, TX5, 6)) hq1 rfl hqk rfl (g_in_vp hi) hd (fun H1 locs1 hP1 _ hS1 => ?_)
  refine kk H1 locs1 ls (back _ _ _ hP1 (fun k' u' hk _ => by
    obtain ⟨e1, e2, e3⟩ := g_sR_n (σ := σ) (j := i.toNatClampNeg) (v := u) k' u' hk
    show gCcell hid (g_dA X) ad k' u' _ _ _ = gCcell hid (g_dA X) ad k' u' _ _ _
    rw [e1, e2, e3]) ?_) hS1 hl
  show Sum.inl (Sum.inl (g_dA X 6, 15, Sum.inr (Sum.inr (Sum.inr (Sum.inr fun j => some (ad 4 ((g_sR σ 10 0 _ _).2.2 10 0 j))))))) = _
  rw [g_sR_s]
  congr 8
  funext j
  simp only [g_updN, va_up]
  split <;> rfl
theorem ln_C_20 {X : g_F} {cc : ByteArray} {own : String} {ret : Option FieldType} {hid : Bool} {ad : Nat → Nat → Nat} {σ : g_S} {w : Nat × Nat} {pc : Nat} {vs : List (Nat × Value)} {st : List Value} (C : g_M gCl X cc own ret) (hd : decode cc pc = .ok (.arraylength, 1)) (k : g_Y gCl X (gC hid) ad σ w (pc + 1) vs (.int (49 : Int32) :: st)) : g_Y gCl X (gC hid) ad σ w pc vs (.ref (ad 20 0) :: st) := y_alen C nC_20_0 0 (x := (49, .inl (σ.1 20 0))) rfl rfl rfl hd k
theorem gf_C_X7_28_26 {X : g_F} {cc : ByteArray} {ret : Option FieldType} {ad : Nat → Nat → Nat} {σ : g_S} {w : Nat × Nat} {pc : Nat} {vs : List (Nat × Value)} {st : List Value} {u : Nat} (C : g_M gCl X cc RX7 ret) (hu : u < g_n (gC false) 26) (hp : ¬ σ.2.2 26 u 200 = 0) (hd : decode cc pc = .ok (.getfield 28, 3)) (k : g_Y gCl X (gC false) ad σ w (pc + 3) vs (.int (σ.1 26 u 3) :: st)) : g_Y gCl X (gC false) ad σ w pc vs (.ref (ad 26 u) :: st) :=
  y_get C hu in_X9 (N := 8) (ci := 7) rfl (if_neg hp) 3 (by decide) rfl q366 rfl hd k
theorem gf_C_X7_25_26 {X : g_F} {cc : ByteArray} {ret : Option FieldType} {ad : Nat → Nat → Nat} {σ : g_S} {w : Nat × Nat} {pc : Nat} {vs : List (Nat × Value)} {st : List Value} {u : Nat} (C : g_M gCl X cc RX7 ret) (hu : u < g_n (gC false) 26) (hp : ¬ σ.2.2 26 u 200 = 0) (hd : decode cc pc = .ok (.getfield 25, 3)) (k : g_Y gCl X (gC false) ad σ w (pc + 3) vs (.int (σ.1 26 u 2) :: st)) : g_Y gCl X (gC false) ad σ w pc vs (.ref (ad 26 u) :: st) :=
  y_get C hu in_X9 (N := 8) (ci := 7) rfl (if_neg hp) 2 (by decide) rfl q363 rfl hd k
theorem gf_C_X7_9_26 {X : g_F} {cc : ByteArray} {ret : Option FieldType} {ad : Nat → Nat → Nat} {σ : g_S} {w : Nat × Nat} {pc : Nat} {vs : List (Nat × Value)} {st : List Value} {u : Nat} (C : g_M gCl X cc RX7 ret) (hu : u < g_n (gC false) 26) (hp : g_set (σ.2.2 26 u 200) 1) (hd : decode cc pc = .ok (.getfield 9, 3)) (k : g_Y gCl X (gC false) ad σ w (pc + 3) vs (.ref (ad 27 u) :: st)) : g_Y gCl X (gC false) ad σ w pc vs (.ref (ad 26 u) :: st) :=
  y_get C hu in_X9 (N := 8) (ci := 7) rfl (if_neg (g_setp hp)) 0 (by decide) rfl q360 (by show some (ite _ _ _) = _; rw [if_pos hp]) hd k
theorem pf_C_X7_28_26 {X : g_F} {cc : ByteArray} {ret : Option FieldType} {ad : Nat → Nat → Nat} {σ : g_S} {w : Nat × Nat} {pc : Nat} {vs : List (Nat × Value)} {st : List Value} {u : Nat} {v : Int32} {σ1 : g_S} (C : g_M gCl X cc RX7 ret) (hu : u < g_n (gC false) 26) (hp : ¬ σ.2.2 26 u 200 = 0) (e : σ1 = g_sI σ 26 u 3 v) (hd : decode cc pc = .ok (.putfield 28, 3)) (k : g_Y gCl X (gC false) ad σ1 w (pc + 3) vs st) : g_Y gCl X (gC false) ad σ w pc vs (.int v :: .ref (ad 26 u) :: st) := by
  subst e
  exact y_put C hu in_X9 (N := 8) (ci := 7) rfl (if_neg hp) tyX9 tyX9_ok nmX9 3 (by decide) rfl q366 rfl rfl rfl rfl (Nat.le_of_ble_eq_true rfl) g_sI_n (by show g_opt (σ.2.2 26 u 200) (Sum.inl (Sum.inr (7, gC_f26 ad u ((g_sI σ 26 u 3 v).1 26 u) ((g_sI σ 26 u 3 v).2.1 26 u) (σ.2.2 26 u)))) = _; rw [show g_opt (σ.2.2 26 u 200) _ = _ from if_neg hp, g_sI_s]; rfl) hd k
theorem gf_C_X9_34_26 {X : g_F} {cc : ByteArray} {ret : Option FieldType} {ad : Nat → Nat → Nat} {σ : g_S} {w : Nat × Nat} {pc : Nat} {vs : List (Nat × Value)} {st : List Value} {u : Nat} (C : g_M gCl X cc RX9 ret) (hu : u < g_n (gC false) 26) (hp : ¬ σ.2.2 26 u 200 = 0) (hd : decode cc pc = .ok (.getfield 34, 3)) (k : g_Y gCl X (gC false) ad σ w (pc + 3) vs (.int (σ.1 26 u 3) :: st)) : g_Y gCl X (gC false) ad σ w pc vs (.ref (ad 26 u) :: st) :=
  y_getU C hu in_X9 (N := 8) (ci := 7) rfl (if_neg hp) 3 (by decide) q370 q369 rfl hd k
theorem pf_C_X9_34_26 {X : g_F} {cc : ByteArray} {ret : Option FieldType} {ad : Nat → Nat → Nat} {σ : g_S} {w : Nat × Nat} {pc : Nat} {vs : List (Nat × Value)} {st : List Value} {u : Nat} {v : Int32} {σ1 : g_S} (C : g_M gCl X cc RX9 ret) (hu : u < g_n (gC false) 26) (hp : ¬ σ.2.2 26 u 200 = 0) (e : σ1 = g_sI σ 26 u 3 v) (hd : decode cc pc = .ok (.putfield 34, 3)) (k : g_Y gCl X (gC false) ad σ1 w (pc + 3) vs st) : g_Y gCl X (gC false) ad σ w pc vs (.int v :: .ref (ad 26 u) :: st) := by
  subst e
  exact y_putU C hu in_X9 (N := 8) (ci := 7) rfl (if_neg hp) tyX9 tyX9_ok nmX9 3 (by decide) q370 q369 rfl rfl rfl rfl (Nat.le_of_ble_eq_true rfl) g_sI_n (by show g_opt (σ.2.2 26 u 200) (Sum.inl (Sum.inr (7, gC_f26 ad u ((g_sI σ 26 u 3 v).1 26 u) ((g_sI σ 26 u 3 v).2.1 26 u) (σ.2.2 26 u)))) = _; rw [show g_opt (σ.2.2 26 u 200) _ = _ from if_neg hp, g_sI_s]; rfl) hd k
theorem gf_C_X9_23_26_n {X : g_F} {cc : ByteArray} {ret : Option FieldType} {ad : Nat → Nat → Nat} {σ : g_S} {w : Nat × Nat} {pc : Nat} {vs : List (Nat × Value)} {st : List Value} {u : Nat} (C : g_M gCl X cc RX9 ret) (hu : u < g_n (gC false) 26) (hp : ¬ σ.2.2 26 u 200 = 0) (hz : σ.2.2 26 u 4 = 0) (hd : decode cc pc = .ok (.getfield 23, 3)) (k : g_Y gCl X (gC false) ad σ w (pc + 3) vs (.null :: st)) : g_Y gCl X (gC false) ad σ w pc vs (.ref (ad 26 u) :: st) :=
  y_get C hu in_X9 (N := 8) (ci := 7) rfl (if_neg hp) 4 (by decide) rfl q531 (by show some (ite _ _ _) = _; rw [if_pos hz]) hd k
theorem gf_C_X9_23_26_r {X : g_F} {cc : ByteArray} {ret : Option FieldType} {ad : Nat → Nat → Nat} {σ : g_S} {w : Nat × Nat} {pc : Nat} {vs : List (Nat × Value)} {st : List Value} {u : Nat} (C : g_M gCl X cc RX9 ret) (hu : u < g_n (gC false) 26) (hp : ¬ σ.2.2 26 u 200 = 0) (hz : ¬ σ.2.2 26 u 4 = 0) (hd : decode cc pc = .ok (.getfield 23, 3)) (k : g_Y gCl X (gC false) ad σ w (pc + 3) vs (.ref (ad 4 (σ.2.2 26 u 4 - 1)) :: st)) : g_Y gCl X (gC false) ad σ w pc vs (.ref (ad 26 u) :: st) :=
  y_get C hu in_X9 (N := 8) (ci := 7) rfl (if_neg hp) 4 (by decide) rfl q531 (by show some (ite _ _ _) = _; rw [if_neg hz]) hd k
theorem gf_C_X9_31_26 {X : g_F} {cc : ByteArray} {ret : Option FieldType} {ad : Nat → Nat → Nat} {σ : g_S} {w : Nat × Nat} {pc : Nat} {vs : List (Nat × Value)} {st : List Value} {u : Nat} (C : g_M gCl X cc RX9 ret) (hu : u < g_n (gC false) 26) (hp : ¬ σ.2.2 26 u 200 = 0) (hd : decode cc pc = .ok (.getfield 31, 3)) (k : g_Y gCl X (gC false) ad σ w (pc + 3) vs (.int (σ.1 26 u 6) :: st)) : g_Y gCl X (gC false) ad σ w pc vs (.ref (ad 26 u) :: st) :=
  y_get C hu in_X9 (N := 8) (ci := 7) rfl (if_neg hp) 6 (by decide) rfl q533 rfl hd k
theorem gf_C_X9_101_4 {hid : Bool} {X : g_F} {cc : ByteArray} {ret : Option FieldType} {ad : Nat → Nat → Nat} {σ : g_S} {w : Nat × Nat} {pc : Nat} {vs : List (Nat × Value)} {st : List Value} {u : Nat} (C : g_M gCl X cc RX9 ret) (hu : u < g_n (gC hid) 4) (hd : decode cc pc = .ok (.getfield 101, 3)) (k : g_Y gCl X (gC hid) ad σ w (pc + 3) vs (.ref (ad 5 u) :: st)) : g_Y gCl X (gC hid) ad σ w pc vs (.ref (ad 4 u) :: st) :=
  y_get C hu in_X5 (N := 6) (ci := 4) rfl rfl 0 (by decide) rfl q190 rfl hd k
theorem gf_C_X9_27_26 {X : g_F} {cc : ByteArray} {ret : Option FieldType} {ad : Nat → Nat → Nat} {σ : g_S} {w : Nat × Nat} {pc : Nat} {vs : List (Nat × Value)} {st : List Value} {u : Nat} (C : g_M gCl X cc RX9 ret) (hu : u < g_n (gC false) 26) (hp : ¬ σ.2.2 26 u 200 = 0) (hd : decode cc pc = .ok (.getfield 27, 3)) (k : g_Y gCl X (gC false) ad σ w (pc + 3) vs (.int (σ.1 26 u 5) :: st)) : g_Y gCl X (gC false) ad σ w pc vs (.ref (ad 26 u) :: st) :=
  y_get C hu in_X9 (N := 8) (ci := 7) rfl (if_neg hp) 5 (by decide) rfl q532 rfl hd k
theorem gf_C_X9_3_26 {X : g_F} {cc : ByteArray} {ret : Option FieldType} {ad : Nat → Nat → Nat} {σ : g_S} {w : Nat × Nat} {pc : Nat} {vs : List (Nat × Value)} {st : List Value} {u : Nat} (C : g_M gCl X cc RX9 ret) (hu : u < g_n (gC false) 26) (hp : g_set (σ.2.2 26 u 200) 0) (hd : decode cc pc = .ok (.getfield 3, 3)) (k : g_Y gCl X (gC false) ad σ w (pc + 3) vs (.ref (ad 0 0) :: st)) : g_Y gCl X (gC false) ad σ w pc vs (.ref (ad 26 u) :: st) :=
  y_get C hu in_X9 (N := 8) (ci := 7) rfl (if_neg (g_setp hp)) 7 (by decide) rfl q534 (by show some (ite _ _ _) = _; rw [if_pos hp]) hd k
theorem gf_C_X9_103_0 {hid : Bool} {X : g_F} {cc : ByteArray} {ret : Option FieldType} {ad : Nat → Nat → Nat} {σ : g_S} {w : Nat × Nat} {pc : Nat} {vs : List (Nat × Value)} {st : List Value} {u : Nat} (C : g_M gCl X cc RX9 ret) (hu : u < g_n (gC hid) 0) (hd : decode cc pc = .ok (.getfield 103, 3)) (k : g_Y gCl X (gC hid) ad σ w (pc + 3) vs (.int (σ.1 0 u 4) :: st)) : g_Y gCl X (gC hid) ad σ w pc vs (.ref (ad 0 u) :: st) :=
  y_getN C hu in_X1 (N := 31) (ci := 0) rfl rfl 4 (by decide) rfl q236 rfl hd k
theorem gf_C_X1_150_0 {hid : Bool} {X : g_F} {cc : ByteArray} {ret : Option FieldType} {ad : Nat → Nat → Nat} {σ : g_S} {w : Nat × Nat} {pc : Nat} {vs : List (Nat × Value)} {st : List Value} {u : Nat} (C : g_M gCl X cc RX1 ret) (hu : u < g_n (gC hid) 0) (hd : decode cc pc = .ok (.getfield 150, 3)) (k : g_Y gCl X (gC hid) ad σ w (pc + 3) vs (.int (σ.1 0 u 5) :: st)) : g_Y gCl X (gC hid) ad σ w pc vs (.ref (ad 0 u) :: st) :=
  y_get C hu in_X1 (N := 31) (ci := 0) rfl rfl 5 (by decide) rfl q237 rfl hd k
theorem gf_C_X1_217_4 {hid : Bool} {X : g_F} {cc : ByteArray} {ret : Option FieldType} {ad : Nat → Nat → Nat} {σ : g_S} {w : Nat × Nat} {pc : Nat} {vs : List (Nat × Value)} {st : List Value} {u : Nat} (C : g_M gCl X cc RX1 ret) (hu : u < g_n (gC hid) 4) (hd : decode cc pc = .ok (.getfield 217, 3)) (k : g_Y gCl X (gC hid) ad σ w (pc + 3) vs (.ref (ad 5 u) :: st)) : g_Y gCl X (gC hid) ad σ w pc vs (.ref (ad 4 u) :: st) :=
  y_get C hu in_X5 (N := 6) (ci := 4) rfl rfl 0 (by decide) rfl q191 rfl hd k
theorem gf_C_X9_98_4 {hid : Bool} {X : g_F} {cc : ByteArray} {ret : Option FieldType} {ad : Nat → Nat → Nat} {σ : g_S} {w : Nat × Nat} {pc : Nat} {vs : List (Nat × Value)} {st : List Value} {u : Nat} (C : g_M gCl X cc RX9 ret) (hu : u < g_n (gC hid) 4) (hd : decode cc pc = .ok (.getfield 98, 3)) (k : g_Y gCl X (gC hid) ad σ w (pc + 3) vs (.ref (ad 6 u) :: st)) : g_Y gCl X (gC hid) ad σ w pc vs (.ref (ad 4 u) :: st) :=
  y_get C hu in_X5 (N := 6) (ci := 4) rfl rfl 1 (by decide) rfl q194 rfl hd k
theorem gf_C_X9_89_4 {hid : Bool} {X : g_F} {cc : ByteArray} {ret : Option FieldType} {ad : Nat → Nat → Nat} {σ : g_S} {w : Nat × Nat} {pc : Nat} {vs : List (Nat × Value)} {st : List Value} {u : Nat} (C : g_M gCl X cc RX9 ret) (hu : u < g_n (gC hid) 4) (hd : decode cc pc = .ok (.getfield 89, 3)) (k : g_Y gCl X (gC hid) ad σ w (pc + 3) vs (.ref (ad 8 u) :: st)) : g_Y gCl X (gC hid) ad σ w pc vs (.ref (ad 4 u) :: st) :=
  y_get C hu in_X5 (N := 6) (ci := 4) rfl rfl 3 (by decide) rfl q200 rfl hd k
theorem gf_C_X9_81_4 {hid : Bool} {X : g_F} {cc : ByteArray} {ret : Option FieldType} {ad : Nat → Nat → Nat} {σ : g_S} {w : Nat × Nat} {pc : Nat} {vs : List (Nat × Value)} {st : List Value} {u : Nat} (C : g_M gCl X cc RX9 ret) (hu : u < g_n (gC hid) 4) (hd : decode cc pc = .ok (.getfield 81, 3)) (k : g_Y gCl X (gC hid) ad σ w (pc + 3) vs (.int (σ.1 4 u 5) :: st)) : g_Y gCl X (gC hid) ad σ w pc vs (.ref (ad 4 u) :: st) :=
  y_get C hu in_X5 (N := 6) (ci := 4) rfl rfl 5 (by decide) rfl q207 rfl hd k
theorem gf_C_X1_98_0 {hid : Bool} {X : g_F} {cc : ByteArray} {ret : Option FieldType} {ad : Nat → Nat → Nat} {σ : g_S} {w : Nat × Nat} {pc : Nat} {vs : List (Nat × Value)} {st : List Value} {u : Nat} (C : g_M gCl X cc RX1 ret) (hu : u < g_n (gC hid) 0) (hd : decode cc pc = .ok (.getfield 98, 3)) (k : g_Y gCl X (gC hid) ad σ w (pc + 3) vs (.ref (ad 11 (σ.2.2 0 u 14)) :: st)) : g_Y gCl X (gC hid) ad σ w pc vs (.ref (ad 0 u) :: st) :=
  y_get C hu in_X1 (N := 31) (ci := 0) rfl rfl 14 (by decide) rfl q249 rfl hd k
theorem gf_C_X1_30_0_n {hid : Bool} {X : g_F} {cc : ByteArray} {ret : Option FieldType} {ad : Nat → Nat → Nat} {σ : g_S} {w : Nat × Nat} {pc : Nat} {vs : List (Nat × Value)} {st : List Value} {u : Nat} (C : g_M gCl X cc RX1 ret) (hu : u < g_n (gC hid) 0) (hz : σ.2.2 0 u 19 = 0) (hd : decode cc pc = .ok (.getfield 30, 3)) (k : g_Y gCl X (gC hid) ad σ w (pc + 3) vs (.null :: st)) : g_Y gCl X (gC hid) ad σ w pc vs (.ref (ad 0 u) :: st) :=
  y_get C hu in_X1 (N := 31) (ci := 0) rfl rfl 19 (by decide) rfl q254 (by show some (ite _ _ _) = _; rw [if_pos hz]) hd k
theorem gf_C_X1_30_0_r {hid : Bool} {X : g_F} {cc : ByteArray} {ret : Option FieldType} {ad : Nat → Nat → Nat} {σ : g_S} {w : Nat × Nat} {pc : Nat} {vs : List (Nat × Value)} {st : List Value} {u : Nat} (C : g_M gCl X cc RX1 ret) (hu : u < g_n (gC hid) 0) (hz : ¬ σ.2.2 0 u 19 = 0) (hd : decode cc pc = .ok (.getfield 30, 3)) (k : g_Y gCl X (gC hid) ad σ w (pc + 3) vs (.ref (ad 26 (σ.2.2 0 u 19 - 1)) :: st)) : g_Y gCl X (gC hid) ad σ w pc vs (.ref (ad 0 u) :: st) :=
  y_get C hu in_X1 (N := 31) (ci := 0) rfl rfl 19 (by decide) rfl q254 (by show some (ite _ _ _) = _; rw [if_neg hz]) hd k
theorem gf_C_X1_34_4 {hid : Bool} {X : g_F} {cc : ByteArray} {ret : Option FieldType} {ad : Nat → Nat → Nat} {σ : g_S} {w : Nat × Nat} {pc : Nat} {vs : List (Nat × Value)} {st : List Value} {u : Nat} (C : g_M gCl X cc RX1 ret) (hu : u < g_n (gC hid) 4) (hd : decode cc pc = .ok (.getfield 34, 3)) (k : g_Y gCl X (gC hid) ad σ w (pc + 3) vs (.int (σ.1 4 u 5) :: st)) : g_Y gCl X (gC hid) ad σ w pc vs (.ref (ad 4 u) :: st) :=
  y_get C hu in_X5 (N := 6) (ci := 4) rfl rfl 5 (by decide) rfl q206 rfl hd k
theorem pf_C_X9_23_26_r {X : g_F} {cc : ByteArray} {ret : Option FieldType} {ad : Nat → Nat → Nat} {σ : g_S} {w : Nat × Nat} {pc : Nat} {vs : List (Nat × Value)} {st : List Value} {u : Nat} {x : Nat} {σ1 : g_S} (C : g_M gCl X cc RX9 ret) (hu : u < g_n (gC false) 26) (hp : ¬ σ.2.2 26 u 200 = 0) (e : σ1 = g_sR σ 26 u 4 (x + 1)) (hd : decode cc pc = .ok (.putfield 23, 3)) (k : g_Y gCl X (gC false) ad σ1 w (pc + 3) vs st) : g_Y gCl X (gC false) ad σ w pc vs (.ref (ad 4 x) :: .ref (ad 26 u) :: st) := by
  subst e
  exact y_put C hu in_X9 (N := 8) (ci := 7) rfl (if_neg hp) tyX9 tyX9_ok nmX9 4 (by decide) rfl q531 rfl rfl rfl rfl (Nat.le_of_ble_eq_true rfl) g_sR_n (by show g_opt ((g_sR σ 26 u 4 (x + 1)).2.2 26 u 200) (Sum.inl (Sum.inr (7, gC_f26 ad u (σ.1 26 u) (σ.2.1 26 u) ((g_sR σ 26 u 4 (x + 1)).2.2 26 u)))) = _; rw [g_sR_s]; exact (if_neg hp : g_opt (σ.2.2 26 u 200) _ = _).trans rfl) hd k
theorem pf_C_X9_27_26 {X : g_F} {cc : ByteArray} {ret : Option FieldType} {ad : Nat → Nat → Nat} {σ : g_S} {w : Nat × Nat} {pc : Nat} {vs : List (Nat × Value)} {st : List Value} {u : Nat} {v : Int32} {σ1 : g_S} (C : g_M gCl X cc RX9 ret) (hu : u < g_n (gC false) 26) (hp : ¬ σ.2.2 26 u 200 = 0) (e : σ1 = g_sI σ 26 u 5 v) (hd : decode cc pc = .ok (.putfield 27, 3)) (k : g_Y gCl X (gC false) ad σ1 w (pc + 3) vs st) : g_Y gCl X (gC false) ad σ w pc vs (.int v :: .ref (ad 26 u) :: st) := by
  subst e
  exact y_put C hu in_X9 (N := 8) (ci := 7) rfl (if_neg hp) tyX9 tyX9_ok nmX9 5 (by decide) rfl q532 rfl rfl rfl rfl (Nat.le_of_ble_eq_true rfl) g_sI_n (by show g_opt (σ.2.2 26 u 200) (Sum.inl (Sum.inr (7, gC_f26 ad u ((g_sI σ 26 u 5 v).1 26 u) ((g_sI σ 26 u 5 v).2.1 26 u) (σ.2.2 26 u)))) = _; rw [show g_opt (σ.2.2 26 u 200) _ = _ from if_neg hp, g_sI_s]; rfl) hd k
theorem pf_C_X9_31_26 {X : g_F} {cc : ByteArray} {ret : Option FieldType} {ad : Nat → Nat → Nat} {σ : g_S} {w : Nat × Nat} {pc : Nat} {vs : List (Nat × Value)} {st : List Value} {u : Nat} {v : Int32} {σ1 : g_S} (C : g_M gCl X cc RX9 ret) (hu : u < g_n (gC false) 26) (hp : ¬ σ.2.2 26 u 200 = 0) (e : σ1 = g_sI σ 26 u 6 v) (hd : decode cc pc = .ok (.putfield 31, 3)) (k : g_Y gCl X (gC false) ad σ1 w (pc + 3) vs st) : g_Y gCl X (gC false) ad σ w pc vs (.int v :: .ref (ad 26 u) :: st) := by
  subst e
  exact y_put C hu in_X9 (N := 8) (ci := 7) rfl (if_neg hp) tyX9 tyX9_ok nmX9 6 (by decide) rfl q533 rfl rfl rfl rfl (Nat.le_of_ble_eq_true rfl) g_sI_n (by show g_opt (σ.2.2 26 u 200) (Sum.inl (Sum.inr (7, gC_f26 ad u ((g_sI σ 26 u 6 v).1 26 u) ((g_sI σ 26 u 6 v).2.1 26 u) (σ.2.2 26 u)))) = _; rw [show g_opt (σ.2.2 26 u 200) _ = _ from if_neg hp, g_sI_s]; rfl) hd k
theorem pf_C_X9_23_26_n {X : g_F} {cc : ByteArray} {ret : Option FieldType} {ad : Nat → Nat → Nat} {σ : g_S} {w : Nat × Nat} {pc : Nat} {vs : List (Nat × Value)} {st : List Value} {u : Nat} {σ1 : g_S} (C : g_M gCl X cc RX9 ret) (hu : u < g_n (gC false) 26) (hp : ¬ σ.2.2 26 u 200 = 0) (e : σ1 = g_sR σ 26 u 4 0) (hd : decode cc pc = .ok (.putfield 23, 3)) (k : g_Y gCl X (gC false) ad σ1 w (pc + 3) vs st) : g_Y gCl X (gC false) ad σ w pc vs (.null :: .ref (ad 26 u) :: st) := by
  subst e
  exact y_put C hu in_X9 (N := 8) (ci := 7) rfl (if_neg hp) tyX9 tyX9_ok nmX9 4 (by decide) rfl q531 rfl rfl rfl rfl (Nat.le_of_ble_eq_true rfl) g_sR_n (by show g_opt ((g_sR σ 26 u 4 0).2.2 26 u 200) (Sum.inl (Sum.inr (7, gC_f26 ad u (σ.1 26 u) (σ.2.1 26 u) ((g_sR σ 26 u 4 0).2.2 26 u)))) = _; rw [g_sR_s]; exact (if_neg hp : g_opt (σ.2.2 26 u 200) _ = _).trans rfl) hd k
theorem gf_C_X7_28_53 {hid : Bool} {X : g_F} {cc : ByteArray} {ret : Option FieldType} {ad : Nat → Nat → Nat} {σ : g_S} {w : Nat × Nat} {pc : Nat} {vs : List (Nat × Value)} {st : List Value} {u : Nat} (C : g_M gCl X cc RX7 ret) (hu : u < g_n (gC hid) 53) (hp : ¬ σ.2.2 53 u 200 = 0) (hd : decode cc pc = .ok (.getfield 28, 3)) (k : g_Y gCl X (gC hid) ad σ w (pc + 3) vs (.int (σ.1 53 u 3) :: st)) : g_Y gCl X (gC hid) ad σ w pc vs (.ref (ad 53 u) :: st) :=
  y_get C hu in_X9 (N := 8) (ci := 7) rfl (if_neg hp) 3 (by decide) rfl q366 rfl hd k
theorem gf_C_X7_25_53 {hid : Bool} {X : g_F} {cc : ByteArray} {ret : Option FieldType} {ad : Nat → Nat → Nat} {σ : g_S} {w : Nat × Nat} {pc : Nat} {vs : List (Nat × Value)} {st : List Value} {u : Nat} (C : g_M gCl X cc RX7 ret) (hu : u < g_n (gC hid) 53) (hp : ¬ σ.2.2 53 u 200 = 0) (hd : decode cc pc = .ok (.getfield 25, 3)) (k : g_Y gCl X (gC hid) ad σ w (pc + 3) vs (.int (σ.1 53 u 2) :: st)) : g_Y gCl X (gC hid) ad σ w pc vs (.ref (ad 53 u) :: st) :=
  y_get C hu in_X9 (N := 8) (ci := 7) rfl (if_neg hp) 2 (by decide) rfl q363 rfl hd k
theorem gf_C_X7_9_53 {hid : Bool} {X : g_F} {cc : ByteArray} {ret : Option FieldType} {ad : Nat → Nat → Nat} {σ : g_S} {w : Nat × Nat} {pc : Nat} {vs : List (Nat × Value)} {st : List Value} {u : Nat} (C : g_M gCl X cc RX7 ret) (hu : u < g_n (gC hid) 53) (hp : g_set (σ.2.2 53 u 200) 1) (hd : decode cc pc = .ok (.getfield 9, 3)) (k : g_Y gCl X (gC hid) ad σ w (pc + 3) vs (.ref (ad 27 (σ.2.2 53 u 201)) :: st)) : g_Y gCl X (gC hid) ad σ w pc vs (.ref (ad 53 u) :: st) :=
  y_get C hu in_X9 (N := 8) (ci := 7) rfl (if_neg (g_setp hp)) 0 (by decide) rfl q360 (by show some (ite _ _ _) = _; rw [if_pos hp]) hd k
theorem pf_C_X7_28_53 {hid : Bool} {X : g_F} {cc : ByteArray} {ret : Option FieldType} {ad : Nat → Nat → Nat} {σ : g_S} {w : Nat × Nat} {pc : Nat} {vs : List (Nat × Value)} {st : List Value} {u : Nat} {v : Int32} {σ1 : g_S} (C : g_M gCl X cc RX7 ret) (hu : u < g_n (gC hid) 53) (hp : ¬ σ.2.2 53 u 200 = 0) (e : σ1 = g_sI σ 53 u 3 v) (hd : decode cc pc = .ok (.putfield 28, 3)) (k : g_Y gCl X (gC hid) ad σ1 w (pc + 3) vs st) : g_Y gCl X (gC hid) ad σ w pc vs (.int v :: .ref (ad 53 u) :: st) := by
  subst e
  exact y_put C hu in_X9 (N := 8) (ci := 7) rfl (if_neg hp) tyX9 tyX9_ok nmX9 3 (by decide) rfl q366 rfl rfl rfl rfl (Nat.le_of_ble_eq_true rfl) g_sI_n (by show g_opt (σ.2.2 53 u 200) (Sum.inl (Sum.inr (7, gC_f53 ad u ((g_sI σ 53 u 3 v).1 53 u) ((g_sI σ 53 u 3 v).2.1 53 u) (σ.2.2 53 u)))) = _; rw [show g_opt (σ.2.2 53 u 200) _ = _ from if_neg hp, g_sI_s]; rfl) hd k
theorem gf_C_X9_34_53 {hid : Bool} {X : g_F} {cc : ByteArray} {ret : Option FieldType} {ad : Nat → Nat → Nat} {σ : g_S} {w : Nat × Nat} {pc : Nat} {vs : List (Nat × Value)} {st : List Value} {u : Nat} (C : g_M gCl X cc RX9 ret) (hu : u < g_n (gC hid) 53) (hp : ¬ σ.2.2 53 u 200 = 0) (hd : decode cc pc = .ok (.getfield 34, 3)) (k : g_Y gCl X (gC hid) ad σ w (pc + 3) vs (.int (σ.1 53 u 3) :: st)) : g_Y gCl X (gC hid) ad σ w pc vs (.ref (ad 53 u) :: st) :=
  y_getU C hu in_X9 (N := 8) (ci := 7) rfl (if_neg hp) 3 (by decide) q370 q369 rfl hd k
theorem pf_C_X9_34_53 {hid : Bool} {X : g_F} {cc : ByteArray} {ret : Option FieldType} {ad : Nat → Nat → Nat} {σ : g_S} {w : Nat × Nat} {pc : Nat} {vs : List (Nat × Value)} {st : List Value} {u : Nat} {v : Int32} {σ1 : g_S} (C : g_M gCl X cc RX9 ret) (hu : u < g_n (gC hid) 53) (hp : ¬ σ.2.2 53 u 200 = 0) (e : σ1 = g_sI σ 53 u 3 v) (hd : decode cc pc = .ok (.putfield 34, 3)) (k : g_Y gCl X (gC hid) ad σ1 w (pc + 3) vs st) : g_Y gCl X (gC hid) ad σ w pc vs (.int v :: .ref (ad 53 u) :: st) := by
  subst e
  exact y_putU C hu in_X9 (N := 8) (ci := 7) rfl (if_neg hp) tyX9 tyX9_ok nmX9 3 (by decide) q370 q369 rfl rfl rfl rfl (Nat.le_of_ble_eq_true rfl) g_sI_n (by show g_opt (σ.2.2 53 u 200) (Sum.inl (Sum.inr (7, gC_f53 ad u ((g_sI σ 53 u 3 v).1 53 u) ((g_sI σ 53 u 3 v).2.1 53 u) (σ.2.2 53 u)))) = _; rw [show g_opt (σ.2.2 53 u 200) _ = _ from if_neg hp, g_sI_s]; rfl) hd k
theorem gf_C_X9_23_53_n {hid : Bool} {X : g_F} {cc : ByteArray} {ret : Option FieldType} {ad : Nat → Nat → Nat} {σ : g_S} {w : Nat × Nat} {pc : Nat} {vs : List (Nat × Value)} {st : List Value} {u : Nat} (C : g_M gCl X cc RX9 ret) (hu : u < g_n (gC hid) 53) (hp : ¬ σ.2.2 53 u 200 = 0) (hz : σ.2.2 53 u 4 = 0) (hd : decode cc pc = .ok (.getfield 23, 3)) (k : g_Y gCl X (gC hid) ad σ w (pc + 3) vs (.null :: st)) : g_Y gCl X (gC hid) ad σ w pc vs (.ref (ad 53 u) :: st) :=
  y_get C hu in_X9 (N := 8) (ci := 7) rfl (if_neg hp) 4 (by decide) rfl q531 (by show some (ite _ _ _) = _; rw [if_pos hz]) hd k
theorem gf_C_X9_23_53_r {hid : Bool} {X : g_F} {cc : ByteArray} {ret : Option FieldType} {ad : Nat → Nat → Nat} {σ : g_S} {w : Nat × Nat} {pc : Nat} {vs : List (Nat × Value)} {st : List Value} {u : Nat} (C : g_M gCl X cc RX9 ret) (hu : u < g_n (gC hid) 53) (hp : ¬ σ.2.2 53 u 200 = 0) (hz : ¬ σ.2.2 53 u 4 = 0) (hd : decode cc pc = .ok (.getfield 23, 3)) (k : g_Y gCl X (gC hid) ad σ w (pc + 3) vs (.ref (ad 4 (σ.2.2 53 u 4 - 1)) :: st)) : g_Y gCl X (gC hid) ad σ w pc vs (.ref (ad 53 u) :: st) :=
  y_get C hu in_X9 (N := 8) (ci := 7) rfl (if_neg hp) 4 (by decide) rfl q531 (by show some (ite _ _ _) = _; rw [if_neg hz]) hd k
theorem gf_C_X9_31_53 {hid : Bool} {X : g_F} {cc : ByteArray} {ret : Option FieldType} {ad : Nat → Nat → Nat} {σ : g_S} {w : Nat × Nat} {pc : Nat} {vs : List (Nat × Value)} {st : List Value} {u : Nat} (C : g_M gCl X cc RX9 ret) (hu : u < g_n (gC hid) 53) (hp : ¬ σ.2.2 53 u 200 = 0) (hd : decode cc pc = .ok (.getfield 31, 3)) (k : g_Y gCl X (gC hid) ad σ w (pc + 3) vs (.int (σ.1 53 u 6) :: st)) : g_Y gCl X (gC hid) ad σ w pc vs (.ref (ad 53 u) :: st) :=
  y_get C hu in_X9 (N := 8) (ci := 7) rfl (if_neg hp) 6 (by decide) rfl q533 rfl hd k
theorem gf_C_X9_27_53 {hid : Bool} {X : g_F} {cc : ByteArray} {ret : Option FieldType} {ad : Nat → Nat → Nat} {σ : g_S} {w : Nat × Nat} {pc : Nat} {vs : List (Nat × Value)} {st : List Value} {u : Nat} (C : g_M gCl X cc RX9 ret) (hu : u < g_n (gC hid) 53) (hp : ¬ σ.2.2 53 u 200 = 0) (hd : decode cc pc = .ok (.getfield 27, 3)) (k : g_Y gCl X (gC hid) ad σ w (pc + 3) vs (.int (σ.1 53 u 5) :: st)) : g_Y gCl X (gC hid) ad σ w pc vs (.ref (ad 53 u) :: st) :=
  y_get C hu in_X9 (N := 8) (ci := 7) rfl (if_neg hp) 5 (by decide) rfl q532 rfl hd k
theorem gf_C_X9_3_53 {hid : Bool} {X : g_F} {cc : ByteArray} {ret : Option FieldType} {ad : Nat → Nat → Nat} {σ : g_S} {w : Nat × Nat} {pc : Nat} {vs : List (Nat × Value)} {st : List Value} {u : Nat} (C : g_M gCl X cc RX9 ret) (hu : u < g_n (gC hid) 53) (hp : g_set (σ.2.2 53 u 200) 0) (hd : decode cc pc = .ok (.getfield 3, 3)) (k : g_Y gCl X (gC hid) ad σ w (pc + 3) vs (.ref (ad 0 0) :: st)) : g_Y gCl X (gC hid) ad σ w pc vs (.ref (ad 53 u) :: st) :=
  y_get C hu in_X9 (N := 8) (ci := 7) rfl (if_neg (g_setp hp)) 7 (by decide) rfl q534 (by show some (ite _ _ _) = _; rw [if_pos hp]) hd k
theorem gf_C_X1_160_0 {hid : Bool} {X : g_F} {cc : ByteArray} {ret : Option FieldType} {ad : Nat → Nat → Nat} {σ : g_S} {w : Nat × Nat} {pc : Nat} {vs : List (Nat × Value)} {st : List Value} {u : Nat} (C : g_M gCl X cc RX1 ret) (hu : u < g_n (gC hid) 0) (hd : decode cc pc = .ok (.getfield 160, 3)) (k : g_Y gCl X (gC hid) ad σ w (pc + 3) vs (.int (σ.1 0 u 16) :: st)) : g_Y gCl X (gC hid) ad σ w pc vs (.ref (ad 0 u) :: st) :=
  y_get C hu in_X1 (N := 31) (ci := 0) rfl rfl 16 (by decide) rfl q251 rfl hd k
theorem gf_C_X1_102_0 {hid : Bool} {X : g_F} {cc : ByteArray} {ret : Option FieldType} {ad : Nat → Nat → Nat} {σ : g_S} {w : Nat × Nat} {pc : Nat} {vs : List (Nat × Value)} {st : List Value} {u : Nat} (C : g_M gCl X cc RX1 ret) (hu : u < g_n (gC hid) 0) (hd : decode cc pc = .ok (.getfield 102, 3)) (k : g_Y gCl X (gC hid) ad σ w (pc + 3) vs (.ref (ad 12 0) :: st)) : g_Y gCl X (gC hid) ad σ w pc vs (.ref (ad 0 u) :: st) :=
  y_get C hu in_X1 (N := 31) (ci := 0) rfl rfl 15 (by decide) rfl q250 rfl hd k
theorem pf_C_X1_160_0 {hid : Bool} {X : g_F} {cc : ByteArray} {ret : Option FieldType} {ad : Nat → Nat → Nat} {σ : g_S} {w : Nat × Nat} {pc : Nat} {vs : List (Nat × Value)} {st : List Value} {u : Nat} {v : Int32} {σ1 : g_S} (C : g_M gCl X cc RX1 ret) (hu : u < g_n (gC hid) 0) (e : σ1 = g_sI σ 0 u 16 v) (hd : decode cc pc = .ok (.putfield 160, 3)) (k : g_Y gCl X (gC hid) ad σ1 w (pc + 3) vs st) : g_Y gCl X (gC hid) ad σ w pc vs (.int v :: .ref (ad 0 u) :: st) := by
  subst e
  exact y_put C hu in_X1 (N := 31) (ci := 0) rfl rfl tyX1 tyX1_ok nmX1 16 (by decide) rfl q251 rfl rfl rfl rfl (Nat.le_of_ble_eq_true rfl) g_sI_n (by show Sum.inl (Sum.inr (0, gC_f0 ad u ((g_sI σ 0 u 16 v).1 0 u) ((g_sI σ 0 u 16 v).2.1 0 u) (σ.2.2 0 u))) = _; rw [g_sI_s]; rfl) hd k
theorem pf_C_X7_9_40 {hid : Bool} {X : g_F} {cc : ByteArray} {ret : Option FieldType} {ad : Nat → Nat → Nat} {σ : g_S} {w : Nat × Nat} {pc : Nat} {vs : List (Nat × Value)} {st : List Value} {u : Nat} {σ1 : g_S} (C : g_M gCl X cc RX7 ret) (hu : u < g_n (gC hid) 40) (hp : σ.2.2 40 u 200 = 2) (hnm : (g_me X).name = "<init>") (e : σ1 = g_sR σ 40 u 200 1) (hd : decode cc pc = .ok (.putfield 9, 3)) (k : g_Y gCl X (gC hid) ad σ1 w (pc + 3) vs st) : g_Y gCl X (gC hid) ad σ w pc vs (.ref (ad 12 0) :: .ref (ad 40 u) :: st) := by
  subst e
  have hp0 : ¬ σ.2.2 40 u 200 = 0 := by rw [hp]; decide
  have hfs : gC_f40 ad u (σ.1 40 u) (σ.2.1 40 u) (g_updN (σ.2.2 40 u) 200 1) = (gC_f40 ad u (σ.1 40 u) (σ.2.1 40 u) (σ.2.2 40 u)).set 0 (.ref (ad 12 0)) := by
    unfold gC_f40
    rw [hp]
    rfl
  exact y_putF C hu in_X7 (N := 4) (ci := 6) rfl (if_neg hp0) tyX7 tyX7_ok nmX7 0 (by decide) rfl q360 rfl hnm rfl rfl rfl rfl (Nat.le_of_ble_eq_true rfl) g_sR_n (by show g_opt ((g_sR σ 40 u 200 1).2.2 40 u 200) (Sum.inl (Sum.inr (6, gC_f40 ad u (σ.1 40 u) (σ.2.1 40 u) ((g_sR σ 40 u 200 1).2.2 40 u)))) = _; rw [g_sR_s, hfs]; rfl) hd k
theorem pf_C_X7_15_40 {hid : Bool} {X : g_F} {cc : ByteArray} {ret : Option FieldType} {ad : Nat → Nat → Nat} {σ : g_S} {w : Nat × Nat} {pc : Nat} {vs : List (Nat × Value)} {st : List Value} {u : Nat} {v : Int32} {σ1 : g_S} (C : g_M gCl X cc RX7 ret) (hu : u < g_n (gC hid) 40) (hp : ¬ σ.2.2 40 u 200 = 0) (hnm : (g_me X).name = "<init>") (e : σ1 = g_sI σ 40 u 1 v) (hd : decode cc pc = .ok (.putfield 15, 3)) (k : g_Y gCl X (gC hid) ad σ1 w (pc + 3) vs st) : g_Y gCl X (gC hid) ad σ w pc vs (.int v :: .ref (ad 40 u) :: st) := by
  subst e
  exact y_putF C hu in_X7 (N := 4) (ci := 6) rfl (if_neg hp) tyX7 tyX7_ok nmX7 1 (by decide) rfl q361 rfl hnm rfl rfl rfl rfl (Nat.le_of_ble_eq_true rfl) g_sI_n (by show g_opt (σ.2.2 40 u 200) (Sum.inl (Sum.inr (6, gC_f40 ad u ((g_sI σ 40 u 1 v).1 40 u) ((g_sI σ 40 u 1 v).2.1 40 u) (σ.2.2 40 u)))) = _; rw [show g_opt (σ.2.2 40 u 200) _ = _ from if_neg hp, g_sI_s]; rfl) hd k
theorem pf_C_X7_25_40 {hid : Bool} {X : g_F} {cc : ByteArray} {ret : Option FieldType} {ad : Nat → Nat → Nat} {σ : g_S} {w : Nat × Nat} {pc : Nat} {vs : List (Nat × Value)} {st : List Value} {u : Nat} {v : Int32} {σ1 : g_S} (C : g_M gCl X cc RX7 ret) (hu : u < g_n (gC hid) 40) (hp : ¬ σ.2.2 40 u 200 = 0) (hnm : (g_me X).name = "<init>") (e : σ1 = g_sI σ 40 u 2 v) (hd : decode cc pc = .ok (.putfield 25, 3)) (k : g_Y gCl X (gC hid) ad σ1 w (pc + 3) vs st) : g_Y gCl X (gC hid) ad σ w pc vs (.int v :: .ref (ad 40 u) :: st) := by
  subst e
  exact y_putF C hu in_X7 (N := 4) (ci := 6) rfl (if_neg hp) tyX7 tyX7_ok nmX7 2 (by decide) rfl q363 rfl hnm rfl rfl rfl rfl (Nat.le_of_ble_eq_true rfl) g_sI_n (by show g_opt (σ.2.2 40 u 200) (Sum.inl (Sum.inr (6, gC_f40 ad u ((g_sI σ 40 u 2 v).1 40 u) ((g_sI σ 40 u 2 v).2.1 40 u) (σ.2.2 40 u)))) = _; rw [show g_opt (σ.2.2 40 u 200) _ = _ from if_neg hp, g_sI_s]; rfl) hd k
theorem gf_C_X7_28_40 {hid : Bool} {X : g_F} {cc : ByteArray} {ret : Option FieldType} {ad : Nat → Nat → Nat} {σ : g_S} {w : Nat × Nat} {pc : Nat} {vs : List (Nat × Value)} {st : List Value} {u : Nat} (C : g_M gCl X cc RX7 ret) (hu : u < g_n (gC hid) 40) (hp : ¬ σ.2.2 40 u 200 = 0) (hd : decode cc pc = .ok (.getfield 28, 3)) (k : g_Y gCl X (gC hid) ad σ w (pc + 3) vs (.int (σ.1 40 u 3) :: st)) : g_Y gCl X (gC hid) ad σ w pc vs (.ref (ad 40 u) :: st) :=
  y_get C hu in_X7 (N := 4) (ci := 6) rfl (if_neg hp) 3 (by decide) rfl q366 rfl hd k
theorem gf_C_X7_25_40 {hid : Bool} {X : g_F} {cc : ByteArray} {ret : Option FieldType} {ad : Nat → Nat → Nat} {σ : g_S} {w : Nat × Nat} {pc : Nat} {vs : List (Nat × Value)} {st : List Value} {u : Nat} (C : g_M gCl X cc RX7 ret) (hu : u < g_n (gC hid) 40) (hp : ¬ σ.2.2 40 u 200 = 0) (hd : decode cc pc = .ok (.getfield 25, 3)) (k : g_Y gCl X (gC hid) ad σ w (pc + 3) vs (.int (σ.1 40 u 2) :: st)) : g_Y gCl X (gC hid) ad σ w pc vs (.ref (ad 40 u) :: st) :=
  y_get C hu in_X7 (N := 4) (ci := 6) rfl (if_neg hp) 2 (by decide) rfl q363 rfl hd k
theorem gf_C_X7_9_40 {hid : Bool} {X : g_F} {cc : ByteArray} {ret : Option FieldType} {ad : Nat → Nat → Nat} {σ : g_S} {w : Nat × Nat} {pc : Nat} {vs : List (Nat × Value)} {st : List Value} {u : Nat} (C : g_M gCl X cc RX7 ret) (hu : u < g_n (gC hid) 40) (hp : g_set (σ.2.2 40 u 200) 0) (hd : decode cc pc = .ok (.getfield 9, 3)) (k : g_Y gCl X (gC hid) ad σ w (pc + 3) vs (.ref (ad 12 0) :: st)) : g_Y gCl X (gC hid) ad σ w pc vs (.ref (ad 40 u) :: st) :=
  y_get C hu in_X7 (N := 4) (ci := 6) rfl (if_neg (g_setp hp)) 0 (by decide) rfl q360 (by show some (ite _ _ _) = _; rw [if_pos hp]) hd k
theorem pf_C_X7_28_40 {hid : Bool} {X : g_F} {cc : ByteArray} {ret : Option FieldType} {ad : Nat → Nat → Nat} {σ : g_S} {w : Nat × Nat} {pc : Nat} {vs : List (Nat × Value)} {st : List Value} {u : Nat} {v : Int32} {σ1 : g_S} (C : g_M gCl X cc RX7 ret) (hu : u < g_n (gC hid) 40) (hp : ¬ σ.2.2 40 u 200 = 0) (e : σ1 = g_sI σ 40 u 3 v) (hd : decode cc pc = .ok (.putfield 28, 3)) (k : g_Y gCl X (gC hid) ad σ1 w (pc + 3) vs st) : g_Y gCl X (gC hid) ad σ w pc vs (.int v :: .ref (ad 40 u) :: st) := by
  subst e
  exact y_put C hu in_X7 (N := 4) (ci := 6) rfl (if_neg hp) tyX7 tyX7_ok nmX7 3 (by decide) rfl q366 rfl rfl rfl rfl (Nat.le_of_ble_eq_true rfl) g_sI_n (by show g_opt (σ.2.2 40 u 200) (Sum.inl (Sum.inr (6, gC_f40 ad u ((g_sI σ 40 u 3 v).1 40 u) ((g_sI σ 40 u 3 v).2.1 40 u) (σ.2.2 40 u)))) = _; rw [show g_opt (σ.2.2 40 u 200) _ = _ from if_neg hp, g_sI_s]; rfl) hd k
theorem gf_C_X1_187_52 {hid : Bool} {X : g_F} {cc : ByteArray} {ret : Option FieldType} {ad : Nat → Nat → Nat} {σ : g_S} {w : Nat × Nat} {pc : Nat} {vs : List (Nat × Value)} {st : List Value} {u : Nat} (C : g_M gCl X cc RX1 ret) (hu : u < g_n (gC hid) 52) (hp : ¬ σ.2.2 52 u 200 = 0) (hd : decode cc pc = .ok (.getfield 187, 3)) (k : g_Y gCl X (gC hid) ad σ w (pc + 3) vs (.int (σ.1 52 u 0) :: st)) : g_Y gCl X (gC hid) ad σ w pc vs (.ref (ad 52 u) :: st) :=
  y_getN C hu in_X8a (N := 1) (ci := 10) rfl (if_neg hp) 0 (by decide) rfl q450 rfl hd k
theorem gf_C_X7_15_40 {hid : Bool} {X : g_F} {cc : ByteArray} {ret : Option FieldType} {ad : Nat → Nat → Nat} {σ : g_S} {w : Nat × Nat} {pc : Nat} {vs : List (Nat × Value)} {st : List Value} {u : Nat} (C : g_M gCl X cc RX7 ret) (hu : u < g_n (gC hid) 40) (hp : ¬ σ.2.2 40 u 200 = 0) (hd : decode cc pc = .ok (.getfield 15, 3)) (k : g_Y gCl X (gC hid) ad σ w (pc + 3) vs (.int (σ.1 40 u 1) :: st)) : g_Y gCl X (gC hid) ad σ w pc vs (.ref (ad 40 u) :: st) :=
  y_get C hu in_X7 (N := 4) (ci := 6) rfl (if_neg hp) 1 (by decide) rfl q361 rfl hd k
theorem pf_C_X1_80_0 {hid : Bool} {X : g_F} {cc : ByteArray} {ret : Option FieldType} {ad : Nat → Nat → Nat} {σ : g_S} {w : Nat × Nat} {pc : Nat} {vs : List (Nat × Value)} {st : List Value} {u : Nat} {v : Int32} {σ1 : g_S} (C : g_M gCl X cc RX1 ret) (hu : u < g_n (gC hid) 0) (e : σ1 = g_sI σ 0 u 3 v) (hd : decode cc pc = .ok (.putfield 80, 3)) (k : g_Y gCl X (gC hid) ad σ1 w (pc + 3) vs st) : g_Y gCl X (gC hid) ad σ w pc vs (.int v :: .ref (ad 0 u) :: st) := by
  subst e
  exact y_put C hu in_X1 (N := 31) (ci := 0) rfl rfl tyX1 tyX1_ok nmX1 3 (by decide) rfl q232 rfl rfl rfl rfl (Nat.le_of_ble_eq_true rfl) g_sI_n (by show Sum.inl (Sum.inr (0, gC_f0 ad u ((g_sI σ 0 u 3 v).1 0 u) ((g_sI σ 0 u 3 v).2.1 0 u) (σ.2.2 0 u))) = _; rw [g_sI_s]; rfl) hd k
theorem pf_C_X1_13_0 {hid : Bool} {X : g_F} {cc : ByteArray} {ret : Option FieldType} {ad : Nat → Nat → Nat} {σ : g_S} {w : Nat × Nat} {pc : Nat} {vs : List (Nat × Value)} {st : List Value} {u : Nat} {v : Int32} {σ1 : g_S} (C : g_M gCl X cc RX1 ret) (hu : u < g_n (gC hid) 0) (e : σ1 = g_sI σ 0 u 4 v) (hd : decode cc pc = .ok (.putfield 13, 3)) (k : g_Y gCl X (gC hid) ad σ1 w (pc + 3) vs st) : g_Y gCl X (gC hid) ad σ w pc vs (.int v :: .ref (ad 0 u) :: st) := by
  subst e
  exact y_put C hu in_X1 (N := 31) (ci := 0) rfl rfl tyX1 tyX1_ok nmX1 4 (by decide) rfl q234 rfl rfl rfl rfl (Nat.le_of_ble_eq_true rfl) g_sI_n (by show Sum.inl (Sum.inr (0, gC_f0 ad u ((g_sI σ 0 u 4 v).1 0 u) ((g_sI σ 0 u 4 v).2.1 0 u) (σ.2.2 0 u))) = _; rw [g_sI_s]; rfl) hd k
theorem pf_C_X1_22_0 {hid : Bool} {X : g_F} {cc : ByteArray} {ret : Option FieldType} {ad : Nat → Nat → Nat} {σ : g_S} {w : Nat × Nat} {pc : Nat} {vs : List (Nat × Value)} {st : List Value} {u : Nat} {v : Int64} {σ1 : g_S} (C : g_M gCl X cc RX1 ret) (hu : u < g_n (gC hid) 0) (e : σ1 = g_sL σ 0 u 9 v) (hd : decode cc pc = .ok (.putfield 22, 3)) (k : g_Y gCl X (gC hid) ad σ1 w (pc + 3) vs st) : g_Y gCl X (gC hid) ad σ w pc vs (.long v :: .ref (ad 0 u) :: st) := by
  subst e
  exact y_put C hu in_X1 (N := 31) (ci := 0) rfl rfl tyX1 tyX1_ok nmX1 9 (by decide) rfl q243 rfl rfl rfl rfl (Nat.le_of_ble_eq_true rfl) g_sL_n (by show Sum.inl (Sum.inr (0, gC_f0 ad u ((g_sL σ 0 u 9 v).1 0 u) ((g_sL σ 0 u 9 v).2.1 0 u) (σ.2.2 0 u))) = _; rw [g_sL_s]; rfl) hd k
theorem pf_C_X1_150_0 {hid : Bool} {X : g_F} {cc : ByteArray} {ret : Option FieldType} {ad : Nat → Nat → Nat} {σ : g_S} {w : Nat × Nat} {pc : Nat} {vs : List (Nat × Value)} {st : List Value} {u : Nat} {v : Int32} {σ1 : g_S} (C : g_M gCl X cc RX1 ret) (hu : u < g_n (gC hid) 0) (e : σ1 = g_sI σ 0 u 5 v) (hd : decode cc pc = .ok (.putfield 150, 3)) (k : g_Y gCl X (gC hid) ad σ1 w (pc + 3) vs st) : g_Y gCl X (gC hid) ad σ w pc vs (.int v :: .ref (ad 0 u) :: st) := by
  subst e
  exact y_put C hu in_X1 (N := 31) (ci := 0) rfl rfl tyX1 tyX1_ok nmX1 5 (by decide) rfl q237 rfl rfl rfl rfl (Nat.le_of_ble_eq_true rfl) g_sI_n (by show Sum.inl (Sum.inr (0, gC_f0 ad u ((g_sI σ 0 u 5 v).1 0 u) ((g_sI σ 0 u 5 v).2.1 0 u) (σ.2.2 0 u))) = _; rw [g_sI_s]; rfl) hd k
theorem pf_C_X1_153_0 {hid : Bool} {X : g_F} {cc : ByteArray} {ret : Option FieldType} {ad : Nat → Nat → Nat} {σ : g_S} {w : Nat × Nat} {pc : Nat} {vs : List (Nat × Value)} {st : List Value} {u : Nat} {v : Int32} {σ1 : g_S} (C : g_M gCl X cc RX1 ret) (hu : u < g_n (gC hid) 0) (e : σ1 = g_sI σ 0 u 6 v) (hd : decode cc pc = .ok (.putfield 153, 3)) (k : g_Y gCl X (gC hid) ad σ1 w (pc + 3) vs st) : g_Y gCl X (gC hid) ad σ w pc vs (.int v :: .ref (ad 0 u) :: st) := by
  subst e
  exact y_put C hu in_X1 (N := 31) (ci := 0) rfl rfl tyX1 tyX1_ok nmX1 6 (by decide) rfl q239 rfl rfl rfl rfl (Nat.le_of_ble_eq_true rfl) g_sI_n (by show Sum.inl (Sum.inr (0, gC_f0 ad u ((g_sI σ 0 u 6 v).1 0 u) ((g_sI σ 0 u 6 v).2.1 0 u) (σ.2.2 0 u))) = _; rw [g_sI_s]; rfl) hd k
theorem pf_C_X1_190_0 {hid : Bool} {X : g_F} {cc : ByteArray} {ret : Option FieldType} {ad : Nat → Nat → Nat} {σ : g_S} {w : Nat × Nat} {pc : Nat} {vs : List (Nat × Value)} {st : List Value} {u : Nat} {v : Int32} {σ1 : g_S} (C : g_M gCl X cc RX1 ret) (hu : u < g_n (gC hid) 0) (e : σ1 = g_sI σ 0 u 26 v) (hd : decode cc pc = .ok (.putfield 190, 3)) (k : g_Y gCl X (gC hid) ad σ1 w (pc + 3) vs st) : g_Y gCl X (gC hid) ad σ w pc vs (.int v :: .ref (ad 0 u) :: st) := by
  subst e
  exact y_put C hu in_X1 (N := 31) (ci := 0) rfl rfl tyX1 tyX1_ok nmX1 26 (by decide) rfl q261 rfl rfl rfl rfl (Nat.le_of_ble_eq_true rfl) g_sI_n (by show Sum.inl (Sum.inr (0, gC_f0 ad u ((g_sI σ 0 u 26 v).1 0 u) ((g_sI σ 0 u 26 v).2.1 0 u) (σ.2.2 0 u))) = _; rw [g_sI_s]; rfl) hd k
theorem gf_C_X1_84_0 {hid : Bool} {X : g_F} {cc : ByteArray} {ret : Option FieldType} {ad : Nat → Nat → Nat} {σ : g_S} {w : Nat × Nat} {pc : Nat} {vs : List (Nat × Value)} {st : List Value} {u : Nat} (C : g_M gCl X cc RX1 ret) (hu : u < g_n (gC hid) 0) (hd : decode cc pc = .ok (.getfield 84, 3)) (k : g_Y gCl X (gC hid) ad σ w (pc + 3) vs (.ref (ad 4 0) :: st)) : g_Y gCl X (gC hid) ad σ w pc vs (.ref (ad 0 u) :: st) :=
  y_get C hu in_X1 (N := 31) (ci := 0) rfl rfl 10 (by decide) rfl q245 rfl hd k
theorem pf_C_X1_34_4 {hid : Bool} {X : g_F} {cc : ByteArray} {ret : Option FieldType} {ad : Nat → Nat → Nat} {σ : g_S} {w : Nat × Nat} {pc : Nat} {vs : List (Nat × Value)} {st : List Value} {u : Nat} {v : Int32} {σ1 : g_S} (C : g_M gCl X cc RX1 ret) (hu : u < g_n (gC hid) 4) (e : σ1 = g_sI σ 4 u 5 v) (hd : decode cc pc = .ok (.putfield 34, 3)) (k : g_Y gCl X (gC hid) ad σ1 w (pc + 3) vs st) : g_Y gCl X (gC hid) ad σ w pc vs (.int v :: .ref (ad 4 u) :: st) := by
  subst e
  exact y_put C hu in_X5 (N := 6) (ci := 4) rfl rfl tyX5 tyX5_ok nmX5 5 (by decide) rfl q206 rfl rfl rfl rfl (Nat.le_of_ble_eq_true rfl) g_sI_n (by show Sum.inl (Sum.inr (4, gC_f4 ad u ((g_sI σ 4 u 5 v).1 4 u) ((g_sI σ 4 u 5 v).2.1 4 u) (σ.2.2 4 u))) = _; rw [g_sI_s]; rfl) hd k
theorem pf_C_X1_196_0 {hid : Bool} {X : g_F} {cc : ByteArray} {ret : Option FieldType} {ad : Nat → Nat → Nat} {σ : g_S} {w : Nat × Nat} {pc : Nat} {vs : List (Nat × Value)} {st : List Value} {u : Nat} {v : Int32} {σ1 : g_S} (C : g_M gCl X cc RX1 ret) (hu : u < g_n (gC hid) 0) (e : σ1 = g_sI σ 0 u 8 v) (hd : decode cc pc = .ok (.putfield 196, 3)) (k : g_Y gCl X (gC hid) ad σ1 w (pc + 3) vs st) : g_Y gCl X (gC hid) ad σ w pc vs (.int v :: .ref (ad 0 u) :: st) := by
  subst e
  exact y_put C hu in_X1 (N := 31) (ci := 0) rfl rfl tyX1 tyX1_ok nmX1 8 (by decide) rfl q242 rfl rfl rfl rfl (Nat.le_of_ble_eq_true rfl) g_sI_n (by show Sum.inl (Sum.inr (0, gC_f0 ad u ((g_sI σ 0 u 8 v).1 0 u) ((g_sI σ 0 u 8 v).2.1 0 u) (σ.2.2 0 u))) = _; rw [g_sI_s]; rfl) hd k
theorem gf_C_X1_199_0 {hid : Bool} {X : g_F} {cc : ByteArray} {ret : Option FieldType} {ad : Nat → Nat → Nat} {σ : g_S} {w : Nat × Nat} {pc : Nat} {vs : List (Nat × Value)} {st : List Value} {u : Nat} (C : g_M gCl X cc RX1 ret) (hu : u < g_n (gC hid) 0) (hd : decode cc pc = .ok (.getfield 199, 3)) (k : g_Y gCl X (gC hid) ad σ w (pc + 3) vs (.int (σ.1 0 u 7) :: st)) : g_Y gCl X (gC hid) ad σ w pc vs (.ref (ad 0 u) :: st) :=
  y_get C hu in_X1 (N := 31) (ci := 0) rfl rfl 7 (by decide) rfl q241 rfl hd k
theorem pf_C_X1_199_0 {hid : Bool} {X : g_F} {cc : ByteArray} {ret : Option FieldType} {ad : Nat → Nat → Nat} {σ : g_S} {w : Nat × Nat} {pc : Nat} {vs : List (Nat × Value)} {st : List Value} {u : Nat} {v : Int32} {σ1 : g_S} (C : g_M gCl X cc RX1 ret) (hu : u < g_n (gC hid) 0) (e : σ1 = g_sI σ 0 u 7 v) (hd : decode cc pc = .ok (.putfield 199, 3)) (k : g_Y gCl X (gC hid) ad σ1 w (pc + 3) vs st) : g_Y gCl X (gC hid) ad σ w pc vs (.int v :: .ref (ad 0 u) :: st) := by
  subst e
  exact y_put C hu in_X1 (N := 31) (ci := 0) rfl rfl tyX1 tyX1_ok nmX1 7 (by decide) rfl q241 rfl rfl rfl rfl (Nat.le_of_ble_eq_true rfl) g_sI_n (by show Sum.inl (Sum.inr (0, gC_f0 ad u ((g_sI σ 0 u 7 v).1 0 u) ((g_sI σ 0 u 7 v).2.1 0 u) (σ.2.2 0 u))) = _; rw [g_sI_s]; rfl) hd k
theorem gf_C_X1_202_40 {hid : Bool} {X : g_F} {cc : ByteArray} {ret : Option FieldType} {ad : Nat → Nat → Nat} {σ : g_S} {w : Nat × Nat} {pc : Nat} {vs : List (Nat × Value)} {st : List Value} {u : Nat} (C : g_M gCl X cc RX1 ret) (hu : u < g_n (gC hid) 40) (hp : ¬ σ.2.2 40 u 200 = 0) (hd : decode cc pc = .ok (.getfield 202, 3)) (k : g_Y gCl X (gC hid) ad σ w (pc + 3) vs (.int (σ.1 40 u 1) :: st)) : g_Y gCl X (gC hid) ad σ w pc vs (.ref (ad 40 u) :: st) :=
  y_get C hu in_X7 (N := 4) (ci := 6) rfl (if_neg hp) 1 (by decide) rfl q362 rfl hd k
theorem gf_C_X1_80_0 {hid : Bool} {X : g_F} {cc : ByteArray} {ret : Option FieldType} {ad : Nat → Nat → Nat} {σ : g_S} {w : Nat × Nat} {pc : Nat} {vs : List (Nat × Value)} {st : List Value} {u : Nat} (C : g_M gCl X cc RX1 ret) (hu : u < g_n (gC hid) 0) (hd : decode cc pc = .ok (.getfield 80, 3)) (k : g_Y gCl X (gC hid) ad σ w (pc + 3) vs (.int (σ.1 0 u 3) :: st)) : g_Y gCl X (gC hid) ad σ w pc vs (.ref (ad 0 u) :: st) :=
  y_get C hu in_X1 (N := 31) (ci := 0) rfl rfl 3 (by decide) rfl q232 rfl hd k
theorem gf_C_X1_13_0 {hid : Bool} {X : g_F} {cc : ByteArray} {ret : Option FieldType} {ad : Nat → Nat → Nat} {σ : g_S} {w : Nat × Nat} {pc : Nat} {vs : List (Nat × Value)} {st : List Value} {u : Nat} (C : g_M gCl X cc RX1 ret) (hu : u < g_n (gC hid) 0) (hd : decode cc pc = .ok (.getfield 13, 3)) (k : g_Y gCl X (gC hid) ad σ w (pc + 3) vs (.int (σ.1 0 u 4) :: st)) : g_Y gCl X (gC hid) ad σ w pc vs (.ref (ad 0 u) :: st) :=
  y_get C hu in_X1 (N := 31) (ci := 0) rfl rfl 4 (by decide) rfl q234 rfl hd k
theorem gf_C_X1_22_0 {hid : Bool} {X : g_F} {cc : ByteArray} {ret : Option FieldType} {ad : Nat → Nat → Nat} {σ : g_S} {w : Nat × Nat} {pc : Nat} {vs : List (Nat × Value)} {st : List Value} {u : Nat} (C : g_M gCl X cc RX1 ret) (hu : u < g_n (gC hid) 0) (hd : decode cc pc = .ok (.getfield 22, 3)) (k : g_Y gCl X (gC hid) ad σ w (pc + 3) vs (.long (σ.2.1 0 u 9) :: st)) : g_Y gCl X (gC hid) ad σ w pc vs (.ref (ad 0 u) :: st) :=
  y_get C hu in_X1 (N := 31) (ci := 0) rfl rfl 9 (by decide) rfl q243 rfl hd k
theorem gf_C_X1_219_4 {hid : Bool} {X : g_F} {cc : ByteArray} {ret : Option FieldType} {ad : Nat → Nat → Nat} {σ : g_S} {w : Nat × Nat} {pc : Nat} {vs : List (Nat × Value)} {st : List Value} {u : Nat} (C : g_M gCl X cc RX1 ret) (hu : u < g_n (gC hid) 4) (hd : decode cc pc = .ok (.getfield 219, 3)) (k : g_Y gCl X (gC hid) ad σ w (pc + 3) vs (.ref (ad 6 u) :: st)) : g_Y gCl X (gC hid) ad σ w pc vs (.ref (ad 4 u) :: st) :=
  y_get C hu in_X5 (N := 6) (ci := 4) rfl rfl 1 (by decide) rfl q195 rfl hd k
theorem gf_C_X1_222_4 {hid : Bool} {X : g_F} {cc : ByteArray} {ret : Option FieldType} {ad : Nat → Nat → Nat} {σ : g_S} {w : Nat × Nat} {pc : Nat} {vs : List (Nat × Value)} {st : List Value} {u : Nat} (C : g_M gCl X cc RX1 ret) (hu : u < g_n (gC hid) 4) (hd : decode cc pc = .ok (.getfield 222, 3)) (k : g_Y gCl X (gC hid) ad σ w (pc + 3) vs (.ref (ad 7 u) :: st)) : g_Y gCl X (gC hid) ad σ w pc vs (.ref (ad 4 u) :: st) :=
  y_get C hu in_X5 (N := 6) (ci := 4) rfl rfl 2 (by decide) rfl q198 rfl hd k
theorem gf_C_X1_225_4 {hid : Bool} {X : g_F} {cc : ByteArray} {ret : Option FieldType} {ad : Nat → Nat → Nat} {σ : g_S} {w : Nat × Nat} {pc : Nat} {vs : List (Nat × Value)} {st : List Value} {u : Nat} (C : g_M gCl X cc RX1 ret) (hu : u < g_n (gC hid) 4) (hd : decode cc pc = .ok (.getfield 225, 3)) (k : g_Y gCl X (gC hid) ad σ w (pc + 3) vs (.ref (ad 8 u) :: st)) : g_Y gCl X (gC hid) ad σ w pc vs (.ref (ad 4 u) :: st) :=
  y_get C hu in_X5 (N := 6) (ci := 4) rfl rfl 3 (by decide) rfl q201 rfl hd k
theorem gf_C_X1_153_0 {hid : Bool} {X : g_F} {cc : ByteArray} {ret : Option FieldType} {ad : Nat → Nat → Nat} {σ : g_S} {w : Nat × Nat} {pc : Nat} {vs : List (Nat × Value)} {st : List Value} {u : Nat} (C : g_M gCl X cc RX1 ret) (hu : u < g_n (gC hid) 0) (hd : decode cc pc = .ok (.getfield 153, 3)) (k : g_Y gCl X (gC hid) ad σ w (pc + 3) vs (.int (σ.1 0 u 6) :: st)) : g_Y gCl X (gC hid) ad σ w pc vs (.ref (ad 0 u) :: st) :=
  y_get C hu in_X1 (N := 31) (ci := 0) rfl rfl 6 (by decide) rfl q239 rfl hd k
theorem gf_C_X1_228_4 {hid : Bool} {X : g_F} {cc : ByteArray} {ret : Option FieldType} {ad : Nat → Nat → Nat} {σ : g_S} {w : Nat × Nat} {pc : Nat} {vs : List (Nat × Value)} {st : List Value} {u : Nat} (C : g_M gCl X cc RX1 ret) (hu : u < g_n (gC hid) 4) (hd : decode cc pc = .ok (.getfield 228, 3)) (k : g_Y gCl X (gC hid) ad σ w (pc + 3) vs (.ref (ad 9 u) :: st)) : g_Y gCl X (gC hid) ad σ w pc vs (.ref (ad 4 u) :: st) :=
  y_get C hu in_X5 (N := 6) (ci := 4) rfl rfl 4 (by decide) rfl q204 rfl hd k
theorem gf_C_X1_213_40 {hid : Bool} {X : g_F} {cc : ByteArray} {ret : Option FieldType} {ad : Nat → Nat → Nat} {σ : g_S} {w : Nat × Nat} {pc : Nat} {vs : List (Nat × Value)} {st : List Value} {u : Nat} (C : g_M gCl X cc RX1 ret) (hu : u < g_n (gC hid) 40) (hp : ¬ σ.2.2 40 u 200 = 0) (hd : decode cc pc = .ok (.getfield 213, 3)) (k : g_Y gCl X (gC hid) ad σ w (pc + 3) vs (.int (σ.1 40 u 3) :: st)) : g_Y gCl X (gC hid) ad σ w pc vs (.ref (ad 40 u) :: st) :=
  y_get C hu in_X7 (N := 4) (ci := 6) rfl (if_neg hp) 3 (by decide) rfl q371 rfl hd k
theorem pf_C_X1_98_0_r {hid : Bool} {X : g_F} {cc : ByteArray} {ret : Option FieldType} {ad : Nat → Nat → Nat} {σ : g_S} {w : Nat × Nat} {pc : Nat} {vs : List (Nat × Value)} {st : List Value} {u : Nat} {x : Nat} {σ1 : g_S} (C : g_M gCl X cc RX1 ret) (hu : u < g_n (gC hid) 0) (e : σ1 = g_sR σ 0 u 14 x) (hd : decode cc pc = .ok (.putfield 98, 3)) (k : g_Y gCl X (gC hid) ad σ1 w (pc + 3) vs st) : g_Y gCl X (gC hid) ad σ w pc vs (.ref (ad 11 x) :: .ref (ad 0 u) :: st) := by
  subst e
  exact y_put C hu in_X1 (N := 31) (ci := 0) rfl rfl tyX1 tyX1_ok nmX1 14 (by decide) rfl q249 rfl rfl rfl rfl (Nat.le_of_ble_eq_true rfl) g_sR_n (by show Sum.inl (Sum.inr (0, gC_f0 ad u (σ.1 0 u) (σ.2.1 0 u) ((g_sR σ 0 u 14 x).2.2 0 u))) = _; rw [g_sR_s]; rfl) hd k
theorem pf_C_X9_3_53 {hid : Bool} {X : g_F} {cc : ByteArray} {ret : Option FieldType} {ad : Nat → Nat → Nat} {σ : g_S} {w : Nat × Nat} {pc : Nat} {vs : List (Nat × Value)} {st : List Value} {u : Nat} {σ1 : g_S} (C : g_M gCl X cc RX9 ret) (hu : u < g_n (gC hid) 53) (hp : σ.2.2 53 u 200 = 2) (hnm : (g_me X).name = "<init>") (e : σ1 = g_sR σ 53 u 200 3) (hd : decode cc pc = .ok (.putfield 3, 3)) (k : g_Y gCl X (gC hid) ad σ1 w (pc + 3) vs st) : g_Y gCl X (gC hid) ad σ w pc vs (.ref (ad 0 0) :: .ref (ad 53 u) :: st) := by
  subst e
  have hp0 : ¬ σ.2.2 53 u 200 = 0 := by rw [hp]; decide
  have hfs : gC_f53 ad u (σ.1 53 u) (σ.2.1 53 u) (g_updN (σ.2.2 53 u) 200 3) = (gC_f53 ad u (σ.1 53 u) (σ.2.1 53 u) (σ.2.2 53 u)).set 7 (.ref (ad 0 0)) := by
    unfold gC_f53
    rw [hp]
    rfl
  exact y_putF C hu in_X9 (N := 8) (ci := 7) rfl (if_neg hp0) tyX9 tyX9_ok nmX9 7 (by decide) rfl q534 rfl hnm rfl rfl rfl rfl (Nat.le_of_ble_eq_true rfl) g_sR_n (by show g_opt ((g_sR σ 53 u 200 3).2.2 53 u 200) (Sum.inl (Sum.inr (7, gC_f53 ad u (σ.1 53 u) (σ.2.1 53 u) ((g_sR σ 53 u 200 3).2.2 53 u)))) = _; rw [g_sR_s, hfs]; rfl) hd k
theorem pf_C_X7_9_53 {hid : Bool} {X : g_F} {cc : ByteArray} {ret : Option FieldType} {ad : Nat → Nat → Nat} {σ : g_S} {w : Nat × Nat} {pc : Nat} {vs : List (Nat × Value)} {st : List Value} {u x : Nat} {σ1 : g_S} (C : g_M gCl X cc RX7 ret) (hu : u < g_n (gC hid) 53) (hp : (σ.2.2 53 u 200) = 3 ∧ (σ.2.2 53 u 201) = x) (hnm : (g_me X).name = "<init>") (e : σ1 = g_sR σ 53 u 200 1) (hd : decode cc pc = .ok (.putfield 9, 3)) (k : g_Y gCl X (gC hid) ad σ1 w (pc + 3) vs st) : g_Y gCl X (gC hid) ad σ w pc vs (.ref (ad 27 x) :: .ref (ad 53 u) :: st) := by
  subst e
  have hp0 : ¬ σ.2.2 53 u 200 = 0 := by rw [hp.1]; decide
  have hfs : gC_f53 ad u (σ.1 53 u) (σ.2.1 53 u) (g_updN (σ.2.2 53 u) 200 1) = (gC_f53 ad u (σ.1 53 u) (σ.2.1 53 u) (σ.2.2 53 u)).set 0 (.ref (ad 27 x)) := by
    unfold gC_f53
    rw [← hp.2, hp.1]
    rfl
  exact y_putF C hu in_X9 (N := 8) (ci := 7) rfl (if_neg hp0) tyX9 tyX9_ok nmX9 0 (by decide) rfl q360 rfl hnm rfl rfl rfl rfl (Nat.le_of_ble_eq_true rfl) g_sR_n (by show g_opt ((g_sR σ 53 u 200 1).2.2 53 u 200) (Sum.inl (Sum.inr (7, gC_f53 ad u (σ.1 53 u) (σ.2.1 53 u) ((g_sR σ 53 u 200 1).2.2 53 u)))) = _; rw [g_sR_s, hfs]; rfl) hd k
theorem pf_C_X7_15_53 {hid : Bool} {X : g_F} {cc : ByteArray} {ret : Option FieldType} {ad : Nat → Nat → Nat} {σ : g_S} {w : Nat × Nat} {pc : Nat} {vs : List (Nat × Value)} {st : List Value} {u : Nat} {v : Int32} {σ1 : g_S} (C : g_M gCl X cc RX7 ret) (hu : u < g_n (gC hid) 53) (hp : ¬ σ.2.2 53 u 200 = 0) (hnm : (g_me X).name = "<init>") (e : σ1 = g_sI σ 53 u 1 v) (hd : decode cc pc = .ok (.putfield 15, 3)) (k : g_Y gCl X (gC hid) ad σ1 w (pc + 3) vs st) : g_Y gCl X (gC hid) ad σ w pc vs (.int v :: .ref (ad 53 u) :: st) := by
  subst e
  exact y_putF C hu in_X9 (N := 8) (ci := 7) rfl (if_neg hp) tyX9 tyX9_ok nmX9 1 (by decide) rfl q361 rfl hnm rfl rfl rfl rfl (Nat.le_of_ble_eq_true rfl) g_sI_n (by show g_opt (σ.2.2 53 u 200) (Sum.inl (Sum.inr (7, gC_f53 ad u ((g_sI σ 53 u 1 v).1 53 u) ((g_sI σ 53 u 1 v).2.1 53 u) (σ.2.2 53 u)))) = _; rw [show g_opt (σ.2.2 53 u 200) _ = _ from if_neg hp, g_sI_s]; rfl) hd k
theorem pf_C_X7_25_53 {hid : Bool} {X : g_F} {cc : ByteArray} {ret : Option FieldType} {ad : Nat → Nat → Nat} {σ : g_S} {w : Nat × Nat} {pc : Nat} {vs : List (Nat × Value)} {st : List Value} {u : Nat} {v : Int32} {σ1 : g_S} (C : g_M gCl X cc RX7 ret) (hu : u < g_n (gC hid) 53) (hp : ¬ σ.2.2 53 u 200 = 0) (hnm : (g_me X).name = "<init>") (e : σ1 = g_sI σ 53 u 2 v) (hd : decode cc pc = .ok (.putfield 25, 3)) (k : g_Y gCl X (gC hid) ad σ1 w (pc + 3) vs st) : g_Y gCl X (gC hid) ad σ w pc vs (.int v :: .ref (ad 53 u) :: st) := by
  subst e
  exact y_putF C hu in_X9 (N := 8) (ci := 7) rfl (if_neg hp) tyX9 tyX9_ok nmX9 2 (by decide) rfl q363 rfl hnm rfl rfl rfl rfl (Nat.le_of_ble_eq_true rfl) g_sI_n (by show g_opt (σ.2.2 53 u 200) (Sum.inl (Sum.inr (7, gC_f53 ad u ((g_sI σ 53 u 2 v).1 53 u) ((g_sI σ 53 u 2 v).2.1 53 u) (σ.2.2 53 u)))) = _; rw [show g_opt (σ.2.2 53 u 200) _ = _ from if_neg hp, g_sI_s]; rfl) hd k
theorem gf_C_X7_15_53 {hid : Bool} {X : g_F} {cc : ByteArray} {ret : Option FieldType} {ad : Nat → Nat → Nat} {σ : g_S} {w : Nat × Nat} {pc : Nat} {vs : List (Nat × Value)} {st : List Value} {u : Nat} (C : g_M gCl X cc RX7 ret) (hu : u < g_n (gC hid) 53) (hp : ¬ σ.2.2 53 u 200 = 0) (hd : decode cc pc = .ok (.getfield 15, 3)) (k : g_Y gCl X (gC hid) ad σ w (pc + 3) vs (.int (σ.1 53 u 1) :: st)) : g_Y gCl X (gC hid) ad σ w pc vs (.ref (ad 53 u) :: st) :=
  y_get C hu in_X9 (N := 8) (ci := 7) rfl (if_neg hp) 1 (by decide) rfl q361 rfl hd k
theorem pf_C_X1_30_0_r {hid : Bool} {X : g_F} {cc : ByteArray} {ret : Option FieldType} {ad : Nat → Nat → Nat} {σ : g_S} {w : Nat × Nat} {pc : Nat} {vs : List (Nat × Value)} {st : List Value} {u : Nat} {x : Nat} {σ1 : g_S} (C : g_M gCl X cc RX1 ret) (hu : u < g_n (gC hid) 0) (e : σ1 = g_sR σ 0 u 19 (x + 1)) (hd : decode cc pc = .ok (.putfield 30, 3)) (k : g_Y gCl X (gC hid) ad σ1 w (pc + 3) vs st) : g_Y gCl X (gC hid) ad σ w pc vs (.ref (ad 26 x) :: .ref (ad 0 u) :: st) := by
  subst e
  exact y_put C hu in_X1 (N := 31) (ci := 0) rfl rfl tyX1 tyX1_ok nmX1 19 (by decide) rfl q254 rfl rfl rfl rfl (Nat.le_of_ble_eq_true rfl) g_sR_n (by show Sum.inl (Sum.inr (0, gC_f0 ad u (σ.1 0 u) (σ.2.1 0 u) ((g_sR σ 0 u 19 (x + 1)).2.2 0 u))) = _; rw [g_sR_s]; rfl) hd k
theorem pf_C_X1_30_0_n {hid : Bool} {X : g_F} {cc : ByteArray} {ret : Option FieldType} {ad : Nat → Nat → Nat} {σ : g_S} {w : Nat × Nat} {pc : Nat} {vs : List (Nat × Value)} {st : List Value} {u : Nat} {σ1 : g_S} (C : g_M gCl X cc RX1 ret) (hu : u < g_n (gC hid) 0) (e : σ1 = g_sR σ 0 u 19 0) (hd : decode cc pc = .ok (.putfield 30, 3)) (k : g_Y gCl X (gC hid) ad σ1 w (pc + 3) vs st) : g_Y gCl X (gC hid) ad σ w pc vs (.null :: .ref (ad 0 u) :: st) := by
  subst e
  exact y_put C hu in_X1 (N := 31) (ci := 0) rfl rfl tyX1 tyX1_ok nmX1 19 (by decide) rfl q254 rfl rfl rfl rfl (Nat.le_of_ble_eq_true rfl) g_sR_n (by show Sum.inl (Sum.inr (0, gC_f0 ad u (σ.1 0 u) (σ.2.1 0 u) ((g_sR σ 0 u 19 0).2.2 0 u))) = _; rw [g_sR_s]; rfl) hd k
theorem gf_C_X1_196_0 {hid : Bool} {X : g_F} {cc : ByteArray} {ret : Option FieldType} {ad : Nat → Nat → Nat} {σ : g_S} {w : Nat × Nat} {pc : Nat} {vs : List (Nat × Value)} {st : List Value} {u : Nat} (C : g_M gCl X cc RX1 ret) (hu : u < g_n (gC hid) 0) (hd : decode cc pc = .ok (.getfield 196, 3)) (k : g_Y gCl X (gC hid) ad σ w (pc + 3) vs (.int (σ.1 0 u 8) :: st)) : g_Y gCl X (gC hid) ad σ w pc vs (.ref (ad 0 u) :: st) :=
  y_get C hu in_X1 (N := 31) (ci := 0) rfl rfl 8 (by decide) rfl q242 rfl hd k
theorem gf_C_X1_94_0 {hid : Bool} {X : g_F} {cc : ByteArray} {ret : Option FieldType} {ad : Nat → Nat → Nat} {σ : g_S} {w : Nat × Nat} {pc : Nat} {vs : List (Nat × Value)} {st : List Value} {u : Nat} (C : g_M gCl X cc RX1 ret) (hu : u < g_n (gC hid) 0) (hd : decode cc pc = .ok (.getfield 94, 3)) (k : g_Y gCl X (gC hid) ad σ w (pc + 3) vs (.ref (ad 10 0) :: st)) : g_Y gCl X (gC hid) ad σ w pc vs (.ref (ad 0 u) :: st) :=
  y_get C hu in_X1 (N := 31) (ci := 0) rfl rfl 13 (by decide) rfl q248 rfl hd k
theorem gf_C_X5_9_4 {hid : Bool} {X : g_F} {cc : ByteArray} {ret : Option FieldType} {ad : Nat → Nat → Nat} {σ : g_S} {w : Nat × Nat} {pc : Nat} {vs : List (Nat × Value)} {st : List Value} {u : Nat} (C : g_M gCl X cc RX5 ret) (hu : u < g_n (gC hid) 4) (hd : decode cc pc = .ok (.getfield 9, 3)) (k : g_Y gCl X (gC hid) ad σ w (pc + 3) vs (.ref (ad 5 u) :: st)) : g_Y gCl X (gC hid) ad σ w pc vs (.ref (ad 4 u) :: st) :=
  y_get C hu in_X5 (N := 6) (ci := 4) rfl rfl 0 (by decide) rfl q188 rfl hd k
theorem gf_C_X5_15_4 {hid : Bool} {X : g_F} {cc : ByteArray} {ret : Option FieldType} {ad : Nat → Nat → Nat} {σ : g_S} {w : Nat × Nat} {pc : Nat} {vs : List (Nat × Value)} {st : List Value} {u : Nat} (C : g_M gCl X cc RX5 ret) (hu : u < g_n (gC hid) 4) (hd : decode cc pc = .ok (.getfield 15, 3)) (k : g_Y gCl X (gC hid) ad σ w (pc + 3) vs (.ref (ad 6 u) :: st)) : g_Y gCl X (gC hid) ad σ w pc vs (.ref (ad 4 u) :: st) :=
  y_get C hu in_X5 (N := 6) (ci := 4) rfl rfl 1 (by decide) rfl q192 rfl hd k
theorem gf_C_X5_18_4 {hid : Bool} {X : g_F} {cc : ByteArray} {ret : Option FieldType} {ad : Nat → Nat → Nat} {σ : g_S} {w : Nat × Nat} {pc : Nat} {vs : List (Nat × Value)} {st : List Value} {u : Nat} (C : g_M gCl X cc RX5 ret) (hu : u < g_n (gC hid) 4) (hd : decode cc pc = .ok (.getfield 18, 3)) (k : g_Y gCl X (gC hid) ad σ w (pc + 3) vs (.ref (ad 7 u) :: st)) : g_Y gCl X (gC hid) ad σ w pc vs (.ref (ad 4 u) :: st) :=
  y_get C hu in_X5 (N := 6) (ci := 4) rfl rfl 2 (by decide) rfl q196 rfl hd k
theorem gf_C_X5_21_4 {hid : Bool} {X : g_F} {cc : ByteArray} {ret : Option FieldType} {ad : Nat → Nat → Nat} {σ : g_S} {w : Nat × Nat} {pc : Nat} {vs : List (Nat × Value)} {st : List Value} {u : Nat} (C : g_M gCl X cc RX5 ret) (hu : u < g_n (gC hid) 4) (hd : decode cc pc = .ok (.getfield 21, 3)) (k : g_Y gCl X (gC hid) ad σ w (pc + 3) vs (.ref (ad 8 u) :: st)) : g_Y gCl X (gC hid) ad σ w pc vs (.ref (ad 4 u) :: st) :=
  y_get C hu in_X5 (N := 6) (ci := 4) rfl rfl 3 (by decide) rfl q199 rfl hd k
theorem gf_C_X5_24_4 {hid : Bool} {X : g_F} {cc : ByteArray} {ret : Option FieldType} {ad : Nat → Nat → Nat} {σ : g_S} {w : Nat × Nat} {pc : Nat} {vs : List (Nat × Value)} {st : List Value} {u : Nat} (C : g_M gCl X cc RX5 ret) (hu : u < g_n (gC hid) 4) (hd : decode cc pc = .ok (.getfield 24, 3)) (k : g_Y gCl X (gC hid) ad σ w (pc + 3) vs (.ref (ad 9 u) :: st)) : g_Y gCl X (gC hid) ad σ w pc vs (.ref (ad 4 u) :: st) :=
  y_get C hu in_X5 (N := 6) (ci := 4) rfl rfl 4 (by decide) rfl q202 rfl hd k
theorem gf_C_X5_33_4 {hid : Bool} {X : g_F} {cc : ByteArray} {ret : Option FieldType} {ad : Nat → Nat → Nat} {σ : g_S} {w : Nat × Nat} {pc : Nat} {vs : List (Nat × Value)} {st : List Value} {u : Nat} (C : g_M gCl X cc RX5 ret) (hu : u < g_n (gC hid) 4) (hd : decode cc pc = .ok (.getfield 33, 3)) (k : g_Y gCl X (gC hid) ad σ w (pc + 3) vs (.int (σ.1 4 u 5) :: st)) : g_Y gCl X (gC hid) ad σ w pc vs (.ref (ad 4 u) :: st) :=
  y_get C hu in_X5 (N := 6) (ci := 4) rfl rfl 5 (by decide) rfl q205 rfl hd k
theorem pf_C_X5_33_4 {hid : Bool} {X : g_F} {cc : ByteArray} {ret : Option FieldType} {ad : Nat → Nat → Nat} {σ : g_S} {w : Nat × Nat} {pc : Nat} {vs : List (Nat × Value)} {st : List Value} {u : Nat} {v : Int32} {σ1 : g_S} (C : g_M gCl X cc RX5 ret) (hu : u < g_n (gC hid) 4) (e : σ1 = g_sI σ 4 u 5 v) (hd : decode cc pc = .ok (.putfield 33, 3)) (k : g_Y gCl X (gC hid) ad σ1 w (pc + 3) vs st) : g_Y gCl X (gC hid) ad σ w pc vs (.int v :: .ref (ad 4 u) :: st) := by
  subst e
  exact y_put C hu in_X5 (N := 6) (ci := 4) rfl rfl tyX5 tyX5_ok nmX5 5 (by decide) rfl q205 rfl rfl rfl rfl (Nat.le_of_ble_eq_true rfl) g_sI_n (by show Sum.inl (Sum.inr (4, gC_f4 ad u ((g_sI σ 4 u 5 v).1 4 u) ((g_sI σ 4 u 5 v).2.1 4 u) (σ.2.2 4 u))) = _; rw [g_sI_s]; rfl) hd k
theorem gf_C_X1_109_0 {hid : Bool} {X : g_F} {cc : ByteArray} {ret : Option FieldType} {ad : Nat → Nat → Nat} {σ : g_S} {w : Nat × Nat} {pc : Nat} {vs : List (Nat × Value)} {st : List Value} {u : Nat} (C : g_M gCl X cc RX1 ret) (hu : u < g_n (gC hid) 0) (hd : decode cc pc = .ok (.getfield 109, 3)) (k : g_Y gCl X (gC hid) ad σ w (pc + 3) vs (.ref (ad 14 0) :: st)) : g_Y gCl X (gC hid) ad σ w pc vs (.ref (ad 0 u) :: st) :=
  y_get C hu in_X1 (N := 31) (ci := 0) rfl rfl 20 (by decide) rfl q255 rfl hd k
theorem gf_C_X1_62_0 {hid : Bool} {X : g_F} {cc : ByteArray} {ret : Option FieldType} {ad : Nat → Nat → Nat} {σ : g_S} {w : Nat × Nat} {pc : Nat} {vs : List (Nat × Value)} {st : List Value} {u : Nat} (C : g_M gCl X cc RX1 ret) (hu : u < g_n (gC hid) 0) (hd : decode cc pc = .ok (.getfield 62, 3)) (k : g_Y gCl X (gC hid) ad σ w (pc + 3) vs (.ref (ad 1 0) :: st)) : g_Y gCl X (gC hid) ad σ w pc vs (.ref (ad 0 u) :: st) :=
  y_get C hu in_X1 (N := 31) (ci := 0) rfl rfl 0 (by decide) rfl q227 rfl hd k
theorem gf_C_X2_3_1 {hid : Bool} {X : g_F} {cc : ByteArray} {ret : Option FieldType} {ad : Nat → Nat → Nat} {σ : g_S} {w : Nat × Nat} {pc : Nat} {vs : List (Nat × Value)} {st : List Value} {u : Nat} (C : g_M gCl X cc RX2 ret) (hu : u < g_n (gC hid) 1) (hd : decode cc pc = .ok (.getfield 3, 3)) (k : g_Y gCl X (gC hid) ad σ w (pc + 3) vs (.ref (ad 0 0) :: st)) : g_Y gCl X (gC hid) ad σ w pc vs (.ref (ad 1 u) :: st) :=
  y_get C hu in_X2 (N := 1) (ci := 1) rfl rfl 0 (by decide) rfl q150 rfl hd k
theorem gf_C_X2_74_0 {hid : Bool} {X : g_F} {cc : ByteArray} {ret : Option FieldType} {ad : Nat → Nat → Nat} {σ : g_S} {w : Nat × Nat} {pc : Nat} {vs : List (Nat × Value)} {st : List Value} {u : Nat} (C : g_M gCl X cc RX2 ret) (hu : u < g_n (gC hid) 0) (hd : decode cc pc = .ok (.getfield 74, 3)) (k : g_Y gCl X (gC hid) ad σ w (pc + 3) vs (.int (σ.1 0 u 6) :: st)) : g_Y gCl X (gC hid) ad σ w pc vs (.ref (ad 0 u) :: st) :=
  y_getN C hu in_X1 (N := 31) (ci := 0) rfl rfl 6 (by decide) rfl q238 rfl hd k
theorem gf_C_X2_77_4 {hid : Bool} {X : g_F} {cc : ByteArray} {ret : Option FieldType} {ad : Nat → Nat → Nat} {σ : g_S} {w : Nat × Nat} {pc : Nat} {vs : List (Nat × Value)} {st : List Value} {u : Nat} (C : g_M gCl X cc RX2 ret) (hu : u < g_n (gC hid) 4) (hd : decode cc pc = .ok (.getfield 77, 3)) (k : g_Y gCl X (gC hid) ad σ w (pc + 3) vs (.ref (ad 9 u) :: st)) : g_Y gCl X (gC hid) ad σ w pc vs (.ref (ad 4 u) :: st) :=
  y_get C hu in_X5 (N := 6) (ci := 4) rfl rfl 4 (by decide) rfl q203 rfl hd k
theorem gf_C_X2_28_4 {hid : Bool} {X : g_F} {cc : ByteArray} {ret : Option FieldType} {ad : Nat → Nat → Nat} {σ : g_S} {w : Nat × Nat} {pc : Nat} {vs : List (Nat × Value)} {st : List Value} {u : Nat} (C : g_M gCl X cc RX2 ret) (hu : u < g_n (gC hid) 4) (hd : decode cc pc = .ok (.getfield 28, 3)) (k : g_Y gCl X (gC hid) ad σ w (pc + 3) vs (.ref (ad 5 u) :: st)) : g_Y gCl X (gC hid) ad σ w pc vs (.ref (ad 4 u) :: st) :=
  y_get C hu in_X5 (N := 6) (ci := 4) rfl rfl 0 (by decide) rfl q189 rfl hd k
theorem gf_C_X2_31_0 {hid : Bool} {X : g_F} {cc : ByteArray} {ret : Option FieldType} {ad : Nat → Nat → Nat} {σ : g_S} {w : Nat × Nat} {pc : Nat} {vs : List (Nat × Value)} {st : List Value} {u : Nat} (C : g_M gCl X cc RX2 ret) (hu : u < g_n (gC hid) 0) (hd : decode cc pc = .ok (.getfield 31, 3)) (k : g_Y gCl X (gC hid) ad σ w (pc + 3) vs (.int (σ.1 0 u 4) :: st)) : g_Y gCl X (gC hid) ad σ w pc vs (.ref (ad 0 u) :: st) :=
  y_getN C hu in_X1 (N := 31) (ci := 0) rfl rfl 4 (by decide) rfl q235 rfl hd k
theorem gf_C_X2_21_4 {hid : Bool} {X : g_F} {cc : ByteArray} {ret : Option FieldType} {ad : Nat → Nat → Nat} {σ : g_S} {w : Nat × Nat} {pc : Nat} {vs : List (Nat × Value)} {st : List Value} {u : Nat} (C : g_M gCl X cc RX2 ret) (hu : u < g_n (gC hid) 4) (hd : decode cc pc = .ok (.getfield 21, 3)) (k : g_Y gCl X (gC hid) ad σ w (pc + 3) vs (.ref (ad 7 u) :: st)) : g_Y gCl X (gC hid) ad σ w pc vs (.ref (ad 4 u) :: st) :=
  y_get C hu in_X5 (N := 6) (ci := 4) rfl rfl 2 (by decide) rfl q197 rfl hd k
theorem gf_C_X2_15_4 {hid : Bool} {X : g_F} {cc : ByteArray} {ret : Option FieldType} {ad : Nat → Nat → Nat} {σ : g_S} {w : Nat × Nat} {pc : Nat} {vs : List (Nat × Value)} {st : List Value} {u : Nat} (C : g_M gCl X cc RX2 ret) (hu : u < g_n (gC hid) 4) (hd : decode cc pc = .ok (.getfield 15, 3)) (k : g_Y gCl X (gC hid) ad σ w (pc + 3) vs (.ref (ad 6 u) :: st)) : g_Y gCl X (gC hid) ad σ w pc vs (.ref (ad 4 u) :: st) :=
  y_get C hu in_X5 (N := 6) (ci := 4) rfl rfl 1 (by decide) rfl q193 rfl hd k
theorem pf_C_X1_139_0 {hid : Bool} {X : g_F} {cc : ByteArray} {ret : Option FieldType} {ad : Nat → Nat → Nat} {σ : g_S} {w : Nat × Nat} {pc : Nat} {vs : List (Nat × Value)} {st : List Value} {u : Nat} {v : Int32} {σ1 : g_S} (C : g_M gCl X cc RX1 ret) (hu : u < g_n (gC hid) 0) (e : σ1 = g_sI σ 0 u 18 v) (hd : decode cc pc = .ok (.putfield 139, 3)) (k : g_Y gCl X (gC hid) ad σ1 w (pc + 3) vs st) : g_Y gCl X (gC hid) ad σ w pc vs (.int v :: .ref (ad 0 u) :: st) := by
  subst e
  exact y_put C hu in_X1 (N := 31) (ci := 0) rfl rfl tyX1 tyX1_ok nmX1 18 (by decide) rfl q253 rfl rfl rfl rfl (Nat.le_of_ble_eq_true rfl) g_sI_n (by show Sum.inl (Sum.inr (0, gC_f0 ad u ((g_sI σ 0 u 18 v).1 0 u) ((g_sI σ 0 u 18 v).2.1 0 u) (σ.2.2 0 u))) = _; rw [g_sI_s]; rfl) hd k
theorem gf_C_X1_105_0 {hid : Bool} {X : g_F} {cc : ByteArray} {ret : Option FieldType} {ad : Nat → Nat → Nat} {σ : g_S} {w : Nat × Nat} {pc : Nat} {vs : List (Nat × Value)} {st : List Value} {u : Nat} (C : g_M gCl X cc RX1 ret) (hu : u < g_n (gC hid) 0) (hd : decode cc pc = .ok (.getfield 105, 3)) (k : g_Y gCl X (gC hid) ad σ w (pc + 3) vs (.ref (ad 13 0) :: st)) : g_Y gCl X (gC hid) ad σ w pc vs (.ref (ad 0 u) :: st) :=
  y_get C hu in_X1 (N := 31) (ci := 0) rfl rfl 17 (by decide) rfl q252 rfl hd k
theorem gf_C_X1_139_0 {hid : Bool} {X : g_F} {cc : ByteArray} {ret : Option FieldType} {ad : Nat → Nat → Nat} {σ : g_S} {w : Nat × Nat} {pc : Nat} {vs : List (Nat × Value)} {st : List Value} {u : Nat} (C : g_M gCl X cc RX1 ret) (hu : u < g_n (gC hid) 0) (hd : decode cc pc = .ok (.getfield 139, 3)) (k : g_Y gCl X (gC hid) ad σ w (pc + 3) vs (.int (σ.1 0 u 18) :: st)) : g_Y gCl X (gC hid) ad σ w pc vs (.ref (ad 0 u) :: st) :=
  y_get C hu in_X1 (N := 31) (ci := 0) rfl rfl 18 (by decide) rfl q253 rfl hd k
theorem pf_C_X10_3_44 {hid : Bool} {X : g_F} {cc : ByteArray} {ret : Option FieldType} {ad : Nat → Nat → Nat} {σ : g_S} {w : Nat × Nat} {pc : Nat} {vs : List (Nat × Value)} {st : List Value} {u : Nat} {σ1 : g_S} (C : g_M gCl X cc RX10 ret) (hu : u < g_n (gC hid) 44) (hp : σ.2.2 44 u 200 = 2) (hnm : (g_me X).name = "<init>") (e : σ1 = g_sR σ 44 u 200 3) (hd : decode cc pc = .ok (.putfield 3, 3)) (k : g_Y gCl X (gC hid) ad σ1 w (pc + 3) vs st) : g_Y gCl X (gC hid) ad σ w pc vs (.ref (ad 0 0) :: .ref (ad 44 u) :: st) := by
  subst e
  have hp0 : ¬ σ.2.2 44 u 200 = 0 := by rw [hp]; decide
  have hfs : gC_f44 ad u (σ.1 44 u) (σ.2.1 44 u) (g_updN (σ.2.2 44 u) 200 3) = (gC_f44 ad u (σ.1 44 u) (σ.2.1 44 u) (σ.2.2 44 u)).set 8 (.ref (ad 0 0)) := by
    unfold gC_f44
    rw [hp]
    rfl
  exact y_putF C hu in_X10 (N := 9) (ci := 8) rfl (if_neg hp0) tyX10 tyX10_ok nmX10 8 (by decide) rfl q938 rfl hnm rfl rfl rfl rfl (Nat.le_of_ble_eq_true rfl) g_sR_n (by show g_opt ((g_sR σ 44 u 200 3).2.2 44 u 200) (Sum.inl (Sum.inr (8, gC_f44 ad u (σ.1 44 u) (σ.2.1 44 u) ((g_sR σ 44 u 200 3).2.2 44 u)))) = _; rw [g_sR_s, hfs]; rfl) hd k
theorem pf_C_X7_9_44 {hid : Bool} {X : g_F} {cc : ByteArray} {ret : Option FieldType} {ad : Nat → Nat → Nat} {σ : g_S} {w : Nat × Nat} {pc : Nat} {vs : List (Nat × Value)} {st : List Value} {u : Nat} {σ1 : g_S} (C : g_M gCl X cc RX7 ret) (hu : u < g_n (gC hid) 44) (hp : σ.2.2 44 u 200 = 3) (hnm : (g_me X).name = "<init>") (e : σ1 = g_sR σ 44 u 200 4) (hd : decode cc pc = .ok (.putfield 9, 3)) (k : g_Y gCl X (gC hid) ad σ1 w (pc + 3) vs st) : g_Y gCl X (gC hid) ad σ w pc vs (.ref (ad 12 0) :: .ref (ad 44 u) :: st) := by
  subst e
  have hp0 : ¬ σ.2.2 44 u 200 = 0 := by rw [hp]; decide
  have hfs : gC_f44 ad u (σ.1 44 u) (σ.2.1 44 u) (g_updN (σ.2.2 44 u) 200 4) = (gC_f44 ad u (σ.1 44 u) (σ.2.1 44 u) (σ.2.2 44 u)).set 0 (.ref (ad 12 0)) := by
    unfold gC_f44
    rw [hp]
    rfl
  exact y_putF C hu in_X10 (N := 9) (ci := 8) rfl (if_neg hp0) tyX10 tyX10_ok nmX10 0 (by decide) rfl q360 rfl hnm rfl rfl rfl rfl (Nat.le_of_ble_eq_true rfl) g_sR_n (by show g_opt ((g_sR σ 44 u 200 4).2.2 44 u 200) (Sum.inl (Sum.inr (8, gC_f44 ad u (σ.1 44 u) (σ.2.1 44 u) ((g_sR σ 44 u 200 4).2.2 44 u)))) = _; rw [g_sR_s, hfs]; rfl) hd k
theorem pf_C_X7_15_44 {hid : Bool} {X : g_F} {cc : ByteArray} {ret : Option FieldType} {ad : Nat → Nat → Nat} {σ : g_S} {w : Nat × Nat} {pc : Nat} {vs : List (Nat × Value)} {st : List Value} {u : Nat} {v : Int32} {σ1 : g_S} (C : g_M gCl X cc RX7 ret) (hu : u < g_n (gC hid) 44) (hp : ¬ σ.2.2 44 u 200 = 0) (hnm : (g_me X).name = "<init>") (e : σ1 = g_sI σ 44 u 1 v) (hd : decode cc pc = .ok (.putfield 15, 3)) (k : g_Y gCl X (gC hid) ad σ1 w (pc + 3) vs st) : g_Y gCl X (gC hid) ad σ w pc vs (.int v :: .ref (ad 44 u) :: st) := by
  subst e
  exact y_putF C hu in_X10 (N := 9) (ci := 8) rfl (if_neg hp) tyX10 tyX10_ok nmX10 1 (by decide) rfl q361 rfl hnm rfl rfl rfl rfl (Nat.le_of_ble_eq_true rfl) g_sI_n (by show g_opt (σ.2.2 44 u 200) (Sum.inl (Sum.inr (8, gC_f44 ad u ((g_sI σ 44 u 1 v).1 44 u) ((g_sI σ 44 u 1 v).2.1 44 u) (σ.2.2 44 u)))) = _; rw [show g_opt (σ.2.2 44 u 200) _ = _ from if_neg hp, g_sI_s]; rfl) hd k
theorem pf_C_X7_25_44 {hid : Bool} {X : g_F} {cc : ByteArray} {ret : Option FieldType} {ad : Nat → Nat → Nat} {σ : g_S} {w : Nat × Nat} {pc : Nat} {vs : List (Nat × Value)} {st : List Value} {u : Nat} {v : Int32} {σ1 : g_S} (C : g_M gCl X cc RX7 ret) (hu : u < g_n (gC hid) 44) (hp : ¬ σ.2.2 44 u 200 = 0) (hnm : (g_me X).name = "<init>") (e : σ1 = g_sI σ 44 u 2 v) (hd : decode cc pc = .ok (.putfield 25, 3)) (k : g_Y gCl X (gC hid) ad σ1 w (pc + 3) vs st) : g_Y gCl X (gC hid) ad σ w pc vs (.int v :: .ref (ad 44 u) :: st) := by
  subst e
  exact y_putF C hu in_X10 (N := 9) (ci := 8) rfl (if_neg hp) tyX10 tyX10_ok nmX10 2 (by decide) rfl q363 rfl hnm rfl rfl rfl rfl (Nat.le_of_ble_eq_true rfl) g_sI_n (by show g_opt (σ.2.2 44 u 200) (Sum.inl (Sum.inr (8, gC_f44 ad u ((g_sI σ 44 u 2 v).1 44 u) ((g_sI σ 44 u 2 v).2.1 44 u) (σ.2.2 44 u)))) = _; rw [show g_opt (σ.2.2 44 u 200) _ = _ from if_neg hp, g_sI_s]; rfl) hd k
theorem pf_C_X10_15_44 {hid : Bool} {X : g_F} {cc : ByteArray} {ret : Option FieldType} {ad : Nat → Nat → Nat} {σ : g_S} {w : Nat × Nat} {pc : Nat} {vs : List (Nat × Value)} {st : List Value} {u : Nat} {σ1 : g_S} (C : g_M gCl X cc RX10 ret) (hu : u < g_n (gC hid) 44) (hp : σ.2.2 44 u 200 = 4) (hnm : (g_me X).name = "<init>") (e : σ1 = g_sR σ 44 u 200 5) (hd : decode cc pc = .ok (.putfield 15, 3)) (k : g_Y gCl X (gC hid) ad σ1 w (pc + 3) vs st) : g_Y gCl X (gC hid) ad σ w pc vs (.ref (ad 45 0) :: .ref (ad 44 u) :: st) := by
  subst e
  have hp0 : ¬ σ.2.2 44 u 200 = 0 := by rw [hp]; decide
  have hfs : gC_f44 ad u (σ.1 44 u) (σ.2.1 44 u) (g_updN (σ.2.2 44 u) 200 5) = (gC_f44 ad u (σ.1 44 u) (σ.2.1 44 u) (σ.2.2 44 u)).set 4 (.ref (ad 45 0)) := by
    unfold gC_f44
    rw [hp]
    rfl
  exact y_putF C hu in_X10 (N := 9) (ci := 8) rfl (if_neg hp0) tyX10 tyX10_ok nmX10 4 (by decide) rfl q930 rfl hnm rfl rfl rfl rfl (Nat.le_of_ble_eq_true rfl) g_sR_n (by show g_opt ((g_sR σ 44 u 200 5).2.2 44 u 200) (Sum.inl (Sum.inr (8, gC_f44 ad u (σ.1 44 u) (σ.2.1 44 u) ((g_sR σ 44 u 200 5).2.2 44 u)))) = _; rw [g_sR_s, hfs]; rfl) hd k
theorem pf_C_X10_19_44 {hid : Bool} {X : g_F} {cc : ByteArray} {ret : Option FieldType} {ad : Nat → Nat → Nat} {σ : g_S} {w : Nat × Nat} {pc : Nat} {vs : List (Nat × Value)} {st : List Value} {u : Nat} {σ1 : g_S} (C : g_M gCl X cc RX10 ret) (hu : u < g_n (gC hid) 44) (hp : σ.2.2 44 u 200 = 5) (hnm : (g_me X).name = "<init>") (e : σ1 = g_sR σ 44 u 200 6) (hd : decode cc pc = .ok (.putfield 19, 3)) (k : g_Y gCl X (gC hid) ad σ1 w (pc + 3) vs st) : g_Y gCl X (gC hid) ad σ w pc vs (.ref (ad 46 0) :: .ref (ad 44 u) :: st) := by
  subst e
  have hp0 : ¬ σ.2.2 44 u 200 = 0 := by rw [hp]; decide
  have hfs : gC_f44 ad u (σ.1 44 u) (σ.2.1 44 u) (g_updN (σ.2.2 44 u) 200 6) = (gC_f44 ad u (σ.1 44 u) (σ.2.1 44 u) (σ.2.2 44 u)).set 5 (.ref (ad 46 0)) := by
    unfold gC_f44
    rw [hp]
    rfl
  exact y_putF C hu in_X10 (N := 9) (ci := 8) rfl (if_neg hp0) tyX10 tyX10_ok nmX10 5 (by decide) rfl q932 rfl hnm rfl rfl rfl rfl (Nat.le_of_ble_eq_true rfl) g_sR_n (by show g_opt ((g_sR σ 44 u 200 6).2.2 44 u 200) (Sum.inl (Sum.inr (8, gC_f44 ad u (σ.1 44 u) (σ.2.1 44 u) ((g_sR σ 44 u 200 6).2.2 44 u)))) = _; rw [g_sR_s, hfs]; rfl) hd k
theorem pf_C_X10_23_44 {hid : Bool} {X : g_F} {cc : ByteArray} {ret : Option FieldType} {ad : Nat → Nat → Nat} {σ : g_S} {w : Nat × Nat} {pc : Nat} {vs : List (Nat × Value)} {st : List Value} {u : Nat} {σ1 : g_S} (C : g_M gCl X cc RX10 ret) (hu : u < g_n (gC hid) 44) (hp : σ.2.2 44 u 200 = 6) (hnm : (g_me X).name = "<init>") (e : σ1 = g_sR σ 44 u 200 1) (hd : decode cc pc = .ok (.putfield 23, 3)) (k : g_Y gCl X (gC hid) ad σ1 w (pc + 3) vs st) : g_Y gCl X (gC hid) ad σ w pc vs (.ref (ad 47 0) :: .ref (ad 44 u) :: st) := by
  subst e
  have hp0 : ¬ σ.2.2 44 u 200 = 0 := by rw [hp]; decide
  have hfs : gC_f44 ad u (σ.1 44 u) (σ.2.1 44 u) (g_updN (σ.2.2 44 u) 200 1) = (gC_f44 ad u (σ.1 44 u) (σ.2.1 44 u) (σ.2.2 44 u)).set 6 (.ref (ad 47 0)) := by
    unfold gC_f44
    rw [hp]
    rfl
  exact y_putF C hu in_X10 (N := 9) (ci := 8) rfl (if_neg hp0) tyX10 tyX10_ok nmX10 6 (by decide) rfl q934 rfl hnm rfl rfl rfl rfl (Nat.le_of_ble_eq_true rfl) g_sR_n (by show g_opt ((g_sR σ 44 u 200 1).2.2 44 u 200) (Sum.inl (Sum.inr (8, gC_f44 ad u (σ.1 44 u) (σ.2.1 44 u) ((g_sR σ 44 u 200 1).2.2 44 u)))) = _; rw [g_sR_s, hfs]; rfl) hd k
theorem gf_C_X10_26_44 {hid : Bool} {X : g_F} {cc : ByteArray} {ret : Option FieldType} {ad : Nat → Nat → Nat} {σ : g_S} {w : Nat × Nat} {pc : Nat} {vs : List (Nat × Value)} {st : List Value} {u : Nat} (C : g_M gCl X cc RX10 ret) (hu : u < g_n (gC hid) 44) (hp : ¬ σ.2.2 44 u 200 = 0) (hd : decode cc pc = .ok (.getfield 26, 3)) (k : g_Y gCl X (gC hid) ad σ w (pc + 3) vs (.int (σ.1 44 u 3) :: st)) : g_Y gCl X (gC hid) ad σ w pc vs (.ref (ad 44 u) :: st) :=
  y_getU C hu in_X10 (N := 9) (ci := 8) rfl (if_neg hp) 3 (by decide) q368 q367 rfl hd k
theorem gf_C_X10_30_44 {hid : Bool} {X : g_F} {cc : ByteArray} {ret : Option FieldType} {ad : Nat → Nat → Nat} {σ : g_S} {w : Nat × Nat} {pc : Nat} {vs : List (Nat × Value)} {st : List Value} {u : Nat} (C : g_M gCl X cc RX10 ret) (hu : u < g_n (gC hid) 44) (hp : ¬ σ.2.2 44 u 200 = 0) (hd : decode cc pc = .ok (.getfield 30, 3)) (k : g_Y gCl X (gC hid) ad σ w (pc + 3) vs (.int (σ.1 44 u 2) :: st)) : g_Y gCl X (gC hid) ad σ w pc vs (.ref (ad 44 u) :: st) :=
  y_getU C hu in_X10 (N := 9) (ci := 8) rfl (if_neg hp) 2 (by decide) q365 q364 rfl hd k
theorem gf_C_X7_28_44 {hid : Bool} {X : g_F} {cc : ByteArray} {ret : Option FieldType} {ad : Nat → Nat → Nat} {σ : g_S} {w : Nat × Nat} {pc : Nat} {vs : List (Nat × Value)} {st : List Value} {u : Nat} (C : g_M gCl X cc RX7 ret) (hu : u < g_n (gC hid) 44) (hp : ¬ σ.2.2 44 u 200 = 0) (hd : decode cc pc = .ok (.getfield 28, 3)) (k : g_Y gCl X (gC hid) ad σ w (pc + 3) vs (.int (σ.1 44 u 3) :: st)) : g_Y gCl X (gC hid) ad σ w pc vs (.ref (ad 44 u) :: st) :=
  y_get C hu in_X10 (N := 9) (ci := 8) rfl (if_neg hp) 3 (by decide) rfl q366 rfl hd k
theorem gf_C_X7_25_44 {hid : Bool} {X : g_F} {cc : ByteArray} {ret : Option FieldType} {ad : Nat → Nat → Nat} {σ : g_S} {w : Nat × Nat} {pc : Nat} {vs : List (Nat × Value)} {st : List Value} {u : Nat} (C : g_M gCl X cc RX7 ret) (hu : u < g_n (gC hid) 44) (hp : ¬ σ.2.2 44 u 200 = 0) (hd : decode cc pc = .ok (.getfield 25, 3)) (k : g_Y gCl X (gC hid) ad σ w (pc + 3) vs (.int (σ.1 44 u 2) :: st)) : g_Y gCl X (gC hid) ad σ w pc vs (.ref (ad 44 u) :: st) :=
  y_get C hu in_X10 (N := 9) (ci := 8) rfl (if_neg hp) 2 (by decide) rfl q363 rfl hd k
theorem gf_C_X7_9_44 {hid : Bool} {X : g_F} {cc : ByteArray} {ret : Option FieldType} {ad : Nat → Nat → Nat} {σ : g_S} {w : Nat × Nat} {pc : Nat} {vs : List (Nat × Value)} {st : List Value} {u : Nat} (C : g_M gCl X cc RX7 ret) (hu : u < g_n (gC hid) 44) (hp : g_set (σ.2.2 44 u 200) 1) (hd : decode cc pc = .ok (.getfield 9, 3)) (k : g_Y gCl X (gC hid) ad σ w (pc + 3) vs (.ref (ad 12 0) :: st)) : g_Y gCl X (gC hid) ad σ w pc vs (.ref (ad 44 u) :: st) :=
  y_get C hu in_X10 (N := 9) (ci := 8) rfl (if_neg (g_setp hp)) 0 (by decide) rfl q360 (by show some (ite _ _ _) = _; rw [if_pos hp]) hd k
theorem pf_C_X10_26_44 {hid : Bool} {X : g_F} {cc : ByteArray} {ret : Option FieldType} {ad : Nat → Nat → Nat} {σ : g_S} {w : Nat × Nat} {pc : Nat} {vs : List (Nat × Value)} {st : List Value} {u : Nat} {v : Int32} {σ1 : g_S} (C : g_M gCl X cc RX10 ret) (hu : u < g_n (gC hid) 44) (hp : ¬ σ.2.2 44 u 200 = 0) (e : σ1 = g_sI σ 44 u 3 v) (hd : decode cc pc = .ok (.putfield 26, 3)) (k : g_Y gCl X (gC hid) ad σ1 w (pc + 3) vs st) : g_Y gCl X (gC hid) ad σ w pc vs (.int v :: .ref (ad 44 u) :: st) := by
  subst e
  exact y_putU C hu in_X10 (N := 9) (ci := 8) rfl (if_neg hp) tyX10 tyX10_ok nmX10 3 (by decide) q368 q367 rfl rfl rfl rfl (Nat.le_of_ble_eq_true rfl) g_sI_n (by show g_opt (σ.2.2 44 u 200) (Sum.inl (Sum.inr (8, gC_f44 ad u ((g_sI σ 44 u 3 v).1 44 u) ((g_sI σ 44 u 3 v).2.1 44 u) (σ.2.2 44 u)))) = _; rw [show g_opt (σ.2.2 44 u 200) _ = _ from if_neg hp, g_sI_s]; rfl) hd k
theorem gf_C_X10_15_44 {hid : Bool} {X : g_F} {cc : ByteArray} {ret : Option FieldType} {ad : Nat → Nat → Nat} {σ : g_S} {w : Nat × Nat} {pc : Nat} {vs : List (Nat × Value)} {st : List Value} {u : Nat} (C : g_M gCl X cc RX10 ret) (hu : u < g_n (gC hid) 44) (hp : g_set (σ.2.2 44 u 200) 2) (hd : decode cc pc = .ok (.getfield 15, 3)) (k : g_Y gCl X (gC hid) ad σ w (pc + 3) vs (.ref (ad 45 0) :: st)) : g_Y gCl X (gC hid) ad σ w pc vs (.ref (ad 44 u) :: st) :=
  y_get C hu in_X10 (N := 9) (ci := 8) rfl (if_neg (g_setp hp)) 4 (by decide) rfl q930 (by show some (ite _ _ _) = _; rw [if_pos hp]) hd k
theorem gf_C_X10_37_44 {hid : Bool} {X : g_F} {cc : ByteArray} {ret : Option FieldType} {ad : Nat → Nat → Nat} {σ : g_S} {w : Nat × Nat} {pc : Nat} {vs : List (Nat × Value)} {st : List Value} {u : Nat} (C : g_M gCl X cc RX10 ret) (hu : u < g_n (gC hid) 44) (hp : ¬ σ.2.2 44 u 200 = 0) (hd : decode cc pc = .ok (.getfield 37, 3)) (k : g_Y gCl X (gC hid) ad σ w (pc + 3) vs (.int (σ.1 44 u 7) :: st)) : g_Y gCl X (gC hid) ad σ w pc vs (.ref (ad 44 u) :: st) :=
  y_get C hu in_X10 (N := 9) (ci := 8) rfl (if_neg hp) 7 (by decide) rfl q936 rfl hd k
theorem gf_C_X10_19_44 {hid : Bool} {X : g_F} {cc : ByteArray} {ret : Option FieldType} {ad : Nat → Nat → Nat} {σ : g_S} {w : Nat × Nat} {pc : Nat} {vs : List (Nat × Value)} {st : List Value} {u : Nat} (C : g_M gCl X cc RX10 ret) (hu : u < g_n (gC hid) 44) (hp : g_set (σ.2.2 44 u 200) 3) (hd : decode cc pc = .ok (.getfield 19, 3)) (k : g_Y gCl X (gC hid) ad σ w (pc + 3) vs (.ref (ad 46 0) :: st)) : g_Y gCl X (gC hid) ad σ w pc vs (.ref (ad 44 u) :: st) :=
  y_get C hu in_X10 (N := 9) (ci := 8) rfl (if_neg (g_setp hp)) 5 (by decide) rfl q932 (by show some (ite _ _ _) = _; rw [if_pos hp]) hd k
theorem pf_C_X7_28_44 {hid : Bool} {X : g_F} {cc : ByteArray} {ret : Option FieldType} {ad : Nat → Nat → Nat} {σ : g_S} {w : Nat × Nat} {pc : Nat} {vs : List (Nat × Value)} {st : List Value} {u : Nat} {v : Int32} {σ1 : g_S} (C : g_M gCl X cc RX7 ret) (hu : u < g_n (gC hid) 44) (hp : ¬ σ.2.2 44 u 200 = 0) (e : σ1 = g_sI σ 44 u 3 v) (hd : decode cc pc = .ok (.putfield 28, 3)) (k : g_Y gCl X (gC hid) ad σ1 w (pc + 3) vs st) : g_Y gCl X (gC hid) ad σ w pc vs (.int v :: .ref (ad 44 u) :: st) := by
  subst e
  exact y_put C hu in_X10 (N := 9) (ci := 8) rfl (if_neg hp) tyX10 tyX10_ok nmX10 3 (by decide) rfl q366 rfl rfl rfl rfl (Nat.le_of_ble_eq_true rfl) g_sI_n (by show g_opt (σ.2.2 44 u 200) (Sum.inl (Sum.inr (8, gC_f44 ad u ((g_sI σ 44 u 3 v).1 44 u) ((g_sI σ 44 u 3 v).2.1 44 u) (σ.2.2 44 u)))) = _; rw [show g_opt (σ.2.2 44 u 200) _ = _ from if_neg hp, g_sI_s]; rfl) hd k
theorem gf_C_X10_23_44 {hid : Bool} {X : g_F} {cc : ByteArray} {ret : Option FieldType} {ad : Nat → Nat → Nat} {σ : g_S} {w : Nat × Nat} {pc : Nat} {vs : List (Nat × Value)} {st : List Value} {u : Nat} (C : g_M gCl X cc RX10 ret) (hu : u < g_n (gC hid) 44) (hp : g_set (σ.2.2 44 u 200) 4) (hd : decode cc pc = .ok (.getfield 23, 3)) (k : g_Y gCl X (gC hid) ad σ w (pc + 3) vs (.ref (ad 47 0) :: st)) : g_Y gCl X (gC hid) ad σ w pc vs (.ref (ad 44 u) :: st) :=
  y_get C hu in_X10 (N := 9) (ci := 8) rfl (if_neg (g_setp hp)) 6 (by decide) rfl q934 (by show some (ite _ _ _) = _; rw [if_pos hp]) hd k
theorem gf_C_X10_3_44 {hid : Bool} {X : g_F} {cc : ByteArray} {ret : Option FieldType} {ad : Nat → Nat → Nat} {σ : g_S} {w : Nat × Nat} {pc : Nat} {vs : List (Nat × Value)} {st : List Value} {u : Nat} (C : g_M gCl X cc RX10 ret) (hu : u < g_n (gC hid) 44) (hp : g_set (σ.2.2 44 u 200) 0) (hd : decode cc pc = .ok (.getfield 3, 3)) (k : g_Y gCl X (gC hid) ad σ w (pc + 3) vs (.ref (ad 0 0) :: st)) : g_Y gCl X (gC hid) ad σ w pc vs (.ref (ad 44 u) :: st) :=
  y_get C hu in_X10 (N := 9) (ci := 8) rfl (if_neg (g_setp hp)) 8 (by decide) rfl q938 (by show some (ite _ _ _) = _; rw [if_pos hp]) hd k
theorem gf_C_X10_63_0 {hid : Bool} {X : g_F} {cc : ByteArray} {ret : Option FieldType} {ad : Nat → Nat → Nat} {σ : g_S} {w : Nat × Nat} {pc : Nat} {vs : List (Nat × Value)} {st : List Value} {u : Nat} (C : g_M gCl X cc RX10 ret) (hu : u < g_n (gC hid) 0) (hd : decode cc pc = .ok (.getfield 63, 3)) (k : g_Y gCl X (gC hid) ad σ w (pc + 3) vs (.int (σ.1 0 u 3) :: st)) : g_Y gCl X (gC hid) ad σ w pc vs (.ref (ad 0 u) :: st) :=
  y_getN C hu in_X1 (N := 31) (ci := 0) rfl rfl 3 (by decide) rfl q230 rfl hd k
theorem gf_C_X10_66_0 {hid : Bool} {X : g_F} {cc : ByteArray} {ret : Option FieldType} {ad : Nat → Nat → Nat} {σ : g_S} {w : Nat × Nat} {pc : Nat} {vs : List (Nat × Value)} {st : List Value} {u : Nat} (C : g_M gCl X cc RX10 ret) (hu : u < g_n (gC hid) 0) (hd : decode cc pc = .ok (.getfield 66, 3)) (k : g_Y gCl X (gC hid) ad σ w (pc + 3) vs (.int (σ.1 0 u 4) :: st)) : g_Y gCl X (gC hid) ad σ w pc vs (.ref (ad 0 u) :: st) :=
  y_getN C hu in_X1 (N := 31) (ci := 0) rfl rfl 4 (by decide) rfl q233 rfl hd k
theorem pf_C_X10_37_44 {hid : Bool} {X : g_F} {cc : ByteArray} {ret : Option FieldType} {ad : Nat → Nat → Nat} {σ : g_S} {w : Nat × Nat} {pc : Nat} {vs : List (Nat × Value)} {st : List Value} {u : Nat} {v : Int32} {σ1 : g_S} (C : g_M gCl X cc RX10 ret) (hu : u < g_n (gC hid) 44) (hp : ¬ σ.2.2 44 u 200 = 0) (e : σ1 = g_sI σ 44 u 7 v) (hd : decode cc pc = .ok (.putfield 37, 3)) (k : g_Y gCl X (gC hid) ad σ1 w (pc + 3) vs st) : g_Y gCl X (gC hid) ad σ w pc vs (.int v :: .ref (ad 44 u) :: st) := by
  subst e
  exact y_put C hu in_X10 (N := 9) (ci := 8) rfl (if_neg hp) tyX10 tyX10_ok nmX10 7 (by decide) rfl q936 rfl rfl rfl rfl (Nat.le_of_ble_eq_true rfl) g_sI_n (by show g_opt (σ.2.2 44 u 200) (Sum.inl (Sum.inr (8, gC_f44 ad u ((g_sI σ 44 u 7 v).1 44 u) ((g_sI σ 44 u 7 v).2.1 44 u) (σ.2.2 44 u)))) = _; rw [show g_opt (σ.2.2 44 u 200) _ = _ from if_neg hp, g_sI_s]; rfl) hd k
theorem gf_C_X7_15_44 {hid : Bool} {X : g_F} {cc : ByteArray} {ret : Option FieldType} {ad : Nat → Nat → Nat} {σ : g_S} {w : Nat × Nat} {pc : Nat} {vs : List (Nat × Value)} {st : List Value} {u : Nat} (C : g_M gCl X cc RX7 ret) (hu : u < g_n (gC hid) 44) (hp : ¬ σ.2.2 44 u 200 = 0) (hd : decode cc pc = .ok (.getfield 15, 3)) (k : g_Y gCl X (gC hid) ad σ w (pc + 3) vs (.int (σ.1 44 u 1) :: st)) : g_Y gCl X (gC hid) ad σ w pc vs (.ref (ad 44 u) :: st) :=
  y_get C hu in_X10 (N := 9) (ci := 8) rfl (if_neg hp) 1 (by decide) rfl q361 rfl hd k
theorem gf_C_X1_88_0 {hid : Bool} {X : g_F} {cc : ByteArray} {ret : Option FieldType} {ad : Nat → Nat → Nat} {σ : g_S} {w : Nat × Nat} {pc : Nat} {vs : List (Nat × Value)} {st : List Value} {u : Nat} (C : g_M gCl X cc RX1 ret) (hu : u < g_n (gC hid) 0) (hd : decode cc pc = .ok (.getfield 88, 3)) (k : g_Y gCl X (gC hid) ad σ w (pc + 3) vs (.ref (ad 4 1) :: st)) : g_Y gCl X (gC hid) ad σ w pc vs (.ref (ad 0 u) :: st) :=
  y_get C hu in_X1 (N := 31) (ci := 0) rfl rfl 11 (by decide) rfl q246 rfl hd k
theorem gf_C_X1_369_44 {hid : Bool} {X : g_F} {cc : ByteArray} {ret : Option FieldType} {ad : Nat → Nat → Nat} {σ : g_S} {w : Nat × Nat} {pc : Nat} {vs : List (Nat × Value)} {st : List Value} {u : Nat} (C : g_M gCl X cc RX1 ret) (hu : u < g_n (gC hid) 44) (hp : ¬ σ.2.2 44 u 200 = 0) (hd : decode cc pc = .ok (.getfield 369, 3)) (k : g_Y gCl X (gC hid) ad σ w (pc + 3) vs (.int (σ.1 44 u 7) :: st)) : g_Y gCl X (gC hid) ad σ w pc vs (.ref (ad 44 u) :: st) :=
  y_get C hu in_X10 (N := 9) (ci := 8) rfl (if_neg hp) 7 (by decide) rfl q937 rfl hd k
theorem gf_C_X1_372_44 {hid : Bool} {X : g_F} {cc : ByteArray} {ret : Option FieldType} {ad : Nat → Nat → Nat} {σ : g_S} {w : Nat × Nat} {pc : Nat} {vs : List (Nat × Value)} {st : List Value} {u : Nat} (C : g_M gCl X cc RX1 ret) (hu : u < g_n (gC hid) 44) (hp : g_set (σ.2.2 44 u 200) 2) (hd : decode cc pc = .ok (.getfield 372, 3)) (k : g_Y gCl X (gC hid) ad σ w (pc + 3) vs (.ref (ad 45 0) :: st)) : g_Y gCl X (gC hid) ad σ w pc vs (.ref (ad 44 u) :: st) :=
  y_get C hu in_X10 (N := 9) (ci := 8) rfl (if_neg (g_setp hp)) 4 (by decide) rfl q931 (by show some (ite _ _ _) = _; rw [if_pos hp]) hd k
theorem gf_C_X1_376_44 {hid : Bool} {X : g_F} {cc : ByteArray} {ret : Option FieldType} {ad : Nat → Nat → Nat} {σ : g_S} {w : Nat × Nat} {pc : Nat} {vs : List (Nat × Value)} {st : List Value} {u : Nat} (C : g_M gCl X cc RX1 ret) (hu : u < g_n (gC hid) 44) (hp : g_set (σ.2.2 44 u 200) 3) (hd : decode cc pc = .ok (.getfield 376, 3)) (k : g_Y gCl X (gC hid) ad σ w (pc + 3) vs (.ref (ad 46 0) :: st)) : g_Y gCl X (gC hid) ad σ w pc vs (.ref (ad 44 u) :: st) :=
  y_get C hu in_X10 (N := 9) (ci := 8) rfl (if_neg (g_setp hp)) 5 (by decide) rfl q933 (by show some (ite _ _ _) = _; rw [if_pos hp]) hd k
theorem gf_C_X1_379_44 {hid : Bool} {X : g_F} {cc : ByteArray} {ret : Option FieldType} {ad : Nat → Nat → Nat} {σ : g_S} {w : Nat × Nat} {pc : Nat} {vs : List (Nat × Value)} {st : List Value} {u : Nat} (C : g_M gCl X cc RX1 ret) (hu : u < g_n (gC hid) 44) (hp : g_set (σ.2.2 44 u 200) 4) (hd : decode cc pc = .ok (.getfield 379, 3)) (k : g_Y gCl X (gC hid) ad σ w (pc + 3) vs (.ref (ad 47 0) :: st)) : g_Y gCl X (gC hid) ad σ w pc vs (.ref (ad 44 u) :: st) :=
  y_get C hu in_X10 (N := 9) (ci := 8) rfl (if_neg (g_setp hp)) 6 (by decide) rfl q935 (by show some (ite _ _ _) = _; rw [if_pos hp]) hd k
theorem gf_C_X2_71_0 {hid : Bool} {X : g_F} {cc : ByteArray} {ret : Option FieldType} {ad : Nat → Nat → Nat} {σ : g_S} {w : Nat × Nat} {pc : Nat} {vs : List (Nat × Value)} {st : List Value} {u : Nat} (C : g_M gCl X cc RX2 ret) (hu : u < g_n (gC hid) 0) (hd : decode cc pc = .ok (.getfield 71, 3)) (k : g_Y gCl X (gC hid) ad σ w (pc + 3) vs (.int (σ.1 0 u 3) :: st)) : g_Y gCl X (gC hid) ad σ w pc vs (.ref (ad 0 u) :: st) :=
  y_getN C hu in_X1 (N := 31) (ci := 0) rfl rfl 3 (by decide) rfl q231 rfl hd k
theorem gf_C_X1_113_0 {hid : Bool} {X : g_F} {cc : ByteArray} {ret : Option FieldType} {ad : Nat → Nat → Nat} {σ : g_S} {w : Nat × Nat} {pc : Nat} {vs : List (Nat × Value)} {st : List Value} {u : Nat} (C : g_M gCl X cc RX1 ret) (hu : u < g_n (gC hid) 0) (hd : decode cc pc = .ok (.getfield 113, 3)) (k : g_Y gCl X (gC hid) ad σ w (pc + 3) vs (.ref (ad 15 0) :: st)) : g_Y gCl X (gC hid) ad σ w pc vs (.ref (ad 0 u) :: st) :=
  y_get C hu in_X1 (N := 31) (ci := 0) rfl rfl 21 (by decide) rfl q256 rfl hd k
theorem gf_C_X1_91_0 {hid : Bool} {X : g_F} {cc : ByteArray} {ret : Option FieldType} {ad : Nat → Nat → Nat} {σ : g_S} {w : Nat × Nat} {pc : Nat} {vs : List (Nat × Value)} {st : List Value} {u : Nat} (C : g_M gCl X cc RX1 ret) (hu : u < g_n (gC hid) 0) (hd : decode cc pc = .ok (.getfield 91, 3)) (k : g_Y gCl X (gC hid) ad σ w (pc + 3) vs (.ref (ad 4 2) :: st)) : g_Y gCl X (gC hid) ad σ w pc vs (.ref (ad 0 u) :: st) :=
  y_get C hu in_X1 (N := 31) (ci := 0) rfl rfl 12 (by decide) rfl q247 rfl hd k
theorem gf_C_X1_69_0 {hid : Bool} {X : g_F} {cc : ByteArray} {ret : Option FieldType} {ad : Nat → Nat → Nat} {σ : g_S} {w : Nat × Nat} {pc : Nat} {vs : List (Nat × Value)} {st : List Value} {u : Nat} (C : g_M gCl X cc RX1 ret) (hu : u < g_n (gC hid) 0) (hd : decode cc pc = .ok (.getfield 69, 3)) (k : g_Y gCl X (gC hid) ad σ w (pc + 3) vs (.ref (ad 2 0) :: st)) : g_Y gCl X (gC hid) ad σ w pc vs (.ref (ad 0 u) :: st) :=
  y_get C hu in_X1 (N := 31) (ci := 0) rfl rfl 1 (by decide) rfl q228 rfl hd k
theorem pf_C_X3_13_2 {hid : Bool} {X : g_F} {cc : ByteArray} {ret : Option FieldType} {ad : Nat → Nat → Nat} {σ : g_S} {w : Nat × Nat} {pc : Nat} {vs : List (Nat × Value)} {st : List Value} {u : Nat} {v : Int32} {σ1 : g_S} (C : g_M gCl X cc RX3 ret) (hu : u < g_n (gC hid) 2) (e : σ1 = g_sI σ 2 u 1 v) (hd : decode cc pc = .ok (.putfield 13, 3)) (k : g_Y gCl X (gC hid) ad σ1 w (pc + 3) vs st) : g_Y gCl X (gC hid) ad σ w pc vs (.int v :: .ref (ad 2 u) :: st) := by
  subst e
  exact y_putX C hu in_X3 (N := 3) (ci := 2) rfl rfl tyX3 tyX3_ok 1 (by decide) (fun b hb hne => by rcases (show b = 0 ∨ b = 2 by omega) with rfl | rfl <;> decide) rfl q160 rfl rfl rfl rfl (Nat.le_of_ble_eq_true rfl) g_sI_n (by show Sum.inl (Sum.inr (2, gC_f2 ad u ((g_sI σ 2 u 1 v).1 2 u) ((g_sI σ 2 u 1 v).2.1 2 u) (σ.2.2 2 u))) = _; rw [g_sI_s]; rfl) hd k
theorem gf_C_X2_3_2 {hid : Bool} {X : g_F} {cc : ByteArray} {ret : Option FieldType} {ad : Nat → Nat → Nat} {σ : g_S} {w : Nat × Nat} {pc : Nat} {vs : List (Nat × Value)} {st : List Value} {u : Nat} (C : g_M gCl X cc RX2 ret) (hu : u < g_n (gC hid) 2) (hd : decode cc pc = .ok (.getfield 3, 3)) (k : g_Y gCl X (gC hid) ad σ w (pc + 3) vs (.ref (ad 0 0) :: st)) : g_Y gCl X (gC hid) ad σ w pc vs (.ref (ad 2 u) :: st) :=
  y_get C hu in_X3 (N := 3) (ci := 2) rfl rfl 0 (by decide) rfl q150 rfl hd k
theorem gf_C_X3_13_2 {hid : Bool} {X : g_F} {cc : ByteArray} {ret : Option FieldType} {ad : Nat → Nat → Nat} {σ : g_S} {w : Nat × Nat} {pc : Nat} {vs : List (Nat × Value)} {st : List Value} {u : Nat} (C : g_M gCl X cc RX3 ret) (hu : u < g_n (gC hid) 2) (hd : decode cc pc = .ok (.getfield 13, 3)) (k : g_Y gCl X (gC hid) ad σ w (pc + 3) vs (.int (σ.1 2 u 1) :: st)) : g_Y gCl X (gC hid) ad σ w pc vs (.ref (ad 2 u) :: st) :=
  y_get C hu in_X3 (N := 3) (ci := 2) rfl rfl 1 (by decide) rfl q160 rfl hd k
theorem gf_C_X1_118_0 {hid : Bool} {X : g_F} {cc : ByteArray} {ret : Option FieldType} {ad : Nat → Nat → Nat} {σ : g_S} {w : Nat × Nat} {pc : Nat} {vs : List (Nat × Value)} {st : List Value} {u : Nat} (C : g_M gCl X cc RX1 ret) (hu : u < g_n (gC hid) 0) (hd : decode cc pc = .ok (.getfield 118, 3)) (k : g_Y gCl X (gC hid) ad σ w (pc + 3) vs (.ref (ad 16 0) :: st)) : g_Y gCl X (gC hid) ad σ w pc vs (.ref (ad 0 u) :: st) :=
  y_get C hu in_X1 (N := 31) (ci := 0) rfl rfl 22 (by decide) rfl q257 rfl hd k
theorem gf_C_X1_121_0 {hid : Bool} {X : g_F} {cc : ByteArray} {ret : Option FieldType} {ad : Nat → Nat → Nat} {σ : g_S} {w : Nat × Nat} {pc : Nat} {vs : List (Nat × Value)} {st : List Value} {u : Nat} (C : g_M gCl X cc RX1 ret) (hu : u < g_n (gC hid) 0) (hd : decode cc pc = .ok (.getfield 121, 3)) (k : g_Y gCl X (gC hid) ad σ w (pc + 3) vs (.ref (ad 18 0) :: st)) : g_Y gCl X (gC hid) ad σ w pc vs (.ref (ad 0 u) :: st) :=
  y_get C hu in_X1 (N := 31) (ci := 0) rfl rfl 23 (by decide) rfl q258 rfl hd k
theorem gf_C_X1_76_0 {hid : Bool} {X : g_F} {cc : ByteArray} {ret : Option FieldType} {ad : Nat → Nat → Nat} {σ : g_S} {w : Nat × Nat} {pc : Nat} {vs : List (Nat × Value)} {st : List Value} {u : Nat} (C : g_M gCl X cc RX1 ret) (hu : u < g_n (gC hid) 0) (hd : decode cc pc = .ok (.getfield 76, 3)) (k : g_Y gCl X (gC hid) ad σ w (pc + 3) vs (.ref (ad 3 0) :: st)) : g_Y gCl X (gC hid) ad σ w pc vs (.ref (ad 0 u) :: st) :=
  y_get C hu in_X1 (N := 31) (ci := 0) rfl rfl 2 (by decide) rfl q229 rfl hd k
theorem pf_C_X4_13_3 {hid : Bool} {X : g_F} {cc : ByteArray} {ret : Option FieldType} {ad : Nat → Nat → Nat} {σ : g_S} {w : Nat × Nat} {pc : Nat} {vs : List (Nat × Value)} {st : List Value} {u : Nat} {v : Int32} {σ1 : g_S} (C : g_M gCl X cc RX4 ret) (hu : u < g_n (gC hid) 3) (e : σ1 = g_sI σ 3 u 1 v) (hd : decode cc pc = .ok (.putfield 13, 3)) (k : g_Y gCl X (gC hid) ad σ1 w (pc + 3) vs st) : g_Y gCl X (gC hid) ad σ w pc vs (.int v :: .ref (ad 3 u) :: st) := by
  subst e
  exact y_putX C hu in_X4 (N := 3) (ci := 3) rfl rfl tyX4 tyX4_ok 1 (by decide) (fun b hb hne => by rcases (show b = 0 ∨ b = 2 by omega) with rfl | rfl <;> decide) rfl q174 rfl rfl rfl rfl (Nat.le_of_ble_eq_true rfl) g_sI_n (by show Sum.inl (Sum.inr (3, gC_f3 ad u ((g_sI σ 3 u 1 v).1 3 u) ((g_sI σ 3 u 1 v).2.1 3 u) (σ.2.2 3 u))) = _; rw [g_sI_s]; rfl) hd k
theorem gf_C_X2_3_3 {hid : Bool} {X : g_F} {cc : ByteArray} {ret : Option FieldType} {ad : Nat → Nat → Nat} {σ : g_S} {w : Nat × Nat} {pc : Nat} {vs : List (Nat × Value)} {st : List Value} {u : Nat} (C : g_M gCl X cc RX2 ret) (hu : u < g_n (gC hid) 3) (hd : decode cc pc = .ok (.getfield 3, 3)) (k : g_Y gCl X (gC hid) ad σ w (pc + 3) vs (.ref (ad 0 0) :: st)) : g_Y gCl X (gC hid) ad σ w pc vs (.ref (ad 3 u) :: st) :=
  y_get C hu in_X4 (N := 3) (ci := 3) rfl rfl 0 (by decide) rfl q150 rfl hd k
theorem gf_C_X4_1_3 {hid : Bool} {X : g_F} {cc : ByteArray} {ret : Option FieldType} {ad : Nat → Nat → Nat} {σ : g_S} {w : Nat × Nat} {pc : Nat} {vs : List (Nat × Value)} {st : List Value} {u : Nat} (C : g_M gCl X cc RX4 ret) (hu : u < g_n (gC hid) 3) (hd : decode cc pc = .ok (.getfield 1, 3)) (k : g_Y gCl X (gC hid) ad σ w (pc + 3) vs (.ref (ad 0 0) :: st)) : g_Y gCl X (gC hid) ad σ w pc vs (.ref (ad 3 u) :: st) :=
  y_get C hu in_X4 (N := 3) (ci := 3) rfl rfl 2 (by decide) rfl q175 rfl hd k
theorem gf_C_X4_13_3 {hid : Bool} {X : g_F} {cc : ByteArray} {ret : Option FieldType} {ad : Nat → Nat → Nat} {σ : g_S} {w : Nat × Nat} {pc : Nat} {vs : List (Nat × Value)} {st : List Value} {u : Nat} (C : g_M gCl X cc RX4 ret) (hu : u < g_n (gC hid) 3) (hd : decode cc pc = .ok (.getfield 13, 3)) (k : g_Y gCl X (gC hid) ad σ w (pc + 3) vs (.int (σ.1 3 u 1) :: st)) : g_Y gCl X (gC hid) ad σ w pc vs (.ref (ad 3 u) :: st) :=
  y_get C hu in_X4 (N := 3) (ci := 3) rfl rfl 1 (by decide) rfl q174 rfl hd k
theorem gf_C_X1_124_0 {hid : Bool} {X : g_F} {cc : ByteArray} {ret : Option FieldType} {ad : Nat → Nat → Nat} {σ : g_S} {w : Nat × Nat} {pc : Nat} {vs : List (Nat × Value)} {st : List Value} {u : Nat} (C : g_M gCl X cc RX1 ret) (hu : u < g_n (gC hid) 0) (hd : decode cc pc = .ok (.getfield 124, 3)) (k : g_Y gCl X (gC hid) ad σ w (pc + 3) vs (.ref (ad 20 0) :: st)) : g_Y gCl X (gC hid) ad σ w pc vs (.ref (ad 0 u) :: st) :=
  y_get C hu in_X1 (N := 31) (ci := 0) rfl rfl 24 (by decide) rfl q259 rfl hd k
theorem gf_C_X1_190_0 {hid : Bool} {X : g_F} {cc : ByteArray} {ret : Option FieldType} {ad : Nat → Nat → Nat} {σ : g_S} {w : Nat × Nat} {pc : Nat} {vs : List (Nat × Value)} {st : List Value} {u : Nat} (C : g_M gCl X cc RX1 ret) (hu : u < g_n (gC hid) 0) (hd : decode cc pc = .ok (.getfield 190, 3)) (k : g_Y gCl X (gC hid) ad σ w (pc + 3) vs (.int (σ.1 0 u 26) :: st)) : g_Y gCl X (gC hid) ad σ w pc vs (.ref (ad 0 u) :: st) :=
  y_get C hu in_X1 (N := 31) (ci := 0) rfl rfl 26 (by decide) rfl q261 rfl hd k
theorem gf_C_X1_127_0 {hid : Bool} {X : g_F} {cc : ByteArray} {ret : Option FieldType} {ad : Nat → Nat → Nat} {σ : g_S} {w : Nat × Nat} {pc : Nat} {vs : List (Nat × Value)} {st : List Value} {u : Nat} (C : g_M gCl X cc RX1 ret) (hu : u < g_n (gC hid) 0) (hd : decode cc pc = .ok (.getfield 127, 3)) (k : g_Y gCl X (gC hid) ad σ w (pc + 3) vs (.ref (ad 23 0) :: st)) : g_Y gCl X (gC hid) ad σ w pc vs (.ref (ad 0 u) :: st) :=
  y_get C hu in_X1 (N := 31) (ci := 0) rfl rfl 25 (by decide) rfl q260 rfl hd k
theorem gf_C_X1_454_0 {hid : Bool} {X : g_F} {cc : ByteArray} {ret : Option FieldType} {ad : Nat → Nat → Nat} {σ : g_S} {w : Nat × Nat} {pc : Nat} {vs : List (Nat × Value)} {st : List Value} {u : Nat} (C : g_M gCl X cc RX1 ret) (hu : u < g_n (gC hid) 0) (hd : decode cc pc = .ok (.getfield 454, 3)) (k : g_Y gCl X (gC hid) ad σ w (pc + 3) vs (.int (σ.1 0 u 27) :: st)) : g_Y gCl X (gC hid) ad σ w pc vs (.ref (ad 0 u) :: st) :=
  y_get C hu in_X1 (N := 31) (ci := 0) rfl rfl 27 (by decide) rfl q262 rfl hd k
theorem pf_C_X1_454_0 {hid : Bool} {X : g_F} {cc : ByteArray} {ret : Option FieldType} {ad : Nat → Nat → Nat} {σ : g_S} {w : Nat × Nat} {pc : Nat} {vs : List (Nat × Value)} {st : List Value} {u : Nat} {v : Int32} {σ1 : g_S} (C : g_M gCl X cc RX1 ret) (hu : u < g_n (gC hid) 0) (e : σ1 = g_sI σ 0 u 27 v) (hd : decode cc pc = .ok (.putfield 454, 3)) (k : g_Y gCl X (gC hid) ad σ1 w (pc + 3) vs st) : g_Y gCl X (gC hid) ad σ w pc vs (.int v :: .ref (ad 0 u) :: st) := by
  subst e
  exact y_put C hu in_X1 (N := 31) (ci := 0) rfl rfl tyX1 tyX1_ok nmX1 27 (by decide) rfl q262 rfl rfl rfl rfl (Nat.le_of_ble_eq_true rfl) g_sI_n (by show Sum.inl (Sum.inr (0, gC_f0 ad u ((g_sI σ 0 u 27 v).1 0 u) ((g_sI σ 0 u 27 v).2.1 0 u) (σ.2.2 0 u))) = _; rw [g_sI_s]; rfl) hd k
theorem gf_C_X1_130_0 {hid : Bool} {X : g_F} {cc : ByteArray} {ret : Option FieldType} {ad : Nat → Nat → Nat} {σ : g_S} {w : Nat × Nat} {pc : Nat} {vs : List (Nat × Value)} {st : List Value} {u : Nat} (C : g_M gCl X cc RX1 ret) (hu : u < g_n (gC hid) 0) (hd : decode cc pc = .ok (.getfield 130, 3)) (k : g_Y gCl X (gC hid) ad σ w (pc + 3) vs (.ref (ad 21 0) :: st)) : g_Y gCl X (gC hid) ad σ w pc vs (.ref (ad 0 u) :: st) :=
  y_get C hu in_X1 (N := 31) (ci := 0) rfl rfl 28 (by decide) rfl q263 rfl hd k
theorem pf_C_X1_480_0 {hid : Bool} {X : g_F} {cc : ByteArray} {ret : Option FieldType} {ad : Nat → Nat → Nat} {σ : g_S} {w : Nat × Nat} {pc : Nat} {vs : List (Nat × Value)} {st : List Value} {u : Nat} {v : Int32} {σ1 : g_S} (C : g_M gCl X cc RX1 ret) (hu : u < g_n (gC hid) 0) (e : σ1 = g_sI σ 0 u 29 v) (hd : decode cc pc = .ok (.putfield 480, 3)) (k : g_Y gCl X (gC hid) ad σ1 w (pc + 3) vs st) : g_Y gCl X (gC hid) ad σ w pc vs (.int v :: .ref (ad 0 u) :: st) := by
  subst e
  exact y_put C hu in_X1 (N := 31) (ci := 0) rfl rfl tyX1 tyX1_ok nmX1 29 (by decide) rfl q264 rfl rfl rfl rfl (Nat.le_of_ble_eq_true rfl) g_sI_n (by show Sum.inl (Sum.inr (0, gC_f0 ad u ((g_sI σ 0 u 29 v).1 0 u) ((g_sI σ 0 u 29 v).2.1 0 u) (σ.2.2 0 u))) = _; rw [g_sI_s]; rfl) hd k
theorem gf_C_X1_480_0 {hid : Bool} {X : g_F} {cc : ByteArray} {ret : Option FieldType} {ad : Nat → Nat → Nat} {σ : g_S} {w : Nat × Nat} {pc : Nat} {vs : List (Nat × Value)} {st : List Value} {u : Nat} (C : g_M gCl X cc RX1 ret) (hu : u < g_n (gC hid) 0) (hd : decode cc pc = .ok (.getfield 480, 3)) (k : g_Y gCl X (gC hid) ad σ w (pc + 3) vs (.int (σ.1 0 u 29) :: st)) : g_Y gCl X (gC hid) ad σ w pc vs (.ref (ad 0 u) :: st) :=
  y_get C hu in_X1 (N := 31) (ci := 0) rfl rfl 29 (by decide) rfl q264 rfl hd k
theorem gf_C_X1_135_0 {hid : Bool} {X : g_F} {cc : ByteArray} {ret : Option FieldType} {ad : Nat → Nat → Nat} {σ : g_S} {w : Nat × Nat} {pc : Nat} {vs : List (Nat × Value)} {st : List Value} {u : Nat} (C : g_M gCl X cc RX1 ret) (hu : u < g_n (gC hid) 0) (hd : decode cc pc = .ok (.getfield 135, 3)) (k : g_Y gCl X (gC hid) ad σ w (pc + 3) vs (.ref (ad 24 0) :: st)) : g_Y gCl X (gC hid) ad σ w pc vs (.ref (ad 0 u) :: st) :=
  y_get C hu in_X1 (N := 31) (ci := 0) rfl rfl 30 (by decide) rfl q265 rfl hd k
theorem pf_C_X11_1_25 {hid : Bool} {X : g_F} {cc : ByteArray} {ret : Option FieldType} {ad : Nat → Nat → Nat} {σ : g_S} {w : Nat × Nat} {pc : Nat} {vs : List (Nat × Value)} {st : List Value} {u : Nat} {σ1 : g_S} (C : g_M gCl X cc RX11 ret) (hu : u < g_n (gC hid) 25) (hp : σ.2.2 25 u 200 = 2) (hnm : (g_me X).name = "<init>") (e : σ1 = g_sR σ 25 u 200 3) (hd : decode cc pc = .ok (.putfield 1, 3)) (k : g_Y gCl X (gC hid) ad σ1 w (pc + 3) vs st) : g_Y gCl X (gC hid) ad σ w pc vs (.ref (ad 0 0) :: .ref (ad 25 u) :: st) := by
  subst e
  have hp0 : ¬ σ.2.2 25 u 200 = 0 := by rw [hp]; decide
  have hfs : gC_f25 ad u (σ.1 25 u) (σ.2.1 25 u) (g_updN (σ.2.2 25 u) 200 3) = (gC_f25 ad u (σ.1 25 u) (σ.2.1 25 u) (σ.2.2 25 u)).set 2 (.ref (ad 0 0)) := by
    unfold gC_f25
    rw [hp]
    rfl
  exact y_putF C hu in_X11 (N := 3) (ci := 9) rfl (if_neg hp0) tyX11 tyX11_ok nmX11 2 (by decide) rfl q1221 rfl hnm rfl rfl rfl rfl (Nat.le_of_ble_eq_true rfl) g_sR_n (by show g_opt ((g_sR σ 25 u 200 3).2.2 25 u 200) (Sum.inl (Sum.inr (9, gC_f25 ad u (σ.1 25 u) (σ.2.1 25 u) ((g_sR σ 25 u 200 3).2.2 25 u)))) = _; rw [g_sR_s, hfs]; rfl) hd k
theorem pf_C_X5_9_34 {hid : Bool} {X : g_F} {cc : ByteArray} {ret : Option FieldType} {ad : Nat → Nat → Nat} {σ : g_S} {w : Nat × Nat} {pc : Nat} {vs : List (Nat × Value)} {st : List Value} {u : Nat} {σ1 : g_S} (C : g_M gCl X cc RX5 ret) (hu : u < g_n (gC hid) 34) (hp : σ.2.2 34 u 200 = 2) (hnm : (g_me X).name = "<init>") (e : σ1 = g_sR σ 34 u 200 3) (hd : decode cc pc = .ok (.putfield 9, 3)) (k : g_Y gCl X (gC hid) ad σ1 w (pc + 3) vs st) : g_Y gCl X (gC hid) ad σ w pc vs (.ref (ad 35 u) :: .ref (ad 34 u) :: st) := by
  subst e
  have hp0 : ¬ σ.2.2 34 u 200 = 0 := by rw [hp]; decide
  have hfs : gC_f34 ad u (σ.1 34 u) (σ.2.1 34 u) (g_updN (σ.2.2 34 u) 200 3) = (gC_f34 ad u (σ.1 34 u) (σ.2.1 34 u) (σ.2.2 34 u)).set 0 (.ref (ad 35 u)) := by
    unfold gC_f34
    rw [hp]
    rfl
  exact y_putF C hu in_X5 (N := 6) (ci := 4) rfl (if_neg hp0) tyX5 tyX5_ok nmX5 0 (by decide) rfl q188 rfl hnm rfl rfl rfl rfl (Nat.le_of_ble_eq_true rfl) g_sR_n (by show g_opt ((g_sR σ 34 u 200 3).2.2 34 u 200) (Sum.inl (Sum.inr (4, gC_f34 ad u (σ.1 34 u) (σ.2.1 34 u) ((g_sR σ 34 u 200 3).2.2 34 u)))) = _; rw [g_sR_s, hfs]; rfl) hd k
theorem pf_C_X5_15_34 {hid : Bool} {X : g_F} {cc : ByteArray} {ret : Option FieldType} {ad : Nat → Nat → Nat} {σ : g_S} {w : Nat × Nat} {pc : Nat} {vs : List (Nat × Value)} {st : List Value} {u : Nat} {σ1 : g_S} (C : g_M gCl X cc RX5 ret) (hu : u < g_n (gC hid) 34) (hp : σ.2.2 34 u 200 = 3) (hnm : (g_me X).name = "<init>") (e : σ1 = g_sR σ 34 u 200 4) (hd : decode cc pc = .ok (.putfield 15, 3)) (k : g_Y gCl X (gC hid) ad σ1 w (pc + 3) vs st) : g_Y gCl X (gC hid) ad σ w pc vs (.ref (ad 36 u) :: .ref (ad 34 u) :: st) := by
  subst e
  have hp0 : ¬ σ.2.2 34 u 200 = 0 := by rw [hp]; decide
  have hfs : gC_f34 ad u (σ.1 34 u) (σ.2.1 34 u) (g_updN (σ.2.2 34 u) 200 4) = (gC_f34 ad u (σ.1 34 u) (σ.2.1 34 u) (σ.2.2 34 u)).set 1 (.ref (ad 36 u)) := by
    unfold gC_f34
    rw [hp]
    rfl
  exact y_putF C hu in_X5 (N := 6) (ci := 4) rfl (if_neg hp0) tyX5 tyX5_ok nmX5 1 (by decide) rfl q192 rfl hnm rfl rfl rfl rfl (Nat.le_of_ble_eq_true rfl) g_sR_n (by show g_opt ((g_sR σ 34 u 200 4).2.2 34 u 200) (Sum.inl (Sum.inr (4, gC_f34 ad u (σ.1 34 u) (σ.2.1 34 u) ((g_sR σ 34 u 200 4).2.2 34 u)))) = _; rw [g_sR_s, hfs]; rfl) hd k
theorem pf_C_X5_18_34 {hid : Bool} {X : g_F} {cc : ByteArray} {ret : Option FieldType} {ad : Nat → Nat → Nat} {σ : g_S} {w : Nat × Nat} {pc : Nat} {vs : List (Nat × Value)} {st : List Value} {u : Nat} {σ1 : g_S} (C : g_M gCl X cc RX5 ret) (hu : u < g_n (gC hid) 34) (hp : σ.2.2 34 u 200 = 4) (hnm : (g_me X).name = "<init>") (e : σ1 = g_sR σ 34 u 200 5) (hd : decode cc pc = .ok (.putfield 18, 3)) (k : g_Y gCl X (gC hid) ad σ1 w (pc + 3) vs st) : g_Y gCl X (gC hid) ad σ w pc vs (.ref (ad 37 u) :: .ref (ad 34 u) :: st) := by
  subst e
  have hp0 : ¬ σ.2.2 34 u 200 = 0 := by rw [hp]; decide
  have hfs : gC_f34 ad u (σ.1 34 u) (σ.2.1 34 u) (g_updN (σ.2.2 34 u) 200 5) = (gC_f34 ad u (σ.1 34 u) (σ.2.1 34 u) (σ.2.2 34 u)).set 2 (.ref (ad 37 u)) := by
    unfold gC_f34
    rw [hp]
    rfl
  exact y_putF C hu in_X5 (N := 6) (ci := 4) rfl (if_neg hp0) tyX5 tyX5_ok nmX5 2 (by decide) rfl q196 rfl hnm rfl rfl rfl rfl (Nat.le_of_ble_eq_true rfl) g_sR_n (by show g_opt ((g_sR σ 34 u 200 5).2.2 34 u 200) (Sum.inl (Sum.inr (4, gC_f34 ad u (σ.1 34 u) (σ.2.1 34 u) ((g_sR σ 34 u 200 5).2.2 34 u)))) = _; rw [g_sR_s, hfs]; rfl) hd k
theorem pf_C_X5_21_34 {hid : Bool} {X : g_F} {cc : ByteArray} {ret : Option FieldType} {ad : Nat → Nat → Nat} {σ : g_S} {w : Nat × Nat} {pc : Nat} {vs : List (Nat × Value)} {st : List Value} {u : Nat} {σ1 : g_S} (C : g_M gCl X cc RX5 ret) (hu : u < g_n (gC hid) 34) (hp : σ.2.2 34 u 200 = 5) (hnm : (g_me X).name = "<init>") (e : σ1 = g_sR σ 34 u 200 6) (hd : decode cc pc = .ok (.putfield 21, 3)) (k : g_Y gCl X (gC hid) ad σ1 w (pc + 3) vs st) : g_Y gCl X (gC hid) ad σ w pc vs (.ref (ad 38 u) :: .ref (ad 34 u) :: st) := by
  subst e
  have hp0 : ¬ σ.2.2 34 u 200 = 0 := by rw [hp]; decide
  have hfs : gC_f34 ad u (σ.1 34 u) (σ.2.1 34 u) (g_updN (σ.2.2 34 u) 200 6) = (gC_f34 ad u (σ.1 34 u) (σ.2.1 34 u) (σ.2.2 34 u)).set 3 (.ref (ad 38 u)) := by
    unfold gC_f34
    rw [hp]
    rfl
  exact y_putF C hu in_X5 (N := 6) (ci := 4) rfl (if_neg hp0) tyX5 tyX5_ok nmX5 3 (by decide) rfl q199 rfl hnm rfl rfl rfl rfl (Nat.le_of_ble_eq_true rfl) g_sR_n (by show g_opt ((g_sR σ 34 u 200 6).2.2 34 u 200) (Sum.inl (Sum.inr (4, gC_f34 ad u (σ.1 34 u) (σ.2.1 34 u) ((g_sR σ 34 u 200 6).2.2 34 u)))) = _; rw [g_sR_s, hfs]; rfl) hd k
theorem pf_C_X5_24_34 {hid : Bool} {X : g_F} {cc : ByteArray} {ret : Option FieldType} {ad : Nat → Nat → Nat} {σ : g_S} {w : Nat × Nat} {pc : Nat} {vs : List (Nat × Value)} {st : List Value} {u : Nat} {σ1 : g_S} (C : g_M gCl X cc RX5 ret) (hu : u < g_n (gC hid) 34) (hp : σ.2.2 34 u 200 = 6) (hnm : (g_me X).name = "<init>") (e : σ1 = g_sR σ 34 u 200 1) (hd : decode cc pc = .ok (.putfield 24, 3)) (k : g_Y gCl X (gC hid) ad σ1 w (pc + 3) vs st) : g_Y gCl X (gC hid) ad σ w pc vs (.ref (ad 39 u) :: .ref (ad 34 u) :: st) := by
  subst e
  have hp0 : ¬ σ.2.2 34 u 200 = 0 := by rw [hp]; decide
  have hfs : gC_f34 ad u (σ.1 34 u) (σ.2.1 34 u) (g_updN (σ.2.2 34 u) 200 1) = (gC_f34 ad u (σ.1 34 u) (σ.2.1 34 u) (σ.2.2 34 u)).set 4 (.ref (ad 39 u)) := by
    unfold gC_f34
    rw [hp]
    rfl
  exact y_putF C hu in_X5 (N := 6) (ci := 4) rfl (if_neg hp0) tyX5 tyX5_ok nmX5 4 (by decide) rfl q202 rfl hnm rfl rfl rfl rfl (Nat.le_of_ble_eq_true rfl) g_sR_n (by show g_opt ((g_sR σ 34 u 200 1).2.2 34 u 200) (Sum.inl (Sum.inr (4, gC_f34 ad u (σ.1 34 u) (σ.2.1 34 u) ((g_sR σ 34 u 200 1).2.2 34 u)))) = _; rw [g_sR_s, hfs]; rfl) hd k
theorem pf_C_X11_16_25 {hid : Bool} {X : g_F} {cc : ByteArray} {ret : Option FieldType} {ad : Nat → Nat → Nat} {σ : g_S} {w : Nat × Nat} {pc : Nat} {vs : List (Nat × Value)} {st : List Value} {u : Nat} {σ1 : g_S} (C : g_M gCl X cc RX11 ret) (hu : u < g_n (gC hid) 25) (hp : σ.2.2 25 u 200 = 3) (hnm : (g_me X).name = "<init>") (e : σ1 = g_sR σ 25 u 200 1) (hd : decode cc pc = .ok (.putfield 16, 3)) (k : g_Y gCl X (gC hid) ad σ1 w (pc + 3) vs st) : g_Y gCl X (gC hid) ad σ w pc vs (.ref (ad 34 u) :: .ref (ad 25 u) :: st) := by
  subst e
  have hp0 : ¬ σ.2.2 25 u 200 = 0 := by rw [hp]; decide
  have hfs : gC_f25 ad u (σ.1 25 u) (σ.2.1 25 u) (g_updN (σ.2.2 25 u) 200 1) = (gC_f25 ad u (σ.1 25 u) (σ.2.1 25 u) (σ.2.2 25 u)).set 0 (.ref (ad 34 u)) := by
    unfold gC_f25
    rw [hp]
    rfl
  exact y_putF C hu in_X11 (N := 3) (ci := 9) rfl (if_neg hp0) tyX11 tyX11_ok nmX11 0 (by decide) rfl q1217 rfl hnm rfl rfl rfl rfl (Nat.le_of_ble_eq_true rfl) g_sR_n (by show g_opt ((g_sR σ 25 u 200 1).2.2 25 u 200) (Sum.inl (Sum.inr (9, gC_f25 ad u (σ.1 25 u) (σ.2.1 25 u) ((g_sR σ 25 u 200 1).2.2 25 u)))) = _; rw [g_sR_s, hfs]; rfl) hd k
theorem gf_C_X11_1_25 {hid : Bool} {X : g_F} {cc : ByteArray} {ret : Option FieldType} {ad : Nat → Nat → Nat} {σ : g_S} {w : Nat × Nat} {pc : Nat} {vs : List (Nat × Value)} {st : List Value} {u : Nat} (C : g_M gCl X cc RX11 ret) (hu : u < g_n (gC hid) 25) (hp : g_set (σ.2.2 25 u 200) 0) (hd : decode cc pc = .ok (.getfield 1, 3)) (k : g_Y gCl X (gC hid) ad σ w (pc + 3) vs (.ref (ad 0 0) :: st)) : g_Y gCl X (gC hid) ad σ w pc vs (.ref (ad 25 u) :: st) :=
  y_get C hu in_X11 (N := 3) (ci := 9) rfl (if_neg (g_setp hp)) 2 (by decide) rfl q1221 (by show some (ite _ _ _) = _; rw [if_pos hp]) hd k
theorem gf_C_X11_20_0 {hid : Bool} {X : g_F} {cc : ByteArray} {ret : Option FieldType} {ad : Nat → Nat → Nat} {σ : g_S} {w : Nat × Nat} {pc : Nat} {vs : List (Nat × Value)} {st : List Value} {u : Nat} (C : g_M gCl X cc RX11 ret) (hu : u < g_n (gC hid) 0) (hd : decode cc pc = .ok (.getfield 20, 3)) (k : g_Y gCl X (gC hid) ad σ w (pc + 3) vs (.int (σ.1 0 u 7) :: st)) : g_Y gCl X (gC hid) ad σ w pc vs (.ref (ad 0 u) :: st) :=
  y_getN C hu in_X1 (N := 31) (ci := 0) rfl rfl 7 (by decide) rfl q240 rfl hd k
theorem pf_C_X11_26_25 {hid : Bool} {X : g_F} {cc : ByteArray} {ret : Option FieldType} {ad : Nat → Nat → Nat} {σ : g_S} {w : Nat × Nat} {pc : Nat} {vs : List (Nat × Value)} {st : List Value} {u : Nat} {v : Int32} {σ1 : g_S} (C : g_M gCl X cc RX11 ret) (hu : u < g_n (gC hid) 25) (hp : ¬ σ.2.2 25 u 200 = 0) (hnm : (g_me X).name = "<init>") (e : σ1 = g_sI σ 25 u 1 v) (hd : decode cc pc = .ok (.putfield 26, 3)) (k : g_Y gCl X (gC hid) ad σ1 w (pc + 3) vs st) : g_Y gCl X (gC hid) ad σ w pc vs (.int v :: .ref (ad 25 u) :: st) := by
  subst e
  exact y_putF C hu in_X11 (N := 3) (ci := 9) rfl (if_neg hp) tyX11 tyX11_ok nmX11 1 (by decide) rfl q1219 rfl hnm rfl rfl rfl rfl (Nat.le_of_ble_eq_true rfl) g_sI_n (by show g_opt (σ.2.2 25 u 200) (Sum.inl (Sum.inr (9, gC_f25 ad u ((g_sI σ 25 u 1 v).1 25 u) ((g_sI σ 25 u 1 v).2.1 25 u) (σ.2.2 25 u)))) = _; rw [show g_opt (σ.2.2 25 u 200) _ = _ from if_neg hp, g_sI_s]; rfl) hd k
theorem gf_C_X11_16_25 {hid : Bool} {X : g_F} {cc : ByteArray} {ret : Option FieldType} {ad : Nat → Nat → Nat} {σ : g_S} {w : Nat × Nat} {pc : Nat} {vs : List (Nat × Value)} {st : List Value} {u : Nat} (C : g_M gCl X cc RX11 ret) (hu : u < g_n (gC hid) 25) (hp : g_set (σ.2.2 25 u 200) 1) (hd : decode cc pc = .ok (.getfield 16, 3)) (k : g_Y gCl X (gC hid) ad σ w (pc + 3) vs (.ref (ad 34 u) :: st)) : g_Y gCl X (gC hid) ad σ w pc vs (.ref (ad 25 u) :: st) :=
  y_get C hu in_X11 (N := 3) (ci := 9) rfl (if_neg (g_setp hp)) 0 (by decide) rfl q1217 (by show some (ite _ _ _) = _; rw [if_pos hp]) hd k
theorem gf_C_X11_29_0 {hid : Bool} {X : g_F} {cc : ByteArray} {ret : Option FieldType} {ad : Nat → Nat → Nat} {σ : g_S} {w : Nat × Nat} {pc : Nat} {vs : List (Nat × Value)} {st : List Value} {u : Nat} (C : g_M gCl X cc RX11 ret) (hu : u < g_n (gC hid) 0) (hd : decode cc pc = .ok (.getfield 29, 3)) (k : g_Y gCl X (gC hid) ad σ w (pc + 3) vs (.ref (ad 4 0) :: st)) : g_Y gCl X (gC hid) ad σ w pc vs (.ref (ad 0 u) :: st) :=
  y_getN C hu in_X1 (N := 31) (ci := 0) rfl rfl 10 (by decide) rfl q244 rfl hd k
theorem gf_C_X5_9_34 {hid : Bool} {X : g_F} {cc : ByteArray} {ret : Option FieldType} {ad : Nat → Nat → Nat} {σ : g_S} {w : Nat × Nat} {pc : Nat} {vs : List (Nat × Value)} {st : List Value} {u : Nat} (C : g_M gCl X cc RX5 ret) (hu : u < g_n (gC hid) 34) (hp : g_set (σ.2.2 34 u 200) 0) (hd : decode cc pc = .ok (.getfield 9, 3)) (k : g_Y gCl X (gC hid) ad σ w (pc + 3) vs (.ref (ad 35 u) :: st)) : g_Y gCl X (gC hid) ad σ w pc vs (.ref (ad 34 u) :: st) :=
  y_get C hu in_X5 (N := 6) (ci := 4) rfl (if_neg (g_setp hp)) 0 (by decide) rfl q188 (by show some (ite _ _ _) = _; rw [if_pos hp]) hd k
theorem gf_C_X5_15_34 {hid : Bool} {X : g_F} {cc : ByteArray} {ret : Option FieldType} {ad : Nat → Nat → Nat} {σ : g_S} {w : Nat × Nat} {pc : Nat} {vs : List (Nat × Value)} {st : List Value} {u : Nat} (C : g_M gCl X cc RX5 ret) (hu : u < g_n (gC hid) 34) (hp : g_set (σ.2.2 34 u 200) 1) (hd : decode cc pc = .ok (.getfield 15, 3)) (k : g_Y gCl X (gC hid) ad σ w (pc + 3) vs (.ref (ad 36 u) :: st)) : g_Y gCl X (gC hid) ad σ w pc vs (.ref (ad 34 u) :: st) :=
  y_get C hu in_X5 (N := 6) (ci := 4) rfl (if_neg (g_setp hp)) 1 (by decide) rfl q192 (by show some (ite _ _ _) = _; rw [if_pos hp]) hd k
theorem gf_C_X5_18_34 {hid : Bool} {X : g_F} {cc : ByteArray} {ret : Option FieldType} {ad : Nat → Nat → Nat} {σ : g_S} {w : Nat × Nat} {pc : Nat} {vs : List (Nat × Value)} {st : List Value} {u : Nat} (C : g_M gCl X cc RX5 ret) (hu : u < g_n (gC hid) 34) (hp : g_set (σ.2.2 34 u 200) 2) (hd : decode cc pc = .ok (.getfield 18, 3)) (k : g_Y gCl X (gC hid) ad σ w (pc + 3) vs (.ref (ad 37 u) :: st)) : g_Y gCl X (gC hid) ad σ w pc vs (.ref (ad 34 u) :: st) :=
  y_get C hu in_X5 (N := 6) (ci := 4) rfl (if_neg (g_setp hp)) 2 (by decide) rfl q196 (by show some (ite _ _ _) = _; rw [if_pos hp]) hd k
theorem gf_C_X5_21_34 {hid : Bool} {X : g_F} {cc : ByteArray} {ret : Option FieldType} {ad : Nat → Nat → Nat} {σ : g_S} {w : Nat × Nat} {pc : Nat} {vs : List (Nat × Value)} {st : List Value} {u : Nat} (C : g_M gCl X cc RX5 ret) (hu : u < g_n (gC hid) 34) (hp : g_set (σ.2.2 34 u 200) 3) (hd : decode cc pc = .ok (.getfield 21, 3)) (k : g_Y gCl X (gC hid) ad σ w (pc + 3) vs (.ref (ad 38 u) :: st)) : g_Y gCl X (gC hid) ad σ w pc vs (.ref (ad 34 u) :: st) :=
  y_get C hu in_X5 (N := 6) (ci := 4) rfl (if_neg (g_setp hp)) 3 (by decide) rfl q199 (by show some (ite _ _ _) = _; rw [if_pos hp]) hd k
theorem gf_C_X5_24_34 {hid : Bool} {X : g_F} {cc : ByteArray} {ret : Option FieldType} {ad : Nat → Nat → Nat} {σ : g_S} {w : Nat × Nat} {pc : Nat} {vs : List (Nat × Value)} {st : List Value} {u : Nat} (C : g_M gCl X cc RX5 ret) (hu : u < g_n (gC hid) 34) (hp : g_set (σ.2.2 34 u 200) 4) (hd : decode cc pc = .ok (.getfield 24, 3)) (k : g_Y gCl X (gC hid) ad σ w (pc + 3) vs (.ref (ad 39 u) :: st)) : g_Y gCl X (gC hid) ad σ w pc vs (.ref (ad 34 u) :: st) :=
  y_get C hu in_X5 (N := 6) (ci := 4) rfl (if_neg (g_setp hp)) 4 (by decide) rfl q202 (by show some (ite _ _ _) = _; rw [if_pos hp]) hd k
theorem pf_C_X5_33_34 {hid : Bool} {X : g_F} {cc : ByteArray} {ret : Option FieldType} {ad : Nat → Nat → Nat} {σ : g_S} {w : Nat × Nat} {pc : Nat} {vs : List (Nat × Value)} {st : List Value} {u : Nat} {v : Int32} {σ1 : g_S} (C : g_M gCl X cc RX5 ret) (hu : u < g_n (gC hid) 34) (hp : ¬ σ.2.2 34 u 200 = 0) (e : σ1 = g_sI σ 34 u 5 v) (hd : decode cc pc = .ok (.putfield 33, 3)) (k : g_Y gCl X (gC hid) ad σ1 w (pc + 3) vs st) : g_Y gCl X (gC hid) ad σ w pc vs (.int v :: .ref (ad 34 u) :: st) := by
  subst e
  exact y_put C hu in_X5 (N := 6) (ci := 4) rfl (if_neg hp) tyX5 tyX5_ok nmX5 5 (by decide) rfl q205 rfl rfl rfl rfl (Nat.le_of_ble_eq_true rfl) g_sI_n (by show g_opt (σ.2.2 34 u 200) (Sum.inl (Sum.inr (4, gC_f34 ad u ((g_sI σ 34 u 5 v).1 34 u) ((g_sI σ 34 u 5 v).2.1 34 u) (σ.2.2 34 u)))) = _; rw [show g_opt (σ.2.2 34 u 200) _ = _ from if_neg hp, g_sI_s]; rfl) hd k
theorem gf_C_X1_488_25 {hid : Bool} {X : g_F} {cc : ByteArray} {ret : Option FieldType} {ad : Nat → Nat → Nat} {σ : g_S} {w : Nat × Nat} {pc : Nat} {vs : List (Nat × Value)} {st : List Value} {u : Nat} (C : g_M gCl X cc RX1 ret) (hu : u < g_n (gC hid) 25) (hp : ¬ σ.2.2 25 u 200 = 0) (hd : decode cc pc = .ok (.getfield 488, 3)) (k : g_Y gCl X (gC hid) ad σ w (pc + 3) vs (.int (σ.1 25 u 1) :: st)) : g_Y gCl X (gC hid) ad σ w pc vs (.ref (ad 25 u) :: st) :=
  y_getN C hu in_X11 (N := 3) (ci := 9) rfl (if_neg hp) 1 (by decide) rfl q1220 rfl hd k
theorem gf_C_X1_491_25 {hid : Bool} {X : g_F} {cc : ByteArray} {ret : Option FieldType} {ad : Nat → Nat → Nat} {σ : g_S} {w : Nat × Nat} {pc : Nat} {vs : List (Nat × Value)} {st : List Value} {u : Nat} (C : g_M gCl X cc RX1 ret) (hu : u < g_n (gC hid) 25) (hp : g_set (σ.2.2 25 u 200) 1) (hd : decode cc pc = .ok (.getfield 491, 3)) (k : g_Y gCl X (gC hid) ad σ w (pc + 3) vs (.ref (ad 34 u) :: st)) : g_Y gCl X (gC hid) ad σ w pc vs (.ref (ad 25 u) :: st) :=
  y_getN C hu in_X11 (N := 3) (ci := 9) rfl (if_neg (g_setp hp)) 0 (by decide) rfl q1218 (by show some (ite _ _ _) = _; rw [if_pos hp]) hd k
theorem gf_C_X5_33_34 {hid : Bool} {X : g_F} {cc : ByteArray} {ret : Option FieldType} {ad : Nat → Nat → Nat} {σ : g_S} {w : Nat × Nat} {pc : Nat} {vs : List (Nat × Value)} {st : List Value} {u : Nat} (C : g_M gCl X cc RX5 ret) (hu : u < g_n (gC hid) 34) (hp : ¬ σ.2.2 34 u 200 = 0) (hd : decode cc pc = .ok (.getfield 33, 3)) (k : g_Y gCl X (gC hid) ad σ w (pc + 3) vs (.int (σ.1 34 u 5) :: st)) : g_Y gCl X (gC hid) ad σ w pc vs (.ref (ad 34 u) :: st) :=
  y_get C hu in_X5 (N := 6) (ci := 4) rfl (if_neg hp) 5 (by decide) rfl q205 rfl hd k
