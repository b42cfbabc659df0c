/-! ===== NoisyCodes: length, generator, power, log, times, put, get, bit, flip, burst, noise, syndrome, save ===== -/
set_option maxRecDepth 100000
theorem zk_le {a b : Nat} (h : a ≤ b) (hb : b < 2 ^ 31) : nI a ≤ nI b := (nI_leI (by omega) hb).mpr h
def putw (m j b : Nat) : Nat := (m &&& (1 <<< j ^^^ 4294967295)) ||| (if b = 0 then 0 else 1 <<< j)
def flF (dep i : Nat) (c : List Nat) : List Nat := c.set (i % dep) (c.getD (i % dep) 0 ^^^ 1 <<< (i / dep))
def nzX (x : Int32) : Int32 := x * 1103515245 + nI 12345
def nzR (x : Int32) : Int32 := (x.toUInt32 >>> ((nI 16).toUInt32 &&& Int32.toUInt32 31)).toInt32 - (x.toUInt32 >>> ((nI 16).toUInt32 &&& Int32.toUInt32 31)).toInt32 / nI 1000 * nI 1000
def nzF (dep : Nat) (rate : Int32) (i : Nat) (z : Int32 × List Nat × Nat) : Int32 × List Nat × Nat := if rate ≤ nzR (nzX z.1) then (nzX z.1, z.2.1, z.2.2) else (nzX z.1, flF dep i z.2.1, z.2.2 + 1)
theorem nzF_0 (dep : Nat) (rate : Int32) : ∀ i x c n, rate ≤ nzR (nzX x) → nzF dep rate i (x, c, n) = (nzX x, c, n) := fun i x c n h => if_pos h
theorem nzF_1 (dep : Nat) (rate : Int32) : ∀ i x c n, ¬ rate ≤ nzR (nzX x) → nzF dep rate i (x, c, n) = (nzX x, flF dep i c, n + 1) := fun i x c n h => if_neg h
theorem flF_len (dep i : Nat) (c : List Nat) : (flF dep i c).length = c.length := List.length_set
theorem zk_row0 {X Y r0 r1 r2 r3 : Nat × va_E} : True := trivial
set_option maxHeartbeats 4000000 in
/-- length -/
theorem m1_length (l : Launch) (D : va_G) (g : G4) (hn co tr dep ms ch md kp wy : Nat) (h0 hs pl t gn kd : Nat) (hp hq n : Nat) : zk_M l yX1_length (ws_ yX1_length cX1_length 1 (some .int)) (zk_R 7 1 6) D g [.ref hn] [(hn, .inr (0, [.ref co, .ref tr, .int (nI 1), .int (nI dep), .ref ms, .ref ch, .ref md, .ref kp, .ref wy])), (co, .inr (1, [.ref h0, .int (nI t), .int (nI gn), .int (nI kd), .ref hs, .ref pl])), (h0, .inr (2, [.int (nI n), .ref hp, .ref hq]))] (zk_D (some (.int (nI n))) [(hn, .inr (0, [.ref co, .ref tr, .int (nI 1), .int (nI dep), .ref ms, .ref ch, .ref md, .ref kp, .ref wy])), (co, .inr (1, [.ref h0, .int (nI t), .int (nI gn), .int (nI kd), .ref hs, .ref pl])), (h0, .inr (2, [.int (nI n), .ref hp, .ref hq]))]) := by
  refine zk_ofW (by decide) (Nat.le_of_ble_eq_true rfl) ?_
  intro pg ev s mm below meth cd A C hr hlocks hname Z ls hl
  have hx := C.1.1
  have hb := C.1.2.1
  have hml := C.1.2.2.1
  have hown := C.1.2.2.2.1
  have hts := C.1.2.2.2.2
  have hl : lv_has ls 1 [(0, .ref hn)] := hl
  refine lv_aload_n hx hb dX1_length_0 rfl (lv_at hl 0 rfl) ?_
  refine zk_callV (cells' := 0) (slots' := 0) (rest := []) (n := 0) (wr := [(co, .inr (1, [.ref h0, .int (nI t), .int (nI gn), .int (nI kd), .ref hs, .ref pl])), (h0, .inr (2, [.int (nI n), .ref hp, .ref hq]))]) C Z (m1_code l D g hn co tr dep ms ch md kp wy) [0] [1, 2] rfl rfl (by decide) (by decide) (by decide) 0 0 rfl rfl rfl q338 q340 qs2 q19 q341 (by decide +kernel) rfl (Nat.le_of_ble_eq_true rfl) (Nat.le_of_ble_eq_true rfl) (Nat.le_of_ble_eq_true rfl) (Nat.le_of_ble_eq_true rfl) rfl rfl hl.1 rfl (Nat.le_of_ble_eq_true rfl) dX1_length_1 (fun v w1 H locs hq Z => ?_)
  obtain ⟨rfl, rfl⟩ := hq
  have Z : zk_Z D A s H locs [(hn, .inr (0, [.ref co, .ref tr, .int (nI 1), .int (nI dep), .ref ms, .ref ch, .ref md, .ref kp, .ref wy])), (co, .inr (1, [.ref h0, .int (nI t), .int (nI gn), .int (nI kd), .ref hs, .ref pl])), (h0, .inr (2, [.int (nI n), .ref hp, .ref hq]))] := Z.sub [2, 0, 1] (by decide) rfl
  refine W.eq (g2 := F0 mm 4 ls []) rfl ?_
  refine lv_aload_n hx hb dX1_length_4 rfl (lv_at hl 0 rfl) ?_
  refine zk_get C Z in_X1 0 rfl rfl 0 (by decide) q165 rfl (v := .ref co) rfl dX1_length_5 ?_
  refine zk_getN C Z in_X2 1 rfl rfl 0 (by decide) q92 rfl (v := .ref h0) rfl dX1_length_8 ?_
  refine zk_getN C Z in_X3 2 rfl rfl 0 (by decide) q61 rfl (v := .int (nI n)) rfl dX1_length_11 ?_
  exact zk_iret C hr hlocks Z ⟨rfl, rfl⟩ (Nat.le_of_ble_eq_true rfl) (Nat.le_of_ble_eq_true rfl) dX1_length_14

set_option maxHeartbeats 4000000 in
/-- length, not begun -/
theorem u1_length (l : Launch) (hfl : l.flags = flags0) (D : va_G) (g : G4) (hn co tr dep ms ch md kp wy : Nat)  : zk_MT l yX1_length (ws_ yX1_length cX1_length 1 (some .int)) (zk_R 7 1 6) D g [.ref hn] [(hn, .inr (0, [.ref co, .ref tr, .int (nI 0), .int (nI dep), .ref ms, .ref ch, .ref md, .ref kp, .ref wy]))] zk_ISE (fun w => w = [(hn, .inr (0, [.ref co, .ref tr, .int (nI 0), .int (nI dep), .ref ms, .ref ch, .ref md, .ref kp, .ref wy]))]) := by
  refine zk_ofWT (by decide) (Nat.le_of_ble_eq_true rfl) ?_
  intro pg ev s mm below meth cd A C hlocks hno Z ls hl
  have hx := C.1.1
  have hb := C.1.2.1
  have hml := C.1.2.2.1
  have hown := C.1.2.2.2.1
  have hts := C.1.2.2.2.2
  have hl : lv_has ls 1 [(0, .ref hn)] := hl
  refine lv_aload_n hx hb dX1_length_0 rfl (lv_at hl 0 rfl) ?_
  refine zk_callVT (cells' := 1) (slots' := 6) (rest := []) (n := 0) (wr := []) C Z (t1_code l hfl D g hn co tr dep ms ch md kp wy) [0] [] rfl rfl (by decide) (by decide) (by decide) 0 0 rfl rfl rfl q338 q340 qs2 q19 q341 (by decide +kernel) rfl (Nat.le_of_ble_eq_true rfl) (Nat.le_of_ble_eq_true rfl) (Nat.le_of_ble_eq_true rfl) (Nat.le_of_ble_eq_true rfl) rfl rfl hl.1 rfl (Nat.le_of_ble_eq_true rfl) dX1_length_1 (fun w1 hq => ?_)
  obtain rfl := hq
  exact zk_leave hlocks hno (rfl) (Nat.le_of_ble_eq_true rfl) (Nat.le_of_ble_eq_true rfl)

set_option maxHeartbeats 4000000 in
/-- generator -/
theorem m1_gen (l : Launch) (D : va_G) (g : G4) (hn co tr dep ms ch md kp wy : Nat) (h0 hs pl t gn kd : Nat) : zk_M l yX1_generator (ws_ yX1_generator cX1_generator 1 (some .int)) (zk_R 7 1 6) D g [.ref hn] [(hn, .inr (0, [.ref co, .ref tr, .int (nI 1), .int (nI dep), .ref ms, .ref ch, .ref md, .ref kp, .ref wy])), (co, .inr (1, [.ref h0, .int (nI t), .int (nI gn), .int (nI kd), .ref hs, .ref pl]))] (zk_D (some (.int (nI gn))) [(hn, .inr (0, [.ref co, .ref tr, .int (nI 1), .int (nI dep), .ref ms, .ref ch, .ref md, .ref kp, .ref wy])), (co, .inr (1, [.ref h0, .int (nI t), .int (nI gn), .int (nI kd), .ref hs, .ref pl]))]) := by
  refine zk_ofW (by decide) (Nat.le_of_ble_eq_true rfl) ?_
  intro pg ev s mm below meth cd A C hr hlocks hname Z ls hl
  have hx := C.1.1
  have hb := C.1.2.1
  have hml := C.1.2.2.1
  have hown := C.1.2.2.2.1
  have hts := C.1.2.2.2.2
  have hl : lv_has ls 1 [(0, .ref hn)] := hl
  refine lv_aload_n hx hb dX1_generator_0 rfl (lv_at hl 0 rfl) ?_
  refine zk_callV (cells' := 0) (slots' := 0) (rest := []) (n := 0) (wr := [(co, .inr (1, [.ref h0, .int (nI t), .int (nI gn), .int (nI kd), .ref hs, .ref pl]))]) C Z (m1_code l D g hn co tr dep ms ch md kp wy) [0] [1] rfl rfl (by decide) (by decide) (by decide) 0 0 rfl rfl rfl q338 q340 qs2 q19 q341 (by decide +kernel) rfl (Nat.le_of_ble_eq_true rfl) (Nat.le_of_ble_eq_true rfl) (Nat.le_of_ble_eq_true rfl) (Nat.le_of_ble_eq_true rfl) rfl rfl hl.1 rfl (Nat.le_of_ble_eq_true rfl) dX1_generator_1 (fun v w1 H locs hq Z => ?_)
  obtain ⟨rfl, rfl⟩ := hq
  have Z : zk_Z D A s H locs [(hn, .inr (0, [.ref co, .ref tr, .int (nI 1), .int (nI dep), .ref ms, .ref ch, .ref md, .ref kp, .ref wy])), (co, .inr (1, [.ref h0, .int (nI t), .int (nI gn), .int (nI kd), .ref hs, .ref pl]))] := Z.sub [1, 0] (by decide) rfl
  refine W.eq (g2 := F0 mm 4 ls []) rfl ?_
  refine lv_aload_n hx hb dX1_generator_4 rfl (lv_at hl 0 rfl) ?_
  refine zk_get C Z in_X1 0 rfl rfl 0 (by decide) q165 rfl (v := .ref co) rfl dX1_generator_5 ?_
  refine zk_getN C Z in_X2 1 rfl rfl 2 (by decide) q96 rfl (v := .int (nI gn)) rfl dX1_generator_8 ?_
  exact zk_iret C hr hlocks Z ⟨rfl, rfl⟩ (Nat.le_of_ble_eq_true rfl) (Nat.le_of_ble_eq_true rfl) dX1_generator_11

set_option maxHeartbeats 4000000 in
/-- gen, not begun -/
theorem u1_gen (l : Launch) (hfl : l.flags = flags0) (D : va_G) (g : G4) (hn co tr dep ms ch md kp wy : Nat)  : zk_MT l yX1_generator (ws_ yX1_generator cX1_generator 1 (some .int)) (zk_R 7 1 6) D g [.ref hn] [(hn, .inr (0, [.ref co, .ref tr, .int (nI 0), .int (nI dep), .ref ms, .ref ch, .ref md, .ref kp, .ref wy]))] zk_ISE (fun w => w = [(hn, .inr (0, [.ref co, .ref tr, .int (nI 0), .int (nI dep), .ref ms, .ref ch, .ref md, .ref kp, .ref wy]))]) := by
  refine zk_ofWT (by decide) (Nat.le_of_ble_eq_true rfl) ?_
  intro pg ev s mm below meth cd A C hlocks hno Z ls hl
  have hx := C.1.1
  have hb := C.1.2.1
  have hml := C.1.2.2.1
  have hown := C.1.2.2.2.1
  have hts := C.1.2.2.2.2
  have hl : lv_has ls 1 [(0, .ref hn)] := hl
  refine lv_aload_n hx hb dX1_generator_0 rfl (lv_at hl 0 rfl) ?_
  refine zk_callVT (cells' := 1) (slots' := 6) (rest := []) (n := 0) (wr := []) C Z (t1_code l hfl D g hn co tr dep ms ch md kp wy) [0] [] rfl rfl (by decide) (by decide) (by decide) 0 0 rfl rfl rfl q338 q340 qs2 q19 q341 (by decide +kernel) rfl (Nat.le_of_ble_eq_true rfl) (Nat.le_of_ble_eq_true rfl) (Nat.le_of_ble_eq_true rfl) (Nat.le_of_ble_eq_true rfl) rfl rfl hl.1 rfl (Nat.le_of_ble_eq_true rfl) dX1_generator_1 (fun w1 hq => ?_)
  obtain rfl := hq
  exact zk_leave hlocks hno (rfl) (Nat.le_of_ble_eq_true rfl) (Nat.le_of_ble_eq_true rfl)

set_option maxHeartbeats 4000000 in
/-- power -/
theorem m1_power (l : Launch) (D : va_G) (g : G4) (hn co tr dep ms ch md kp wy : Nat) (h0 hs pl t gn kd : Nat) (hp hq p n : Nat) (P L : List Nat) (F : zk_F p n P L) (x : Nat) (x31 : x < 2 ^ 31) : zk_M l yX1_power (ws_ yX1_power cX1_power 2 (some .int)) (zk_R 7 1 6) D g [.ref hn, .int (nI x)] [(hn, .inr (0, [.ref co, .ref tr, .int (nI 1), .int (nI dep), .ref ms, .ref ch, .ref md, .ref kp, .ref wy])), (co, .inr (1, [.ref h0, .int (nI t), .int (nI gn), .int (nI kd), .ref hs, .ref pl])), (h0, .inr (2, [.int (nI n), .ref hp, .ref hq])), (hp, .inl (g.1, 62, .inl (zk_ia P))), (hq, .inl (g.1, 32, .inl (zk_ia L)))] (zk_D (some (.int (nI (pw p (x % n))))) [(hn, .inr (0, [.ref co, .ref tr, .int (nI 1), .int (nI dep), .ref ms, .ref ch, .ref md, .ref kp, .ref wy])), (co, .inr (1, [.ref h0, .int (nI t), .int (nI gn), .int (nI kd), .ref hs, .ref pl])), (h0, .inr (2, [.int (nI n), .ref hp, .ref hq])), (hp, .inl (g.1, 62, .inl (zk_ia P))), (hq, .inl (g.1, 32, .inl (zk_ia L)))]) := by
  refine zk_ofW (by decide) (Nat.le_of_ble_eq_true rfl) ?_
  intro pg ev s mm below meth cd A C hr hlocks hname Z ls hl
  have hx := C.1.1
  have hb := C.1.2.1
  have hml := C.1.2.2.1
  have hown := C.1.2.2.2.1
  have hts := C.1.2.2.2.2
  have hl : lv_has ls 2 [(0, .ref hn), (1, .int (nI x))] := hl
  have hn31 := F.n31
  refine lv_aload_n hx hb dX1_power_0 rfl (lv_at hl 0 rfl) ?_
  refine zk_callV (cells' := 0) (slots' := 0) (rest := []) (n := 0) (wr := [(co, .inr (1, [.ref h0, .int (nI t), .int (nI gn), .int (nI kd), .ref hs, .ref pl])), (h0, .inr (2, [.int (nI n), .ref hp, .ref hq])), (hp, .inl (g.1, 62, .inl (zk_ia P))), (hq, .inl (g.1, 32, .inl (zk_ia L)))]) C Z (m1_code l D g hn co tr dep ms ch md kp wy) [0] [1, 2, 3, 4] rfl rfl (by decide) (by decide) (by decide) 0 0 rfl rfl rfl q338 q340 qs2 q19 q341 (by decide +kernel) rfl (Nat.le_of_ble_eq_true rfl) (Nat.le_of_ble_eq_true rfl) (Nat.le_of_ble_eq_true rfl) (Nat.le_of_ble_eq_true rfl) rfl rfl hl.1 rfl (Nat.le_of_ble_eq_true rfl) dX1_power_1 (fun v w1 H locs hq Z => ?_)
  obtain ⟨rfl, rfl⟩ := hq
  have Z : zk_Z D A s H locs [(hn, .inr (0, [.ref co, .ref tr, .int (nI 1), .int (nI dep), .ref ms, .ref ch, .ref md, .ref kp, .ref wy])), (co, .inr (1, [.ref h0, .int (nI t), .int (nI gn), .int (nI kd), .ref hs, .ref pl])), (h0, .inr (2, [.int (nI n), .ref hp, .ref hq])), (hp, .inl (g.1, 62, .inl (zk_ia P))), (hq, .inl (g.1, 32, .inl (zk_ia L)))] := Z.sub [4, 0, 1, 2, 3] (by decide) rfl
  refine W.eq (g2 := F0 mm 4 ls []) rfl ?_
  refine lv_iload_n hx hb dX1_power_4 rfl (lv_at hl 1 rfl) ?_
  refine nr_lt0 (tgt := 12) hx hb x31 dX1_power_5 (by decide) ?_
  refine lv_iconst (v := nI 1) hx hb dX1_power_8 (by decide) ?_
  refine lv_goto (tgt := 13) hx hb dX1_power_9 (by decide) ?_
  refine zk_callS (cells' := 0) (slots' := 0) (rest := []) (n := 1) (wr := [(hn, .inr (0, [.ref co, .ref tr, .int (nI 1), .int (nI dep), .ref ms, .ref ch, .ref md, .ref kp, .ref wy])), (co, .inr (1, [.ref h0, .int (nI t), .int (nI gn), .int (nI kd), .ref hs, .ref pl])), (h0, .inr (2, [.int (nI n), .ref hp, .ref hq])), (hp, .inl (g.1, 62, .inl (zk_ia P))), (hq, .inl (g.1, 32, .inl (zk_ia L)))]) C Z (m1_need l D g) [] [0, 1, 2, 3, 4] rfl rfl (by decide) (by decide) (by decide) q277 q278 q19 q279 (by decide +kernel) rfl (Nat.le_of_ble_eq_true rfl) (Nat.le_of_ble_eq_true rfl) (Nat.le_of_ble_eq_true rfl) (Nat.le_of_ble_eq_true rfl) rfl rfl hl.1 rfl (Nat.le_of_ble_eq_true rfl) dX1_power_13 (fun v w1 H locs hq Z => ?_)
  obtain ⟨rfl, rfl⟩ := hq
  have Z : zk_Z D A s H locs [(hn, .inr (0, [.ref co, .ref tr, .int (nI 1), .int (nI dep), .ref ms, .ref ch, .ref md, .ref kp, .ref wy])), (co, .inr (1, [.ref h0, .int (nI t), .int (nI gn), .int (nI kd), .ref hs, .ref pl])), (h0, .inr (2, [.int (nI n), .ref hp, .ref hq])), (hp, .inl (g.1, 62, .inl (zk_ia P))), (hq, .inl (g.1, 32, .inl (zk_ia L)))] := Z.sub [0, 1, 2, 3, 4] (by decide) rfl
  refine W.eq (g2 := F0 mm 16 ls []) rfl ?_
  refine lv_aload_n hx hb dX1_power_16 rfl (lv_at hl 0 rfl) ?_
  refine zk_get C Z in_X1 0 rfl rfl 0 (by decide) q165 rfl (v := .ref co) rfl dX1_power_17 ?_
  refine zk_getN C Z in_X2 1 rfl rfl 0 (by decide) q92 rfl (v := .ref h0) rfl dX1_power_20 ?_
  refine zk_getN C Z in_X3 2 rfl rfl 1 (by decide) q65 rfl (v := .ref hp) rfl dX1_power_23 ?_
  refine lv_iload_n hx hb dX1_power_26 rfl (lv_at hl 1 rfl) ?_
  refine lv_aload_n hx hb dX1_power_27 rfl (lv_at hl 0 rfl) ?_
  refine zk_get C Z in_X1 0 rfl rfl 0 (by decide) q165 rfl (v := .ref co) rfl dX1_power_28 ?_
  refine zk_getN C Z in_X2 1 rfl rfl 0 (by decide) q92 rfl (v := .ref h0) rfl dX1_power_31 ?_
  refine zk_getN C Z in_X3 2 rfl rfl 0 (by decide) q61 rfl (v := .int (nI n)) rfl dX1_power_34 ?_
  refine nr_irem hx hb x31 (by omega) (by omega) dX1_power_37 ?_
  refine zk_iald C Z 3 rfl (by decide) (by have := Nat.mod_lt x (show 0 < n by omega); omega) dX1_power_38 ?_
  rw [show P.getD (x % n) 0 = pw p (x % n) from (F.P (by have := Nat.mod_lt x (show 0 < n by omega); omega))]
  exact zk_iret C hr hlocks Z ⟨rfl, rfl⟩ (Nat.le_of_ble_eq_true rfl) (Nat.le_of_ble_eq_true rfl) dX1_power_39

set_option maxHeartbeats 4000000 in
/-- power, not begun -/
theorem u1_power (l : Launch) (hfl : l.flags = flags0) (D : va_G) (g : G4) (hn co tr dep ms ch md kp wy : Nat) (x : Int32) : zk_MT l yX1_power (ws_ yX1_power cX1_power 2 (some .int)) (zk_R 7 1 6) D g [.ref hn, .int x] [(hn, .inr (0, [.ref co, .ref tr, .int (nI 0), .int (nI dep), .ref ms, .ref ch, .ref md, .ref kp, .ref wy]))] zk_ISE (fun w => w = [(hn, .inr (0, [.ref co, .ref tr, .int (nI 0), .int (nI dep), .ref ms, .ref ch, .ref md, .ref kp, .ref wy]))]) := by
  refine zk_ofWT (by decide) (Nat.le_of_ble_eq_true rfl) ?_
  intro pg ev s mm below meth cd A C hlocks hno Z ls hl
  have hx := C.1.1
  have hb := C.1.2.1
  have hml := C.1.2.2.1
  have hown := C.1.2.2.2.1
  have hts := C.1.2.2.2.2
  have hl : lv_has ls 2 [(0, .ref hn), (1, .int x)] := hl
  refine lv_aload_n hx hb dX1_power_0 rfl (lv_at hl 0 rfl) ?_
  refine zk_callVT (cells' := 1) (slots' := 6) (rest := []) (n := 0) (wr := []) C Z (t1_code l hfl D g hn co tr dep ms ch md kp wy) [0] [] rfl rfl (by decide) (by decide) (by decide) 0 0 rfl rfl rfl q338 q340 qs2 q19 q341 (by decide +kernel) rfl (Nat.le_of_ble_eq_true rfl) (Nat.le_of_ble_eq_true rfl) (Nat.le_of_ble_eq_true rfl) (Nat.le_of_ble_eq_true rfl) rfl rfl hl.1 rfl (Nat.le_of_ble_eq_true rfl) dX1_power_1 (fun w1 hq => ?_)
  obtain rfl := hq
  exact zk_leave hlocks hno (rfl) (Nat.le_of_ble_eq_true rfl) (Nat.le_of_ble_eq_true rfl)

set_option maxHeartbeats 4000000 in
/-- power, out of bounds -/
theorem t1_power (l : Launch) (hfl : l.flags = flags0) (D : va_G) (g : G4) (hn co tr dep ms ch md kp wy : Nat) (x : Int32) (hx0 : x < 0) : zk_MT l yX1_power (ws_ yX1_power cX1_power 2 (some .int)) (zk_R 7 1 6) D g [.ref hn, .int x] [(hn, .inr (0, [.ref co, .ref tr, .int (nI 1), .int (nI dep), .ref ms, .ref ch, .ref md, .ref kp, .ref wy]))] zk_IAE (fun w => w = [(hn, .inr (0, [.ref co, .ref tr, .int (nI 1), .int (nI dep), .ref ms, .ref ch, .ref md, .ref kp, .ref wy]))]) := by
  refine zk_ofWT (by decide) (Nat.le_of_ble_eq_true rfl) ?_
  intro pg ev s mm below meth cd A C hlocks hno Z ls hl
  have hx := C.1.1
  have hb := C.1.2.1
  have hml := C.1.2.2.1
  have hown := C.1.2.2.2.1
  have hts := C.1.2.2.2.2
  have hl : lv_has ls 2 [(0, .ref hn), (1, .int x)] := hl
  refine lv_aload_n hx hb dX1_power_0 rfl (lv_at hl 0 rfl) ?_
  refine zk_callV (cells' := 0) (slots' := 0) (rest := []) (n := 0) (wr := []) C Z (m1_code l D g hn co tr dep ms ch md kp wy) [0] [] rfl rfl (by decide) (by decide) (by decide) 0 0 rfl rfl rfl q338 q340 qs2 q19 q341 (by decide +kernel) rfl (Nat.le_of_ble_eq_true rfl) (Nat.le_of_ble_eq_true rfl) (Nat.le_of_ble_eq_true rfl) (Nat.le_of_ble_eq_true rfl) rfl rfl hl.1 rfl (Nat.le_of_ble_eq_true rfl) dX1_power_1 (fun v w1 H locs hq Z => ?_)
  obtain ⟨rfl, rfl⟩ := hq
  have Z : zk_Z D A s H locs [(hn, .inr (0, [.ref co, .ref tr, .int (nI 1), .int (nI dep), .ref ms, .ref ch, .ref md, .ref kp, .ref wy]))] := Z.sub [0] (by decide) rfl
  refine W.eq (g2 := F0 mm 4 ls []) rfl ?_
  refine lv_iload_n hx hb dX1_power_4 rfl (lv_at hl 1 rfl) ?_
  refine lv_if_lt (tgt := 12) hx hb dX1_power_5 (by decide) (fun c_1 => ?_) (fun c_1 => absurd c_1 (fun q => q hx0))
  refine lv_iconst (v := nI 0) hx hb dX1_power_12 (by decide) ?_
  refine zk_callST (cells' := 1) (slots' := 6) (rest := []) (n := 1) (wr := [(hn, .inr (0, [.ref co, .ref tr, .int (nI 1), .int (nI dep), .ref ms, .ref ch, .ref md, .ref kp, .ref wy]))]) C Z (t1_need l hfl D g) [] [0] rfl rfl (by decide) (by decide) (by decide) q277 q278 q19 q279 (by decide +kernel) rfl (Nat.le_of_ble_eq_true rfl) (Nat.le_of_ble_eq_true rfl) (Nat.le_of_ble_eq_true rfl) (Nat.le_of_ble_eq_true rfl) rfl rfl hl.1 rfl (Nat.le_of_ble_eq_true rfl) dX1_power_13 (fun w1 hq => ?_)
  obtain rfl := hq
  exact zk_leave hlocks hno (rfl) (Nat.le_of_ble_eq_true rfl) (Nat.le_of_ble_eq_true rfl)

set_option maxHeartbeats 4000000 in
/-- log -/
theorem m1_log (l : Launch) (D : va_G) (g : G4) (hn co tr dep ms ch md kp wy : Nat) (h0 hs pl t gn kd : Nat) (hp hq p n : Nat) (P L : List Nat) (F : zk_F p n P L) (x : Nat) (x1 : 1 ≤ x) (xn : x ≤ n) : zk_M l yX1_log (ws_ yX1_log cX1_log 2 (some .int)) (zk_R 7 1 6) D g [.ref hn, .int (nI x)] [(hn, .inr (0, [.ref co, .ref tr, .int (nI 1), .int (nI dep), .ref ms, .ref ch, .ref md, .ref kp, .ref wy])), (co, .inr (1, [.ref h0, .int (nI t), .int (nI gn), .int (nI kd), .ref hs, .ref pl])), (h0, .inr (2, [.int (nI n), .ref hp, .ref hq])), (hp, .inl (g.1, 62, .inl (zk_ia P))), (hq, .inl (g.1, 32, .inl (zk_ia L)))] (zk_D (some (.int (nI (lg p x)))) [(hn, .inr (0, [.ref co, .ref tr, .int (nI 1), .int (nI dep), .ref ms, .ref ch, .ref md, .ref kp, .ref wy])), (co, .inr (1, [.ref h0, .int (nI t), .int (nI gn), .int (nI kd), .ref hs, .ref pl])), (h0, .inr (2, [.int (nI n), .ref hp, .ref hq])), (hp, .inl (g.1, 62, .inl (zk_ia P))), (hq, .inl (g.1, 32, .inl (zk_ia L)))]) := by
  refine zk_ofW (by decide) (Nat.le_of_ble_eq_true rfl) ?_
  intro pg ev s mm below meth cd A C hr hlocks hname Z ls hl
  have hx := C.1.1
  have hb := C.1.2.1
  have hml := C.1.2.2.1
  have hown := C.1.2.2.2.1
  have hts := C.1.2.2.2.2
  have hl : lv_has ls 2 [(0, .ref hn), (1, .int (nI x))] := hl
  have hn31 := F.n31
  refine lv_aload_n hx hb dX1_log_0 rfl (lv_at hl 0 rfl) ?_
  refine zk_callV (cells' := 0) (slots' := 0) (rest := []) (n := 0) (wr := [(co, .inr (1, [.ref h0, .int (nI t), .int (nI gn), .int (nI kd), .ref hs, .ref pl])), (h0, .inr (2, [.int (nI n), .ref hp, .ref hq])), (hp, .inl (g.1, 62, .inl (zk_ia P))), (hq, .inl (g.1, 32, .inl (zk_ia L)))]) C Z (m1_code l D g hn co tr dep ms ch md kp wy) [0] [1, 2, 3, 4] rfl rfl (by decide) (by decide) (by decide) 0 0 rfl rfl rfl q338 q340 qs2 q19 q341 (by decide +kernel) rfl (Nat.le_of_ble_eq_true rfl) (Nat.le_of_ble_eq_true rfl) (Nat.le_of_ble_eq_true rfl) (Nat.le_of_ble_eq_true rfl) rfl rfl hl.1 rfl (Nat.le_of_ble_eq_true rfl) dX1_log_1 (fun v w1 H locs hq Z => ?_)
  obtain ⟨rfl, rfl⟩ := hq
  have Z : zk_Z D A s H locs [(hn, .inr (0, [.ref co, .ref tr, .int (nI 1), .int (nI dep), .ref ms, .ref ch, .ref md, .ref kp, .ref wy])), (co, .inr (1, [.ref h0, .int (nI t), .int (nI gn), .int (nI kd), .ref hs, .ref pl])), (h0, .inr (2, [.int (nI n), .ref hp, .ref hq])), (hp, .inl (g.1, 62, .inl (zk_ia P))), (hq, .inl (g.1, 32, .inl (zk_ia L)))] := Z.sub [4, 0, 1, 2, 3] (by decide) rfl
  refine W.eq (g2 := F0 mm 4 ls []) rfl ?_
  refine lv_iload_n hx hb dX1_log_4 rfl (lv_at hl 1 rfl) ?_
  refine lv_iconst (v := nI 1) hx hb dX1_log_5 (by decide) ?_
  refine lv_aload_n hx hb dX1_log_6 rfl (lv_at hl 0 rfl) ?_
  refine zk_get C Z in_X1 0 rfl rfl 0 (by decide) q165 rfl (v := .ref co) rfl dX1_log_7 ?_
  refine zk_getN C Z in_X2 1 rfl rfl 0 (by decide) q92 rfl (v := .ref h0) rfl dX1_log_10 ?_
  refine zk_getN C Z in_X3 2 rfl rfl 0 (by decide) q61 rfl (v := .int (nI n)) rfl dX1_log_13 ?_
  refine zk_callS (cells' := 0) (slots' := 0) (rest := []) (n := 3) (wr := [(hn, .inr (0, [.ref co, .ref tr, .int (nI 1), .int (nI dep), .ref ms, .ref ch, .ref md, .ref kp, .ref wy])), (co, .inr (1, [.ref h0, .int (nI t), .int (nI gn), .int (nI kd), .ref hs, .ref pl])), (h0, .inr (2, [.int (nI n), .ref hp, .ref hq])), (hp, .inl (g.1, 62, .inl (zk_ia P))), (hq, .inl (g.1, 32, .inl (zk_ia L)))]) C Z (m1_in1 l D g (nI x) (nI 1) (nI n) (zk_le x1 (by omega)) (zk_le xn (by omega))) [] [0, 1, 2, 3, 4] rfl rfl (by decide) (by decide) (by decide) q274 q275 q19 q276 (by decide +kernel) rfl (Nat.le_of_ble_eq_true rfl) (Nat.le_of_ble_eq_true rfl) (Nat.le_of_ble_eq_true rfl) (Nat.le_of_ble_eq_true rfl) rfl rfl hl.1 rfl (Nat.le_of_ble_eq_true rfl) dX1_log_16 (fun v w1 H locs hq Z => ?_)
  obtain ⟨rfl, rfl⟩ := hq
  have Z : zk_Z D A s H locs [(hn, .inr (0, [.ref co, .ref tr, .int (nI 1), .int (nI dep), .ref ms, .ref ch, .ref md, .ref kp, .ref wy])), (co, .inr (1, [.ref h0, .int (nI t), .int (nI gn), .int (nI kd), .ref hs, .ref pl])), (h0, .inr (2, [.int (nI n), .ref hp, .ref hq])), (hp, .inl (g.1, 62, .inl (zk_ia P))), (hq, .inl (g.1, 32, .inl (zk_ia L)))] := Z.sub [0, 1, 2, 3, 4] (by decide) rfl
  refine W.eq (g2 := F0 mm 19 ls [.int (nI 1)]) rfl ?_
  refine zk_callS (cells' := 0) (slots' := 0) (rest := []) (n := 1) (wr := [(hn, .inr (0, [.ref co, .ref tr, .int (nI 1), .int (nI dep), .ref ms, .ref ch, .ref md, .ref kp, .ref wy])), (co, .inr (1, [.ref h0, .int (nI t), .int (nI gn), .int (nI kd), .ref hs, .ref pl])), (h0, .inr (2, [.int (nI n), .ref hp, .ref hq])), (hp, .inl (g.1, 62, .inl (zk_ia P))), (hq, .inl (g.1, 32, .inl (zk_ia L)))]) C Z (m1_need l D g) [] [0, 1, 2, 3, 4] rfl rfl (by decide) (by decide) (by decide) q277 q278 q19 q279 (by decide +kernel) rfl (Nat.le_of_ble_eq_true rfl) (Nat.le_of_ble_eq_true rfl) (Nat.le_of_ble_eq_true rfl) (Nat.le_of_ble_eq_true rfl) rfl rfl hl.1 rfl (Nat.le_of_ble_eq_true rfl) dX1_log_19 (fun v w1 H locs hq Z => ?_)
  obtain ⟨rfl, rfl⟩ := hq
  have Z : zk_Z D A s H locs [(hn, .inr (0, [.ref co, .ref tr, .int (nI 1), .int (nI dep), .ref ms, .ref ch, .ref md, .ref kp, .ref wy])), (co, .inr (1, [.ref h0, .int (nI t), .int (nI gn), .int (nI kd), .ref hs, .ref pl])), (h0, .inr (2, [.int (nI n), .ref hp, .ref hq])), (hp, .inl (g.1, 62, .inl (zk_ia P))), (hq, .inl (g.1, 32, .inl (zk_ia L)))] := Z.sub [0, 1, 2, 3, 4] (by decide) rfl
  refine W.eq (g2 := F0 mm 22 ls []) rfl ?_
  refine lv_aload_n hx hb dX1_log_22 rfl (lv_at hl 0 rfl) ?_
  refine zk_get C Z in_X1 0 rfl rfl 0 (by decide) q165 rfl (v := .ref co) rfl dX1_log_23 ?_
  refine zk_getN C Z in_X2 1 rfl rfl 0 (by decide) q92 rfl (v := .ref h0) rfl dX1_log_26 ?_
  refine zk_getN C Z in_X3 2 rfl rfl 2 (by decide) q68 rfl (v := .ref hq) rfl dX1_log_29 ?_
  refine lv_iload_n hx hb dX1_log_32 rfl (lv_at hl 1 rfl) ?_
  refine zk_iald C Z 4 rfl (by decide) (by omega) dX1_log_33 ?_
  rw [show L.getD x 0 = lg p x from (F.L (by omega) xn)]
  exact zk_iret C hr hlocks Z ⟨rfl, rfl⟩ (Nat.le_of_ble_eq_true rfl) (Nat.le_of_ble_eq_true rfl) dX1_log_34

set_option maxHeartbeats 4000000 in
/-- log, not begun -/
theorem u1_log (l : Launch) (hfl : l.flags = flags0) (D : va_G) (g : G4) (hn co tr dep ms ch md kp wy : Nat) (x : Int32) : zk_MT l yX1_log (ws_ yX1_log cX1_log 2 (some .int)) (zk_R 7 1 6) D g [.ref hn, .int x] [(hn, .inr (0, [.ref co, .ref tr, .int (nI 0), .int (nI dep), .ref ms, .ref ch, .ref md, .ref kp, .ref wy]))] zk_ISE (fun w => w = [(hn, .inr (0, [.ref co, .ref tr, .int (nI 0), .int (nI dep), .ref ms, .ref ch, .ref md, .ref kp, .ref wy]))]) := by
  refine zk_ofWT (by decide) (Nat.le_of_ble_eq_true rfl) ?_
  intro pg ev s mm below meth cd A C hlocks hno Z ls hl
  have hx := C.1.1
  have hb := C.1.2.1
  have hml := C.1.2.2.1
  have hown := C.1.2.2.2.1
  have hts := C.1.2.2.2.2
  have hl : lv_has ls 2 [(0, .ref hn), (1, .int x)] := hl
  refine lv_aload_n hx hb dX1_log_0 rfl (lv_at hl 0 rfl) ?_
  refine zk_callVT (cells' := 1) (slots' := 6) (rest := []) (n := 0) (wr := []) C Z (t1_code l hfl D g hn co tr dep ms ch md kp wy) [0] [] rfl rfl (by decide) (by decide) (by decide) 0 0 rfl rfl rfl q338 q340 qs2 q19 q341 (by decide +kernel) rfl (Nat.le_of_ble_eq_true rfl) (Nat.le_of_ble_eq_true rfl) (Nat.le_of_ble_eq_true rfl) (Nat.le_of_ble_eq_true rfl) rfl rfl hl.1 rfl (Nat.le_of_ble_eq_true rfl) dX1_log_1 (fun w1 hq => ?_)
  obtain rfl := hq
  exact zk_leave hlocks hno (rfl) (Nat.le_of_ble_eq_true rfl) (Nat.le_of_ble_eq_true rfl)

set_option maxHeartbeats 4000000 in
/-- log, out of bounds -/
theorem t1_log (l : Launch) (hfl : l.flags = flags0) (D : va_G) (g : G4) (hn co tr dep ms ch md kp wy : Nat) (h0 hs pl t gn kd : Nat) (hp hq n : Nat) (x : Int32) (h0_ : ¬ (nI 1 ≤ x ∧ x ≤ nI n)) : zk_MT l yX1_log (ws_ yX1_log cX1_log 2 (some .int)) (zk_R 7 1 6) D g [.ref hn, .int x] [(hn, .inr (0, [.ref co, .ref tr, .int (nI 1), .int (nI dep), .ref ms, .ref ch, .ref md, .ref kp, .ref wy])), (co, .inr (1, [.ref h0, .int (nI t), .int (nI gn), .int (nI kd), .ref hs, .ref pl])), (h0, .inr (2, [.int (nI n), .ref hp, .ref hq]))] zk_IAE (fun w => w = [(hn, .inr (0, [.ref co, .ref tr, .int (nI 1), .int (nI dep), .ref ms, .ref ch, .ref md, .ref kp, .ref wy])), (co, .inr (1, [.ref h0, .int (nI t), .int (nI gn), .int (nI kd), .ref hs, .ref pl])), (h0, .inr (2, [.int (nI n), .ref hp, .ref hq]))]) := by
  refine zk_ofWT (by decide) (Nat.le_of_ble_eq_true rfl) ?_
  intro pg ev s mm below meth cd A C hlocks hno Z ls hl
  have hx := C.1.1
  have hb := C.1.2.1
  have hml := C.1.2.2.1
  have hown := C.1.2.2.2.1
  have hts := C.1.2.2.2.2
  have hl : lv_has ls 2 [(0, .ref hn), (1, .int x)] := hl
  refine lv_aload_n hx hb dX1_log_0 rfl (lv_at hl 0 rfl) ?_
  refine zk_callV (cells' := 0) (slots' := 0) (rest := []) (n := 0) (wr := [(co, .inr (1, [.ref h0, .int (nI t), .int (nI gn), .int (nI kd), .ref hs, .ref pl])), (h0, .inr (2, [.int (nI n), .ref hp, .ref hq]))]) C Z (m1_code l D g hn co tr dep ms ch md kp wy) [0] [1, 2] rfl rfl (by decide) (by decide) (by decide) 0 0 rfl rfl rfl q338 q340 qs2 q19 q341 (by decide +kernel) rfl (Nat.le_of_ble_eq_true rfl) (Nat.le_of_ble_eq_true rfl) (Nat.le_of_ble_eq_true rfl) (Nat.le_of_ble_eq_true rfl) rfl rfl hl.1 rfl (Nat.le_of_ble_eq_true rfl) dX1_log_1 (fun v w1 H locs hq Z => ?_)
  obtain ⟨rfl, rfl⟩ := hq
  have Z : zk_Z D A s H locs [(hn, .inr (0, [.ref co, .ref tr, .int (nI 1), .int (nI dep), .ref ms, .ref ch, .ref md, .ref kp, .ref wy])), (co, .inr (1, [.ref h0, .int (nI t), .int (nI gn), .int (nI kd), .ref hs, .ref pl])), (h0, .inr (2, [.int (nI n), .ref hp, .ref hq]))] := Z.sub [2, 0, 1] (by decide) rfl
  refine W.eq (g2 := F0 mm 4 ls []) rfl ?_
  refine lv_iload_n hx hb dX1_log_4 rfl (lv_at hl 1 rfl) ?_
  refine lv_iconst (v := nI 1) hx hb dX1_log_5 (by decide) ?_
  refine lv_aload_n hx hb dX1_log_6 rfl (lv_at hl 0 rfl) ?_
  refine zk_get C Z in_X1 0 rfl rfl 0 (by decide) q165 rfl (v := .ref co) rfl dX1_log_7 ?_
  refine zk_getN C Z in_X2 1 rfl rfl 0 (by decide) q92 rfl (v := .ref h0) rfl dX1_log_10 ?_
  refine zk_getN C Z in_X3 2 rfl rfl 0 (by decide) q61 rfl (v := .int (nI n)) rfl dX1_log_13 ?_
  refine zk_callS (cells' := 0) (slots' := 0) (rest := []) (n := 3) (wr := [(hn, .inr (0, [.ref co, .ref tr, .int (nI 1), .int (nI dep), .ref ms, .ref ch, .ref md, .ref kp, .ref wy])), (co, .inr (1, [.ref h0, .int (nI t), .int (nI gn), .int (nI kd), .ref hs, .ref pl])), (h0, .inr (2, [.int (nI n), .ref hp, .ref hq]))]) C Z (m1_in0 l D g x (nI 1) (nI n) h0_) [] [0, 1, 2] rfl rfl (by decide) (by decide) (by decide) q274 q275 q19 q276 (by decide +kernel) rfl (Nat.le_of_ble_eq_true rfl) (Nat.le_of_ble_eq_true rfl) (Nat.le_of_ble_eq_true rfl) (Nat.le_of_ble_eq_true rfl) rfl rfl hl.1 rfl (Nat.le_of_ble_eq_true rfl) dX1_log_16 (fun v w1 H locs hq Z => ?_)
  obtain ⟨rfl, rfl⟩ := hq
  have Z : zk_Z D A s H locs [(hn, .inr (0, [.ref co, .ref tr, .int (nI 1), .int (nI dep), .ref ms, .ref ch, .ref md, .ref kp, .ref wy])), (co, .inr (1, [.ref h0, .int (nI t), .int (nI gn), .int (nI kd), .ref hs, .ref pl])), (h0, .inr (2, [.int (nI n), .ref hp, .ref hq]))] := Z.sub [0, 1, 2] (by decide) rfl
  refine W.eq (g2 := F0 mm 19 ls [.int (nI 0)]) rfl ?_
  refine zk_callST (cells' := 1) (slots' := 6) (rest := []) (n := 1) (wr := [(hn, .inr (0, [.ref co, .ref tr, .int (nI 1), .int (nI dep), .ref ms, .ref ch, .ref md, .ref kp, .ref wy])), (co, .inr (1, [.ref h0, .int (nI t), .int (nI gn), .int (nI kd), .ref hs, .ref pl])), (h0, .inr (2, [.int (nI n), .ref hp, .ref hq]))]) C Z (t1_need l hfl D g) [] [0, 1, 2] rfl rfl (by decide) (by decide) (by decide) q277 q278 q19 q279 (by decide +kernel) rfl (Nat.le_of_ble_eq_true rfl) (Nat.le_of_ble_eq_true rfl) (Nat.le_of_ble_eq_true rfl) (Nat.le_of_ble_eq_true rfl) rfl rfl hl.1 rfl (Nat.le_of_ble_eq_true rfl) dX1_log_19 (fun w1 hq => ?_)
  obtain rfl := hq
  exact zk_leave hlocks hno (rfl) (Nat.le_of_ble_eq_true rfl) (Nat.le_of_ble_eq_true rfl)

set_option maxHeartbeats 4000000 in
/-- times -/
theorem m1_times (l : Launch) (D : va_G) (g : G4) (hn co tr dep ms ch md kp wy : Nat) (h0 hs pl t gn kd : Nat) (hp hq p n : Nat) (P L : List Nat) (F : zk_F p n P L) (a b : Nat) (an : a ≤ n) (bn : b ≤ n) : zk_M l yX1_times (ws_ yX1_times cX1_times 3 (some .int)) (zk_R 7 1 6) D g [.ref hn, .int (nI a), .int (nI b)] [(hn, .inr (0, [.ref co, .ref tr, .int (nI 1), .int (nI dep), .ref ms, .ref ch, .ref md, .ref kp, .ref wy])), (co, .inr (1, [.ref h0, .int (nI t), .int (nI gn), .int (nI kd), .ref hs, .ref pl])), (h0, .inr (2, [.int (nI n), .ref hp, .ref hq])), (hp, .inl (g.1, 62, .inl (zk_ia P))), (hq, .inl (g.1, 32, .inl (zk_ia L)))] (zk_D (some (.int (nI (gm p a b)))) [(hn, .inr (0, [.ref co, .ref tr, .int (nI 1), .int (nI dep), .ref ms, .ref ch, .ref md, .ref kp, .ref wy])), (co, .inr (1, [.ref h0, .int (nI t), .int (nI gn), .int (nI kd), .ref hs, .ref pl])), (h0, .inr (2, [.int (nI n), .ref hp, .ref hq])), (hp, .inl (g.1, 62, .inl (zk_ia P))), (hq, .inl (g.1, 32, .inl (zk_ia L)))]) := by
  refine zk_ofW (by decide) (Nat.le_of_ble_eq_true rfl) ?_
  intro pg ev s mm below meth cd A C hr hlocks hname Z ls hl
  have hx := C.1.1
  have hb := C.1.2.1
  have hml := C.1.2.2.1
  have hown := C.1.2.2.2.1
  have hts := C.1.2.2.2.2
  have hl : lv_has ls 3 [(0, .ref hn), (1, .int (nI a)), (2, .int (nI b))] := hl
  have hn31 := F.n31
  refine lv_aload_n hx hb dX1_times_0 rfl (lv_at hl 0 rfl) ?_
  refine zk_callV (cells' := 0) (slots' := 0) (rest := []) (n := 0) (wr := [(co, .inr (1, [.ref h0, .int (nI t), .int (nI gn), .int (nI kd), .ref hs, .ref pl])), (h0, .inr (2, [.int (nI n), .ref hp, .ref hq])), (hp, .inl (g.1, 62, .inl (zk_ia P))), (hq, .inl (g.1, 32, .inl (zk_ia L)))]) C Z (m1_code l D g hn co tr dep ms ch md kp wy) [0] [1, 2, 3, 4] rfl rfl (by decide) (by decide) (by decide) 0 0 rfl rfl rfl q338 q340 qs2 q19 q341 (by decide +kernel) rfl (Nat.le_of_ble_eq_true rfl) (Nat.le_of_ble_eq_true rfl) (Nat.le_of_ble_eq_true rfl) (Nat.le_of_ble_eq_true rfl) rfl rfl hl.1 rfl (Nat.le_of_ble_eq_true rfl) dX1_times_1 (fun v w1 H locs hq Z => ?_)
  obtain ⟨rfl, rfl⟩ := hq
  have Z : zk_Z D A s H locs [(hn, .inr (0, [.ref co, .ref tr, .int (nI 1), .int (nI dep), .ref ms, .ref ch, .ref md, .ref kp, .ref wy])), (co, .inr (1, [.ref h0, .int (nI t), .int (nI gn), .int (nI kd), .ref hs, .ref pl])), (h0, .inr (2, [.int (nI n), .ref hp, .ref hq])), (hp, .inl (g.1, 62, .inl (zk_ia P))), (hq, .inl (g.1, 32, .inl (zk_ia L)))] := Z.sub [4, 0, 1, 2, 3] (by decide) rfl
  refine W.eq (g2 := F0 mm 4 ls []) rfl ?_
  refine lv_iload_n hx hb dX1_times_4 rfl (lv_at hl 1 rfl) ?_
  refine lv_iconst (v := nI 0) hx hb dX1_times_5 (by decide) ?_
  refine lv_aload_n hx hb dX1_times_6 rfl (lv_at hl 0 rfl) ?_
  refine zk_get C Z in_X1 0 rfl rfl 0 (by decide) q165 rfl (v := .ref co) rfl dX1_times_7 ?_
  refine zk_getN C Z in_X2 1 rfl rfl 0 (by decide) q92 rfl (v := .ref h0) rfl dX1_times_10 ?_
  refine zk_getN C Z in_X3 2 rfl rfl 0 (by decide) q61 rfl (v := .int (nI n)) rfl dX1_times_13 ?_
  refine zk_callS (cells' := 0) (slots' := 0) (rest := []) (n := 3) (wr := [(hn, .inr (0, [.ref co, .ref tr, .int (nI 1), .int (nI dep), .ref ms, .ref ch, .ref md, .ref kp, .ref wy])), (co, .inr (1, [.ref h0, .int (nI t), .int (nI gn), .int (nI kd), .ref hs, .ref pl])), (h0, .inr (2, [.int (nI n), .ref hp, .ref hq])), (hp, .inl (g.1, 62, .inl (zk_ia P))), (hq, .inl (g.1, 32, .inl (zk_ia L)))]) C Z (m1_in1 l D g (nI a) (nI 0) (nI n) (zk_le (Nat.zero_le a) (by omega)) (zk_le an (by omega))) [] [0, 1, 2, 3, 4] rfl rfl (by decide) (by decide) (by decide) q274 q275 q19 q276 (by decide +kernel) rfl (Nat.le_of_ble_eq_true rfl) (Nat.le_of_ble_eq_true rfl) (Nat.le_of_ble_eq_true rfl) (Nat.le_of_ble_eq_true rfl) rfl rfl hl.1 rfl (Nat.le_of_ble_eq_true rfl) dX1_times_16 (fun v w1 H locs hq Z => ?_)
  obtain ⟨rfl, rfl⟩ := hq
  have Z : zk_Z D A s H locs [(hn, .inr (0, [.ref co, .ref tr, .int (nI 1), .int (nI dep), .ref ms, .ref ch, .ref md, .ref kp, .ref wy])), (co, .inr (1, [.ref h0, .int (nI t), .int (nI gn), .int (nI kd), .ref hs, .ref pl])), (h0, .inr (2, [.int (nI n), .ref hp, .ref hq])), (hp, .inl (g.1, 62, .inl (zk_ia P))), (hq, .inl (g.1, 32, .inl (zk_ia L)))] := Z.sub [0, 1, 2, 3, 4] (by decide) rfl
  refine W.eq (g2 := F0 mm 19 ls [.int (nI 1)]) rfl ?_
  refine nr_eq0 (tgt := 44) hx hb (by omega) dX1_times_19 (by decide) (fun c_1 => absurd c_1 (by decide)) (fun c_1 => ?_)
  refine lv_iload_n hx hb dX1_times_22 rfl (lv_at hl 2 rfl) ?_
  refine lv_iconst (v := nI 0) hx hb dX1_times_23 (by decide) ?_
  refine lv_aload_n hx hb dX1_times_24 rfl (lv_at hl 0 rfl) ?_
  refine zk_get C Z in_X1 0 rfl rfl 0 (by decide) q165 rfl (v := .ref co) rfl dX1_times_25 ?_
  refine zk_getN C Z in_X2 1 rfl rfl 0 (by decide) q92 rfl (v := .ref h0) rfl dX1_times_28 ?_
  refine zk_getN C Z in_X3 2 rfl rfl 0 (by decide) q61 rfl (v := .int (nI n)) rfl dX1_times_31 ?_
  refine zk_callS (cells' := 0) (slots' := 0) (rest := []) (n := 3) (wr := [(hn, .inr (0, [.ref co, .ref tr, .int (nI 1), .int (nI dep), .ref ms, .ref ch, .ref md, .ref kp, .ref wy])), (co, .inr (1, [.ref h0, .int (nI t), .int (nI gn), .int (nI kd), .ref hs, .ref pl])), (h0, .inr (2, [.int (nI n), .ref hp, .ref hq])), (hp, .inl (g.1, 62, .inl (zk_ia P))), (hq, .inl (g.1, 32, .inl (zk_ia L)))]) C Z (m1_in1 l D g (nI b) (nI 0) (nI n) (zk_le (Nat.zero_le b) (by omega)) (zk_le bn (by omega))) [] [0, 1, 2, 3, 4] rfl rfl (by decide) (by decide) (by decide) q274 q275 q19 q276 (by decide +kernel) rfl (Nat.le_of_ble_eq_true rfl) (Nat.le_of_ble_eq_true rfl) (Nat.le_of_ble_eq_true rfl) (Nat.le_of_ble_eq_true rfl) rfl rfl hl.1 rfl (Nat.le_of_ble_eq_true rfl) dX1_times_34 (fun v w1 H locs hq Z => ?_)
  obtain ⟨rfl, rfl⟩ := hq
  have Z : zk_Z D A s H locs [(hn, .inr (0, [.ref co, .ref tr, .int (nI 1), .int (nI dep), .ref ms, .ref ch, .ref md, .ref kp, .ref wy])), (co, .inr (1, [.ref h0, .int (nI t), .int (nI gn), .int (nI kd), .ref hs, .ref pl])), (h0, .inr (2, [.int (nI n), .ref hp, .ref hq])), (hp, .inl (g.1, 62, .inl (zk_ia P))), (hq, .inl (g.1, 32, .inl (zk_ia L)))] := Z.sub [0, 1, 2, 3, 4] (by decide) rfl
  refine W.eq (g2 := F0 mm 37 ls [.int (nI 1)]) rfl ?_
  refine nr_eq0 (tgt := 44) hx hb (by omega) dX1_times_37 (by decide) (fun c_2 => absurd c_2 (by decide)) (fun c_2 => ?_)
  refine lv_iconst (v := nI 1) hx hb dX1_times_40 (by decide) ?_
  refine lv_goto (tgt := 45) hx hb dX1_times_41 (by decide) ?_
  refine zk_callS (cells' := 0) (slots' := 0) (rest := []) (n := 1) (wr := [(hn, .inr (0, [.ref co, .ref tr, .int (nI 1), .int (nI dep), .ref ms, .ref ch, .ref md, .ref kp, .ref wy])), (co, .inr (1, [.ref h0, .int (nI t), .int (nI gn), .int (nI kd), .ref hs, .ref pl])), (h0, .inr (2, [.int (nI n), .ref hp, .ref hq])), (hp, .inl (g.1, 62, .inl (zk_ia P))), (hq, .inl (g.1, 32, .inl (zk_ia L)))]) C Z (m1_need l D g) [] [0, 1, 2, 3, 4] rfl rfl (by decide) (by decide) (by decide) q277 q278 q19 q279 (by decide +kernel) rfl (Nat.le_of_ble_eq_true rfl) (Nat.le_of_ble_eq_true rfl) (Nat.le_of_ble_eq_true rfl) (Nat.le_of_ble_eq_true rfl) rfl rfl hl.1 rfl (Nat.le_of_ble_eq_true rfl) dX1_times_45 (fun v w1 H locs hq Z => ?_)
  obtain ⟨rfl, rfl⟩ := hq
  have Z : zk_Z D A s H locs [(hn, .inr (0, [.ref co, .ref tr, .int (nI 1), .int (nI dep), .ref ms, .ref ch, .ref md, .ref kp, .ref wy])), (co, .inr (1, [.ref h0, .int (nI t), .int (nI gn), .int (nI kd), .ref hs, .ref pl])), (h0, .inr (2, [.int (nI n), .ref hp, .ref hq])), (hp, .inl (g.1, 62, .inl (zk_ia P))), (hq, .inl (g.1, 32, .inl (zk_ia L)))] := Z.sub [0, 1, 2, 3, 4] (by decide) rfl
  refine W.eq (g2 := F0 mm 48 ls []) rfl ?_
  refine lv_aload_n hx hb dX1_times_48 rfl (lv_at hl 0 rfl) ?_
  refine zk_get C Z in_X1 0 rfl rfl 0 (by decide) q165 rfl (v := .ref co) rfl dX1_times_49 ?_
  refine zk_getN C Z in_X2 1 rfl rfl 0 (by decide) q92 rfl (v := .ref h0) rfl dX1_times_52 ?_
  refine lv_iload_n hx hb dX1_times_55 rfl (lv_at hl 1 rfl) ?_
  refine lv_iload_n hx hb dX1_times_56 rfl (lv_at hl 2 rfl) ?_
  refine zk_callV (cells' := 0) (slots' := 0) (rest := []) (n := 2) (wr := [(hn, .inr (0, [.ref co, .ref tr, .int (nI 1), .int (nI dep), .ref ms, .ref ch, .ref md, .ref kp, .ref wy])), (co, .inr (1, [.ref h0, .int (nI t), .int (nI gn), .int (nI kd), .ref hs, .ref pl]))]) C Z (m3_times l D g h0 hp hq p n P L a b F an bn) [2, 3, 4] [0, 1] rfl rfl (by decide) (by decide) (by decide) 2 2 rfl rfl rfl q386 q320 q321 q21 q322 (by decide +kernel) rfl (Nat.le_of_ble_eq_true rfl) (Nat.le_of_ble_eq_true rfl) (Nat.le_of_ble_eq_true rfl) (Nat.le_of_ble_eq_true rfl) rfl rfl hl.1 rfl (Nat.le_of_ble_eq_true rfl) dX1_times_57 (fun v w1 H locs hq Z => ?_)
  obtain ⟨rfl, rfl⟩ := hq
  have Z : zk_Z D A s H locs [(hn, .inr (0, [.ref co, .ref tr, .int (nI 1), .int (nI dep), .ref ms, .ref ch, .ref md, .ref kp, .ref wy])), (co, .inr (1, [.ref h0, .int (nI t), .int (nI gn), .int (nI kd), .ref hs, .ref pl])), (h0, .inr (2, [.int (nI n), .ref hp, .ref hq])), (hp, .inl (g.1, 62, .inl (zk_ia P))), (hq, .inl (g.1, 32, .inl (zk_ia L)))] := Z.sub [0, 1, 2, 3, 4] (by decide) rfl
  refine W.eq (g2 := F0 mm 60 ls [.int (nI (gm p a b))]) rfl ?_
  exact zk_iret C hr hlocks Z ⟨rfl, rfl⟩ (Nat.le_of_ble_eq_true rfl) (Nat.le_of_ble_eq_true rfl) dX1_times_60

set_option maxHeartbeats 4000000 in
/-- times, not begun -/
theorem u1_times (l : Launch) (hfl : l.flags = flags0) (D : va_G) (g : G4) (hn co tr dep ms ch md kp wy : Nat) (a b : Int32) : zk_MT l yX1_times (ws_ yX1_times cX1_times 3 (some .int)) (zk_R 7 1 6) D g [.ref hn, .int a, .int b] [(hn, .inr (0, [.ref co, .ref tr, .int (nI 0), .int (nI dep), .ref ms, .ref ch, .ref md, .ref kp, .ref wy]))] zk_ISE (fun w => w = [(hn, .inr (0, [.ref co, .ref tr, .int (nI 0), .int (nI dep), .ref ms, .ref ch, .ref md, .ref kp, .ref wy]))]) := by
  refine zk_ofWT (by decide) (Nat.le_of_ble_eq_true rfl) ?_
  intro pg ev s mm below meth cd A C hlocks hno Z ls hl
  have hx := C.1.1
  have hb := C.1.2.1
  have hml := C.1.2.2.1
  have hown := C.1.2.2.2.1
  have hts := C.1.2.2.2.2
  have hl : lv_has ls 3 [(0, .ref hn), (1, .int a), (2, .int b)] := hl
  refine lv_aload_n hx hb dX1_times_0 rfl (lv_at hl 0 rfl) ?_
  refine zk_callVT (cells' := 1) (slots' := 6) (rest := []) (n := 0) (wr := []) C Z (t1_code l hfl D g hn co tr dep ms ch md kp wy) [0] [] rfl rfl (by decide) (by decide) (by decide) 0 0 rfl rfl rfl q338 q340 qs2 q19 q341 (by decide +kernel) rfl (Nat.le_of_ble_eq_true rfl) (Nat.le_of_ble_eq_true rfl) (Nat.le_of_ble_eq_true rfl) (Nat.le_of_ble_eq_true rfl) rfl rfl hl.1 rfl (Nat.le_of_ble_eq_true rfl) dX1_times_1 (fun w1 hq => ?_)
  obtain rfl := hq
  exact zk_leave hlocks hno (rfl) (Nat.le_of_ble_eq_true rfl) (Nat.le_of_ble_eq_true rfl)

set_option maxHeartbeats 4000000 in
/-- times, out of bounds -/
theorem t1_times_a (l : Launch) (hfl : l.flags = flags0) (D : va_G) (g : G4) (hn co tr dep ms ch md kp wy : Nat) (h0 hs pl t gn kd : Nat) (hp hq n : Nat) (a b : Int32) (h0_ : ¬ (nI 0 ≤ a ∧ a ≤ nI n)) : zk_MT l yX1_times (ws_ yX1_times cX1_times 3 (some .int)) (zk_R 7 1 6) D g [.ref hn, .int a, .int b] [(hn, .inr (0, [.ref co, .ref tr, .int (nI 1), .int (nI dep), .ref ms, .ref ch, .ref md, .ref kp, .ref wy])), (co, .inr (1, [.ref h0, .int (nI t), .int (nI gn), .int (nI kd), .ref hs, .ref pl])), (h0, .inr (2, [.int (nI n), .ref hp, .ref hq]))] zk_IAE (fun w => w = [(hn, .inr (0, [.ref co, .ref tr, .int (nI 1), .int (nI dep), .ref ms, .ref ch, .ref md, .ref kp, .ref wy])), (co, .inr (1, [.ref h0, .int (nI t), .int (nI gn), .int (nI kd), .ref hs, .ref pl])), (h0, .inr (2, [.int (nI n), .ref hp, .ref hq]))]) := by
  refine zk_ofWT (by decide) (Nat.le_of_ble_eq_true rfl) ?_
  intro pg ev s mm below meth cd A C hlocks hno Z ls hl
  have hx := C.1.1
  have hb := C.1.2.1
  have hml := C.1.2.2.1
  have hown := C.1.2.2.2.1
  have hts := C.1.2.2.2.2
  have hl : lv_has ls 3 [(0, .ref hn), (1, .int a), (2, .int b)] := hl
  refine lv_aload_n hx hb dX1_times_0 rfl (lv_at hl 0 rfl) ?_
  refine zk_callV (cells' := 0) (slots' := 0) (rest := []) (n := 0) (wr := [(co, .inr (1, [.ref h0, .int (nI t), .int (nI gn), .int (nI kd), .ref hs, .ref pl])), (h0, .inr (2, [.int (nI n), .ref hp, .ref hq]))]) C Z (m1_code l D g hn co tr dep ms ch md kp wy) [0] [1, 2] rfl rfl (by decide) (by decide) (by decide) 0 0 rfl rfl rfl q338 q340 qs2 q19 q341 (by decide +kernel) rfl (Nat.le_of_ble_eq_true rfl) (Nat.le_of_ble_eq_true rfl) (Nat.le_of_ble_eq_true rfl) (Nat.le_of_ble_eq_true rfl) rfl rfl hl.1 rfl (Nat.le_of_ble_eq_true rfl) dX1_times_1 (fun v w1 H locs hq Z => ?_)
  obtain ⟨rfl, rfl⟩ := hq
  have Z : zk_Z D A s H locs [(hn, .inr (0, [.ref co, .ref tr, .int (nI 1), .int (nI dep), .ref ms, .ref ch, .ref md, .ref kp, .ref wy])), (co, .inr (1, [.ref h0, .int (nI t), .int (nI gn), .int (nI kd), .ref hs, .ref pl])), (h0, .inr (2, [.int (nI n), .ref hp, .ref hq]))] := Z.sub [2, 0, 1] (by decide) rfl
  refine W.eq (g2 := F0 mm 4 ls []) rfl ?_
  refine lv_iload_n hx hb dX1_times_4 rfl (lv_at hl 1 rfl) ?_
  refine lv_iconst (v := nI 0) hx hb dX1_times_5 (by decide) ?_
  refine lv_aload_n hx hb dX1_times_6 rfl (lv_at hl 0 rfl) ?_
  refine zk_get C Z in_X1 0 rfl rfl 0 (by decide) q165 rfl (v := .ref co) rfl dX1_times_7 ?_
  refine zk_getN C Z in_X2 1 rfl rfl 0 (by decide) q92 rfl (v := .ref h0) rfl dX1_times_10 ?_
  refine zk_getN C Z in_X3 2 rfl rfl 0 (by decide) q61 rfl (v := .int (nI n)) rfl dX1_times_13 ?_
  refine zk_callS (cells' := 0) (slots' := 0) (rest := []) (n := 3) (wr := [(hn, .inr (0, [.ref co, .ref tr, .int (nI 1), .int (nI dep), .ref ms, .ref ch, .ref md, .ref kp, .ref wy])), (co, .inr (1, [.ref h0, .int (nI t), .int (nI gn), .int (nI kd), .ref hs, .ref pl])), (h0, .inr (2, [.int (nI n), .ref hp, .ref hq]))]) C Z (m1_in0 l D g a (nI 0) (nI n) h0_) [] [0, 1, 2] rfl rfl (by decide) (by decide) (by decide) q274 q275 q19 q276 (by decide +kernel) rfl (Nat.le_of_ble_eq_true rfl) (Nat.le_of_ble_eq_true rfl) (Nat.le_of_ble_eq_true rfl) (Nat.le_of_ble_eq_true rfl) rfl rfl hl.1 rfl (Nat.le_of_ble_eq_true rfl) dX1_times_16 (fun v w1 H locs hq Z => ?_)
  obtain ⟨rfl, rfl⟩ := hq
  have Z : zk_Z D A s H locs [(hn, .inr (0, [.ref co, .ref tr, .int (nI 1), .int (nI dep), .ref ms, .ref ch, .ref md, .ref kp, .ref wy])), (co, .inr (1, [.ref h0, .int (nI t), .int (nI gn), .int (nI kd), .ref hs, .ref pl])), (h0, .inr (2, [.int (nI n), .ref hp, .ref hq]))] := Z.sub [0, 1, 2] (by decide) rfl
  refine W.eq (g2 := F0 mm 19 ls [.int (nI 0)]) rfl ?_
  refine nr_eq0 (tgt := 44) hx hb (by omega) dX1_times_19 (by decide) (fun c_1 => ?_) (fun c_1 => absurd c_1 (fun q => q rfl))
  refine lv_iconst (v := nI 0) hx hb dX1_times_44 (by decide) ?_
  refine zk_callST (cells' := 1) (slots' := 6) (rest := []) (n := 1) (wr := [(hn, .inr (0, [.ref co, .ref tr, .int (nI 1), .int (nI dep), .ref ms, .ref ch, .ref md, .ref kp, .ref wy])), (co, .inr (1, [.ref h0, .int (nI t), .int (nI gn), .int (nI kd), .ref hs, .ref pl])), (h0, .inr (2, [.int (nI n), .ref hp, .ref hq]))]) C Z (t1_need l hfl D g) [] [0, 1, 2] rfl rfl (by decide) (by decide) (by decide) q277 q278 q19 q279 (by decide +kernel) rfl (Nat.le_of_ble_eq_true rfl) (Nat.le_of_ble_eq_true rfl) (Nat.le_of_ble_eq_true rfl) (Nat.le_of_ble_eq_true rfl) rfl rfl hl.1 rfl (Nat.le_of_ble_eq_true rfl) dX1_times_45 (fun w1 hq => ?_)
  obtain rfl := hq
  exact zk_leave hlocks hno (rfl) (Nat.le_of_ble_eq_true rfl) (Nat.le_of_ble_eq_true rfl)

set_option maxHeartbeats 4000000 in
/-- times, out of bounds -/
theorem t1_times_b (l : Launch) (hfl : l.flags = flags0) (D : va_G) (g : G4) (hn co tr dep ms ch md kp wy : Nat) (h0 hs pl t gn kd : Nat) (hp hq n : Nat) (a b : Int32) (ha_ : nI 0 ≤ a ∧ a ≤ nI n) (h0_ : ¬ (nI 0 ≤ b ∧ b ≤ nI n)) : zk_MT l yX1_times (ws_ yX1_times cX1_times 3 (some .int)) (zk_R 7 1 6) D g [.ref hn, .int a, .int b] [(hn, .inr (0, [.ref co, .ref tr, .int (nI 1), .int (nI dep), .ref ms, .ref ch, .ref md, .ref kp, .ref wy])), (co, .inr (1, [.ref h0, .int (nI t), .int (nI gn), .int (nI kd), .ref hs, .ref pl])), (h0, .inr (2, [.int (nI n), .ref hp, .ref hq]))] zk_IAE (fun w => w = [(hn, .inr (0, [.ref co, .ref tr, .int (nI 1), .int (nI dep), .ref ms, .ref ch, .ref md, .ref kp, .ref wy])), (co, .inr (1, [.ref h0, .int (nI t), .int (nI gn), .int (nI kd), .ref hs, .ref pl])), (h0, .inr (2, [.int (nI n), .ref hp, .ref hq]))]) := by
  refine zk_ofWT (by decide) (Nat.le_of_ble_eq_true rfl) ?_
  intro pg ev s mm below meth cd A C hlocks hno Z ls hl
  have hx := C.1.1
  have hb := C.1.2.1
  have hml := C.1.2.2.1
  have hown := C.1.2.2.2.1
  have hts := C.1.2.2.2.2
  have hl : lv_has ls 3 [(0, .ref hn), (1, .int a), (2, .int b)] := hl
  refine lv_aload_n hx hb dX1_times_0 rfl (lv_at hl 0 rfl) ?_
  refine zk_callV (cells' := 0) (slots' := 0) (rest := []) (n := 0) (wr := [(co, .inr (1, [.ref h0, .int (nI t), .int (nI gn), .int (nI kd), .ref hs, .ref pl])), (h0, .inr (2, [.int (nI n), .ref hp, .ref hq]))]) C Z (m1_code l D g hn co tr dep ms ch md kp wy) [0] [1, 2] rfl rfl (by decide) (by decide) (by decide) 0 0 rfl rfl rfl q338 q340 qs2 q19 q341 (by decide +kernel) rfl (Nat.le_of_ble_eq_true rfl) (Nat.le_of_ble_eq_true rfl) (Nat.le_of_ble_eq_true rfl) (Nat.le_of_ble_eq_true rfl) rfl rfl hl.1 rfl (Nat.le_of_ble_eq_true rfl) dX1_times_1 (fun v w1 H locs hq Z => ?_)
  obtain ⟨rfl, rfl⟩ := hq
  have Z : zk_Z D A s H locs [(hn, .inr (0, [.ref co, .ref tr, .int (nI 1), .int (nI dep), .ref ms, .ref ch, .ref md, .ref kp, .ref wy])), (co, .inr (1, [.ref h0, .int (nI t), .int (nI gn), .int (nI kd), .ref hs, .ref pl])), (h0, .inr (2, [.int (nI n), .ref hp, .ref hq]))] := Z.sub [2, 0, 1] (by decide) rfl
  refine W.eq (g2 := F0 mm 4 ls []) rfl ?_
  refine lv_iload_n hx hb dX1_times_4 rfl (lv_at hl 1 rfl) ?_
  refine lv_iconst (v := nI 0) hx hb dX1_times_5 (by decide) ?_
  refine lv_aload_n hx hb dX1_times_6 rfl (lv_at hl 0 rfl) ?_
  refine zk_get C Z in_X1 0 rfl rfl 0 (by decide) q165 rfl (v := .ref co) rfl dX1_times_7 ?_
  refine zk_getN C Z in_X2 1 rfl rfl 0 (by decide) q92 rfl (v := .ref h0) rfl dX1_times_10 ?_
  refine zk_getN C Z in_X3 2 rfl rfl 0 (by decide) q61 rfl (v := .int (nI n)) rfl dX1_times_13 ?_
  refine zk_callS (cells' := 0) (slots' := 0) (rest := []) (n := 3) (wr := [(hn, .inr (0, [.ref co, .ref tr, .int (nI 1), .int (nI dep), .ref ms, .ref ch, .ref md, .ref kp, .ref wy])), (co, .inr (1, [.ref h0, .int (nI t), .int (nI gn), .int (nI kd), .ref hs, .ref pl])), (h0, .inr (2, [.int (nI n), .ref hp, .ref hq]))]) C Z (m1_in1 l D g a (nI 0) (nI n) ha_.1 ha_.2) [] [0, 1, 2] rfl rfl (by decide) (by decide) (by decide) q274 q275 q19 q276 (by decide +kernel) rfl (Nat.le_of_ble_eq_true rfl) (Nat.le_of_ble_eq_true rfl) (Nat.le_of_ble_eq_true rfl) (Nat.le_of_ble_eq_true rfl) rfl rfl hl.1 rfl (Nat.le_of_ble_eq_true rfl) dX1_times_16 (fun v w1 H locs hq Z => ?_)
  obtain ⟨rfl, rfl⟩ := hq
  have Z : zk_Z D A s H locs [(hn, .inr (0, [.ref co, .ref tr, .int (nI 1), .int (nI dep), .ref ms, .ref ch, .ref md, .ref kp, .ref wy])), (co, .inr (1, [.ref h0, .int (nI t), .int (nI gn), .int (nI kd), .ref hs, .ref pl])), (h0, .inr (2, [.int (nI n), .ref hp, .ref hq]))] := Z.sub [0, 1, 2] (by decide) rfl
  refine W.eq (g2 := F0 mm 19 ls [.int (nI 1)]) rfl ?_
  refine nr_eq0 (tgt := 44) hx hb (by omega) dX1_times_19 (by decide) (fun c_1 => absurd c_1 (by decide)) (fun c_1 => ?_)
  refine lv_iload_n hx hb dX1_times_22 rfl (lv_at hl 2 rfl) ?_
  refine lv_iconst (v := nI 0) hx hb dX1_times_23 (by decide) ?_
  refine lv_aload_n hx hb dX1_times_24 rfl (lv_at hl 0 rfl) ?_
  refine zk_get C Z in_X1 0 rfl rfl 0 (by decide) q165 rfl (v := .ref co) rfl dX1_times_25 ?_
  refine zk_getN C Z in_X2 1 rfl rfl 0 (by decide) q92 rfl (v := .ref h0) rfl dX1_times_28 ?_
  refine zk_getN C Z in_X3 2 rfl rfl 0 (by decide) q61 rfl (v := .int (nI n)) rfl dX1_times_31 ?_
  refine zk_callS (cells' := 0) (slots' := 0) (rest := []) (n := 3) (wr := [(hn, .inr (0, [.ref co, .ref tr, .int (nI 1), .int (nI dep), .ref ms, .ref ch, .ref md, .ref kp, .ref wy])), (co, .inr (1, [.ref h0, .int (nI t), .int (nI gn), .int (nI kd), .ref hs, .ref pl])), (h0, .inr (2, [.int (nI n), .ref hp, .ref hq]))]) C Z (m1_in0 l D g b (nI 0) (nI n) h0_) [] [0, 1, 2] rfl rfl (by decide) (by decide) (by decide) q274 q275 q19 q276 (by decide +kernel) rfl (Nat.le_of_ble_eq_true rfl) (Nat.le_of_ble_eq_true rfl) (Nat.le_of_ble_eq_true rfl) (Nat.le_of_ble_eq_true rfl) rfl rfl hl.1 rfl (Nat.le_of_ble_eq_true rfl) dX1_times_34 (fun v w1 H locs hq Z => ?_)
  obtain ⟨rfl, rfl⟩ := hq
  have Z : zk_Z D A s H locs [(hn, .inr (0, [.ref co, .ref tr, .int (nI 1), .int (nI dep), .ref ms, .ref ch, .ref md, .ref kp, .ref wy])), (co, .inr (1, [.ref h0, .int (nI t), .int (nI gn), .int (nI kd), .ref hs, .ref pl])), (h0, .inr (2, [.int (nI n), .ref hp, .ref hq]))] := Z.sub [0, 1, 2] (by decide) rfl
  refine W.eq (g2 := F0 mm 37 ls [.int (nI 0)]) rfl ?_
  refine nr_eq0 (tgt := 44) hx hb (by omega) dX1_times_37 (by decide) (fun c_2 => ?_) (fun c_2 => absurd c_2 (fun q => q rfl))
  refine lv_iconst (v := nI 0) hx hb dX1_times_44 (by decide) ?_
  refine zk_callST (cells' := 1) (slots' := 6) (rest := []) (n := 1) (wr := [(hn, .inr (0, [.ref co, .ref tr, .int (nI 1), .int (nI dep), .ref ms, .ref ch, .ref md, .ref kp, .ref wy])), (co, .inr (1, [.ref h0, .int (nI t), .int (nI gn), .int (nI kd), .ref hs, .ref pl])), (h0, .inr (2, [.int (nI n), .ref hp, .ref hq]))]) C Z (t1_need l hfl D g) [] [0, 1, 2] rfl rfl (by decide) (by decide) (by decide) q277 q278 q19 q279 (by decide +kernel) rfl (Nat.le_of_ble_eq_true rfl) (Nat.le_of_ble_eq_true rfl) (Nat.le_of_ble_eq_true rfl) (Nat.le_of_ble_eq_true rfl) rfl rfl hl.1 rfl (Nat.le_of_ble_eq_true rfl) dX1_times_45 (fun w1 hq => ?_)
  obtain rfl := hq
  exact zk_leave hlocks hno (rfl) (Nat.le_of_ble_eq_true rfl) (Nat.le_of_ble_eq_true rfl)

set_option maxHeartbeats 4000000 in
/-- put -/
theorem m1_put (l : Launch) (D : va_G) (g : G4) (hn co tr dep ms ch md kp wy : Nat) (h0 hs pl t gn kd : Nat) (M : List Nat) (hM : M.length = 4) (d4 : dep ≤ 4) (k31 : kd ≤ 31) (k1 : 1 ≤ kd) (i b : Nat) (hi : i < dep * kd) (b1 : b ≤ 1) : zk_M l yX1_put (ws_ yX1_put cX1_put 4 none) (zk_R 7 1 6) D g [.ref hn, .int (nI i), .int (nI b)] [(hn, .inr (0, [.ref co, .ref tr, .int (nI 1), .int (nI dep), .ref ms, .ref ch, .ref md, .ref kp, .ref wy])), (co, .inr (1, [.ref h0, .int (nI t), .int (nI gn), .int (nI kd), .ref hs, .ref pl])), (ms, .inl (g.1, 4, .inl (zk_ia M)))] (zk_D none [(hn, .inr (0, [.ref co, .ref tr, .int (nI 1), .int (nI dep), .ref ms, .ref ch, .ref md, .ref kp, .ref wy])), (co, .inr (1, [.ref h0, .int (nI t), .int (nI gn), .int (nI kd), .ref hs, .ref pl])), (ms, .inl (g.1, 4, .inl (zk_ia (M.set (i / kd) (putw (M.getD (i / kd) 0) (i % kd) b)))))]) := by
  refine zk_ofW (by decide) (Nat.le_of_ble_eq_true rfl) ?_
  intro pg ev s mm below meth cd A C hr hlocks hname Z ls hl
  have hx := C.1.1
  have hb := C.1.2.1
  have hml := C.1.2.2.1
  have hown := C.1.2.2.2.1
  have hts := C.1.2.2.2.2
  have hl : lv_has ls 4 [(0, .ref hn), (1, .int (nI i)), (2, .int (nI b))] := hl
  have hdk := Nat.mul_le_mul d4 k31
  refine lv_aload_n hx hb dX1_put_0 rfl (lv_at hl 0 rfl) ?_
  refine zk_callV (cells' := 0) (slots' := 0) (rest := []) (n := 0) (wr := [(co, .inr (1, [.ref h0, .int (nI t), .int (nI gn), .int (nI kd), .ref hs, .ref pl])), (ms, .inl (g.1, 4, .inl (zk_ia M)))]) C Z (m1_code l D g hn co tr dep ms ch md kp wy) [0] [1, 2] rfl rfl (by decide) (by decide) (by decide) 0 0 rfl rfl rfl q338 q340 qs2 q19 q341 (by decide +kernel) rfl (Nat.le_of_ble_eq_true rfl) (Nat.le_of_ble_eq_true rfl) (Nat.le_of_ble_eq_true rfl) (Nat.le_of_ble_eq_true rfl) rfl rfl hl.1 rfl (Nat.le_of_ble_eq_true rfl) dX1_put_1 (fun v w1 H locs hq Z => ?_)
  obtain ⟨rfl, rfl⟩ := hq
  have Z : zk_Z D A s H locs [(hn, .inr (0, [.ref co, .ref tr, .int (nI 1), .int (nI dep), .ref ms, .ref ch, .ref md, .ref kp, .ref wy])), (co, .inr (1, [.ref h0, .int (nI t), .int (nI gn), .int (nI kd), .ref hs, .ref pl])), (ms, .inl (g.1, 4, .inl (zk_ia M)))] := Z.sub [2, 0, 1] (by decide) rfl
  refine W.eq (g2 := F0 mm 4 ls []) rfl ?_
  refine lv_iload_n hx hb dX1_put_4 rfl (lv_at hl 1 rfl) ?_
  refine lv_iconst (v := nI 0) hx hb dX1_put_5 (by decide) ?_
  refine lv_aload_n hx hb dX1_put_6 rfl (lv_at hl 0 rfl) ?_
  refine zk_get C Z in_X1 0 rfl rfl 3 (by decide) q168 rfl (v := .int (nI dep)) rfl dX1_put_7 ?_
  refine lv_aload_n hx hb dX1_put_10 rfl (lv_at hl 0 rfl) ?_
  refine zk_get C Z in_X1 0 rfl rfl 0 (by decide) q165 rfl (v := .ref co) rfl dX1_put_11 ?_
  refine zk_getN C Z in_X2 1 rfl rfl 3 (by decide) q98 rfl (v := .int (nI kd)) rfl dX1_put_14 ?_
  refine nr_imul hx hb dX1_put_17 ?_
  refine lv_iconst (v := nI 1) hx hb dX1_put_18 (by decide) ?_
  refine nr_isub hx hb (by omega) dX1_put_19 ?_
  refine zk_callS (cells' := 0) (slots' := 0) (rest := []) (n := 3) (wr := [(hn, .inr (0, [.ref co, .ref tr, .int (nI 1), .int (nI dep), .ref ms, .ref ch, .ref md, .ref kp, .ref wy])), (co, .inr (1, [.ref h0, .int (nI t), .int (nI gn), .int (nI kd), .ref hs, .ref pl])), (ms, .inl (g.1, 4, .inl (zk_ia M)))]) C Z (m1_in1 l D g (nI i) (nI 0) (nI ((dep * kd) - 1)) (zk_le (Nat.zero_le i) (by omega)) (zk_le (by omega) (by have := Nat.mul_le_mul d4 k31; omega))) [] [0, 1, 2] rfl rfl (by decide) (by decide) (by decide) q274 q275 q19 q276 (by decide +kernel) rfl (Nat.le_of_ble_eq_true rfl) (Nat.le_of_ble_eq_true rfl) (Nat.le_of_ble_eq_true rfl) (Nat.le_of_ble_eq_true rfl) rfl rfl hl.1 rfl (Nat.le_of_ble_eq_true rfl) dX1_put_20 (fun v w1 H locs hq Z => ?_)
  obtain ⟨rfl, rfl⟩ := hq
  have Z : zk_Z D A s H locs [(hn, .inr (0, [.ref co, .ref tr, .int (nI 1), .int (nI dep), .ref ms, .ref ch, .ref md, .ref kp, .ref wy])), (co, .inr (1, [.ref h0, .int (nI t), .int (nI gn), .int (nI kd), .ref hs, .ref pl])), (ms, .inl (g.1, 4, .inl (zk_ia M)))] := Z.sub [0, 1, 2] (by decide) rfl
  refine W.eq (g2 := F0 mm 23 ls [.int (nI 1)]) rfl ?_
  refine zk_callS (cells' := 0) (slots' := 0) (rest := []) (n := 1) (wr := [(hn, .inr (0, [.ref co, .ref tr, .int (nI 1), .int (nI dep), .ref ms, .ref ch, .ref md, .ref kp, .ref wy])), (co, .inr (1, [.ref h0, .int (nI t), .int (nI gn), .int (nI kd), .ref hs, .ref pl])), (ms, .inl (g.1, 4, .inl (zk_ia M)))]) C Z (m1_place l D g) [] [0, 1, 2] rfl rfl (by decide) (by decide) (by decide) q413 q414 q19 q415 (by decide +kernel) rfl (Nat.le_of_ble_eq_true rfl) (Nat.le_of_ble_eq_true rfl) (Nat.le_of_ble_eq_true rfl) (Nat.le_of_ble_eq_true rfl) rfl rfl hl.1 rfl (Nat.le_of_ble_eq_true rfl) dX1_put_23 (fun v w1 H locs hq Z => ?_)
  obtain ⟨rfl, rfl⟩ := hq
  have Z : zk_Z D A s H locs [(hn, .inr (0, [.ref co, .ref tr, .int (nI 1), .int (nI dep), .ref ms, .ref ch, .ref md, .ref kp, .ref wy])), (co, .inr (1, [.ref h0, .int (nI t), .int (nI gn), .int (nI kd), .ref hs, .ref pl])), (ms, .inl (g.1, 4, .inl (zk_ia M)))] := Z.sub [0, 1, 2] (by decide) rfl
  refine W.eq (g2 := F0 mm 26 ls []) rfl ?_
  refine lv_iload_n hx hb dX1_put_26 rfl (lv_at hl 2 rfl) ?_
  refine lv_iconst (v := nI 0) hx hb dX1_put_27 (by decide) ?_
  refine lv_iconst (v := nI 1) hx hb dX1_put_28 (by decide) ?_
  refine zk_callS (cells' := 0) (slots' := 0) (rest := []) (n := 3) (wr := [(hn, .inr (0, [.ref co, .ref tr, .int (nI 1), .int (nI dep), .ref ms, .ref ch, .ref md, .ref kp, .ref wy])), (co, .inr (1, [.ref h0, .int (nI t), .int (nI gn), .int (nI kd), .ref hs, .ref pl])), (ms, .inl (g.1, 4, .inl (zk_ia M)))]) C Z (m1_in1 l D g (nI b) (nI 0) (nI 1) (zk_le (Nat.zero_le b) (by omega)) (zk_le b1 (by decide))) [] [0, 1, 2] rfl rfl (by decide) (by decide) (by decide) q274 q275 q19 q276 (by decide +kernel) rfl (Nat.le_of_ble_eq_true rfl) (Nat.le_of_ble_eq_true rfl) (Nat.le_of_ble_eq_true rfl) (Nat.le_of_ble_eq_true rfl) rfl rfl hl.1 rfl (Nat.le_of_ble_eq_true rfl) dX1_put_29 (fun v w1 H locs hq Z => ?_)
  obtain ⟨rfl, rfl⟩ := hq
  have Z : zk_Z D A s H locs [(hn, .inr (0, [.ref co, .ref tr, .int (nI 1), .int (nI dep), .ref ms, .ref ch, .ref md, .ref kp, .ref wy])), (co, .inr (1, [.ref h0, .int (nI t), .int (nI gn), .int (nI kd), .ref hs, .ref pl])), (ms, .inl (g.1, 4, .inl (zk_ia M)))] := Z.sub [0, 1, 2] (by decide) rfl
  refine W.eq (g2 := F0 mm 32 ls [.int (nI 1)]) rfl ?_
  refine zk_callS (cells' := 0) (slots' := 0) (rest := []) (n := 1) (wr := [(hn, .inr (0, [.ref co, .ref tr, .int (nI 1), .int (nI dep), .ref ms, .ref ch, .ref md, .ref kp, .ref wy])), (co, .inr (1, [.ref h0, .int (nI t), .int (nI gn), .int (nI kd), .ref hs, .ref pl])), (ms, .inl (g.1, 4, .inl (zk_ia M)))]) C Z (m1_need l D g) [] [0, 1, 2] rfl rfl (by decide) (by decide) (by decide) q277 q278 q19 q279 (by decide +kernel) rfl (Nat.le_of_ble_eq_true rfl) (Nat.le_of_ble_eq_true rfl) (Nat.le_of_ble_eq_true rfl) (Nat.le_of_ble_eq_true rfl) rfl rfl hl.1 rfl (Nat.le_of_ble_eq_true rfl) dX1_put_32 (fun v w1 H locs hq Z => ?_)
  obtain ⟨rfl, rfl⟩ := hq
  have Z : zk_Z D A s H locs [(hn, .inr (0, [.ref co, .ref tr, .int (nI 1), .int (nI dep), .ref ms, .ref ch, .ref md, .ref kp, .ref wy])), (co, .inr (1, [.ref h0, .int (nI t), .int (nI gn), .int (nI kd), .ref hs, .ref pl])), (ms, .inl (g.1, 4, .inl (zk_ia M)))] := Z.sub [0, 1, 2] (by decide) rfl
  refine W.eq (g2 := F0 mm 35 ls []) rfl ?_
  refine lv_iconst (v := nI 1) hx hb dX1_put_35 (by decide) ?_
  refine lv_iload_n hx hb dX1_put_36 rfl (lv_at hl 1 rfl) ?_
  refine lv_aload_n hx hb dX1_put_37 rfl (lv_at hl 0 rfl) ?_
  refine zk_get C Z in_X1 0 rfl rfl 0 (by decide) q165 rfl (v := .ref co) rfl dX1_put_38 ?_
  refine zk_getN C Z in_X2 1 rfl rfl 3 (by decide) q98 rfl (v := .int (nI kd)) rfl dX1_put_41 ?_
  refine nr_irem hx hb (by omega) (by omega) (by omega) dX1_put_44 ?_
  refine nr_ishl hx hb (by have := Nat.mod_lt i k1; omega) dX1_put_45 ?_
  refine lv_istore_n (lv' := [(3, .int (nI (1 <<< (i % kd)))), (0, .ref hn), (1, .int (nI i)), (2, .int (nI b))]) hx hb dX1_put_46 rfl hl (by decide) rfl (fun ls hl => ?_)
  refine lv_aload_n hx hb dX1_put_47 rfl (lv_at hl 1 rfl) ?_
  refine zk_get C Z in_X1 0 rfl rfl 4 (by decide) q169 rfl (v := .ref ms) rfl dX1_put_48 ?_
  refine lv_iload_n hx hb dX1_put_51 rfl (lv_at hl 2 rfl) ?_
  refine lv_aload_n hx hb dX1_put_52 rfl (lv_at hl 1 rfl) ?_
  refine zk_get C Z in_X1 0 rfl rfl 0 (by decide) q165 rfl (v := .ref co) rfl dX1_put_53 ?_
  refine zk_getN C Z in_X2 1 rfl rfl 3 (by decide) q98 rfl (v := .int (nI kd)) rfl dX1_put_56 ?_
  refine nr_idiv hx hb (by omega) (by omega) (by omega) dX1_put_59 ?_
  refine lv_aload_n hx hb dX1_put_60 rfl (lv_at hl 1 rfl) ?_
  refine zk_get C Z in_X1 0 rfl rfl 4 (by decide) q169 rfl (v := .ref ms) rfl dX1_put_61 ?_
  refine lv_iload_n hx hb dX1_put_64 rfl (lv_at hl 2 rfl) ?_
  refine lv_aload_n hx hb dX1_put_65 rfl (lv_at hl 1 rfl) ?_
  refine zk_get C Z in_X1 0 rfl rfl 0 (by decide) q165 rfl (v := .ref co) rfl dX1_put_66 ?_
  refine zk_getN C Z in_X2 1 rfl rfl 3 (by decide) q98 rfl (v := .int (nI kd)) rfl dX1_put_69 ?_
  refine nr_idiv hx hb (by omega) (by omega) (by omega) dX1_put_72 ?_
  refine zk_iald C Z 2 rfl (by decide) (by have h9 := Nat.div_lt_of_lt_mul (show i < kd * dep by rw [Nat.mul_comm]; exact hi); omega) dX1_put_73 ?_
  refine lv_iload_n hx hb dX1_put_74 rfl (lv_at hl 0 rfl) ?_
  refine lv_iconst (v := nI 4294967295) hx hb dX1_put_75 (by decide) ?_
  refine nr_ixor hx hb dX1_put_76 ?_
  refine nr_iand hx hb dX1_put_77 ?_
  refine lv_iload_n hx hb dX1_put_78 rfl (lv_at hl 3 rfl) ?_
  refine nr_ne0 (tgt := 86) hx hb (by omega) dX1_put_79 (by decide) (fun c_1 => ?_) (fun c_1 => ?_)
  · refine lv_iload_n hx hb dX1_put_86 rfl (lv_at hl 0 rfl) ?_
    refine nr_ior hx hb dX1_put_87 ?_
    refine zk_iast C Z 2 rfl (by decide) (by have h9 := Nat.div_lt_of_lt_mul (show i < kd * dep by rw [Nat.mul_comm]; exact hi); omega) hM dX1_put_88 (fun H locs Z => ?_)
    have hlen_1 : (M.set (i / kd) (((M.getD (i / kd) 0) &&& ((1 <<< (i % kd)) ^^^ 4294967295)) ||| (1 <<< (i % kd)))).length = 4 := by rw [List.length_set]; exact hM
    have Z : zk_Z D A s H locs [(hn, .inr (0, [.ref co, .ref tr, .int (nI 1), .int (nI dep), .ref ms, .ref ch, .ref md, .ref kp, .ref wy])), (co, .inr (1, [.ref h0, .int (nI t), .int (nI gn), .int (nI kd), .ref hs, .ref pl])), (ms, .inl (g.1, 4, .inl (zk_ia (M.set (i / kd) (((M.getD (i / kd) 0) &&& ((1 <<< (i % kd)) ^^^ 4294967295)) ||| (1 <<< (i % kd)))))))] := Z
    exact zk_vret C hr hlocks Z ⟨rfl, by unfold putw; rw [if_neg c_1]⟩ (Nat.le_of_ble_eq_true rfl) (Nat.le_of_ble_eq_true rfl) dX1_put_89
  · refine lv_iconst (v := nI 0) hx hb dX1_put_82 (by decide) ?_
    refine lv_goto (tgt := 87) hx hb dX1_put_83 (by decide) ?_
    refine nr_ior hx hb dX1_put_87 ?_
    refine zk_iast C Z 2 rfl (by decide) (by have h9 := Nat.div_lt_of_lt_mul (show i < kd * dep by rw [Nat.mul_comm]; exact hi); omega) hM dX1_put_88 (fun H locs Z => ?_)
    have hlen_2 : (M.set (i / kd) (((M.getD (i / kd) 0) &&& ((1 <<< (i % kd)) ^^^ 4294967295)) ||| 0)).length = 4 := by rw [List.length_set]; exact hM
    have Z : zk_Z D A s H locs [(hn, .inr (0, [.ref co, .ref tr, .int (nI 1), .int (nI dep), .ref ms, .ref ch, .ref md, .ref kp, .ref wy])), (co, .inr (1, [.ref h0, .int (nI t), .int (nI gn), .int (nI kd), .ref hs, .ref pl])), (ms, .inl (g.1, 4, .inl (zk_ia (M.set (i / kd) (((M.getD (i / kd) 0) &&& ((1 <<< (i % kd)) ^^^ 4294967295)) ||| 0)))))] := Z
    exact zk_vret C hr hlocks Z ⟨rfl, by unfold putw; rw [if_pos c_1]⟩ (Nat.le_of_ble_eq_true rfl) (Nat.le_of_ble_eq_true rfl) dX1_put_89

set_option maxHeartbeats 4000000 in
/-- put, not begun -/
theorem u1_put (l : Launch) (hfl : l.flags = flags0) (D : va_G) (g : G4) (hn co tr dep ms ch md kp wy : Nat) (i b : Int32) : zk_MT l yX1_put (ws_ yX1_put cX1_put 4 none) (zk_R 7 1 6) D g [.ref hn, .int i, .int b] [(hn, .inr (0, [.ref co, .ref tr, .int (nI 0), .int (nI dep), .ref ms, .ref ch, .ref md, .ref kp, .ref wy]))] zk_ISE (fun w => w = [(hn, .inr (0, [.ref co, .ref tr, .int (nI 0), .int (nI dep), .ref ms, .ref ch, .ref md, .ref kp, .ref wy]))]) := by
  refine zk_ofWT (by decide) (Nat.le_of_ble_eq_true rfl) ?_
  intro pg ev s mm below meth cd A C hlocks hno Z ls hl
  have hx := C.1.1
  have hb := C.1.2.1
  have hml := C.1.2.2.1
  have hown := C.1.2.2.2.1
  have hts := C.1.2.2.2.2
  have hl : lv_has ls 4 [(0, .ref hn), (1, .int i), (2, .int b)] := hl
  refine lv_aload_n hx hb dX1_put_0 rfl (lv_at hl 0 rfl) ?_
  refine zk_callVT (cells' := 1) (slots' := 6) (rest := []) (n := 0) (wr := []) C Z (t1_code l hfl D g hn co tr dep ms ch md kp wy) [0] [] rfl rfl (by decide) (by decide) (by decide) 0 0 rfl rfl rfl q338 q340 qs2 q19 q341 (by decide +kernel) rfl (Nat.le_of_ble_eq_true rfl) (Nat.le_of_ble_eq_true rfl) (Nat.le_of_ble_eq_true rfl) (Nat.le_of_ble_eq_true rfl) rfl rfl hl.1 rfl (Nat.le_of_ble_eq_true rfl) dX1_put_1 (fun w1 hq => ?_)
  obtain rfl := hq
  exact zk_leave hlocks hno (rfl) (Nat.le_of_ble_eq_true rfl) (Nat.le_of_ble_eq_true rfl)

set_option maxHeartbeats 4000000 in
/-- put, none such -/
theorem t1_put_i (l : Launch) (hfl : l.flags = flags0) (D : va_G) (g : G4) (hn co tr dep ms ch md kp wy : Nat) (h0 hs pl t gn kd : Nat) (i b : Int32) (d1 : 1 ≤ dep * kd) (h0_ : ¬ (nI 0 ≤ i ∧ i ≤ nI (dep * kd - 1))) : zk_MT l yX1_put (ws_ yX1_put cX1_put 4 none) (zk_R 7 1 6) D g [.ref hn, .int i, .int b] [(hn, .inr (0, [.ref co, .ref tr, .int (nI 1), .int (nI dep), .ref ms, .ref ch, .ref md, .ref kp, .ref wy])), (co, .inr (1, [.ref h0, .int (nI t), .int (nI gn), .int (nI kd), .ref hs, .ref pl]))] zk_IOB (fun w => w = [(hn, .inr (0, [.ref co, .ref tr, .int (nI 1), .int (nI dep), .ref ms, .ref ch, .ref md, .ref kp, .ref wy])), (co, .inr (1, [.ref h0, .int (nI t), .int (nI gn), .int (nI kd), .ref hs, .ref pl]))]) := by
  refine zk_ofWT (by decide) (Nat.le_of_ble_eq_true rfl) ?_
  intro pg ev s mm below meth cd A C hlocks hno Z ls hl
  have hx := C.1.1
  have hb := C.1.2.1
  have hml := C.1.2.2.1
  have hown := C.1.2.2.2.1
  have hts := C.1.2.2.2.2
  have hl : lv_has ls 4 [(0, .ref hn), (1, .int i), (2, .int b)] := hl
  refine lv_aload_n hx hb dX1_put_0 rfl (lv_at hl 0 rfl) ?_
  refine zk_callV (cells' := 0) (slots' := 0) (rest := []) (n := 0) (wr := [(co, .inr (1, [.ref h0, .int (nI t), .int (nI gn), .int (nI kd), .ref hs, .ref pl]))]) C Z (m1_code l D g hn co tr dep ms ch md kp wy) [0] [1] rfl rfl (by decide) (by decide) (by decide) 0 0 rfl rfl rfl q338 q340 qs2 q19 q341 (by decide +kernel) rfl (Nat.le_of_ble_eq_true rfl) (Nat.le_of_ble_eq_true rfl) (Nat.le_of_ble_eq_true rfl) (Nat.le_of_ble_eq_true rfl) rfl rfl hl.1 rfl (Nat.le_of_ble_eq_true rfl) dX1_put_1 (fun v w1 H locs hq Z => ?_)
  obtain ⟨rfl, rfl⟩ := hq
  have Z : zk_Z D A s H locs [(hn, .inr (0, [.ref co, .ref tr, .int (nI 1), .int (nI dep), .ref ms, .ref ch, .ref md, .ref kp, .ref wy])), (co, .inr (1, [.ref h0, .int (nI t), .int (nI gn), .int (nI kd), .ref hs, .ref pl]))] := Z.sub [1, 0] (by decide) rfl
  refine W.eq (g2 := F0 mm 4 ls []) rfl ?_
  refine lv_iload_n hx hb dX1_put_4 rfl (lv_at hl 1 rfl) ?_
  refine lv_iconst (v := nI 0) hx hb dX1_put_5 (by decide) ?_
  refine lv_aload_n hx hb dX1_put_6 rfl (lv_at hl 0 rfl) ?_
  refine zk_get C Z in_X1 0 rfl rfl 3 (by decide) q168 rfl (v := .int (nI dep)) rfl dX1_put_7 ?_
  refine lv_aload_n hx hb dX1_put_10 rfl (lv_at hl 0 rfl) ?_
  refine zk_get C Z in_X1 0 rfl rfl 0 (by decide) q165 rfl (v := .ref co) rfl dX1_put_11 ?_
  refine zk_getN C Z in_X2 1 rfl rfl 3 (by decide) q98 rfl (v := .int (nI kd)) rfl dX1_put_14 ?_
  refine nr_imul hx hb dX1_put_17 ?_
  refine lv_iconst (v := nI 1) hx hb dX1_put_18 (by decide) ?_
  refine nr_isub hx hb d1 dX1_put_19 ?_
  refine zk_callS (cells' := 0) (slots' := 0) (rest := []) (n := 3) (wr := [(hn, .inr (0, [.ref co, .ref tr, .int (nI 1), .int (nI dep), .ref ms, .ref ch, .ref md, .ref kp, .ref wy])), (co, .inr (1, [.ref h0, .int (nI t), .int (nI gn), .int (nI kd), .ref hs, .ref pl]))]) C Z (m1_in0 l D g i (nI 0) (nI ((dep * kd) - 1)) h0_) [] [0, 1] rfl rfl (by decide) (by decide) (by decide) q274 q275 q19 q276 (by decide +kernel) rfl (Nat.le_of_ble_eq_true rfl) (Nat.le_of_ble_eq_true rfl) (Nat.le_of_ble_eq_true rfl) (Nat.le_of_ble_eq_true rfl) rfl rfl hl.1 rfl (Nat.le_of_ble_eq_true rfl) dX1_put_20 (fun v w1 H locs hq Z => ?_)
  obtain ⟨rfl, rfl⟩ := hq
  have Z : zk_Z D A s H locs [(hn, .inr (0, [.ref co, .ref tr, .int (nI 1), .int (nI dep), .ref ms, .ref ch, .ref md, .ref kp, .ref wy])), (co, .inr (1, [.ref h0, .int (nI t), .int (nI gn), .int (nI kd), .ref hs, .ref pl]))] := Z.sub [0, 1] (by decide) rfl
  refine W.eq (g2 := F0 mm 23 ls [.int (nI 0)]) rfl ?_
  refine zk_callST (cells' := 1) (slots' := 6) (rest := []) (n := 1) (wr := [(hn, .inr (0, [.ref co, .ref tr, .int (nI 1), .int (nI dep), .ref ms, .ref ch, .ref md, .ref kp, .ref wy])), (co, .inr (1, [.ref h0, .int (nI t), .int (nI gn), .int (nI kd), .ref hs, .ref pl]))]) C Z (t1_place l hfl D g) [] [0, 1] rfl rfl (by decide) (by decide) (by decide) q413 q414 q19 q415 (by decide +kernel) rfl (Nat.le_of_ble_eq_true rfl) (Nat.le_of_ble_eq_true rfl) (Nat.le_of_ble_eq_true rfl) (Nat.le_of_ble_eq_true rfl) rfl rfl hl.1 rfl (Nat.le_of_ble_eq_true rfl) dX1_put_23 (fun w1 hq => ?_)
  obtain rfl := hq
  exact zk_leave hlocks hno (rfl) (Nat.le_of_ble_eq_true rfl) (Nat.le_of_ble_eq_true rfl)

set_option maxHeartbeats 4000000 in
/-- put, out of bounds -/
theorem t1_put_b (l : Launch) (hfl : l.flags = flags0) (D : va_G) (g : G4) (hn co tr dep ms ch md kp wy : Nat) (h0 hs pl t gn kd : Nat) (i b : Int32) (d1 : 1 ≤ dep * kd) (hi_ : nI 0 ≤ i ∧ i ≤ nI (dep * kd - 1)) (h0_ : ¬ (nI 0 ≤ b ∧ b ≤ nI 1)) : zk_MT l yX1_put (ws_ yX1_put cX1_put 4 none) (zk_R 7 1 6) D g [.ref hn, .int i, .int b] [(hn, .inr (0, [.ref co, .ref tr, .int (nI 1), .int (nI dep), .ref ms, .ref ch, .ref md, .ref kp, .ref wy])), (co, .inr (1, [.ref h0, .int (nI t), .int (nI gn), .int (nI kd), .ref hs, .ref pl]))] zk_IAE (fun w => w = [(hn, .inr (0, [.ref co, .ref tr, .int (nI 1), .int (nI dep), .ref ms, .ref ch, .ref md, .ref kp, .ref wy])), (co, .inr (1, [.ref h0, .int (nI t), .int (nI gn), .int (nI kd), .ref hs, .ref pl]))]) := by
  refine zk_ofWT (by decide) (Nat.le_of_ble_eq_true rfl) ?_
  intro pg ev s mm below meth cd A C hlocks hno Z ls hl
  have hx := C.1.1
  have hb := C.1.2.1
  have hml := C.1.2.2.1
  have hown := C.1.2.2.2.1
  have hts := C.1.2.2.2.2
  have hl : lv_has ls 4 [(0, .ref hn), (1, .int i), (2, .int b)] := hl
  refine lv_aload_n hx hb dX1_put_0 rfl (lv_at hl 0 rfl) ?_
  refine zk_callV (cells' := 0) (slots' := 0) (rest := []) (n := 0) (wr := [(co, .inr (1, [.ref h0, .int (nI t), .int (nI gn), .int (nI kd), .ref hs, .ref pl]))]) C Z (m1_code l D g hn co tr dep ms ch md kp wy) [0] [1] rfl rfl (by decide) (by decide) (by decide) 0 0 rfl rfl rfl q338 q340 qs2 q19 q341 (by decide +kernel) rfl (Nat.le_of_ble_eq_true rfl) (Nat.le_of_ble_eq_true rfl) (Nat.le_of_ble_eq_true rfl) (Nat.le_of_ble_eq_true rfl) rfl rfl hl.1 rfl (Nat.le_of_ble_eq_true rfl) dX1_put_1 (fun v w1 H locs hq Z => ?_)
  obtain ⟨rfl, rfl⟩ := hq
  have Z : zk_Z D A s H locs [(hn, .inr (0, [.ref co, .ref tr, .int (nI 1), .int (nI dep), .ref ms, .ref ch, .ref md, .ref kp, .ref wy])), (co, .inr (1, [.ref h0, .int (nI t), .int (nI gn), .int (nI kd), .ref hs, .ref pl]))] := Z.sub [1, 0] (by decide) rfl
  refine W.eq (g2 := F0 mm 4 ls []) rfl ?_
  refine lv_iload_n hx hb dX1_put_4 rfl (lv_at hl 1 rfl) ?_
  refine lv_iconst (v := nI 0) hx hb dX1_put_5 (by decide) ?_
  refine lv_aload_n hx hb dX1_put_6 rfl (lv_at hl 0 rfl) ?_
  refine zk_get C Z in_X1 0 rfl rfl 3 (by decide) q168 rfl (v := .int (nI dep)) rfl dX1_put_7 ?_
  refine lv_aload_n hx hb dX1_put_10 rfl (lv_at hl 0 rfl) ?_
  refine zk_get C Z in_X1 0 rfl rfl 0 (by decide) q165 rfl (v := .ref co) rfl dX1_put_11 ?_
  refine zk_getN C Z in_X2 1 rfl rfl 3 (by decide) q98 rfl (v := .int (nI kd)) rfl dX1_put_14 ?_
  refine nr_imul hx hb dX1_put_17 ?_
  refine lv_iconst (v := nI 1) hx hb dX1_put_18 (by decide) ?_
  refine nr_isub hx hb d1 dX1_put_19 ?_
  refine zk_callS (cells' := 0) (slots' := 0) (rest := []) (n := 3) (wr := [(hn, .inr (0, [.ref co, .ref tr, .int (nI 1), .int (nI dep), .ref ms, .ref ch, .ref md, .ref kp, .ref wy])), (co, .inr (1, [.ref h0, .int (nI t), .int (nI gn), .int (nI kd), .ref hs, .ref pl]))]) C Z (m1_in1 l D g i (nI 0) (nI ((dep * kd) - 1)) hi_.1 hi_.2) [] [0, 1] rfl rfl (by decide) (by decide) (by decide) q274 q275 q19 q276 (by decide +kernel) rfl (Nat.le_of_ble_eq_true rfl) (Nat.le_of_ble_eq_true rfl) (Nat.le_of_ble_eq_true rfl) (Nat.le_of_ble_eq_true rfl) rfl rfl hl.1 rfl (Nat.le_of_ble_eq_true rfl) dX1_put_20 (fun v w1 H locs hq Z => ?_)
  obtain ⟨rfl, rfl⟩ := hq
  have Z : zk_Z D A s H locs [(hn, .inr (0, [.ref co, .ref tr, .int (nI 1), .int (nI dep), .ref ms, .ref ch, .ref md, .ref kp, .ref wy])), (co, .inr (1, [.ref h0, .int (nI t), .int (nI gn), .int (nI kd), .ref hs, .ref pl]))] := Z.sub [0, 1] (by decide) rfl
  refine W.eq (g2 := F0 mm 23 ls [.int (nI 1)]) rfl ?_
  refine zk_callS (cells' := 0) (slots' := 0) (rest := []) (n := 1) (wr := [(hn, .inr (0, [.ref co, .ref tr, .int (nI 1), .int (nI dep), .ref ms, .ref ch, .ref md, .ref kp, .ref wy])), (co, .inr (1, [.ref h0, .int (nI t), .int (nI gn), .int (nI kd), .ref hs, .ref pl]))]) C Z (m1_place l D g) [] [0, 1] rfl rfl (by decide) (by decide) (by decide) q413 q414 q19 q415 (by decide +kernel) rfl (Nat.le_of_ble_eq_true rfl) (Nat.le_of_ble_eq_true rfl) (Nat.le_of_ble_eq_true rfl) (Nat.le_of_ble_eq_true rfl) rfl rfl hl.1 rfl (Nat.le_of_ble_eq_true rfl) dX1_put_23 (fun v w1 H locs hq Z => ?_)
  obtain ⟨rfl, rfl⟩ := hq
  have Z : zk_Z D A s H locs [(hn, .inr (0, [.ref co, .ref tr, .int (nI 1), .int (nI dep), .ref ms, .ref ch, .ref md, .ref kp, .ref wy])), (co, .inr (1, [.ref h0, .int (nI t), .int (nI gn), .int (nI kd), .ref hs, .ref pl]))] := Z.sub [0, 1] (by decide) rfl
  refine W.eq (g2 := F0 mm 26 ls []) rfl ?_
  refine lv_iload_n hx hb dX1_put_26 rfl (lv_at hl 2 rfl) ?_
  refine lv_iconst (v := nI 0) hx hb dX1_put_27 (by decide) ?_
  refine lv_iconst (v := nI 1) hx hb dX1_put_28 (by decide) ?_
  refine zk_callS (cells' := 0) (slots' := 0) (rest := []) (n := 3) (wr := [(hn, .inr (0, [.ref co, .ref tr, .int (nI 1), .int (nI dep), .ref ms, .ref ch, .ref md, .ref kp, .ref wy])), (co, .inr (1, [.ref h0, .int (nI t), .int (nI gn), .int (nI kd), .ref hs, .ref pl]))]) C Z (m1_in0 l D g b (nI 0) (nI 1) h0_) [] [0, 1] rfl rfl (by decide) (by decide) (by decide) q274 q275 q19 q276 (by decide +kernel) rfl (Nat.le_of_ble_eq_true rfl) (Nat.le_of_ble_eq_true rfl) (Nat.le_of_ble_eq_true rfl) (Nat.le_of_ble_eq_true rfl) rfl rfl hl.1 rfl (Nat.le_of_ble_eq_true rfl) dX1_put_29 (fun v w1 H locs hq Z => ?_)
  obtain ⟨rfl, rfl⟩ := hq
  have Z : zk_Z D A s H locs [(hn, .inr (0, [.ref co, .ref tr, .int (nI 1), .int (nI dep), .ref ms, .ref ch, .ref md, .ref kp, .ref wy])), (co, .inr (1, [.ref h0, .int (nI t), .int (nI gn), .int (nI kd), .ref hs, .ref pl]))] := Z.sub [0, 1] (by decide) rfl
  refine W.eq (g2 := F0 mm 32 ls [.int (nI 0)]) rfl ?_
  refine zk_callST (cells' := 1) (slots' := 6) (rest := []) (n := 1) (wr := [(hn, .inr (0, [.ref co, .ref tr, .int (nI 1), .int (nI dep), .ref ms, .ref ch, .ref md, .ref kp, .ref wy])), (co, .inr (1, [.ref h0, .int (nI t), .int (nI gn), .int (nI kd), .ref hs, .ref pl]))]) C Z (t1_need l hfl D g) [] [0, 1] rfl rfl (by decide) (by decide) (by decide) q277 q278 q19 q279 (by decide +kernel) rfl (Nat.le_of_ble_eq_true rfl) (Nat.le_of_ble_eq_true rfl) (Nat.le_of_ble_eq_true rfl) (Nat.le_of_ble_eq_true rfl) rfl rfl hl.1 rfl (Nat.le_of_ble_eq_true rfl) dX1_put_32 (fun w1 hq => ?_)
  obtain rfl := hq
  exact zk_leave hlocks hno (rfl) (Nat.le_of_ble_eq_true rfl) (Nat.le_of_ble_eq_true rfl)

set_option maxHeartbeats 4000000 in
/-- get -/
theorem m1_get (l : Launch) (D : va_G) (g : G4) (hn co tr dep ms ch md kp wy : Nat) (h0 hs pl t gn kd : Nat) (M : List Nat) (hM : M.length = 4) (d4 : dep ≤ 4) (k31 : kd ≤ 31) (k1 : 1 ≤ kd) (m31 : ∀ j, M.getD j 0 < 2 ^ 31) (i : Nat) (hi : i < dep * kd) : zk_M l yX1_get (ws_ yX1_get cX1_get 2 (some .int)) (zk_R 7 1 6) D g [.ref hn, .int (nI i)] [(hn, .inr (0, [.ref co, .ref tr, .int (nI 1), .int (nI dep), .ref ms, .ref ch, .ref md, .ref kp, .ref wy])), (co, .inr (1, [.ref h0, .int (nI t), .int (nI gn), .int (nI kd), .ref hs, .ref pl])), (ms, .inl (g.1, 4, .inl (zk_ia M)))] (zk_D (some (.int (nI (M.getD (i / kd) 0 >>> (i % kd) &&& 1)))) [(hn, .inr (0, [.ref co, .ref tr, .int (nI 1), .int (nI dep), .ref ms, .ref ch, .ref md, .ref kp, .ref wy])), (co, .inr (1, [.ref h0, .int (nI t), .int (nI gn), .int (nI kd), .ref hs, .ref pl])), (ms, .inl (g.1, 4, .inl (zk_ia M)))]) := by
  refine zk_ofW (by decide) (Nat.le_of_ble_eq_true rfl) ?_
  intro pg ev s mm below meth cd A C hr hlocks hname Z ls hl
  have hx := C.1.1
  have hb := C.1.2.1
  have hml := C.1.2.2.1
  have hown := C.1.2.2.2.1
  have hts := C.1.2.2.2.2
  have hl : lv_has ls 2 [(0, .ref hn), (1, .int (nI i))] := hl
  have hdk := Nat.mul_le_mul d4 k31
  refine lv_aload_n hx hb dX1_get_0 rfl (lv_at hl 0 rfl) ?_
  refine zk_callV (cells' := 0) (slots' := 0) (rest := []) (n := 0) (wr := [(co, .inr (1, [.ref h0, .int (nI t), .int (nI gn), .int (nI kd), .ref hs, .ref pl])), (ms, .inl (g.1, 4, .inl (zk_ia M)))]) C Z (m1_code l D g hn co tr dep ms ch md kp wy) [0] [1, 2] rfl rfl (by decide) (by decide) (by decide) 0 0 rfl rfl rfl q338 q340 qs2 q19 q341 (by decide +kernel) rfl (Nat.le_of_ble_eq_true rfl) (Nat.le_of_ble_eq_true rfl) (Nat.le_of_ble_eq_true rfl) (Nat.le_of_ble_eq_true rfl) rfl rfl hl.1 rfl (Nat.le_of_ble_eq_true rfl) dX1_get_1 (fun v w1 H locs hq Z => ?_)
  obtain ⟨rfl, rfl⟩ := hq
  have Z : zk_Z D A s H locs [(hn, .inr (0, [.ref co, .ref tr, .int (nI 1), .int (nI dep), .ref ms, .ref ch, .ref md, .ref kp, .ref wy])), (co, .inr (1, [.ref h0, .int (nI t), .int (nI gn), .int (nI kd), .ref hs, .ref pl])), (ms, .inl (g.1, 4, .inl (zk_ia M)))] := Z.sub [2, 0, 1] (by decide) rfl
  refine W.eq (g2 := F0 mm 4 ls []) rfl ?_
  refine lv_iload_n hx hb dX1_get_4 rfl (lv_at hl 1 rfl) ?_
  refine lv_iconst (v := nI 0) hx hb dX1_get_5 (by decide) ?_
  refine lv_aload_n hx hb dX1_get_6 rfl (lv_at hl 0 rfl) ?_
  refine zk_get C Z in_X1 0 rfl rfl 3 (by decide) q168 rfl (v := .int (nI dep)) rfl dX1_get_7 ?_
  refine lv_aload_n hx hb dX1_get_10 rfl (lv_at hl 0 rfl) ?_
  refine zk_get C Z in_X1 0 rfl rfl 0 (by decide) q165 rfl (v := .ref co) rfl dX1_get_11 ?_
  refine zk_getN C Z in_X2 1 rfl rfl 3 (by decide) q98 rfl (v := .int (nI kd)) rfl dX1_get_14 ?_
  refine nr_imul hx hb dX1_get_17 ?_
  refine lv_iconst (v := nI 1) hx hb dX1_get_18 (by decide) ?_
  refine nr_isub hx hb (by omega) dX1_get_19 ?_
  refine zk_callS (cells' := 0) (slots' := 0) (rest := []) (n := 3) (wr := [(hn, .inr (0, [.ref co, .ref tr, .int (nI 1), .int (nI dep), .ref ms, .ref ch, .ref md, .ref kp, .ref wy])), (co, .inr (1, [.ref h0, .int (nI t), .int (nI gn), .int (nI kd), .ref hs, .ref pl])), (ms, .inl (g.1, 4, .inl (zk_ia M)))]) C Z (m1_in1 l D g (nI i) (nI 0) (nI ((dep * kd) - 1)) (zk_le (Nat.zero_le i) (by omega)) (zk_le (by omega) (by have := Nat.mul_le_mul d4 k31; omega))) [] [0, 1, 2] rfl rfl (by decide) (by decide) (by decide) q274 q275 q19 q276 (by decide +kernel) rfl (Nat.le_of_ble_eq_true rfl) (Nat.le_of_ble_eq_true rfl) (Nat.le_of_ble_eq_true rfl) (Nat.le_of_ble_eq_true rfl) rfl rfl hl.1 rfl (Nat.le_of_ble_eq_true rfl) dX1_get_20 (fun v w1 H locs hq Z => ?_)
  obtain ⟨rfl, rfl⟩ := hq
  have Z : zk_Z D A s H locs [(hn, .inr (0, [.ref co, .ref tr, .int (nI 1), .int (nI dep), .ref ms, .ref ch, .ref md, .ref kp, .ref wy])), (co, .inr (1, [.ref h0, .int (nI t), .int (nI gn), .int (nI kd), .ref hs, .ref pl])), (ms, .inl (g.1, 4, .inl (zk_ia M)))] := Z.sub [0, 1, 2] (by decide) rfl
  refine W.eq (g2 := F0 mm 23 ls [.int (nI 1)]) rfl ?_
  refine zk_callS (cells' := 0) (slots' := 0) (rest := []) (n := 1) (wr := [(hn, .inr (0, [.ref co, .ref tr, .int (nI 1), .int (nI dep), .ref ms, .ref ch, .ref md, .ref kp, .ref wy])), (co, .inr (1, [.ref h0, .int (nI t), .int (nI gn), .int (nI kd), .ref hs, .ref pl])), (ms, .inl (g.1, 4, .inl (zk_ia M)))]) C Z (m1_place l D g) [] [0, 1, 2] rfl rfl (by decide) (by decide) (by decide) q413 q414 q19 q415 (by decide +kernel) rfl (Nat.le_of_ble_eq_true rfl) (Nat.le_of_ble_eq_true rfl) (Nat.le_of_ble_eq_true rfl) (Nat.le_of_ble_eq_true rfl) rfl rfl hl.1 rfl (Nat.le_of_ble_eq_true rfl) dX1_get_23 (fun v w1 H locs hq Z => ?_)
  obtain ⟨rfl, rfl⟩ := hq
  have Z : zk_Z D A s H locs [(hn, .inr (0, [.ref co, .ref tr, .int (nI 1), .int (nI dep), .ref ms, .ref ch, .ref md, .ref kp, .ref wy])), (co, .inr (1, [.ref h0, .int (nI t), .int (nI gn), .int (nI kd), .ref hs, .ref pl])), (ms, .inl (g.1, 4, .inl (zk_ia M)))] := Z.sub [0, 1, 2] (by decide) rfl
  refine W.eq (g2 := F0 mm 26 ls []) rfl ?_
  refine lv_aload_n hx hb dX1_get_26 rfl (lv_at hl 0 rfl) ?_
  refine zk_get C Z in_X1 0 rfl rfl 4 (by decide) q169 rfl (v := .ref ms) rfl dX1_get_27 ?_
  refine lv_iload_n hx hb dX1_get_30 rfl (lv_at hl 1 rfl) ?_
  refine lv_aload_n hx hb dX1_get_31 rfl (lv_at hl 0 rfl) ?_
  refine zk_get C Z in_X1 0 rfl rfl 0 (by decide) q165 rfl (v := .ref co) rfl dX1_get_32 ?_
  refine zk_getN C Z in_X2 1 rfl rfl 3 (by decide) q98 rfl (v := .int (nI kd)) rfl dX1_get_35 ?_
  refine nr_idiv hx hb (by omega) (by omega) (by omega) dX1_get_38 ?_
  refine zk_iald C Z 2 rfl (by decide) (by have h9 := Nat.div_lt_of_lt_mul (show i < kd * dep by rw [Nat.mul_comm]; exact hi); omega) dX1_get_39 ?_
  refine lv_iload_n hx hb dX1_get_40 rfl (lv_at hl 1 rfl) ?_
  refine lv_aload_n hx hb dX1_get_41 rfl (lv_at hl 0 rfl) ?_
  refine zk_get C Z in_X1 0 rfl rfl 0 (by decide) q165 rfl (v := .ref co) rfl dX1_get_42 ?_
  refine zk_getN C Z in_X2 1 rfl rfl 3 (by decide) q98 rfl (v := .int (nI kd)) rfl dX1_get_45 ?_
  refine nr_irem hx hb (by omega) (by omega) (by omega) dX1_get_48 ?_
  refine nr_ishr hx hb (m31 _) (by have := Nat.mod_lt i k1; omega) dX1_get_49 ?_
  refine lv_iconst (v := nI 1) hx hb dX1_get_50 (by decide) ?_
  refine nr_iand hx hb dX1_get_51 ?_
  exact zk_iret C hr hlocks Z ⟨rfl, rfl⟩ (Nat.le_of_ble_eq_true rfl) (Nat.le_of_ble_eq_true rfl) dX1_get_52

set_option maxHeartbeats 4000000 in
/-- get, not begun -/
theorem u1_get (l : Launch) (hfl : l.flags = flags0) (D : va_G) (g : G4) (hn co tr dep ms ch md kp wy : Nat) (i : Int32) : zk_MT l yX1_get (ws_ yX1_get cX1_get 2 (some .int)) (zk_R 7 1 6) D g [.ref hn, .int i] [(hn, .inr (0, [.ref co, .ref tr, .int (nI 0), .int (nI dep), .ref ms, .ref ch, .ref md, .ref kp, .ref wy]))] zk_ISE (fun w => w = [(hn, .inr (0, [.ref co, .ref tr, .int (nI 0), .int (nI dep), .ref ms, .ref ch, .ref md, .ref kp, .ref wy]))]) := by
  refine zk_ofWT (by decide) (Nat.le_of_ble_eq_true rfl) ?_
  intro pg ev s mm below meth cd A C hlocks hno Z ls hl
  have hx := C.1.1
  have hb := C.1.2.1
  have hml := C.1.2.2.1
  have hown := C.1.2.2.2.1
  have hts := C.1.2.2.2.2
  have hl : lv_has ls 2 [(0, .ref hn), (1, .int i)] := hl
  refine lv_aload_n hx hb dX1_get_0 rfl (lv_at hl 0 rfl) ?_
  refine zk_callVT (cells' := 1) (slots' := 6) (rest := []) (n := 0) (wr := []) C Z (t1_code l hfl D g hn co tr dep ms ch md kp wy) [0] [] rfl rfl (by decide) (by decide) (by decide) 0 0 rfl rfl rfl q338 q340 qs2 q19 q341 (by decide +kernel) rfl (Nat.le_of_ble_eq_true rfl) (Nat.le_of_ble_eq_true rfl) (Nat.le_of_ble_eq_true rfl) (Nat.le_of_ble_eq_true rfl) rfl rfl hl.1 rfl (Nat.le_of_ble_eq_true rfl) dX1_get_1 (fun w1 hq => ?_)
  obtain rfl := hq
  exact zk_leave hlocks hno (rfl) (Nat.le_of_ble_eq_true rfl) (Nat.le_of_ble_eq_true rfl)

set_option maxHeartbeats 4000000 in
/-- get, none such -/
theorem t1_get (l : Launch) (hfl : l.flags = flags0) (D : va_G) (g : G4) (hn co tr dep ms ch md kp wy : Nat) (h0 hs pl t gn kd : Nat) (i : Int32) (d1 : 1 ≤ dep * kd) (h0_ : ¬ (nI 0 ≤ i ∧ i ≤ nI (dep * kd - 1))) : zk_MT l yX1_get (ws_ yX1_get cX1_get 2 (some .int)) (zk_R 7 1 6) D g [.ref hn, .int i] [(hn, .inr (0, [.ref co, .ref tr, .int (nI 1), .int (nI dep), .ref ms, .ref ch, .ref md, .ref kp, .ref wy])), (co, .inr (1, [.ref h0, .int (nI t), .int (nI gn), .int (nI kd), .ref hs, .ref pl]))] zk_IOB (fun w => w = [(hn, .inr (0, [.ref co, .ref tr, .int (nI 1), .int (nI dep), .ref ms, .ref ch, .ref md, .ref kp, .ref wy])), (co, .inr (1, [.ref h0, .int (nI t), .int (nI gn), .int (nI kd), .ref hs, .ref pl]))]) := by
  refine zk_ofWT (by decide) (Nat.le_of_ble_eq_true rfl) ?_
  intro pg ev s mm below meth cd A C hlocks hno Z ls hl
  have hx := C.1.1
  have hb := C.1.2.1
  have hml := C.1.2.2.1
  have hown := C.1.2.2.2.1
  have hts := C.1.2.2.2.2
  have hl : lv_has ls 2 [(0, .ref hn), (1, .int i)] := hl
  refine lv_aload_n hx hb dX1_get_0 rfl (lv_at hl 0 rfl) ?_
  refine zk_callV (cells' := 0) (slots' := 0) (rest := []) (n := 0) (wr := [(co, .inr (1, [.ref h0, .int (nI t), .int (nI gn), .int (nI kd), .ref hs, .ref pl]))]) C Z (m1_code l D g hn co tr dep ms ch md kp wy) [0] [1] rfl rfl (by decide) (by decide) (by decide) 0 0 rfl rfl rfl q338 q340 qs2 q19 q341 (by decide +kernel) rfl (Nat.le_of_ble_eq_true rfl) (Nat.le_of_ble_eq_true rfl) (Nat.le_of_ble_eq_true rfl) (Nat.le_of_ble_eq_true rfl) rfl rfl hl.1 rfl (Nat.le_of_ble_eq_true rfl) dX1_get_1 (fun v w1 H locs hq Z => ?_)
  obtain ⟨rfl, rfl⟩ := hq
  have Z : zk_Z D A s H locs [(hn, .inr (0, [.ref co, .ref tr, .int (nI 1), .int (nI dep), .ref ms, .ref ch, .ref md, .ref kp, .ref wy])), (co, .inr (1, [.ref h0, .int (nI t), .int (nI gn), .int (nI kd), .ref hs, .ref pl]))] := Z.sub [1, 0] (by decide) rfl
  refine W.eq (g2 := F0 mm 4 ls []) rfl ?_
  refine lv_iload_n hx hb dX1_get_4 rfl (lv_at hl 1 rfl) ?_
  refine lv_iconst (v := nI 0) hx hb dX1_get_5 (by decide) ?_
  refine lv_aload_n hx hb dX1_get_6 rfl (lv_at hl 0 rfl) ?_
  refine zk_get C Z in_X1 0 rfl rfl 3 (by decide) q168 rfl (v := .int (nI dep)) rfl dX1_get_7 ?_
  refine lv_aload_n hx hb dX1_get_10 rfl (lv_at hl 0 rfl) ?_
  refine zk_get C Z in_X1 0 rfl rfl 0 (by decide) q165 rfl (v := .ref co) rfl dX1_get_11 ?_
  refine zk_getN C Z in_X2 1 rfl rfl 3 (by decide) q98 rfl (v := .int (nI kd)) rfl dX1_get_14 ?_
  refine nr_imul hx hb dX1_get_17 ?_
  refine lv_iconst (v := nI 1) hx hb dX1_get_18 (by decide) ?_
  refine nr_isub hx hb d1 dX1_get_19 ?_
  refine zk_callS (cells' := 0) (slots' := 0) (rest := []) (n := 3) (wr := [(hn, .inr (0, [.ref co, .ref tr, .int (nI 1), .int (nI dep), .ref ms, .ref ch, .ref md, .ref kp, .ref wy])), (co, .inr (1, [.ref h0, .int (nI t), .int (nI gn), .int (nI kd), .ref hs, .ref pl]))]) C Z (m1_in0 l D g i (nI 0) (nI ((dep * kd) - 1)) h0_) [] [0, 1] rfl rfl (by decide) (by decide) (by decide) q274 q275 q19 q276 (by decide +kernel) rfl (Nat.le_of_ble_eq_true rfl) (Nat.le_of_ble_eq_true rfl) (Nat.le_of_ble_eq_true rfl) (Nat.le_of_ble_eq_true rfl) rfl rfl hl.1 rfl (Nat.le_of_ble_eq_true rfl) dX1_get_20 (fun v w1 H locs hq Z => ?_)
  obtain ⟨rfl, rfl⟩ := hq
  have Z : zk_Z D A s H locs [(hn, .inr (0, [.ref co, .ref tr, .int (nI 1), .int (nI dep), .ref ms, .ref ch, .ref md, .ref kp, .ref wy])), (co, .inr (1, [.ref h0, .int (nI t), .int (nI gn), .int (nI kd), .ref hs, .ref pl]))] := Z.sub [0, 1] (by decide) rfl
  refine W.eq (g2 := F0 mm 23 ls [.int (nI 0)]) rfl ?_
  refine zk_callST (cells' := 1) (slots' := 6) (rest := []) (n := 1) (wr := [(hn, .inr (0, [.ref co, .ref tr, .int (nI 1), .int (nI dep), .ref ms, .ref ch, .ref md, .ref kp, .ref wy])), (co, .inr (1, [.ref h0, .int (nI t), .int (nI gn), .int (nI kd), .ref hs, .ref pl]))]) C Z (t1_place l hfl D g) [] [0, 1] rfl rfl (by decide) (by decide) (by decide) q413 q414 q19 q415 (by decide +kernel) rfl (Nat.le_of_ble_eq_true rfl) (Nat.le_of_ble_eq_true rfl) (Nat.le_of_ble_eq_true rfl) (Nat.le_of_ble_eq_true rfl) rfl rfl hl.1 rfl (Nat.le_of_ble_eq_true rfl) dX1_get_23 (fun w1 hq => ?_)
  obtain rfl := hq
  exact zk_leave hlocks hno (rfl) (Nat.le_of_ble_eq_true rfl) (Nat.le_of_ble_eq_true rfl)

set_option maxHeartbeats 4000000 in
/-- bit -/
theorem m1_bit (l : Launch) (D : va_G) (g : G4) (hn co tr dep ms ch md kp wy : Nat) (h0 hs pl t gn kd : Nat) (hp hq n : Nat) (c : List Nat) (hc : c.length = 4) (d4 : dep ≤ 4) (d1 : 1 ≤ dep) (n31 : n ≤ 31) (n1 : 1 ≤ n) (c31 : ∀ j, c.getD j 0 < 2 ^ 31) (i : Nat) (hi : i < dep * n) : zk_M l yX1_bit (ws_ yX1_bit cX1_bit 2 (some .int)) (zk_R 7 1 6) D g [.ref hn, .int (nI i)] [(hn, .inr (0, [.ref co, .ref tr, .int (nI 1), .int (nI dep), .ref ms, .ref ch, .ref md, .ref kp, .ref wy])), (co, .inr (1, [.ref h0, .int (nI t), .int (nI gn), .int (nI kd), .ref hs, .ref pl])), (h0, .inr (2, [.int (nI n), .ref hp, .ref hq])), (ch, .inl (g.1, 4, .inl (zk_ia c)))] (zk_D (some (.int (nI (c.getD (i % dep) 0 >>> (i / dep) &&& 1)))) [(hn, .inr (0, [.ref co, .ref tr, .int (nI 1), .int (nI dep), .ref ms, .ref ch, .ref md, .ref kp, .ref wy])), (co, .inr (1, [.ref h0, .int (nI t), .int (nI gn), .int (nI kd), .ref hs, .ref pl])), (h0, .inr (2, [.int (nI n), .ref hp, .ref hq])), (ch, .inl (g.1, 4, .inl (zk_ia c)))]) := by
  refine zk_ofW (by decide) (Nat.le_of_ble_eq_true rfl) ?_
  intro pg ev s mm below meth cd A C hr hlocks hname Z ls hl
  have hx := C.1.1
  have hb := C.1.2.1
  have hml := C.1.2.2.1
  have hown := C.1.2.2.2.1
  have hts := C.1.2.2.2.2
  have hl : lv_has ls 2 [(0, .ref hn), (1, .int (nI i))] := hl
  have hdk := Nat.mul_le_mul d4 n31
  refine lv_aload_n hx hb dX1_bit_0 rfl (lv_at hl 0 rfl) ?_
  refine zk_callV (cells' := 0) (slots' := 0) (rest := []) (n := 0) (wr := [(co, .inr (1, [.ref h0, .int (nI t), .int (nI gn), .int (nI kd), .ref hs, .ref pl])), (h0, .inr (2, [.int (nI n), .ref hp, .ref hq])), (ch, .inl (g.1, 4, .inl (zk_ia c)))]) C Z (m1_code l D g hn co tr dep ms ch md kp wy) [0] [1, 2, 3] rfl rfl (by decide) (by decide) (by decide) 0 0 rfl rfl rfl q338 q340 qs2 q19 q341 (by decide +kernel) rfl (Nat.le_of_ble_eq_true rfl) (Nat.le_of_ble_eq_true rfl) (Nat.le_of_ble_eq_true rfl) (Nat.le_of_ble_eq_true rfl) rfl rfl hl.1 rfl (Nat.le_of_ble_eq_true rfl) dX1_bit_1 (fun v w1 H locs hq Z => ?_)
  obtain ⟨rfl, rfl⟩ := hq
  have Z : zk_Z D A s H locs [(hn, .inr (0, [.ref co, .ref tr, .int (nI 1), .int (nI dep), .ref ms, .ref ch, .ref md, .ref kp, .ref wy])), (co, .inr (1, [.ref h0, .int (nI t), .int (nI gn), .int (nI kd), .ref hs, .ref pl])), (h0, .inr (2, [.int (nI n), .ref hp, .ref hq])), (ch, .inl (g.1, 4, .inl (zk_ia c)))] := Z.sub [3, 0, 1, 2] (by decide) rfl
  refine W.eq (g2 := F0 mm 4 ls []) rfl ?_
  refine lv_iload_n hx hb dX1_bit_4 rfl (lv_at hl 1 rfl) ?_
  refine lv_iconst (v := nI 0) hx hb dX1_bit_5 (by decide) ?_
  refine lv_aload_n hx hb dX1_bit_6 rfl (lv_at hl 0 rfl) ?_
  refine zk_get C Z in_X1 0 rfl rfl 3 (by decide) q168 rfl (v := .int (nI dep)) rfl dX1_bit_7 ?_
  refine lv_aload_n hx hb dX1_bit_10 rfl (lv_at hl 0 rfl) ?_
  refine zk_get C Z in_X1 0 rfl rfl 0 (by decide) q165 rfl (v := .ref co) rfl dX1_bit_11 ?_
  refine zk_getN C Z in_X2 1 rfl rfl 0 (by decide) q92 rfl (v := .ref h0) rfl dX1_bit_14 ?_
  refine zk_getN C Z in_X3 2 rfl rfl 0 (by decide) q61 rfl (v := .int (nI n)) rfl dX1_bit_17 ?_
  refine nr_imul hx hb dX1_bit_20 ?_
  refine lv_iconst (v := nI 1) hx hb dX1_bit_21 (by decide) ?_
  refine nr_isub hx hb (by omega) dX1_bit_22 ?_
  refine zk_callS (cells' := 0) (slots' := 0) (rest := []) (n := 3) (wr := [(hn, .inr (0, [.ref co, .ref tr, .int (nI 1), .int (nI dep), .ref ms, .ref ch, .ref md, .ref kp, .ref wy])), (co, .inr (1, [.ref h0, .int (nI t), .int (nI gn), .int (nI kd), .ref hs, .ref pl])), (h0, .inr (2, [.int (nI n), .ref hp, .ref hq])), (ch, .inl (g.1, 4, .inl (zk_ia c)))]) C Z (m1_in1 l D g (nI i) (nI 0) (nI ((dep * n) - 1)) (zk_le (Nat.zero_le i) (by omega)) (zk_le (by omega) (by omega))) [] [0, 1, 2, 3] rfl rfl (by decide) (by decide) (by decide) q274 q275 q19 q276 (by decide +kernel) rfl (Nat.le_of_ble_eq_true rfl) (Nat.le_of_ble_eq_true rfl) (Nat.le_of_ble_eq_true rfl) (Nat.le_of_ble_eq_true rfl) rfl rfl hl.1 rfl (Nat.le_of_ble_eq_true rfl) dX1_bit_23 (fun v w1 H locs hq Z => ?_)
  obtain ⟨rfl, rfl⟩ := hq
  have Z : zk_Z D A s H locs [(hn, .inr (0, [.ref co, .ref tr, .int (nI 1), .int (nI dep), .ref ms, .ref ch, .ref md, .ref kp, .ref wy])), (co, .inr (1, [.ref h0, .int (nI t), .int (nI gn), .int (nI kd), .ref hs, .ref pl])), (h0, .inr (2, [.int (nI n), .ref hp, .ref hq])), (ch, .inl (g.1, 4, .inl (zk_ia c)))] := Z.sub [0, 1, 2, 3] (by decide) rfl
  refine W.eq (g2 := F0 mm 26 ls [.int (nI 1)]) rfl ?_
  refine zk_callS (cells' := 0) (slots' := 0) (rest := []) (n := 1) (wr := [(hn, .inr (0, [.ref co, .ref tr, .int (nI 1), .int (nI dep), .ref ms, .ref ch, .ref md, .ref kp, .ref wy])), (co, .inr (1, [.ref h0, .int (nI t), .int (nI gn), .int (nI kd), .ref hs, .ref pl])), (h0, .inr (2, [.int (nI n), .ref hp, .ref hq])), (ch, .inl (g.1, 4, .inl (zk_ia c)))]) C Z (m1_place l D g) [] [0, 1, 2, 3] rfl rfl (by decide) (by decide) (by decide) q413 q414 q19 q415 (by decide +kernel) rfl (Nat.le_of_ble_eq_true rfl) (Nat.le_of_ble_eq_true rfl) (Nat.le_of_ble_eq_true rfl) (Nat.le_of_ble_eq_true rfl) rfl rfl hl.1 rfl (Nat.le_of_ble_eq_true rfl) dX1_bit_26 (fun v w1 H locs hq Z => ?_)
  obtain ⟨rfl, rfl⟩ := hq
  have Z : zk_Z D A s H locs [(hn, .inr (0, [.ref co, .ref tr, .int (nI 1), .int (nI dep), .ref ms, .ref ch, .ref md, .ref kp, .ref wy])), (co, .inr (1, [.ref h0, .int (nI t), .int (nI gn), .int (nI kd), .ref hs, .ref pl])), (h0, .inr (2, [.int (nI n), .ref hp, .ref hq])), (ch, .inl (g.1, 4, .inl (zk_ia c)))] := Z.sub [0, 1, 2, 3] (by decide) rfl
  refine W.eq (g2 := F0 mm 29 ls []) rfl ?_
  refine lv_aload_n hx hb dX1_bit_29 rfl (lv_at hl 0 rfl) ?_
  refine zk_get C Z in_X1 0 rfl rfl 5 (by decide) q170 rfl (v := .ref ch) rfl dX1_bit_30 ?_
  refine lv_iload_n hx hb dX1_bit_33 rfl (lv_at hl 1 rfl) ?_
  refine lv_aload_n hx hb dX1_bit_34 rfl (lv_at hl 0 rfl) ?_
  refine zk_get C Z in_X1 0 rfl rfl 3 (by decide) q168 rfl (v := .int (nI dep)) rfl dX1_bit_35 ?_
  refine nr_irem hx hb (by omega) (by omega) (by omega) dX1_bit_38 ?_
  refine zk_iald C Z 3 rfl (by decide) (by have := Nat.mod_lt i d1; omega) dX1_bit_39 ?_
  refine lv_iload_n hx hb dX1_bit_40 rfl (lv_at hl 1 rfl) ?_
  refine lv_aload_n hx hb dX1_bit_41 rfl (lv_at hl 0 rfl) ?_
  refine zk_get C Z in_X1 0 rfl rfl 3 (by decide) q168 rfl (v := .int (nI dep)) rfl dX1_bit_42 ?_
  refine nr_idiv hx hb (by omega) (by omega) (by omega) dX1_bit_45 ?_
  refine nr_ishr hx hb (c31 _) (by have h9 := Nat.div_lt_of_lt_mul (show i < dep * n from hi); omega) dX1_bit_46 ?_
  refine lv_iconst (v := nI 1) hx hb dX1_bit_47 (by decide) ?_
  refine nr_iand hx hb dX1_bit_48 ?_
  exact zk_iret C hr hlocks Z ⟨rfl, rfl⟩ (Nat.le_of_ble_eq_true rfl) (Nat.le_of_ble_eq_true rfl) dX1_bit_49

set_option maxHeartbeats 4000000 in
/-- bit, not begun -/
theorem u1_bit (l : Launch) (hfl : l.flags = flags0) (D : va_G) (g : G4) (hn co tr dep ms ch md kp wy : Nat) (i : Int32) : zk_MT l yX1_bit (ws_ yX1_bit cX1_bit 2 (some .int)) (zk_R 7 1 6) D g [.ref hn, .int i] [(hn, .inr (0, [.ref co, .ref tr, .int (nI 0), .int (nI dep), .ref ms, .ref ch, .ref md, .ref kp, .ref wy]))] zk_ISE (fun w => w = [(hn, .inr (0, [.ref co, .ref tr, .int (nI 0), .int (nI dep), .ref ms, .ref ch, .ref md, .ref kp, .ref wy]))]) := by
  refine zk_ofWT (by decide) (Nat.le_of_ble_eq_true rfl) ?_
  intro pg ev s mm below meth cd A C hlocks hno Z ls hl
  have hx := C.1.1
  have hb := C.1.2.1
  have hml := C.1.2.2.1
  have hown := C.1.2.2.2.1
  have hts := C.1.2.2.2.2
  have hl : lv_has ls 2 [(0, .ref hn), (1, .int i)] := hl
  refine lv_aload_n hx hb dX1_bit_0 rfl (lv_at hl 0 rfl) ?_
  refine zk_callVT (cells' := 1) (slots' := 6) (rest := []) (n := 0) (wr := []) C Z (t1_code l hfl D g hn co tr dep ms ch md kp wy) [0] [] rfl rfl (by decide) (by decide) (by decide) 0 0 rfl rfl rfl q338 q340 qs2 q19 q341 (by decide +kernel) rfl (Nat.le_of_ble_eq_true rfl) (Nat.le_of_ble_eq_true rfl) (Nat.le_of_ble_eq_true rfl) (Nat.le_of_ble_eq_true rfl) rfl rfl hl.1 rfl (Nat.le_of_ble_eq_true rfl) dX1_bit_1 (fun w1 hq => ?_)
  obtain rfl := hq
  exact zk_leave hlocks hno (rfl) (Nat.le_of_ble_eq_true rfl) (Nat.le_of_ble_eq_true rfl)

set_option maxHeartbeats 4000000 in
/-- bit, none such -/
theorem t1_bit (l : Launch) (hfl : l.flags = flags0) (D : va_G) (g : G4) (hn co tr dep ms ch md kp wy : Nat) (h0 hs pl t gn kd : Nat) (hp hq n : Nat) (i : Int32) (d1 : 1 ≤ dep * n) (h0_ : ¬ (nI 0 ≤ i ∧ i ≤ nI (dep * n - 1))) : zk_MT l yX1_bit (ws_ yX1_bit cX1_bit 2 (some .int)) (zk_R 7 1 6) D g [.ref hn, .int i] [(hn, .inr (0, [.ref co, .ref tr, .int (nI 1), .int (nI dep), .ref ms, .ref ch, .ref md, .ref kp, .ref wy])), (co, .inr (1, [.ref h0, .int (nI t), .int (nI gn), .int (nI kd), .ref hs, .ref pl])), (h0, .inr (2, [.int (nI n), .ref hp, .ref hq]))] zk_IOB (fun w => w = [(hn, .inr (0, [.ref co, .ref tr, .int (nI 1), .int (nI dep), .ref ms, .ref ch, .ref md, .ref kp, .ref wy])), (co, .inr (1, [.ref h0, .int (nI t), .int (nI gn), .int (nI kd), .ref hs, .ref pl])), (h0, .inr (2, [.int (nI n), .ref hp, .ref hq]))]) := by
  refine zk_ofWT (by decide) (Nat.le_of_ble_eq_true rfl) ?_
  intro pg ev s mm below meth cd A C hlocks hno Z ls hl
  have hx := C.1.1
  have hb := C.1.2.1
  have hml := C.1.2.2.1
  have hown := C.1.2.2.2.1
  have hts := C.1.2.2.2.2
  have hl : lv_has ls 2 [(0, .ref hn), (1, .int i)] := hl
  refine lv_aload_n hx hb dX1_bit_0 rfl (lv_at hl 0 rfl) ?_
  refine zk_callV (cells' := 0) (slots' := 0) (rest := []) (n := 0) (wr := [(co, .inr (1, [.ref h0, .int (nI t), .int (nI gn), .int (nI kd), .ref hs, .ref pl])), (h0, .inr (2, [.int (nI n), .ref hp, .ref hq]))]) C Z (m1_code l D g hn co tr dep ms ch md kp wy) [0] [1, 2] rfl rfl (by decide) (by decide) (by decide) 0 0 rfl rfl rfl q338 q340 qs2 q19 q341 (by decide +kernel) rfl (Nat.le_of_ble_eq_true rfl) (Nat.le_of_ble_eq_true rfl) (Nat.le_of_ble_eq_true rfl) (Nat.le_of_ble_eq_true rfl) rfl rfl hl.1 rfl (Nat.le_of_ble_eq_true rfl) dX1_bit_1 (fun v w1 H locs hq Z => ?_)
  obtain ⟨rfl, rfl⟩ := hq
  have Z : zk_Z D A s H locs [(hn, .inr (0, [.ref co, .ref tr, .int (nI 1), .int (nI dep), .ref ms, .ref ch, .ref md, .ref kp, .ref wy])), (co, .inr (1, [.ref h0, .int (nI t), .int (nI gn), .int (nI kd), .ref hs, .ref pl])), (h0, .inr (2, [.int (nI n), .ref hp, .ref hq]))] := Z.sub [2, 0, 1] (by decide) rfl
  refine W.eq (g2 := F0 mm 4 ls []) rfl ?_
  refine lv_iload_n hx hb dX1_bit_4 rfl (lv_at hl 1 rfl) ?_
  refine lv_iconst (v := nI 0) hx hb dX1_bit_5 (by decide) ?_
  refine lv_aload_n hx hb dX1_bit_6 rfl (lv_at hl 0 rfl) ?_
  refine zk_get C Z in_X1 0 rfl rfl 3 (by decide) q168 rfl (v := .int (nI dep)) rfl dX1_bit_7 ?_
  refine lv_aload_n hx hb dX1_bit_10 rfl (lv_at hl 0 rfl) ?_
  refine zk_get C Z in_X1 0 rfl rfl 0 (by decide) q165 rfl (v := .ref co) rfl dX1_bit_11 ?_
  refine zk_getN C Z in_X2 1 rfl rfl 0 (by decide) q92 rfl (v := .ref h0) rfl dX1_bit_14 ?_
  refine zk_getN C Z in_X3 2 rfl rfl 0 (by decide) q61 rfl (v := .int (nI n)) rfl dX1_bit_17 ?_
  refine nr_imul hx hb dX1_bit_20 ?_
  refine lv_iconst (v := nI 1) hx hb dX1_bit_21 (by decide) ?_
  refine nr_isub hx hb d1 dX1_bit_22 ?_
  refine zk_callS (cells' := 0) (slots' := 0) (rest := []) (n := 3) (wr := [(hn, .inr (0, [.ref co, .ref tr, .int (nI 1), .int (nI dep), .ref ms, .ref ch, .ref md, .ref kp, .ref wy])), (co, .inr (1, [.ref h0, .int (nI t), .int (nI gn), .int (nI kd), .ref hs, .ref pl])), (h0, .inr (2, [.int (nI n), .ref hp, .ref hq]))]) C Z (m1_in0 l D g i (nI 0) (nI ((dep * n) - 1)) h0_) [] [0, 1, 2] rfl rfl (by decide) (by decide) (by decide) q274 q275 q19 q276 (by decide +kernel) rfl (Nat.le_of_ble_eq_true rfl) (Nat.le_of_ble_eq_true rfl) (Nat.le_of_ble_eq_true rfl) (Nat.le_of_ble_eq_true rfl) rfl rfl hl.1 rfl (Nat.le_of_ble_eq_true rfl) dX1_bit_23 (fun v w1 H locs hq Z => ?_)
  obtain ⟨rfl, rfl⟩ := hq
  have Z : zk_Z D A s H locs [(hn, .inr (0, [.ref co, .ref tr, .int (nI 1), .int (nI dep), .ref ms, .ref ch, .ref md, .ref kp, .ref wy])), (co, .inr (1, [.ref h0, .int (nI t), .int (nI gn), .int (nI kd), .ref hs, .ref pl])), (h0, .inr (2, [.int (nI n), .ref hp, .ref hq]))] := Z.sub [0, 1, 2] (by decide) rfl
  refine W.eq (g2 := F0 mm 26 ls [.int (nI 0)]) rfl ?_
  refine zk_callST (cells' := 1) (slots' := 6) (rest := []) (n := 1) (wr := [(hn, .inr (0, [.ref co, .ref tr, .int (nI 1), .int (nI dep), .ref ms, .ref ch, .ref md, .ref kp, .ref wy])), (co, .inr (1, [.ref h0, .int (nI t), .int (nI gn), .int (nI kd), .ref hs, .ref pl])), (h0, .inr (2, [.int (nI n), .ref hp, .ref hq]))]) C Z (t1_place l hfl D g) [] [0, 1, 2] rfl rfl (by decide) (by decide) (by decide) q413 q414 q19 q415 (by decide +kernel) rfl (Nat.le_of_ble_eq_true rfl) (Nat.le_of_ble_eq_true rfl) (Nat.le_of_ble_eq_true rfl) (Nat.le_of_ble_eq_true rfl) rfl rfl hl.1 rfl (Nat.le_of_ble_eq_true rfl) dX1_bit_26 (fun w1 hq => ?_)
  obtain rfl := hq
  exact zk_leave hlocks hno (rfl) (Nat.le_of_ble_eq_true rfl) (Nat.le_of_ble_eq_true rfl)

set_option maxHeartbeats 4000000 in
/-- flip -/
theorem m1_flip (l : Launch) (D : va_G) (g : G4) (hn co tr dep ms ch md kp wy : Nat) (n : Nat) (c : List Nat) (hc : c.length = 4) (d4 : dep ≤ 4) (d1 : 1 ≤ dep) (n31 : n ≤ 31) (i : Nat) (hi : i < dep * n) : zk_M l yX1_flip (ws_ yX1_flip cX1_flip 2 none) (zk_R 0 0 0) D g [.ref hn, .int (nI i)] [(hn, .inr (0, [.ref co, .ref tr, .int (nI 1), .int (nI dep), .ref ms, .ref ch, .ref md, .ref kp, .ref wy])), (ch, .inl (g.1, 4, .inl (zk_ia c)))] (zk_D none [(hn, .inr (0, [.ref co, .ref tr, .int (nI 1), .int (nI dep), .ref ms, .ref ch, .ref md, .ref kp, .ref wy])), (ch, .inl (g.1, 4, .inl (zk_ia (flF dep i c))))]) := by
  refine zk_ofW (by decide) (Nat.le_of_ble_eq_true rfl) ?_
  intro pg ev s mm below meth cd A C hr hlocks hname Z ls hl
  have hx := C.1.1
  have hb := C.1.2.1
  have hml := C.1.2.2.1
  have hown := C.1.2.2.2.1
  have hts := C.1.2.2.2.2
  have hl : lv_has ls 2 [(0, .ref hn), (1, .int (nI i))] := hl
  have hdk := Nat.mul_le_mul d4 n31
  refine lv_aload_n hx hb dX1_flip_0 rfl (lv_at hl 0 rfl) ?_
  refine zk_get C Z in_X1 0 rfl rfl 5 (by decide) q170 rfl (v := .ref ch) rfl dX1_flip_1 ?_
  refine lv_iload_n hx hb dX1_flip_4 rfl (lv_at hl 1 rfl) ?_
  refine lv_aload_n hx hb dX1_flip_5 rfl (lv_at hl 0 rfl) ?_
  refine zk_get C Z in_X1 0 rfl rfl 3 (by decide) q168 rfl (v := .int (nI dep)) rfl dX1_flip_6 ?_
  refine nr_irem hx hb (by omega) (by omega) (by omega) dX1_flip_9 ?_
  refine lv_dup2_11 hx hb dX1_flip_10 rfl rfl ?_
  refine zk_iald C Z 1 rfl (by decide) (by have := Nat.mod_lt i d1; omega) dX1_flip_11 ?_
  refine lv_iconst (v := nI 1) hx hb dX1_flip_12 (by decide) ?_
  refine lv_iload_n hx hb dX1_flip_13 rfl (lv_at hl 1 rfl) ?_
  refine lv_aload_n hx hb dX1_flip_14 rfl (lv_at hl 0 rfl) ?_
  refine zk_get C Z in_X1 0 rfl rfl 3 (by decide) q168 rfl (v := .int (nI dep)) rfl dX1_flip_15 ?_
  refine nr_idiv hx hb (by omega) (by omega) (by omega) dX1_flip_18 ?_
  refine nr_ishl hx hb (by have h9 := Nat.div_lt_of_lt_mul (show i < dep * n from hi); omega) dX1_flip_19 ?_
  refine nr_ixor hx hb dX1_flip_20 ?_
  refine zk_iast C Z 1 rfl (by decide) (by have := Nat.mod_lt i d1; omega) hc dX1_flip_21 (fun H locs Z => ?_)
  have hlen_1 : (c.set (i % dep) ((c.getD (i % dep) 0) ^^^ (1 <<< (i / dep)))).length = 4 := by rw [List.length_set]; exact hc
  have Z : zk_Z D A s H locs [(hn, .inr (0, [.ref co, .ref tr, .int (nI 1), .int (nI dep), .ref ms, .ref ch, .ref md, .ref kp, .ref wy])), (ch, .inl (g.1, 4, .inl (zk_ia (c.set (i % dep) ((c.getD (i % dep) 0) ^^^ (1 <<< (i / dep)))))))] := Z
  exact zk_vret C hr hlocks Z ⟨rfl, rfl⟩ (Nat.le_of_ble_eq_true rfl) (Nat.le_of_ble_eq_true rfl) dX1_flip_22

set_option maxHeartbeats 4000000 in
theorem lp1_burst {pg : Program} {l : Launch} {ev : Env} {s : State} {mm : MethodId} {args : Array Value} {below : List Frame} {meth : Method} {cd : Code} {Q : State → Prop} {D : va_G} {g : G4} {A : Nat → Prop} (C : zk_C pg s mm cd args cX1_burst 5 RX1 D g A) (hn co tr dep ms ch md kp wy : Nat) (h0 hs pl t gn kd : Nat) (hp hq n : Nat) (d4 : dep ≤ 4) (d1 : 1 ≤ dep) (n31 : n ≤ 31) (n1 : 1 ≤ n) (i m : Nat) (him : i + m ≤ dep * n) (fin : List Nat) (kk : ∀ (H : Heap) (locs : List Loc) (ls : Array Slot), zk_Z D A s H locs [(hn, .inr (0, [.ref co, .ref tr, .int (nI 1), .int (nI dep), .ref ms, .ref ch, .ref md, .ref kp, .ref wy])), (co, .inr (1, [.ref h0, .int (nI t), .int (nI gn), .int (nI kd), .ref hs, .ref pl])), (h0, .inr (2, [.int (nI n), .ref hp, .ref hq])), (ch, .inl (g.1, 4, .inl (zk_ia fin)))] → lv_has ls 5 [(0, .ref hn)] → W pg l ev (zk_R 7 1 6) s mm args below meth cd H locs 0 0 Q (F0 mm 79 ls [])) :
    ∀ (k : Nat) (j : Nat) (c : List Nat) (H : Heap) (locs : List Loc) (ls : Array Slot), (j + k = i + m) → (c.length = 4) → (zk_it (flF dep) k j c = fin) → zk_Z D A s H locs [(hn, .inr (0, [.ref co, .ref tr, .int (nI 1), .int (nI dep), .ref ms, .ref ch, .ref md, .ref kp, .ref wy])), (co, .inr (1, [.ref h0, .int (nI t), .int (nI gn), .int (nI kd), .ref hs, .ref pl])), (h0, .inr (2, [.int (nI n), .ref hp, .ref hq])), (ch, .inl (g.1, 4, .inl (zk_ia c)))] → lv_has ls 5 [(0, .ref hn), (1, .int (nI i)), (2, .int (nI m)), (3, .int (nI (dep * n))), (4, .int (nI j))] → W pg l ev (zk_R 7 1 6) s mm args below meth cd H locs 0 0 Q (F0 mm 59 ls []) := by
  have hx := C.1.1
  have hb := C.1.2.1
  have hml := C.1.2.2.1
  have hown := C.1.2.2.2.1
  have hts := C.1.2.2.2.2
  have hdk := Nat.mul_le_mul d4 n31
  intro k
  induction k with
  | zero =>
    intro j c H locs ls hik hc hfin Z hl
    have hfin : c = fin := hfin
    subst hfin
    refine lv_iload hx hb dX1_burst_59 (lv_at hl 4 rfl) ?_
    refine lv_iload_n hx hb dX1_burst_61 rfl (lv_at hl 1 rfl) ?_
    refine lv_iload_n hx hb dX1_burst_62 rfl (lv_at hl 2 rfl) ?_
    refine nr_iadd hx hb dX1_burst_63 ?_
    refine nr_ge (tgt := 79) hx hb (by omega) (by omega) dX1_burst_64 (by decide) (fun c_1 => ?_) (fun c_1 => absurd c_1 (by omega))
    exact kk  H locs ls  Z (lv_sub hl [0] rfl)
  | succ k ih =>
    intro j c H locs ls hik hc hfin Z hl
    refine lv_iload hx hb dX1_burst_59 (lv_at hl 4 rfl) ?_
    refine lv_iload_n hx hb dX1_burst_61 rfl (lv_at hl 1 rfl) ?_
    refine lv_iload_n hx hb dX1_burst_62 rfl (lv_at hl 2 rfl) ?_
    refine nr_iadd hx hb dX1_burst_63 ?_
    refine nr_ge (tgt := 79) hx hb (by omega) (by omega) dX1_burst_64 (by decide) (fun c_1 => absurd c_1 (by omega)) (fun c_1 => ?_)
    refine lv_aload_n hx hb dX1_burst_67 rfl (lv_at hl 0 rfl) ?_
    refine lv_iload hx hb dX1_burst_68 (lv_at hl 4 rfl) ?_
    have hlen_2 : (flF dep j c).length = 4 := by rw [flF_len]; exact hc
    refine zk_callV (cells' := 0) (slots' := 0) (rest := []) (n := 1) (wr := [(co, .inr (1, [.ref h0, .int (nI t), .int (nI gn), .int (nI kd), .ref hs, .ref pl])), (h0, .inr (2, [.int (nI n), .ref hp, .ref hq]))]) C Z (m1_flip l D g hn co tr dep ms ch md kp wy n c hc d4 d1 n31 j (by omega)) [0, 3] [1, 2] rfl rfl (by decide) (by decide) (by decide) 0 0 rfl rfl rfl q467 q469 qs3 q19 q470 (by decide +kernel) rfl (Nat.le_of_ble_eq_true rfl) (Nat.le_of_ble_eq_true rfl) (Nat.le_of_ble_eq_true rfl) (Nat.le_of_ble_eq_true rfl) rfl rfl hl.1 rfl (Nat.le_of_ble_eq_true rfl) dX1_burst_70 (fun v w1 H locs hq Z => ?_)
    obtain ⟨rfl, rfl⟩ := hq
    have Z : zk_Z D A s H locs [(hn, .inr (0, [.ref co, .ref tr, .int (nI 1), .int (nI dep), .ref ms, .ref ch, .ref md, .ref kp, .ref wy])), (co, .inr (1, [.ref h0, .int (nI t), .int (nI gn), .int (nI kd), .ref hs, .ref pl])), (h0, .inr (2, [.int (nI n), .ref hp, .ref hq])), (ch, .inl (g.1, 4, .inl (zk_ia (flF dep j c))))] := Z.sub [2, 0, 1, 3] (by decide) rfl
    refine W.eq (g2 := F0 mm 73 ls []) rfl ?_
    refine nr_iinc (n := 1) (lv' := [(4, .int (nI (j + 1))), (0, .ref hn), (1, .int (nI i)), (2, .int (nI m)), (3, .int (nI (dep * n)))]) hx hb (by decide) dX1_burst_73 hl (k := 4) rfl (by decide) rfl (fun ls hl => ?_)
    refine lv_goto (tgt := 59) hx hb dX1_burst_76 (by decide) ?_
    exact ih (j + 1) (flF dep j c) H locs ls (by omega) hlen_2 hfin Z (lv_sub hl [1, 2, 3, 4, 0] rfl)

set_option maxHeartbeats 4000000 in
/-- burst -/
theorem m1_burst (l : Launch) (D : va_G) (g : G4) (hn co tr dep ms ch md kp wy : Nat) (h0 hs pl t gn kd : Nat) (hp hq n : Nat) (c : List Nat) (hc : c.length = 4) (d4 : dep ≤ 4) (d1 : 1 ≤ dep) (n31 : n ≤ 31) (n1 : 1 ≤ n) (i m : Nat) (hi : i < dep * n) (hm : m ≤ dep * n - i) (m1 : 1 ≤ m) (m124 : m ≤ 124) : zk_M l yX1_burst (ws_ yX1_burst cX1_burst 5 none) (zk_R 7 1 6) D g [.ref hn, .int (nI i), .int (nI m)] [(hn, .inr (0, [.ref co, .ref tr, .int (nI 1), .int (nI dep), .ref ms, .ref ch, .ref md, .ref kp, .ref wy])), (co, .inr (1, [.ref h0, .int (nI t), .int (nI gn), .int (nI kd), .ref hs, .ref pl])), (h0, .inr (2, [.int (nI n), .ref hp, .ref hq])), (ch, .inl (g.1, 4, .inl (zk_ia c)))] (zk_D none [(hn, .inr (0, [.ref co, .ref tr, .int (nI 1), .int (nI dep), .ref ms, .ref ch, .ref md, .ref kp, .ref wy])), (co, .inr (1, [.ref h0, .int (nI t), .int (nI gn), .int (nI kd), .ref hs, .ref pl])), (h0, .inr (2, [.int (nI n), .ref hp, .ref hq])), (ch, .inl (g.1, 4, .inl (zk_ia (zk_it (flF dep) m i c))))]) := by
  refine zk_ofW (by decide) (Nat.le_of_ble_eq_true rfl) ?_
  intro pg ev s mm below meth cd A C hr hlocks hname Z ls hl
  have hx := C.1.1
  have hb := C.1.2.1
  have hml := C.1.2.2.1
  have hown := C.1.2.2.2.1
  have hts := C.1.2.2.2.2
  have hl : lv_has ls 5 [(0, .ref hn), (1, .int (nI i)), (2, .int (nI m))] := hl
  have hdk := Nat.mul_le_mul d4 n31
  obtain ⟨H, hH⟩ : ∃ H, H = s.heap := ⟨_, rfl⟩
  obtain ⟨locs, hlocs⟩ : ∃ q : List Loc, q = [] := ⟨_, rfl⟩
  rw [← hH, ← hlocs] at Z ⊢
  refine lv_aload_n hx hb dX1_burst_0 rfl (lv_at hl 0 rfl) ?_
  refine zk_callV (cells' := 0) (slots' := 0) (rest := []) (n := 0) (wr := [(co, .inr (1, [.ref h0, .int (nI t), .int (nI gn), .int (nI kd), .ref hs, .ref pl])), (h0, .inr (2, [.int (nI n), .ref hp, .ref hq])), (ch, .inl (g.1, 4, .inl (zk_ia c)))]) C Z (m1_code l D g hn co tr dep ms ch md kp wy) [0] [1, 2, 3] rfl rfl (by decide) (by decide) (by decide) 0 0 rfl rfl rfl q338 q340 qs2 q19 q341 (by decide +kernel) rfl (Nat.le_of_ble_eq_true rfl) (Nat.le_of_ble_eq_true rfl) (Nat.le_of_ble_eq_true rfl) (Nat.le_of_ble_eq_true rfl) rfl rfl hl.1 rfl (Nat.le_of_ble_eq_true rfl) dX1_burst_1 (fun v w1 H locs hq Z => ?_)
  obtain ⟨rfl, rfl⟩ := hq
  have Z : zk_Z D A s H locs [(hn, .inr (0, [.ref co, .ref tr, .int (nI 1), .int (nI dep), .ref ms, .ref ch, .ref md, .ref kp, .ref wy])), (co, .inr (1, [.ref h0, .int (nI t), .int (nI gn), .int (nI kd), .ref hs, .ref pl])), (h0, .inr (2, [.int (nI n), .ref hp, .ref hq])), (ch, .inl (g.1, 4, .inl (zk_ia c)))] := Z.sub [3, 0, 1, 2] (by decide) rfl
  refine W.eq (g2 := F0 mm 4 ls []) rfl ?_
  refine lv_aload_n hx hb dX1_burst_4 rfl (lv_at hl 0 rfl) ?_
  refine zk_get C Z in_X1 0 rfl rfl 3 (by decide) q168 rfl (v := .int (nI dep)) rfl dX1_burst_5 ?_
  refine lv_aload_n hx hb dX1_burst_8 rfl (lv_at hl 0 rfl) ?_
  refine zk_get C Z in_X1 0 rfl rfl 0 (by decide) q165 rfl (v := .ref co) rfl dX1_burst_9 ?_
  refine zk_getN C Z in_X2 1 rfl rfl 0 (by decide) q92 rfl (v := .ref h0) rfl dX1_burst_12 ?_
  refine zk_getN C Z in_X3 2 rfl rfl 0 (by decide) q61 rfl (v := .int (nI n)) rfl dX1_burst_15 ?_
  refine nr_imul hx hb dX1_burst_18 ?_
  refine lv_istore_n (lv' := [(3, .int (nI (dep * n))), (0, .ref hn), (1, .int (nI i)), (2, .int (nI m))]) hx hb dX1_burst_19 rfl hl (by decide) rfl (fun ls hl => ?_)
  refine lv_iload_n hx hb dX1_burst_20 rfl (lv_at hl 2 rfl) ?_
  refine lv_iconst (v := nI 0) hx hb dX1_burst_21 (by decide) ?_
  refine lv_iload_n hx hb dX1_burst_22 rfl (lv_at hl 0 rfl) ?_
  refine lv_iconst (v := nI 1) hx hb dX1_burst_23 (by decide) ?_
  refine nr_isub hx hb (by omega) dX1_burst_24 ?_
  refine zk_callS (cells' := 0) (slots' := 0) (rest := []) (n := 3) (wr := [(hn, .inr (0, [.ref co, .ref tr, .int (nI 1), .int (nI dep), .ref ms, .ref ch, .ref md, .ref kp, .ref wy])), (co, .inr (1, [.ref h0, .int (nI t), .int (nI gn), .int (nI kd), .ref hs, .ref pl])), (h0, .inr (2, [.int (nI n), .ref hp, .ref hq])), (ch, .inl (g.1, 4, .inl (zk_ia c)))]) C Z (m1_in1 l D g (nI i) (nI 0) (nI ((dep * n) - 1)) (zk_le (Nat.zero_le i) (by omega)) (zk_le (by omega) (by omega))) [] [0, 1, 2, 3] rfl rfl (by decide) (by decide) (by decide) q274 q275 q19 q276 (by decide +kernel) rfl (Nat.le_of_ble_eq_true rfl) (Nat.le_of_ble_eq_true rfl) (Nat.le_of_ble_eq_true rfl) (Nat.le_of_ble_eq_true rfl) rfl rfl hl.1 rfl (Nat.le_of_ble_eq_true rfl) dX1_burst_25 (fun v w1 H locs hq Z => ?_)
  obtain ⟨rfl, rfl⟩ := hq
  have Z : zk_Z D A s H locs [(hn, .inr (0, [.ref co, .ref tr, .int (nI 1), .int (nI dep), .ref ms, .ref ch, .ref md, .ref kp, .ref wy])), (co, .inr (1, [.ref h0, .int (nI t), .int (nI gn), .int (nI kd), .ref hs, .ref pl])), (h0, .inr (2, [.int (nI n), .ref hp, .ref hq])), (ch, .inl (g.1, 4, .inl (zk_ia c)))] := Z.sub [0, 1, 2, 3] (by decide) rfl
  refine W.eq (g2 := F0 mm 28 ls [.int (nI 1)]) rfl ?_
  refine nr_eq0 (tgt := 42) hx hb (by omega) dX1_burst_28 (by decide) (fun c_1 => absurd c_1 (by decide)) (fun c_1 => ?_)
  refine lv_iload_n hx hb dX1_burst_31 rfl (lv_at hl 3 rfl) ?_
  refine lv_iload_n hx hb dX1_burst_32 rfl (lv_at hl 0 rfl) ?_
  refine lv_iload_n hx hb dX1_burst_33 rfl (lv_at hl 2 rfl) ?_
  refine nr_isub hx hb (by omega) dX1_burst_34 ?_
  refine nr_gt (tgt := 42) hx hb (by omega) (by omega) dX1_burst_35 (by decide) (fun c_2 => absurd c_2 (by omega)) (fun c_2 => ?_)
  refine lv_iconst (v := nI 1) hx hb dX1_burst_38 (by decide) ?_
  refine lv_goto (tgt := 43) hx hb dX1_burst_39 (by decide) ?_
  refine zk_callS (cells' := 0) (slots' := 0) (rest := []) (n := 1) (wr := [(hn, .inr (0, [.ref co, .ref tr, .int (nI 1), .int (nI dep), .ref ms, .ref ch, .ref md, .ref kp, .ref wy])), (co, .inr (1, [.ref h0, .int (nI t), .int (nI gn), .int (nI kd), .ref hs, .ref pl])), (h0, .inr (2, [.int (nI n), .ref hp, .ref hq])), (ch, .inl (g.1, 4, .inl (zk_ia c)))]) C Z (m1_place l D g) [] [0, 1, 2, 3] rfl rfl (by decide) (by decide) (by decide) q413 q414 q19 q415 (by decide +kernel) rfl (Nat.le_of_ble_eq_true rfl) (Nat.le_of_ble_eq_true rfl) (Nat.le_of_ble_eq_true rfl) (Nat.le_of_ble_eq_true rfl) rfl rfl hl.1 rfl (Nat.le_of_ble_eq_true rfl) dX1_burst_43 (fun v w1 H locs hq Z => ?_)
  obtain ⟨rfl, rfl⟩ := hq
  have Z : zk_Z D A s H locs [(hn, .inr (0, [.ref co, .ref tr, .int (nI 1), .int (nI dep), .ref ms, .ref ch, .ref md, .ref kp, .ref wy])), (co, .inr (1, [.ref h0, .int (nI t), .int (nI gn), .int (nI kd), .ref hs, .ref pl])), (h0, .inr (2, [.int (nI n), .ref hp, .ref hq])), (ch, .inl (g.1, 4, .inl (zk_ia c)))] := Z.sub [0, 1, 2, 3] (by decide) rfl
  refine W.eq (g2 := F0 mm 46 ls []) rfl ?_
  refine lv_iload_n hx hb dX1_burst_46 rfl (lv_at hl 3 rfl) ?_
  refine lv_iconst (v := nI 1) hx hb dX1_burst_47 (by decide) ?_
  refine lv_bipush (v := nI 124) hx hb dX1_burst_48 (by decide) ?_
  refine zk_callS (cells' := 0) (slots' := 0) (rest := []) (n := 3) (wr := [(hn, .inr (0, [.ref co, .ref tr, .int (nI 1), .int (nI dep), .ref ms, .ref ch, .ref md, .ref kp, .ref wy])), (co, .inr (1, [.ref h0, .int (nI t), .int (nI gn), .int (nI kd), .ref hs, .ref pl])), (h0, .inr (2, [.int (nI n), .ref hp, .ref hq])), (ch, .inl (g.1, 4, .inl (zk_ia c)))]) C Z (m1_in1 l D g (nI m) (nI 1) (nI 124) (zk_le m1 (by omega)) (zk_le m124 (by decide))) [] [0, 1, 2, 3] rfl rfl (by decide) (by decide) (by decide) q274 q275 q19 q276 (by decide +kernel) rfl (Nat.le_of_ble_eq_true rfl) (Nat.le_of_ble_eq_true rfl) (Nat.le_of_ble_eq_true rfl) (Nat.le_of_ble_eq_true rfl) rfl rfl hl.1 rfl (Nat.le_of_ble_eq_true rfl) dX1_burst_50 (fun v w1 H locs hq Z => ?_)
  obtain ⟨rfl, rfl⟩ := hq
  have Z : zk_Z D A s H locs [(hn, .inr (0, [.ref co, .ref tr, .int (nI 1), .int (nI dep), .ref ms, .ref ch, .ref md, .ref kp, .ref wy])), (co, .inr (1, [.ref h0, .int (nI t), .int (nI gn), .int (nI kd), .ref hs, .ref pl])), (h0, .inr (2, [.int (nI n), .ref hp, .ref hq])), (ch, .inl (g.1, 4, .inl (zk_ia c)))] := Z.sub [0, 1, 2, 3] (by decide) rfl
  refine W.eq (g2 := F0 mm 53 ls [.int (nI 1)]) rfl ?_
  refine zk_callS (cells' := 0) (slots' := 0) (rest := []) (n := 1) (wr := [(hn, .inr (0, [.ref co, .ref tr, .int (nI 1), .int (nI dep), .ref ms, .ref ch, .ref md, .ref kp, .ref wy])), (co, .inr (1, [.ref h0, .int (nI t), .int (nI gn), .int (nI kd), .ref hs, .ref pl])), (h0, .inr (2, [.int (nI n), .ref hp, .ref hq])), (ch, .inl (g.1, 4, .inl (zk_ia c)))]) C Z (m1_need l D g) [] [0, 1, 2, 3] rfl rfl (by decide) (by decide) (by decide) q277 q278 q19 q279 (by decide +kernel) rfl (Nat.le_of_ble_eq_true rfl) (Nat.le_of_ble_eq_true rfl) (Nat.le_of_ble_eq_true rfl) (Nat.le_of_ble_eq_true rfl) rfl rfl hl.1 rfl (Nat.le_of_ble_eq_true rfl) dX1_burst_53 (fun v w1 H locs hq Z => ?_)
  obtain ⟨rfl, rfl⟩ := hq
  have Z : zk_Z D A s H locs [(hn, .inr (0, [.ref co, .ref tr, .int (nI 1), .int (nI dep), .ref ms, .ref ch, .ref md, .ref kp, .ref wy])), (co, .inr (1, [.ref h0, .int (nI t), .int (nI gn), .int (nI kd), .ref hs, .ref pl])), (h0, .inr (2, [.int (nI n), .ref hp, .ref hq])), (ch, .inl (g.1, 4, .inl (zk_ia c)))] := Z.sub [0, 1, 2, 3] (by decide) rfl
  refine W.eq (g2 := F0 mm 56 ls []) rfl ?_
  refine lv_iload_n hx hb dX1_burst_56 rfl (lv_at hl 2 rfl) ?_
  refine lv_istore (lv' := [(4, .int (nI i)), (3, .int (nI (dep * n))), (0, .ref hn), (1, .int (nI i)), (2, .int (nI m))]) hx hb dX1_burst_57 hl (by decide) rfl (fun ls hl => ?_)
  refine lp1_burst C hn co tr dep ms ch md kp wy h0 hs pl t gn kd hp hq n d4 d1 n31 n1 i m (by omega) _ (fun H locs ls Z hl => ?_) m i c H locs ls rfl hc rfl Z (lv_sub hl [2, 3, 4, 1, 0] rfl)
  exact zk_vret C hr hlocks Z ⟨rfl, rfl⟩ (Nat.le_of_ble_eq_true rfl) (Nat.le_of_ble_eq_true rfl) dX1_burst_79

set_option maxHeartbeats 4000000 in
/-- burst, not begun -/
theorem u1_burst (l : Launch) (hfl : l.flags = flags0) (D : va_G) (g : G4) (hn co tr dep ms ch md kp wy : Nat) (i m : Int32) : zk_MT l yX1_burst (ws_ yX1_burst cX1_burst 5 none) (zk_R 7 1 6) D g [.ref hn, .int i, .int m] [(hn, .inr (0, [.ref co, .ref tr, .int (nI 0), .int (nI dep), .ref ms, .ref ch, .ref md, .ref kp, .ref wy]))] zk_ISE (fun w => w = [(hn, .inr (0, [.ref co, .ref tr, .int (nI 0), .int (nI dep), .ref ms, .ref ch, .ref md, .ref kp, .ref wy]))]) := by
  refine zk_ofWT (by decide) (Nat.le_of_ble_eq_true rfl) ?_
  intro pg ev s mm below meth cd A C hlocks hno Z ls hl
  have hx := C.1.1
  have hb := C.1.2.1
  have hml := C.1.2.2.1
  have hown := C.1.2.2.2.1
  have hts := C.1.2.2.2.2
  have hl : lv_has ls 5 [(0, .ref hn), (1, .int i), (2, .int m)] := hl
  refine lv_aload_n hx hb dX1_burst_0 rfl (lv_at hl 0 rfl) ?_
  refine zk_callVT (cells' := 1) (slots' := 6) (rest := []) (n := 0) (wr := []) C Z (t1_code l hfl D g hn co tr dep ms ch md kp wy) [0] [] rfl rfl (by decide) (by decide) (by decide) 0 0 rfl rfl rfl q338 q340 qs2 q19 q341 (by decide +kernel) rfl (Nat.le_of_ble_eq_true rfl) (Nat.le_of_ble_eq_true rfl) (Nat.le_of_ble_eq_true rfl) (Nat.le_of_ble_eq_true rfl) rfl rfl hl.1 rfl (Nat.le_of_ble_eq_true rfl) dX1_burst_1 (fun w1 hq => ?_)
  obtain rfl := hq
  exact zk_leave hlocks hno (rfl) (Nat.le_of_ble_eq_true rfl) (Nat.le_of_ble_eq_true rfl)

set_option maxHeartbeats 4000000 in
/-- burst, none such -/
theorem t1_burst_i (l : Launch) (hfl : l.flags = flags0) (D : va_G) (g : G4) (hn co tr dep ms ch md kp wy : Nat) (h0 hs pl t gn kd : Nat) (hp hq n : Nat) (i m : Int32) (d1 : 1 ≤ dep * n) (h0_ : ¬ (nI 0 ≤ i ∧ i ≤ nI (dep * n - 1))) : zk_MT l yX1_burst (ws_ yX1_burst cX1_burst 5 none) (zk_R 7 1 6) D g [.ref hn, .int i, .int m] [(hn, .inr (0, [.ref co, .ref tr, .int (nI 1), .int (nI dep), .ref ms, .ref ch, .ref md, .ref kp, .ref wy])), (co, .inr (1, [.ref h0, .int (nI t), .int (nI gn), .int (nI kd), .ref hs, .ref pl])), (h0, .inr (2, [.int (nI n), .ref hp, .ref hq]))] zk_IOB (fun w => w = [(hn, .inr (0, [.ref co, .ref tr, .int (nI 1), .int (nI dep), .ref ms, .ref ch, .ref md, .ref kp, .ref wy])), (co, .inr (1, [.ref h0, .int (nI t), .int (nI gn), .int (nI kd), .ref hs, .ref pl])), (h0, .inr (2, [.int (nI n), .ref hp, .ref hq]))]) := by
  refine zk_ofWT (by decide) (Nat.le_of_ble_eq_true rfl) ?_
  intro pg ev s mm below meth cd A C hlocks hno Z ls hl
  have hx := C.1.1
  have hb := C.1.2.1
  have hml := C.1.2.2.1
  have hown := C.1.2.2.2.1
  have hts := C.1.2.2.2.2
  have hl : lv_has ls 5 [(0, .ref hn), (1, .int i), (2, .int m)] := hl
  refine lv_aload_n hx hb dX1_burst_0 rfl (lv_at hl 0 rfl) ?_
  refine zk_callV (cells' := 0) (slots' := 0) (rest := []) (n := 0) (wr := [(co, .inr (1, [.ref h0, .int (nI t), .int (nI gn), .int (nI kd), .ref hs, .ref pl])), (h0, .inr (2, [.int (nI n), .ref hp, .ref hq]))]) C Z (m1_code l D g hn co tr dep ms ch md kp wy) [0] [1, 2] rfl rfl (by decide) (by decide) (by decide) 0 0 rfl rfl rfl q338 q340 qs2 q19 q341 (by decide +kernel) rfl (Nat.le_of_ble_eq_true rfl) (Nat.le_of_ble_eq_true rfl) (Nat.le_of_ble_eq_true rfl) (Nat.le_of_ble_eq_true rfl) rfl rfl hl.1 rfl (Nat.le_of_ble_eq_true rfl) dX1_burst_1 (fun v w1 H locs hq Z => ?_)
  obtain ⟨rfl, rfl⟩ := hq
  have Z : zk_Z D A s H locs [(hn, .inr (0, [.ref co, .ref tr, .int (nI 1), .int (nI dep), .ref ms, .ref ch, .ref md, .ref kp, .ref wy])), (co, .inr (1, [.ref h0, .int (nI t), .int (nI gn), .int (nI kd), .ref hs, .ref pl])), (h0, .inr (2, [.int (nI n), .ref hp, .ref hq]))] := Z.sub [2, 0, 1] (by decide) rfl
  refine W.eq (g2 := F0 mm 4 ls []) rfl ?_
  refine lv_aload_n hx hb dX1_burst_4 rfl (lv_at hl 0 rfl) ?_
  refine zk_get C Z in_X1 0 rfl rfl 3 (by decide) q168 rfl (v := .int (nI dep)) rfl dX1_burst_5 ?_
  refine lv_aload_n hx hb dX1_burst_8 rfl (lv_at hl 0 rfl) ?_
  refine zk_get C Z in_X1 0 rfl rfl 0 (by decide) q165 rfl (v := .ref co) rfl dX1_burst_9 ?_
  refine zk_getN C Z in_X2 1 rfl rfl 0 (by decide) q92 rfl (v := .ref h0) rfl dX1_burst_12 ?_
  refine zk_getN C Z in_X3 2 rfl rfl 0 (by decide) q61 rfl (v := .int (nI n)) rfl dX1_burst_15 ?_
  refine nr_imul hx hb dX1_burst_18 ?_
  refine lv_istore_n (lv' := [(3, .int (nI (dep * n))), (0, .ref hn), (1, .int i), (2, .int m)]) hx hb dX1_burst_19 rfl hl (by decide) rfl (fun ls hl => ?_)
  refine lv_iload_n hx hb dX1_burst_20 rfl (lv_at hl 2 rfl) ?_
  refine lv_iconst (v := nI 0) hx hb dX1_burst_21 (by decide) ?_
  refine lv_iload_n hx hb dX1_burst_22 rfl (lv_at hl 0 rfl) ?_
  refine lv_iconst (v := nI 1) hx hb dX1_burst_23 (by decide) ?_
  refine nr_isub hx hb d1 dX1_burst_24 ?_
  refine zk_callS (cells' := 0) (slots' := 0) (rest := []) (n := 3) (wr := [(hn, .inr (0, [.ref co, .ref tr, .int (nI 1), .int (nI dep), .ref ms, .ref ch, .ref md, .ref kp, .ref wy])), (co, .inr (1, [.ref h0, .int (nI t), .int (nI gn), .int (nI kd), .ref hs, .ref pl])), (h0, .inr (2, [.int (nI n), .ref hp, .ref hq]))]) C Z (m1_in0 l D g i (nI 0) (nI ((dep * n) - 1)) h0_) [] [0, 1, 2] rfl rfl (by decide) (by decide) (by decide) q274 q275 q19 q276 (by decide +kernel) rfl (Nat.le_of_ble_eq_true rfl) (Nat.le_of_ble_eq_true rfl) (Nat.le_of_ble_eq_true rfl) (Nat.le_of_ble_eq_true rfl) rfl rfl hl.1 rfl (Nat.le_of_ble_eq_true rfl) dX1_burst_25 (fun v w1 H locs hq Z => ?_)
  obtain ⟨rfl, rfl⟩ := hq
  have Z : zk_Z D A s H locs [(hn, .inr (0, [.ref co, .ref tr, .int (nI 1), .int (nI dep), .ref ms, .ref ch, .ref md, .ref kp, .ref wy])), (co, .inr (1, [.ref h0, .int (nI t), .int (nI gn), .int (nI kd), .ref hs, .ref pl])), (h0, .inr (2, [.int (nI n), .ref hp, .ref hq]))] := Z.sub [0, 1, 2] (by decide) rfl
  refine W.eq (g2 := F0 mm 28 ls [.int (nI 0)]) rfl ?_
  refine nr_eq0 (tgt := 42) hx hb (by omega) dX1_burst_28 (by decide) (fun c_1 => ?_) (fun c_1 => absurd c_1 (fun q => q rfl))
  refine lv_iconst (v := nI 0) hx hb dX1_burst_42 (by decide) ?_
  refine zk_callST (cells' := 1) (slots' := 6) (rest := []) (n := 1) (wr := [(hn, .inr (0, [.ref co, .ref tr, .int (nI 1), .int (nI dep), .ref ms, .ref ch, .ref md, .ref kp, .ref wy])), (co, .inr (1, [.ref h0, .int (nI t), .int (nI gn), .int (nI kd), .ref hs, .ref pl])), (h0, .inr (2, [.int (nI n), .ref hp, .ref hq]))]) C Z (t1_place l hfl D g) [] [0, 1, 2] rfl rfl (by decide) (by decide) (by decide) q413 q414 q19 q415 (by decide +kernel) rfl (Nat.le_of_ble_eq_true rfl) (Nat.le_of_ble_eq_true rfl) (Nat.le_of_ble_eq_true rfl) (Nat.le_of_ble_eq_true rfl) rfl rfl hl.1 rfl (Nat.le_of_ble_eq_true rfl) dX1_burst_43 (fun w1 hq => ?_)
  obtain rfl := hq
  exact zk_leave hlocks hno (rfl) (Nat.le_of_ble_eq_true rfl) (Nat.le_of_ble_eq_true rfl)

set_option maxHeartbeats 4000000 in
/-- burst, too many -/
theorem t1_burst_m (l : Launch) (hfl : l.flags = flags0) (D : va_G) (g : G4) (hn co tr dep ms ch md kp wy : Nat) (h0 hs pl t gn kd : Nat) (hp hq n : Nat) (i m : Int32) (d1 : 1 ≤ dep * n) (hi_ : nI 0 ≤ i ∧ i ≤ nI (dep * n - 1)) (hm_ : nI (dep * n) - i < m) : zk_MT l yX1_burst (ws_ yX1_burst cX1_burst 5 none) (zk_R 7 1 6) D g [.ref hn, .int i, .int m] [(hn, .inr (0, [.ref co, .ref tr, .int (nI 1), .int (nI dep), .ref ms, .ref ch, .ref md, .ref kp, .ref wy])), (co, .inr (1, [.ref h0, .int (nI t), .int (nI gn), .int (nI kd), .ref hs, .ref pl])), (h0, .inr (2, [.int (nI n), .ref hp, .ref hq]))] zk_IOB (fun w => w = [(hn, .inr (0, [.ref co, .ref tr, .int (nI 1), .int (nI dep), .ref ms, .ref ch, .ref md, .ref kp, .ref wy])), (co, .inr (1, [.ref h0, .int (nI t), .int (nI gn), .int (nI kd), .ref hs, .ref pl])), (h0, .inr (2, [.int (nI n), .ref hp, .ref hq]))]) := by
  refine zk_ofWT (by decide) (Nat.le_of_ble_eq_true rfl) ?_
  intro pg ev s mm below meth cd A C hlocks hno Z ls hl
  have hx := C.1.1
  have hb := C.1.2.1
  have hml := C.1.2.2.1
  have hown := C.1.2.2.2.1
  have hts := C.1.2.2.2.2
  have hl : lv_has ls 5 [(0, .ref hn), (1, .int i), (2, .int m)] := hl
  refine lv_aload_n hx hb dX1_burst_0 rfl (lv_at hl 0 rfl) ?_
  refine zk_callV (cells' := 0) (slots' := 0) (rest := []) (n := 0) (wr := [(co, .inr (1, [.ref h0, .int (nI t), .int (nI gn), .int (nI kd), .ref hs, .ref pl])), (h0, .inr (2, [.int (nI n), .ref hp, .ref hq]))]) C Z (m1_code l D g hn co tr dep ms ch md kp wy) [0] [1, 2] rfl rfl (by decide) (by decide) (by decide) 0 0 rfl rfl rfl q338 q340 qs2 q19 q341 (by decide +kernel) rfl (Nat.le_of_ble_eq_true rfl) (Nat.le_of_ble_eq_true rfl) (Nat.le_of_ble_eq_true rfl) (Nat.le_of_ble_eq_true rfl) rfl rfl hl.1 rfl (Nat.le_of_ble_eq_true rfl) dX1_burst_1 (fun v w1 H locs hq Z => ?_)
  obtain ⟨rfl, rfl⟩ := hq
  have Z : zk_Z D A s H locs [(hn, .inr (0, [.ref co, .ref tr, .int (nI 1), .int (nI dep), .ref ms, .ref ch, .ref md, .ref kp, .ref wy])), (co, .inr (1, [.ref h0, .int (nI t), .int (nI gn), .int (nI kd), .ref hs, .ref pl])), (h0, .inr (2, [.int (nI n), .ref hp, .ref hq]))] := Z.sub [2, 0, 1] (by decide) rfl
  refine W.eq (g2 := F0 mm 4 ls []) rfl ?_
  refine lv_aload_n hx hb dX1_burst_4 rfl (lv_at hl 0 rfl) ?_
  refine zk_get C Z in_X1 0 rfl rfl 3 (by decide) q168 rfl (v := .int (nI dep)) rfl dX1_burst_5 ?_
  refine lv_aload_n hx hb dX1_burst_8 rfl (lv_at hl 0 rfl) ?_
  refine zk_get C Z in_X1 0 rfl rfl 0 (by decide) q165 rfl (v := .ref co) rfl dX1_burst_9 ?_
  refine zk_getN C Z in_X2 1 rfl rfl 0 (by decide) q92 rfl (v := .ref h0) rfl dX1_burst_12 ?_
  refine zk_getN C Z in_X3 2 rfl rfl 0 (by decide) q61 rfl (v := .int (nI n)) rfl dX1_burst_15 ?_
  refine nr_imul hx hb dX1_burst_18 ?_
  refine lv_istore_n (lv' := [(3, .int (nI (dep * n))), (0, .ref hn), (1, .int i), (2, .int m)]) hx hb dX1_burst_19 rfl hl (by decide) rfl (fun ls hl => ?_)
  refine lv_iload_n hx hb dX1_burst_20 rfl (lv_at hl 2 rfl) ?_
  refine lv_iconst (v := nI 0) hx hb dX1_burst_21 (by decide) ?_
  refine lv_iload_n hx hb dX1_burst_22 rfl (lv_at hl 0 rfl) ?_
  refine lv_iconst (v := nI 1) hx hb dX1_burst_23 (by decide) ?_
  refine nr_isub hx hb d1 dX1_burst_24 ?_
  refine zk_callS (cells' := 0) (slots' := 0) (rest := []) (n := 3) (wr := [(hn, .inr (0, [.ref co, .ref tr, .int (nI 1), .int (nI dep), .ref ms, .ref ch, .ref md, .ref kp, .ref wy])), (co, .inr (1, [.ref h0, .int (nI t), .int (nI gn), .int (nI kd), .ref hs, .ref pl])), (h0, .inr (2, [.int (nI n), .ref hp, .ref hq]))]) C Z (m1_in1 l D g i (nI 0) (nI ((dep * n) - 1)) hi_.1 hi_.2) [] [0, 1, 2] rfl rfl (by decide) (by decide) (by decide) q274 q275 q19 q276 (by decide +kernel) rfl (Nat.le_of_ble_eq_true rfl) (Nat.le_of_ble_eq_true rfl) (Nat.le_of_ble_eq_true rfl) (Nat.le_of_ble_eq_true rfl) rfl rfl hl.1 rfl (Nat.le_of_ble_eq_true rfl) dX1_burst_25 (fun v w1 H locs hq Z => ?_)
  obtain ⟨rfl, rfl⟩ := hq
  have Z : zk_Z D A s H locs [(hn, .inr (0, [.ref co, .ref tr, .int (nI 1), .int (nI dep), .ref ms, .ref ch, .ref md, .ref kp, .ref wy])), (co, .inr (1, [.ref h0, .int (nI t), .int (nI gn), .int (nI kd), .ref hs, .ref pl])), (h0, .inr (2, [.int (nI n), .ref hp, .ref hq]))] := Z.sub [0, 1, 2] (by decide) rfl
  refine W.eq (g2 := F0 mm 28 ls [.int (nI 1)]) rfl ?_
  refine nr_eq0 (tgt := 42) hx hb (by omega) dX1_burst_28 (by decide) (fun c_1 => absurd c_1 (by decide)) (fun c_1 => ?_)
  refine lv_iload_n hx hb dX1_burst_31 rfl (lv_at hl 3 rfl) ?_
  refine lv_iload_n hx hb dX1_burst_32 rfl (lv_at hl 0 rfl) ?_
  refine lv_iload_n hx hb dX1_burst_33 rfl (lv_at hl 2 rfl) ?_
  refine lv_isub hx hb dX1_burst_34 ?_
  refine lv_icmp_gt (tgt := 42) hx hb dX1_burst_35 (by decide) (fun c_2 => ?_) (fun c_2 => absurd c_2 (fun q => q hm_))
  refine lv_iconst (v := nI 0) hx hb dX1_burst_42 (by decide) ?_
  refine zk_callST (cells' := 1) (slots' := 6) (rest := []) (n := 1) (wr := [(hn, .inr (0, [.ref co, .ref tr, .int (nI 1), .int (nI dep), .ref ms, .ref ch, .ref md, .ref kp, .ref wy])), (co, .inr (1, [.ref h0, .int (nI t), .int (nI gn), .int (nI kd), .ref hs, .ref pl])), (h0, .inr (2, [.int (nI n), .ref hp, .ref hq]))]) C Z (t1_place l hfl D g) [] [0, 1, 2] rfl rfl (by decide) (by decide) (by decide) q413 q414 q19 q415 (by decide +kernel) rfl (Nat.le_of_ble_eq_true rfl) (Nat.le_of_ble_eq_true rfl) (Nat.le_of_ble_eq_true rfl) (Nat.le_of_ble_eq_true rfl) rfl rfl hl.1 rfl (Nat.le_of_ble_eq_true rfl) dX1_burst_43 (fun w1 hq => ?_)
  obtain rfl := hq
  exact zk_leave hlocks hno (rfl) (Nat.le_of_ble_eq_true rfl) (Nat.le_of_ble_eq_true rfl)

set_option maxHeartbeats 4000000 in
/-- burst, out of bounds -/
theorem t1_burst_n (l : Launch) (hfl : l.flags = flags0) (D : va_G) (g : G4) (hn co tr dep ms ch md kp wy : Nat) (h0 hs pl t gn kd : Nat) (hp hq n : Nat) (i m : Int32) (d1 : 1 ≤ dep * n) (hi_ : nI 0 ≤ i ∧ i ≤ nI (dep * n - 1)) (hm_ : ¬ nI (dep * n) - i < m) (h0_ : ¬ (nI 1 ≤ m ∧ m ≤ nI 124)) : zk_MT l yX1_burst (ws_ yX1_burst cX1_burst 5 none) (zk_R 7 1 6) D g [.ref hn, .int i, .int m] [(hn, .inr (0, [.ref co, .ref tr, .int (nI 1), .int (nI dep), .ref ms, .ref ch, .ref md, .ref kp, .ref wy])), (co, .inr (1, [.ref h0, .int (nI t), .int (nI gn), .int (nI kd), .ref hs, .ref pl])), (h0, .inr (2, [.int (nI n), .ref hp, .ref hq]))] zk_IAE (fun w => w = [(hn, .inr (0, [.ref co, .ref tr, .int (nI 1), .int (nI dep), .ref ms, .ref ch, .ref md, .ref kp, .ref wy])), (co, .inr (1, [.ref h0, .int (nI t), .int (nI gn), .int (nI kd), .ref hs, .ref pl])), (h0, .inr (2, [.int (nI n), .ref hp, .ref hq]))]) := by
  refine zk_ofWT (by decide) (Nat.le_of_ble_eq_true rfl) ?_
  intro pg ev s mm below meth cd A C hlocks hno Z ls hl
  have hx := C.1.1
  have hb := C.1.2.1
  have hml := C.1.2.2.1
  have hown := C.1.2.2.2.1
  have hts := C.1.2.2.2.2
  have hl : lv_has ls 5 [(0, .ref hn), (1, .int i), (2, .int m)] := hl
  refine lv_aload_n hx hb dX1_burst_0 rfl (lv_at hl 0 rfl) ?_
  refine zk_callV (cells' := 0) (slots' := 0) (rest := []) (n := 0) (wr := [(co, .inr (1, [.ref h0, .int (nI t), .int (nI gn), .int (nI kd), .ref hs, .ref pl])), (h0, .inr (2, [.int (nI n), .ref hp, .ref hq]))]) C Z (m1_code l D g hn co tr dep ms ch md kp wy) [0] [1, 2] rfl rfl (by decide) (by decide) (by decide) 0 0 rfl rfl rfl q338 q340 qs2 q19 q341 (by decide +kernel) rfl (Nat.le_of_ble_eq_true rfl) (Nat.le_of_ble_eq_true rfl) (Nat.le_of_ble_eq_true rfl) (Nat.le_of_ble_eq_true rfl) rfl rfl hl.1 rfl (Nat.le_of_ble_eq_true rfl) dX1_burst_1 (fun v w1 H locs hq Z => ?_)
  obtain ⟨rfl, rfl⟩ := hq
  have Z : zk_Z D A s H locs [(hn, .inr (0, [.ref co, .ref tr, .int (nI 1), .int (nI dep), .ref ms, .ref ch, .ref md, .ref kp, .ref wy])), (co, .inr (1, [.ref h0, .int (nI t), .int (nI gn), .int (nI kd), .ref hs, .ref pl])), (h0, .inr (2, [.int (nI n), .ref hp, .ref hq]))] := Z.sub [2, 0, 1] (by decide) rfl
  refine W.eq (g2 := F0 mm 4 ls []) rfl ?_
  refine lv_aload_n hx hb dX1_burst_4 rfl (lv_at hl 0 rfl) ?_
  refine zk_get C Z in_X1 0 rfl rfl 3 (by decide) q168 rfl (v := .int (nI dep)) rfl dX1_burst_5 ?_
  refine lv_aload_n hx hb dX1_burst_8 rfl (lv_at hl 0 rfl) ?_
  refine zk_get C Z in_X1 0 rfl rfl 0 (by decide) q165 rfl (v := .ref co) rfl dX1_burst_9 ?_
  refine zk_getN C Z in_X2 1 rfl rfl 0 (by decide) q92 rfl (v := .ref h0) rfl dX1_burst_12 ?_
  refine zk_getN C Z in_X3 2 rfl rfl 0 (by decide) q61 rfl (v := .int (nI n)) rfl dX1_burst_15 ?_
  refine nr_imul hx hb dX1_burst_18 ?_
  refine lv_istore_n (lv' := [(3, .int (nI (dep * n))), (0, .ref hn), (1, .int i), (2, .int m)]) hx hb dX1_burst_19 rfl hl (by decide) rfl (fun ls hl => ?_)
  refine lv_iload_n hx hb dX1_burst_20 rfl (lv_at hl 2 rfl) ?_
  refine lv_iconst (v := nI 0) hx hb dX1_burst_21 (by decide) ?_
  refine lv_iload_n hx hb dX1_burst_22 rfl (lv_at hl 0 rfl) ?_
  refine lv_iconst (v := nI 1) hx hb dX1_burst_23 (by decide) ?_
  refine nr_isub hx hb d1 dX1_burst_24 ?_
  refine zk_callS (cells' := 0) (slots' := 0) (rest := []) (n := 3) (wr := [(hn, .inr (0, [.ref co, .ref tr, .int (nI 1), .int (nI dep), .ref ms, .ref ch, .ref md, .ref kp, .ref wy])), (co, .inr (1, [.ref h0, .int (nI t), .int (nI gn), .int (nI kd), .ref hs, .ref pl])), (h0, .inr (2, [.int (nI n), .ref hp, .ref hq]))]) C Z (m1_in1 l D g i (nI 0) (nI ((dep * n) - 1)) hi_.1 hi_.2) [] [0, 1, 2] rfl rfl (by decide) (by decide) (by decide) q274 q275 q19 q276 (by decide +kernel) rfl (Nat.le_of_ble_eq_true rfl) (Nat.le_of_ble_eq_true rfl) (Nat.le_of_ble_eq_true rfl) (Nat.le_of_ble_eq_true rfl) rfl rfl hl.1 rfl (Nat.le_of_ble_eq_true rfl) dX1_burst_25 (fun v w1 H locs hq Z => ?_)
  obtain ⟨rfl, rfl⟩ := hq
  have Z : zk_Z D A s H locs [(hn, .inr (0, [.ref co, .ref tr, .int (nI 1), .int (nI dep), .ref ms, .ref ch, .ref md, .ref kp, .ref wy])), (co, .inr (1, [.ref h0, .int (nI t), .int (nI gn), .int (nI kd), .ref hs, .ref pl])), (h0, .inr (2, [.int (nI n), .ref hp, .ref hq]))] := Z.sub [0, 1, 2] (by decide) rfl
  refine W.eq (g2 := F0 mm 28 ls [.int (nI 1)]) rfl ?_
  refine nr_eq0 (tgt := 42) hx hb (by omega) dX1_burst_28 (by decide) (fun c_1 => absurd c_1 (by decide)) (fun c_1 => ?_)
  refine lv_iload_n hx hb dX1_burst_31 rfl (lv_at hl 3 rfl) ?_
  refine lv_iload_n hx hb dX1_burst_32 rfl (lv_at hl 0 rfl) ?_
  refine lv_iload_n hx hb dX1_burst_33 rfl (lv_at hl 2 rfl) ?_
  refine lv_isub hx hb dX1_burst_34 ?_
  refine lv_icmp_gt (tgt := 42) hx hb dX1_burst_35 (by decide) (fun c_2 => absurd c_2 hm_) (fun c_2 => ?_)
  refine lv_iconst (v := nI 1) hx hb dX1_burst_38 (by decide) ?_
  refine lv_goto (tgt := 43) hx hb dX1_burst_39 (by decide) ?_
  refine zk_callS (cells' := 0) (slots' := 0) (rest := []) (n := 1) (wr := [(hn, .inr (0, [.ref co, .ref tr, .int (nI 1), .int (nI dep), .ref ms, .ref ch, .ref md, .ref kp, .ref wy])), (co, .inr (1, [.ref h0, .int (nI t), .int (nI gn), .int (nI kd), .ref hs, .ref pl])), (h0, .inr (2, [.int (nI n), .ref hp, .ref hq]))]) C Z (m1_place l D g) [] [0, 1, 2] rfl rfl (by decide) (by decide) (by decide) q413 q414 q19 q415 (by decide +kernel) rfl (Nat.le_of_ble_eq_true rfl) (Nat.le_of_ble_eq_true rfl) (Nat.le_of_ble_eq_true rfl) (Nat.le_of_ble_eq_true rfl) rfl rfl hl.1 rfl (Nat.le_of_ble_eq_true rfl) dX1_burst_43 (fun v w1 H locs hq Z => ?_)
  obtain ⟨rfl, rfl⟩ := hq
  have Z : zk_Z D A s H locs [(hn, .inr (0, [.ref co, .ref tr, .int (nI 1), .int (nI dep), .ref ms, .ref ch, .ref md, .ref kp, .ref wy])), (co, .inr (1, [.ref h0, .int (nI t), .int (nI gn), .int (nI kd), .ref hs, .ref pl])), (h0, .inr (2, [.int (nI n), .ref hp, .ref hq]))] := Z.sub [0, 1, 2] (by decide) rfl
  refine W.eq (g2 := F0 mm 46 ls []) rfl ?_
  refine lv_iload_n hx hb dX1_burst_46 rfl (lv_at hl 3 rfl) ?_
  refine lv_iconst (v := nI 1) hx hb dX1_burst_47 (by decide) ?_
  refine lv_bipush (v := nI 124) hx hb dX1_burst_48 (by decide) ?_
  refine zk_callS (cells' := 0) (slots' := 0) (rest := []) (n := 3) (wr := [(hn, .inr (0, [.ref co, .ref tr, .int (nI 1), .int (nI dep), .ref ms, .ref ch, .ref md, .ref kp, .ref wy])), (co, .inr (1, [.ref h0, .int (nI t), .int (nI gn), .int (nI kd), .ref hs, .ref pl])), (h0, .inr (2, [.int (nI n), .ref hp, .ref hq]))]) C Z (m1_in0 l D g m (nI 1) (nI 124) h0_) [] [0, 1, 2] rfl rfl (by decide) (by decide) (by decide) q274 q275 q19 q276 (by decide +kernel) rfl (Nat.le_of_ble_eq_true rfl) (Nat.le_of_ble_eq_true rfl) (Nat.le_of_ble_eq_true rfl) (Nat.le_of_ble_eq_true rfl) rfl rfl hl.1 rfl (Nat.le_of_ble_eq_true rfl) dX1_burst_50 (fun v w1 H locs hq Z => ?_)
  obtain ⟨rfl, rfl⟩ := hq
  have Z : zk_Z D A s H locs [(hn, .inr (0, [.ref co, .ref tr, .int (nI 1), .int (nI dep), .ref ms, .ref ch, .ref md, .ref kp, .ref wy])), (co, .inr (1, [.ref h0, .int (nI t), .int (nI gn), .int (nI kd), .ref hs, .ref pl])), (h0, .inr (2, [.int (nI n), .ref hp, .ref hq]))] := Z.sub [0, 1, 2] (by decide) rfl
  refine W.eq (g2 := F0 mm 53 ls [.int (nI 0)]) rfl ?_
  refine zk_callST (cells' := 1) (slots' := 6) (rest := []) (n := 1) (wr := [(hn, .inr (0, [.ref co, .ref tr, .int (nI 1), .int (nI dep), .ref ms, .ref ch, .ref md, .ref kp, .ref wy])), (co, .inr (1, [.ref h0, .int (nI t), .int (nI gn), .int (nI kd), .ref hs, .ref pl])), (h0, .inr (2, [.int (nI n), .ref hp, .ref hq]))]) C Z (t1_need l hfl D g) [] [0, 1, 2] rfl rfl (by decide) (by decide) (by decide) q277 q278 q19 q279 (by decide +kernel) rfl (Nat.le_of_ble_eq_true rfl) (Nat.le_of_ble_eq_true rfl) (Nat.le_of_ble_eq_true rfl) (Nat.le_of_ble_eq_true rfl) rfl rfl hl.1 rfl (Nat.le_of_ble_eq_true rfl) dX1_burst_53 (fun w1 hq => ?_)
  obtain rfl := hq
  exact zk_leave hlocks hno (rfl) (Nat.le_of_ble_eq_true rfl) (Nat.le_of_ble_eq_true rfl)

set_option maxHeartbeats 4000000 in
theorem lp1_noise {pg : Program} {l : Launch} {ev : Env} {s : State} {mm : MethodId} {args : Array Value} {below : List Frame} {meth : Method} {cd : Code} {Q : State → Prop} {D : va_G} {g : G4} {A : Nat → Prop} (C : zk_C pg s mm cd args cX1_noise 6 RX1 D g A) (hn co tr dep ms ch md kp wy : Nat) (h0 hs pl t gn kd : Nat) (hp hq n : Nat) (d4 : dep ≤ 4) (d1 : 1 ≤ dep) (n31 : n ≤ 31) (n1 : 1 ≤ n) (seed rate : Int32) (f : Nat → Int32 × List Nat × Nat → Int32 × List Nat × Nat) (f0 : ∀ i x c n, rate ≤ nzR (nzX x) → f i (x, c, n) = (nzX x, c, n)) (f1 : ∀ i x c n, ¬ rate ≤ nzR (nzX x) → f i (x, c, n) = (nzX x, flF dep i c, n + 1)) (fin : Int32 × List Nat × Nat) (kk : ∀ (x : Int32) (c : List Nat) (cnt : Nat) (H : Heap) (locs : List Loc) (ls : Array Slot), (x, c, cnt) = fin → zk_Z D A s H locs [(hn, .inr (0, [.ref co, .ref tr, .int (nI 1), .int (nI dep), .ref ms, .ref ch, .ref md, .ref kp, .ref wy])), (co, .inr (1, [.ref h0, .int (nI t), .int (nI gn), .int (nI kd), .ref hs, .ref pl])), (h0, .inr (2, [.int (nI n), .ref hp, .ref hq])), (ch, .inl (g.1, 4, .inl (zk_ia c)))] → lv_has ls 6 [(0, .ref hn), (4, .int (nI cnt))] → W pg l ev (zk_R 7 1 6) s mm args below meth cd H locs 0 0 Q (F0 mm 79 ls [])) :
    ∀ (k : Nat) (i : Nat) (x : Int32) (c : List Nat) (cnt : Nat) (H : Heap) (locs : List Loc) (ls : Array Slot), (i + k = dep * n) → (c.length = 4) → (zk_it f k i (x, c, cnt) = fin) → zk_Z D A s H locs [(hn, .inr (0, [.ref co, .ref tr, .int (nI 1), .int (nI dep), .ref ms, .ref ch, .ref md, .ref kp, .ref wy])), (co, .inr (1, [.ref h0, .int (nI t), .int (nI gn), .int (nI kd), .ref hs, .ref pl])), (h0, .inr (2, [.int (nI n), .ref hp, .ref hq])), (ch, .inl (g.1, 4, .inl (zk_ia c)))] → lv_has ls 6 [(0, .ref hn), (1, .int seed), (2, .int rate), (3, .int x), (4, .int (nI cnt)), (5, .int (nI i))] → W pg l ev (zk_R 7 1 6) s mm args below meth cd H locs 0 0 Q (F0 mm 23 ls []) := by
  have hx := C.1.1
  have hb := C.1.2.1
  have hml := C.1.2.2.1
  have hown := C.1.2.2.2.1
  have hts := C.1.2.2.2.2
  have hdk := Nat.mul_le_mul d4 n31
  intro k
  induction k with
  | zero =>
    intro i x c cnt H locs ls hik hc hfin Z hl
    refine lv_iload hx hb dX1_noise_23 (lv_at hl 5 rfl) ?_
    refine lv_aload_n hx hb dX1_noise_25 rfl (lv_at hl 0 rfl) ?_
    refine zk_get C Z in_X1 0 rfl rfl 3 (by decide) q168 rfl (v := .int (nI dep)) rfl dX1_noise_26 ?_
    refine lv_aload_n hx hb dX1_noise_29 rfl (lv_at hl 0 rfl) ?_
    refine zk_get C Z in_X1 0 rfl rfl 0 (by decide) q165 rfl (v := .ref co) rfl dX1_noise_30 ?_
    refine zk_getN C Z in_X2 1 rfl rfl 0 (by decide) q92 rfl (v := .ref h0) rfl dX1_noise_33 ?_
    refine zk_getN C Z in_X3 2 rfl rfl 0 (by decide) q61 rfl (v := .int (nI n)) rfl dX1_noise_36 ?_
    refine nr_imul hx hb dX1_noise_39 ?_
    refine nr_ge (tgt := 79) hx hb (by omega) (by omega) dX1_noise_40 (by decide) (fun c_1 => ?_) (fun c_1 => absurd c_1 (by omega))
    exact kk x c cnt H locs ls hfin Z (lv_sub hl [0, 4] rfl)
  | succ k ih =>
    intro i x c cnt H locs ls hik hc hfin Z hl
    refine lv_iload hx hb dX1_noise_23 (lv_at hl 5 rfl) ?_
    refine lv_aload_n hx hb dX1_noise_25 rfl (lv_at hl 0 rfl) ?_
    refine zk_get C Z in_X1 0 rfl rfl 3 (by decide) q168 rfl (v := .int (nI dep)) rfl dX1_noise_26 ?_
    refine lv_aload_n hx hb dX1_noise_29 rfl (lv_at hl 0 rfl) ?_
    refine zk_get C Z in_X1 0 rfl rfl 0 (by decide) q165 rfl (v := .ref co) rfl dX1_noise_30 ?_
    refine zk_getN C Z in_X2 1 rfl rfl 0 (by decide) q92 rfl (v := .ref h0) rfl dX1_noise_33 ?_
    refine zk_getN C Z in_X3 2 rfl rfl 0 (by decide) q61 rfl (v := .int (nI n)) rfl dX1_noise_36 ?_
    refine nr_imul hx hb dX1_noise_39 ?_
    refine nr_ge (tgt := 79) hx hb (by omega) (by omega) dX1_noise_40 (by decide) (fun c_1 => absurd c_1 (by omega)) (fun c_1 => ?_)
    refine lv_iload_n hx hb dX1_noise_43 rfl (lv_at hl 3 rfl) ?_
    refine lv_ldc (v := 1103515245) hx hb hown (hts _ q478) dX1_noise_44 ?_
    refine lv_imul hx hb dX1_noise_46 ?_
    refine lv_sipush (v := nI 12345) hx hb dX1_noise_47 (by decide) ?_
    refine lv_iadd hx hb dX1_noise_50 ?_
    rw [show (x * 1103515245) + (nI 12345) = nzX x from rfl]
    refine lv_istore_n (lv' := [(3, .int (nzX x)), (0, .ref hn), (1, .int seed), (2, .int rate), (4, .int (nI cnt)), (5, .int (nI i))]) hx hb dX1_noise_51 rfl hl (by decide) rfl (fun ls hl => ?_)
    refine lv_iload_n hx hb dX1_noise_52 rfl (lv_at hl 0 rfl) ?_
    refine lv_bipush (v := nI 16) hx hb dX1_noise_53 (by decide) ?_
    refine lv_iushr (v := ((nzX x).toUInt32 >>> ((nI 16).toUInt32 &&& Int32.toUInt32 31)).toInt32) hx hb dX1_noise_55 rfl ?_
    refine lv_sipush (v := nI 1000) hx hb dX1_noise_56 (by decide) ?_
    refine lv_irem hx hb dX1_noise_59 (by decide) ?_
    rw [show (((nzX x).toUInt32 >>> ((nI 16).toUInt32 &&& Int32.toUInt32 31)).toInt32) - (((nzX x).toUInt32 >>> ((nI 16).toUInt32 &&& Int32.toUInt32 31)).toInt32) / (nI 1000) * (nI 1000) = nzR (nzX x) from rfl]
    refine lv_iload_n hx hb dX1_noise_60 rfl (lv_at hl 3 rfl) ?_
    refine lv_icmp_ge (tgt := 73) hx hb dX1_noise_61 (by decide) (fun c_1 => ?_) (fun c_1 => ?_)
    · refine nr_iinc (n := 1) (lv' := [(5, .int (nI (i + 1))), (3, .int (nzX x)), (0, .ref hn), (1, .int seed), (2, .int rate), (4, .int (nI cnt))]) hx hb (by decide) dX1_noise_73 hl (k := 5) rfl (by decide) rfl (fun ls hl => ?_)
      refine lv_goto (tgt := 23) hx hb dX1_noise_76 (by decide) ?_
      rw [zk_it_s, f0 _ _ _ _ c_1] at hfin
      exact ih (i + 1) (nzX x) c cnt H locs ls (by omega) hc hfin Z (lv_sub hl [2, 3, 4, 1, 5, 0] rfl)
    · refine lv_aload_n hx hb dX1_noise_64 rfl (lv_at hl 1 rfl) ?_
      refine lv_iload hx hb dX1_noise_65 (lv_at hl 5 rfl) ?_
      have hlen_2 : (flF dep i c).length = 4 := by rw [flF_len]; exact hc
      refine zk_callV (cells' := 0) (slots' := 0) (rest := []) (n := 1) (wr := [(co, .inr (1, [.ref h0, .int (nI t), .int (nI gn), .int (nI kd), .ref hs, .ref pl])), (h0, .inr (2, [.int (nI n), .ref hp, .ref hq]))]) C Z (m1_flip l D g hn co tr dep ms ch md kp wy n c hc d4 d1 n31 i (by omega)) [0, 3] [1, 2] rfl rfl (by decide) (by decide) (by decide) 0 0 rfl rfl rfl q467 q469 qs3 q19 q470 (by decide +kernel) rfl (Nat.le_of_ble_eq_true rfl) (Nat.le_of_ble_eq_true rfl) (Nat.le_of_ble_eq_true rfl) (Nat.le_of_ble_eq_true rfl) rfl rfl hl.1 rfl (Nat.le_of_ble_eq_true rfl) dX1_noise_67 (fun v w1 H locs hq Z => ?_)
      obtain ⟨rfl, rfl⟩ := hq
      have Z : zk_Z D A s H locs [(hn, .inr (0, [.ref co, .ref tr, .int (nI 1), .int (nI dep), .ref ms, .ref ch, .ref md, .ref kp, .ref wy])), (co, .inr (1, [.ref h0, .int (nI t), .int (nI gn), .int (nI kd), .ref hs, .ref pl])), (h0, .inr (2, [.int (nI n), .ref hp, .ref hq])), (ch, .inl (g.1, 4, .inl (zk_ia (flF dep i c))))] := Z.sub [2, 0, 1, 3] (by decide) rfl
      refine W.eq (g2 := F0 mm 70 ls []) rfl ?_
      refine nr_iinc (n := 1) (lv' := [(4, .int (nI (cnt + 1))), (3, .int (nzX x)), (0, .ref hn), (1, .int seed), (2, .int rate), (5, .int (nI i))]) hx hb (by decide) dX1_noise_70 hl (k := 4) rfl (by decide) rfl (fun ls hl => ?_)
      refine nr_iinc (n := 1) (lv' := [(5, .int (nI (i + 1))), (4, .int (nI (cnt + 1))), (3, .int (nzX x)), (0, .ref hn), (1, .int seed), (2, .int rate)]) hx hb (by decide) dX1_noise_73 hl (k := 5) rfl (by decide) rfl (fun ls hl => ?_)
      refine lv_goto (tgt := 23) hx hb dX1_noise_76 (by decide) ?_
      rw [zk_it_s, f1 _ _ _ _ c_1] at hfin
      exact ih (i + 1) (nzX x) (flF dep i c) (cnt + 1) H locs ls (by omega) hlen_2 hfin Z (lv_sub hl [3, 4, 5, 2, 1, 0] rfl)

set_option maxHeartbeats 4000000 in
/-- noise -/
theorem m1_noise (l : Launch) (D : va_G) (g : G4) (hn co tr dep ms ch md kp wy : Nat) (h0 hs pl t gn kd : Nat) (hp hq n : Nat) (c : List Nat) (hc : c.length = 4) (d4 : dep ≤ 4) (d1 : 1 ≤ dep) (n31 : n ≤ 31) (n1 : 1 ≤ n) (seed rate : Int32) (hr_ : nI 0 ≤ rate ∧ rate ≤ nI 1000) : zk_M l yX1_noise (ws_ yX1_noise cX1_noise 6 (some .int)) (zk_R 7 1 6) D g [.ref hn, .int seed, .int rate] [(hn, .inr (0, [.ref co, .ref tr, .int (nI 1), .int (nI dep), .ref ms, .ref ch, .ref md, .ref kp, .ref wy])), (co, .inr (1, [.ref h0, .int (nI t), .int (nI gn), .int (nI kd), .ref hs, .ref pl])), (h0, .inr (2, [.int (nI n), .ref hp, .ref hq])), (ch, .inl (g.1, 4, .inl (zk_ia c)))] (zk_D (some (.int (nI ((zk_it (nzF dep rate) (dep * n) 0 (seed, c, 0)).2.2)))) [(hn, .inr (0, [.ref co, .ref tr, .int (nI 1), .int (nI dep), .ref ms, .ref ch, .ref md, .ref kp, .ref wy])), (co, .inr (1, [.ref h0, .int (nI t), .int (nI gn), .int (nI kd), .ref hs, .ref pl])), (h0, .inr (2, [.int (nI n), .ref hp, .ref hq])), (ch, .inl (g.1, 4, .inl (zk_ia ((zk_it (nzF dep rate) (dep * n) 0 (seed, c, 0)).2.1))))]) := by
  refine zk_ofW (by decide) (Nat.le_of_ble_eq_true rfl) ?_
  intro pg ev s mm below meth cd A C hr hlocks hname Z ls hl
  have hx := C.1.1
  have hb := C.1.2.1
  have hml := C.1.2.2.1
  have hown := C.1.2.2.2.1
  have hts := C.1.2.2.2.2
  have hl : lv_has ls 6 [(0, .ref hn), (1, .int seed), (2, .int rate)] := hl
  have hdk := Nat.mul_le_mul d4 n31
  obtain ⟨H, hH⟩ : ∃ H, H = s.heap := ⟨_, rfl⟩
  obtain ⟨locs, hlocs⟩ : ∃ q : List Loc, q = [] := ⟨_, rfl⟩
  rw [← hH, ← hlocs] at Z ⊢
  refine lv_aload_n hx hb dX1_noise_0 rfl (lv_at hl 0 rfl) ?_
  refine zk_callV (cells' := 0) (slots' := 0) (rest := []) (n := 0) (wr := [(co, .inr (1, [.ref h0, .int (nI t), .int (nI gn), .int (nI kd), .ref hs, .ref pl])), (h0, .inr (2, [.int (nI n), .ref hp, .ref hq])), (ch, .inl (g.1, 4, .inl (zk_ia c)))]) C Z (m1_code l D g hn co tr dep ms ch md kp wy) [0] [1, 2, 3] rfl rfl (by decide) (by decide) (by decide) 0 0 rfl rfl rfl q338 q340 qs2 q19 q341 (by decide +kernel) rfl (Nat.le_of_ble_eq_true rfl) (Nat.le_of_ble_eq_true rfl) (Nat.le_of_ble_eq_true rfl) (Nat.le_of_ble_eq_true rfl) rfl rfl hl.1 rfl (Nat.le_of_ble_eq_true rfl) dX1_noise_1 (fun v w1 H locs hq Z => ?_)
  obtain ⟨rfl, rfl⟩ := hq
  have Z : zk_Z D A s H locs [(hn, .inr (0, [.ref co, .ref tr, .int (nI 1), .int (nI dep), .ref ms, .ref ch, .ref md, .ref kp, .ref wy])), (co, .inr (1, [.ref h0, .int (nI t), .int (nI gn), .int (nI kd), .ref hs, .ref pl])), (h0, .inr (2, [.int (nI n), .ref hp, .ref hq])), (ch, .inl (g.1, 4, .inl (zk_ia c)))] := Z.sub [3, 0, 1, 2] (by decide) rfl
  refine W.eq (g2 := F0 mm 4 ls []) rfl ?_
  refine lv_iload_n hx hb dX1_noise_4 rfl (lv_at hl 2 rfl) ?_
  refine lv_iconst (v := nI 0) hx hb dX1_noise_5 (by decide) ?_
  refine lv_sipush (v := nI 1000) hx hb dX1_noise_6 (by decide) ?_
  refine zk_callS (cells' := 0) (slots' := 0) (rest := []) (n := 3) (wr := [(hn, .inr (0, [.ref co, .ref tr, .int (nI 1), .int (nI dep), .ref ms, .ref ch, .ref md, .ref kp, .ref wy])), (co, .inr (1, [.ref h0, .int (nI t), .int (nI gn), .int (nI kd), .ref hs, .ref pl])), (h0, .inr (2, [.int (nI n), .ref hp, .ref hq])), (ch, .inl (g.1, 4, .inl (zk_ia c)))]) C Z (m1_in1 l D g rate (nI 0) (nI 1000) hr_.1 hr_.2) [] [0, 1, 2, 3] rfl rfl (by decide) (by decide) (by decide) q274 q275 q19 q276 (by decide +kernel) rfl (Nat.le_of_ble_eq_true rfl) (Nat.le_of_ble_eq_true rfl) (Nat.le_of_ble_eq_true rfl) (Nat.le_of_ble_eq_true rfl) rfl rfl hl.1 rfl (Nat.le_of_ble_eq_true rfl) dX1_noise_9 (fun v w1 H locs hq Z => ?_)
  obtain ⟨rfl, rfl⟩ := hq
  have Z : zk_Z D A s H locs [(hn, .inr (0, [.ref co, .ref tr, .int (nI 1), .int (nI dep), .ref ms, .ref ch, .ref md, .ref kp, .ref wy])), (co, .inr (1, [.ref h0, .int (nI t), .int (nI gn), .int (nI kd), .ref hs, .ref pl])), (h0, .inr (2, [.int (nI n), .ref hp, .ref hq])), (ch, .inl (g.1, 4, .inl (zk_ia c)))] := Z.sub [0, 1, 2, 3] (by decide) rfl
  refine W.eq (g2 := F0 mm 12 ls [.int (nI 1)]) rfl ?_
  refine zk_callS (cells' := 0) (slots' := 0) (rest := []) (n := 1) (wr := [(hn, .inr (0, [.ref co, .ref tr, .int (nI 1), .int (nI dep), .ref ms, .ref ch, .ref md, .ref kp, .ref wy])), (co, .inr (1, [.ref h0, .int (nI t), .int (nI gn), .int (nI kd), .ref hs, .ref pl])), (h0, .inr (2, [.int (nI n), .ref hp, .ref hq])), (ch, .inl (g.1, 4, .inl (zk_ia c)))]) C Z (m1_need l D g) [] [0, 1, 2, 3] rfl rfl (by decide) (by decide) (by decide) q277 q278 q19 q279 (by decide +kernel) rfl (Nat.le_of_ble_eq_true rfl) (Nat.le_of_ble_eq_true rfl) (Nat.le_of_ble_eq_true rfl) (Nat.le_of_ble_eq_true rfl) rfl rfl hl.1 rfl (Nat.le_of_ble_eq_true rfl) dX1_noise_12 (fun v w1 H locs hq Z => ?_)
  obtain ⟨rfl, rfl⟩ := hq
  have Z : zk_Z D A s H locs [(hn, .inr (0, [.ref co, .ref tr, .int (nI 1), .int (nI dep), .ref ms, .ref ch, .ref md, .ref kp, .ref wy])), (co, .inr (1, [.ref h0, .int (nI t), .int (nI gn), .int (nI kd), .ref hs, .ref pl])), (h0, .inr (2, [.int (nI n), .ref hp, .ref hq])), (ch, .inl (g.1, 4, .inl (zk_ia c)))] := Z.sub [0, 1, 2, 3] (by decide) rfl
  refine W.eq (g2 := F0 mm 15 ls []) rfl ?_
  refine lv_iload_n hx hb dX1_noise_15 rfl (lv_at hl 1 rfl) ?_
  refine lv_istore_n (lv' := [(3, .int seed), (0, .ref hn), (1, .int seed), (2, .int rate)]) hx hb dX1_noise_16 rfl hl (by decide) rfl (fun ls hl => ?_)
  refine lv_iconst (v := nI 0) hx hb dX1_noise_17 (by decide) ?_
  refine lv_istore (lv' := [(4, .int (nI 0)), (3, .int seed), (0, .ref hn), (1, .int seed), (2, .int rate)]) hx hb dX1_noise_18 hl (by decide) rfl (fun ls hl => ?_)
  refine lv_iconst (v := nI 0) hx hb dX1_noise_20 (by decide) ?_
  refine lv_istore (lv' := [(5, .int (nI 0)), (4, .int (nI 0)), (3, .int seed), (0, .ref hn), (1, .int seed), (2, .int rate)]) hx hb dX1_noise_21 hl (by decide) rfl (fun ls hl => ?_)
  refine lp1_noise C hn co tr dep ms ch md kp wy h0 hs pl t gn kd hp hq n d4 d1 n31 n1 seed rate (nzF dep rate) (nzF_0 dep rate) (nzF_1 dep rate) _ (fun x c1 cnt H locs ls e1 Z hl => ?_) (dep * n) 0 seed c 0 H locs ls (by omega) hc rfl Z (lv_sub hl [3, 4, 5, 2, 1, 0] rfl)
  refine lv_iload hx hb dX1_noise_79 (lv_at hl 1 rfl) ?_
  exact zk_iret C hr hlocks Z ⟨by rw [← e1], by rw [← e1]⟩ (Nat.le_of_ble_eq_true rfl) (Nat.le_of_ble_eq_true rfl) dX1_noise_81

set_option maxHeartbeats 4000000 in
/-- noise, not begun -/
theorem u1_noise (l : Launch) (hfl : l.flags = flags0) (D : va_G) (g : G4) (hn co tr dep ms ch md kp wy : Nat) (seed rate : Int32) : zk_MT l yX1_noise (ws_ yX1_noise cX1_noise 6 (some .int)) (zk_R 7 1 6) D g [.ref hn, .int seed, .int rate] [(hn, .inr (0, [.ref co, .ref tr, .int (nI 0), .int (nI dep), .ref ms, .ref ch, .ref md, .ref kp, .ref wy]))] zk_ISE (fun w => w = [(hn, .inr (0, [.ref co, .ref tr, .int (nI 0), .int (nI dep), .ref ms, .ref ch, .ref md, .ref kp, .ref wy]))]) := by
  refine zk_ofWT (by decide) (Nat.le_of_ble_eq_true rfl) ?_
  intro pg ev s mm below meth cd A C hlocks hno Z ls hl
  have hx := C.1.1
  have hb := C.1.2.1
  have hml := C.1.2.2.1
  have hown := C.1.2.2.2.1
  have hts := C.1.2.2.2.2
  have hl : lv_has ls 6 [(0, .ref hn), (1, .int seed), (2, .int rate)] := hl
  refine lv_aload_n hx hb dX1_noise_0 rfl (lv_at hl 0 rfl) ?_
  refine zk_callVT (cells' := 1) (slots' := 6) (rest := []) (n := 0) (wr := []) C Z (t1_code l hfl D g hn co tr dep ms ch md kp wy) [0] [] rfl rfl (by decide) (by decide) (by decide) 0 0 rfl rfl rfl q338 q340 qs2 q19 q341 (by decide +kernel) rfl (Nat.le_of_ble_eq_true rfl) (Nat.le_of_ble_eq_true rfl) (Nat.le_of_ble_eq_true rfl) (Nat.le_of_ble_eq_true rfl) rfl rfl hl.1 rfl (Nat.le_of_ble_eq_true rfl) dX1_noise_1 (fun w1 hq => ?_)
  obtain rfl := hq
  exact zk_leave hlocks hno (rfl) (Nat.le_of_ble_eq_true rfl) (Nat.le_of_ble_eq_true rfl)

set_option maxHeartbeats 4000000 in
/-- noise, out of bounds -/
theorem t1_noise (l : Launch) (hfl : l.flags = flags0) (D : va_G) (g : G4) (hn co tr dep ms ch md kp wy : Nat) (seed rate : Int32) (h0_ : ¬ (nI 0 ≤ rate ∧ rate ≤ nI 1000)) : zk_MT l yX1_noise (ws_ yX1_noise cX1_noise 6 (some .int)) (zk_R 7 1 6) D g [.ref hn, .int seed, .int rate] [(hn, .inr (0, [.ref co, .ref tr, .int (nI 1), .int (nI dep), .ref ms, .ref ch, .ref md, .ref kp, .ref wy]))] zk_IAE (fun w => w = [(hn, .inr (0, [.ref co, .ref tr, .int (nI 1), .int (nI dep), .ref ms, .ref ch, .ref md, .ref kp, .ref wy]))]) := by
  refine zk_ofWT (by decide) (Nat.le_of_ble_eq_true rfl) ?_
  intro pg ev s mm below meth cd A C hlocks hno Z ls hl
  have hx := C.1.1
  have hb := C.1.2.1
  have hml := C.1.2.2.1
  have hown := C.1.2.2.2.1
  have hts := C.1.2.2.2.2
  have hl : lv_has ls 6 [(0, .ref hn), (1, .int seed), (2, .int rate)] := hl
  refine lv_aload_n hx hb dX1_noise_0 rfl (lv_at hl 0 rfl) ?_
  refine zk_callV (cells' := 0) (slots' := 0) (rest := []) (n := 0) (wr := []) C Z (m1_code l D g hn co tr dep ms ch md kp wy) [0] [] rfl rfl (by decide) (by decide) (by decide) 0 0 rfl rfl rfl q338 q340 qs2 q19 q341 (by decide +kernel) rfl (Nat.le_of_ble_eq_true rfl) (Nat.le_of_ble_eq_true rfl) (Nat.le_of_ble_eq_true rfl) (Nat.le_of_ble_eq_true rfl) rfl rfl hl.1 rfl (Nat.le_of_ble_eq_true rfl) dX1_noise_1 (fun v w1 H locs hq Z => ?_)
  obtain ⟨rfl, rfl⟩ := hq
  have Z : zk_Z D A s H locs [(hn, .inr (0, [.ref co, .ref tr, .int (nI 1), .int (nI dep), .ref ms, .ref ch, .ref md, .ref kp, .ref wy]))] := Z.sub [0] (by decide) rfl
  refine W.eq (g2 := F0 mm 4 ls []) rfl ?_
  refine lv_iload_n hx hb dX1_noise_4 rfl (lv_at hl 2 rfl) ?_
  refine lv_iconst (v := nI 0) hx hb dX1_noise_5 (by decide) ?_
  refine lv_sipush (v := nI 1000) hx hb dX1_noise_6 (by decide) ?_
  refine zk_callS (cells' := 0) (slots' := 0) (rest := []) (n := 3) (wr := [(hn, .inr (0, [.ref co, .ref tr, .int (nI 1), .int (nI dep), .ref ms, .ref ch, .ref md, .ref kp, .ref wy]))]) C Z (m1_in0 l D g rate (nI 0) (nI 1000) h0_) [] [0] rfl rfl (by decide) (by decide) (by decide) q274 q275 q19 q276 (by decide +kernel) rfl (Nat.le_of_ble_eq_true rfl) (Nat.le_of_ble_eq_true rfl) (Nat.le_of_ble_eq_true rfl) (Nat.le_of_ble_eq_true rfl) rfl rfl hl.1 rfl (Nat.le_of_ble_eq_true rfl) dX1_noise_9 (fun v w1 H locs hq Z => ?_)
  obtain ⟨rfl, rfl⟩ := hq
  have Z : zk_Z D A s H locs [(hn, .inr (0, [.ref co, .ref tr, .int (nI 1), .int (nI dep), .ref ms, .ref ch, .ref md, .ref kp, .ref wy]))] := Z.sub [0] (by decide) rfl
  refine W.eq (g2 := F0 mm 12 ls [.int (nI 0)]) rfl ?_
  refine zk_callST (cells' := 1) (slots' := 6) (rest := []) (n := 1) (wr := [(hn, .inr (0, [.ref co, .ref tr, .int (nI 1), .int (nI dep), .ref ms, .ref ch, .ref md, .ref kp, .ref wy]))]) C Z (t1_need l hfl D g) [] [0] rfl rfl (by decide) (by decide) (by decide) q277 q278 q19 q279 (by decide +kernel) rfl (Nat.le_of_ble_eq_true rfl) (Nat.le_of_ble_eq_true rfl) (Nat.le_of_ble_eq_true rfl) (Nat.le_of_ble_eq_true rfl) rfl rfl hl.1 rfl (Nat.le_of_ble_eq_true rfl) dX1_noise_12 (fun w1 hq => ?_)
  obtain rfl := hq
  exact zk_leave hlocks hno (rfl) (Nat.le_of_ble_eq_true rfl) (Nat.le_of_ble_eq_true rfl)

set_option maxHeartbeats 4000000 in
/-- syndrome -/
theorem m1_synd (l : Launch) (D : va_G) (g : G4) (hn co tr dep ms ch md kp wy : Nat) (h0 hs pl t gn kd : Nat) (hp hq p n : Nat) (P L : List Nat) (F : zk_F p n P L) (c : List Nat) (hc : c.length = 4) (c31 : ∀ j, c.getD j 0 < 2 ^ 31) (d4 : dep ≤ 4) (t3 : t ≤ 3) (w j : Nat) (hw : w < dep) (j1 : 1 ≤ j) (j2 : j ≤ 2 * t) : zk_M l yX1_syndrome (ws_ yX1_syndrome cX1_syndrome 3 (some .int)) (zk_R 7 1 6) D g [.ref hn, .int (nI w), .int (nI j)] [(hn, .inr (0, [.ref co, .ref tr, .int (nI 1), .int (nI dep), .ref ms, .ref ch, .ref md, .ref kp, .ref wy])), (co, .inr (1, [.ref h0, .int (nI t), .int (nI gn), .int (nI kd), .ref hs, .ref pl])), (h0, .inr (2, [.int (nI n), .ref hp, .ref hq])), (hp, .inl (g.1, 62, .inl (zk_ia P))), (hq, .inl (g.1, 32, .inl (zk_ia L))), (ch, .inl (g.1, 4, .inl (zk_ia c)))] (zk_D (some (.int (nI (atv p n (c.getD w 0) j)))) [(hn, .inr (0, [.ref co, .ref tr, .int (nI 1), .int (nI dep), .ref ms, .ref ch, .ref md, .ref kp, .ref wy])), (co, .inr (1, [.ref h0, .int (nI t), .int (nI gn), .int (nI kd), .ref hs, .ref pl])), (h0, .inr (2, [.int (nI n), .ref hp, .ref hq])), (hp, .inl (g.1, 62, .inl (zk_ia P))), (hq, .inl (g.1, 32, .inl (zk_ia L))), (ch, .inl (g.1, 4, .inl (zk_ia c)))]) := by
  refine zk_ofW (by decide) (Nat.le_of_ble_eq_true rfl) ?_
  intro pg ev s mm below meth cd A C hr hlocks hname Z ls hl
  have hx := C.1.1
  have hb := C.1.2.1
  have hml := C.1.2.2.1
  have hown := C.1.2.2.2.1
  have hts := C.1.2.2.2.2
  have hl : lv_has ls 3 [(0, .ref hn), (1, .int (nI w)), (2, .int (nI j))] := hl
  have hn31 := F.n31
  refine lv_aload_n hx hb dX1_syndrome_0 rfl (lv_at hl 0 rfl) ?_
  refine zk_callV (cells' := 0) (slots' := 0) (rest := []) (n := 0) (wr := [(co, .inr (1, [.ref h0, .int (nI t), .int (nI gn), .int (nI kd), .ref hs, .ref pl])), (h0, .inr (2, [.int (nI n), .ref hp, .ref hq])), (hp, .inl (g.1, 62, .inl (zk_ia P))), (hq, .inl (g.1, 32, .inl (zk_ia L))), (ch, .inl (g.1, 4, .inl (zk_ia c)))]) C Z (m1_code l D g hn co tr dep ms ch md kp wy) [0] [1, 2, 3, 4, 5] rfl rfl (by decide) (by decide) (by decide) 0 0 rfl rfl rfl q338 q340 qs2 q19 q341 (by decide +kernel) rfl (Nat.le_of_ble_eq_true rfl) (Nat.le_of_ble_eq_true rfl) (Nat.le_of_ble_eq_true rfl) (Nat.le_of_ble_eq_true rfl) rfl rfl hl.1 rfl (Nat.le_of_ble_eq_true rfl) dX1_syndrome_1 (fun v w1 H locs hq Z => ?_)
  obtain ⟨rfl, rfl⟩ := hq
  have Z : zk_Z D A s H locs [(hn, .inr (0, [.ref co, .ref tr, .int (nI 1), .int (nI dep), .ref ms, .ref ch, .ref md, .ref kp, .ref wy])), (co, .inr (1, [.ref h0, .int (nI t), .int (nI gn), .int (nI kd), .ref hs, .ref pl])), (h0, .inr (2, [.int (nI n), .ref hp, .ref hq])), (hp, .inl (g.1, 62, .inl (zk_ia P))), (hq, .inl (g.1, 32, .inl (zk_ia L))), (ch, .inl (g.1, 4, .inl (zk_ia c)))] := Z.sub [5, 0, 1, 2, 3, 4] (by decide) rfl
  refine W.eq (g2 := F0 mm 4 ls []) rfl ?_
  refine lv_iload_n hx hb dX1_syndrome_4 rfl (lv_at hl 1 rfl) ?_
  refine lv_iconst (v := nI 0) hx hb dX1_syndrome_5 (by decide) ?_
  refine lv_aload_n hx hb dX1_syndrome_6 rfl (lv_at hl 0 rfl) ?_
  refine zk_get C Z in_X1 0 rfl rfl 3 (by decide) q168 rfl (v := .int (nI dep)) rfl dX1_syndrome_7 ?_
  refine lv_iconst (v := nI 1) hx hb dX1_syndrome_10 (by decide) ?_
  refine nr_isub hx hb (by omega) dX1_syndrome_11 ?_
  refine zk_callS (cells' := 0) (slots' := 0) (rest := []) (n := 3) (wr := [(hn, .inr (0, [.ref co, .ref tr, .int (nI 1), .int (nI dep), .ref ms, .ref ch, .ref md, .ref kp, .ref wy])), (co, .inr (1, [.ref h0, .int (nI t), .int (nI gn), .int (nI kd), .ref hs, .ref pl])), (h0, .inr (2, [.int (nI n), .ref hp, .ref hq])), (hp, .inl (g.1, 62, .inl (zk_ia P))), (hq, .inl (g.1, 32, .inl (zk_ia L))), (ch, .inl (g.1, 4, .inl (zk_ia c)))]) C Z (m1_in1 l D g (nI w) (nI 0) (nI (dep - 1)) (zk_le (Nat.zero_le w) (by omega)) (zk_le (by omega) (by omega))) [] [0, 1, 2, 3, 4, 5] rfl rfl (by decide) (by decide) (by decide) q274 q275 q19 q276 (by decide +kernel) rfl (Nat.le_of_ble_eq_true rfl) (Nat.le_of_ble_eq_true rfl) (Nat.le_of_ble_eq_true rfl) (Nat.le_of_ble_eq_true rfl) rfl rfl hl.1 rfl (Nat.le_of_ble_eq_true rfl) dX1_syndrome_12 (fun v w1 H locs hq Z => ?_)
  obtain ⟨rfl, rfl⟩ := hq
  have Z : zk_Z D A s H locs [(hn, .inr (0, [.ref co, .ref tr, .int (nI 1), .int (nI dep), .ref ms, .ref ch, .ref md, .ref kp, .ref wy])), (co, .inr (1, [.ref h0, .int (nI t), .int (nI gn), .int (nI kd), .ref hs, .ref pl])), (h0, .inr (2, [.int (nI n), .ref hp, .ref hq])), (hp, .inl (g.1, 62, .inl (zk_ia P))), (hq, .inl (g.1, 32, .inl (zk_ia L))), (ch, .inl (g.1, 4, .inl (zk_ia c)))] := Z.sub [0, 1, 2, 3, 4, 5] (by decide) rfl
  refine W.eq (g2 := F0 mm 15 ls [.int (nI 1)]) rfl ?_
  refine nr_eq0 (tgt := 39) hx hb (by omega) dX1_syndrome_15 (by decide) (fun c_1 => absurd c_1 (by decide)) (fun c_1 => ?_)
  refine lv_iload_n hx hb dX1_syndrome_18 rfl (lv_at hl 2 rfl) ?_
  refine lv_iconst (v := nI 1) hx hb dX1_syndrome_19 (by decide) ?_
  refine lv_iconst (v := nI 2) hx hb dX1_syndrome_20 (by decide) ?_
  refine lv_aload_n hx hb dX1_syndrome_21 rfl (lv_at hl 0 rfl) ?_
  refine zk_get C Z in_X1 0 rfl rfl 0 (by decide) q165 rfl (v := .ref co) rfl dX1_syndrome_22 ?_
  refine zk_getN C Z in_X2 1 rfl rfl 1 (by decide) q94 rfl (v := .int (nI t)) rfl dX1_syndrome_25 ?_
  refine nr_imul hx hb dX1_syndrome_28 ?_
  refine zk_callS (cells' := 0) (slots' := 0) (rest := []) (n := 3) (wr := [(hn, .inr (0, [.ref co, .ref tr, .int (nI 1), .int (nI dep), .ref ms, .ref ch, .ref md, .ref kp, .ref wy])), (co, .inr (1, [.ref h0, .int (nI t), .int (nI gn), .int (nI kd), .ref hs, .ref pl])), (h0, .inr (2, [.int (nI n), .ref hp, .ref hq])), (hp, .inl (g.1, 62, .inl (zk_ia P))), (hq, .inl (g.1, 32, .inl (zk_ia L))), (ch, .inl (g.1, 4, .inl (zk_ia c)))]) C Z (m1_in1 l D g (nI j) (nI 1) (nI (2 * t)) (zk_le j1 (by omega)) (zk_le j2 (by omega))) [] [0, 1, 2, 3, 4, 5] rfl rfl (by decide) (by decide) (by decide) q274 q275 q19 q276 (by decide +kernel) rfl (Nat.le_of_ble_eq_true rfl) (Nat.le_of_ble_eq_true rfl) (Nat.le_of_ble_eq_true rfl) (Nat.le_of_ble_eq_true rfl) rfl rfl hl.1 rfl (Nat.le_of_ble_eq_true rfl) dX1_syndrome_29 (fun v w1 H locs hq Z => ?_)
  obtain ⟨rfl, rfl⟩ := hq
  have Z : zk_Z D A s H locs [(hn, .inr (0, [.ref co, .ref tr, .int (nI 1), .int (nI dep), .ref ms, .ref ch, .ref md, .ref kp, .ref wy])), (co, .inr (1, [.ref h0, .int (nI t), .int (nI gn), .int (nI kd), .ref hs, .ref pl])), (h0, .inr (2, [.int (nI n), .ref hp, .ref hq])), (hp, .inl (g.1, 62, .inl (zk_ia P))), (hq, .inl (g.1, 32, .inl (zk_ia L))), (ch, .inl (g.1, 4, .inl (zk_ia c)))] := Z.sub [0, 1, 2, 3, 4, 5] (by decide) rfl
  refine W.eq (g2 := F0 mm 32 ls [.int (nI 1)]) rfl ?_
  refine nr_eq0 (tgt := 39) hx hb (by omega) dX1_syndrome_32 (by decide) (fun c_2 => absurd c_2 (by decide)) (fun c_2 => ?_)
  refine lv_iconst (v := nI 1) hx hb dX1_syndrome_35 (by decide) ?_
  refine lv_goto (tgt := 40) hx hb dX1_syndrome_36 (by decide) ?_
  refine zk_callS (cells' := 0) (slots' := 0) (rest := []) (n := 1) (wr := [(hn, .inr (0, [.ref co, .ref tr, .int (nI 1), .int (nI dep), .ref ms, .ref ch, .ref md, .ref kp, .ref wy])), (co, .inr (1, [.ref h0, .int (nI t), .int (nI gn), .int (nI kd), .ref hs, .ref pl])), (h0, .inr (2, [.int (nI n), .ref hp, .ref hq])), (hp, .inl (g.1, 62, .inl (zk_ia P))), (hq, .inl (g.1, 32, .inl (zk_ia L))), (ch, .inl (g.1, 4, .inl (zk_ia c)))]) C Z (m1_place l D g) [] [0, 1, 2, 3, 4, 5] rfl rfl (by decide) (by decide) (by decide) q413 q414 q19 q415 (by decide +kernel) rfl (Nat.le_of_ble_eq_true rfl) (Nat.le_of_ble_eq_true rfl) (Nat.le_of_ble_eq_true rfl) (Nat.le_of_ble_eq_true rfl) rfl rfl hl.1 rfl (Nat.le_of_ble_eq_true rfl) dX1_syndrome_40 (fun v w1 H locs hq Z => ?_)
  obtain ⟨rfl, rfl⟩ := hq
  have Z : zk_Z D A s H locs [(hn, .inr (0, [.ref co, .ref tr, .int (nI 1), .int (nI dep), .ref ms, .ref ch, .ref md, .ref kp, .ref wy])), (co, .inr (1, [.ref h0, .int (nI t), .int (nI gn), .int (nI kd), .ref hs, .ref pl])), (h0, .inr (2, [.int (nI n), .ref hp, .ref hq])), (hp, .inl (g.1, 62, .inl (zk_ia P))), (hq, .inl (g.1, 32, .inl (zk_ia L))), (ch, .inl (g.1, 4, .inl (zk_ia c)))] := Z.sub [0, 1, 2, 3, 4, 5] (by decide) rfl
  refine W.eq (g2 := F0 mm 43 ls []) rfl ?_
  refine lv_aload_n hx hb dX1_syndrome_43 rfl (lv_at hl 0 rfl) ?_
  refine zk_get C Z in_X1 0 rfl rfl 0 (by decide) q165 rfl (v := .ref co) rfl dX1_syndrome_44 ?_
  refine zk_getN C Z in_X2 1 rfl rfl 0 (by decide) q92 rfl (v := .ref h0) rfl dX1_syndrome_47 ?_
  refine lv_aload_n hx hb dX1_syndrome_50 rfl (lv_at hl 0 rfl) ?_
  refine zk_get C Z in_X1 0 rfl rfl 5 (by decide) q170 rfl (v := .ref ch) rfl dX1_syndrome_51 ?_
  refine lv_iload_n hx hb dX1_syndrome_54 rfl (lv_at hl 1 rfl) ?_
  refine zk_iald C Z 5 rfl (by decide) (by omega) dX1_syndrome_55 ?_
  refine lv_iload_n hx hb dX1_syndrome_56 rfl (lv_at hl 2 rfl) ?_
  refine zk_callV (cells' := 0) (slots' := 0) (rest := []) (n := 2) (wr := [(hn, .inr (0, [.ref co, .ref tr, .int (nI 1), .int (nI dep), .ref ms, .ref ch, .ref md, .ref kp, .ref wy])), (co, .inr (1, [.ref h0, .int (nI t), .int (nI gn), .int (nI kd), .ref hs, .ref pl])), (ch, .inl (g.1, 4, .inl (zk_ia c)))]) C Z (m3_at l D g h0 hp hq p n P L (c.getD w 0) j F (c31 _) (by omega)) [2, 3, 4] [0, 1, 5] rfl rfl (by decide) (by decide) (by decide) 2 2 rfl rfl rfl q486 q308 q309 q21 q310 (by decide +kernel) rfl (Nat.le_of_ble_eq_true rfl) (Nat.le_of_ble_eq_true rfl) (Nat.le_of_ble_eq_true rfl) (Nat.le_of_ble_eq_true rfl) rfl rfl hl.1 rfl (Nat.le_of_ble_eq_true rfl) dX1_syndrome_57 (fun v w1 H locs hq Z => ?_)
  obtain ⟨rfl, rfl⟩ := hq
  have Z : zk_Z D A s H locs [(hn, .inr (0, [.ref co, .ref tr, .int (nI 1), .int (nI dep), .ref ms, .ref ch, .ref md, .ref kp, .ref wy])), (co, .inr (1, [.ref h0, .int (nI t), .int (nI gn), .int (nI kd), .ref hs, .ref pl])), (h0, .inr (2, [.int (nI n), .ref hp, .ref hq])), (hp, .inl (g.1, 62, .inl (zk_ia P))), (hq, .inl (g.1, 32, .inl (zk_ia L))), (ch, .inl (g.1, 4, .inl (zk_ia c)))] := Z.sub [0, 1, 3, 4, 5, 2] (by decide) rfl
  refine W.eq (g2 := F0 mm 60 ls [.int (nI (atv p n (c.getD w 0) j))]) rfl ?_
  exact zk_iret C hr hlocks Z ⟨rfl, rfl⟩ (Nat.le_of_ble_eq_true rfl) (Nat.le_of_ble_eq_true rfl) dX1_syndrome_60

set_option maxHeartbeats 4000000 in
/-- synd, not begun -/
theorem u1_synd (l : Launch) (hfl : l.flags = flags0) (D : va_G) (g : G4) (hn co tr dep ms ch md kp wy : Nat) (w j : Int32) : zk_MT l yX1_syndrome (ws_ yX1_syndrome cX1_syndrome 3 (some .int)) (zk_R 7 1 6) D g [.ref hn, .int w, .int j] [(hn, .inr (0, [.ref co, .ref tr, .int (nI 0), .int (nI dep), .ref ms, .ref ch, .ref md, .ref kp, .ref wy]))] zk_ISE (fun w => w = [(hn, .inr (0, [.ref co, .ref tr, .int (nI 0), .int (nI dep), .ref ms, .ref ch, .ref md, .ref kp, .ref wy]))]) := by
  refine zk_ofWT (by decide) (Nat.le_of_ble_eq_true rfl) ?_
  intro pg ev s mm below meth cd A C hlocks hno Z ls hl
  have hx := C.1.1
  have hb := C.1.2.1
  have hml := C.1.2.2.1
  have hown := C.1.2.2.2.1
  have hts := C.1.2.2.2.2
  have hl : lv_has ls 3 [(0, .ref hn), (1, .int w), (2, .int j)] := hl
  refine lv_aload_n hx hb dX1_syndrome_0 rfl (lv_at hl 0 rfl) ?_
  refine zk_callVT (cells' := 1) (slots' := 6) (rest := []) (n := 0) (wr := []) C Z (t1_code l hfl D g hn co tr dep ms ch md kp wy) [0] [] rfl rfl (by decide) (by decide) (by decide) 0 0 rfl rfl rfl q338 q340 qs2 q19 q341 (by decide +kernel) rfl (Nat.le_of_ble_eq_true rfl) (Nat.le_of_ble_eq_true rfl) (Nat.le_of_ble_eq_true rfl) (Nat.le_of_ble_eq_true rfl) rfl rfl hl.1 rfl (Nat.le_of_ble_eq_true rfl) dX1_syndrome_1 (fun w1 hq => ?_)
  obtain rfl := hq
  exact zk_leave hlocks hno (rfl) (Nat.le_of_ble_eq_true rfl) (Nat.le_of_ble_eq_true rfl)

set_option maxHeartbeats 4000000 in
/-- syndrome, none such -/
theorem t1_synd_w (l : Launch) (hfl : l.flags = flags0) (D : va_G) (g : G4) (hn co tr dep ms ch md kp wy : Nat) (h0 hs pl t gn kd : Nat) (w j : Int32) (d1 : 1 ≤ dep) (h0_ : ¬ (nI 0 ≤ w ∧ w ≤ nI (dep - 1))) : zk_MT l yX1_syndrome (ws_ yX1_syndrome cX1_syndrome 3 (some .int)) (zk_R 7 1 6) D g [.ref hn, .int w, .int j] [(hn, .inr (0, [.ref co, .ref tr, .int (nI 1), .int (nI dep), .ref ms, .ref ch, .ref md, .ref kp, .ref wy])), (co, .inr (1, [.ref h0, .int (nI t), .int (nI gn), .int (nI kd), .ref hs, .ref pl]))] zk_IOB (fun w => w = [(hn, .inr (0, [.ref co, .ref tr, .int (nI 1), .int (nI dep), .ref ms, .ref ch, .ref md, .ref kp, .ref wy])), (co, .inr (1, [.ref h0, .int (nI t), .int (nI gn), .int (nI kd), .ref hs, .ref pl]))]) := by
  refine zk_ofWT (by decide) (Nat.le_of_ble_eq_true rfl) ?_
  intro pg ev s mm below meth cd A C hlocks hno Z ls hl
  have hx := C.1.1
  have hb := C.1.2.1
  have hml := C.1.2.2.1
  have hown := C.1.2.2.2.1
  have hts := C.1.2.2.2.2
  have hl : lv_has ls 3 [(0, .ref hn), (1, .int w), (2, .int j)] := hl
  refine lv_aload_n hx hb dX1_syndrome_0 rfl (lv_at hl 0 rfl) ?_
  refine zk_callV (cells' := 0) (slots' := 0) (rest := []) (n := 0) (wr := [(co, .inr (1, [.ref h0, .int (nI t), .int (nI gn), .int (nI kd), .ref hs, .ref pl]))]) C Z (m1_code l D g hn co tr dep ms ch md kp wy) [0] [1] rfl rfl (by decide) (by decide) (by decide) 0 0 rfl rfl rfl q338 q340 qs2 q19 q341 (by decide +kernel) rfl (Nat.le_of_ble_eq_true rfl) (Nat.le_of_ble_eq_true rfl) (Nat.le_of_ble_eq_true rfl) (Nat.le_of_ble_eq_true rfl) rfl rfl hl.1 rfl (Nat.le_of_ble_eq_true rfl) dX1_syndrome_1 (fun v w1 H locs hq Z => ?_)
  obtain ⟨rfl, rfl⟩ := hq
  have Z : zk_Z D A s H locs [(hn, .inr (0, [.ref co, .ref tr, .int (nI 1), .int (nI dep), .ref ms, .ref ch, .ref md, .ref kp, .ref wy])), (co, .inr (1, [.ref h0, .int (nI t), .int (nI gn), .int (nI kd), .ref hs, .ref pl]))] := Z.sub [1, 0] (by decide) rfl
  refine W.eq (g2 := F0 mm 4 ls []) rfl ?_
  refine lv_iload_n hx hb dX1_syndrome_4 rfl (lv_at hl 1 rfl) ?_
  refine lv_iconst (v := nI 0) hx hb dX1_syndrome_5 (by decide) ?_
  refine lv_aload_n hx hb dX1_syndrome_6 rfl (lv_at hl 0 rfl) ?_
  refine zk_get C Z in_X1 0 rfl rfl 3 (by decide) q168 rfl (v := .int (nI dep)) rfl dX1_syndrome_7 ?_
  refine lv_iconst (v := nI 1) hx hb dX1_syndrome_10 (by decide) ?_
  refine nr_isub hx hb d1 dX1_syndrome_11 ?_
  refine zk_callS (cells' := 0) (slots' := 0) (rest := []) (n := 3) (wr := [(hn, .inr (0, [.ref co, .ref tr, .int (nI 1), .int (nI dep), .ref ms, .ref ch, .ref md, .ref kp, .ref wy])), (co, .inr (1, [.ref h0, .int (nI t), .int (nI gn), .int (nI kd), .ref hs, .ref pl]))]) C Z (m1_in0 l D g w (nI 0) (nI (dep - 1)) h0_) [] [0, 1] rfl rfl (by decide) (by decide) (by decide) q274 q275 q19 q276 (by decide +kernel) rfl (Nat.le_of_ble_eq_true rfl) (Nat.le_of_ble_eq_true rfl) (Nat.le_of_ble_eq_true rfl) (Nat.le_of_ble_eq_true rfl) rfl rfl hl.1 rfl (Nat.le_of_ble_eq_true rfl) dX1_syndrome_12 (fun v w1 H locs hq Z => ?_)
  obtain ⟨rfl, rfl⟩ := hq
  have Z : zk_Z D A s H locs [(hn, .inr (0, [.ref co, .ref tr, .int (nI 1), .int (nI dep), .ref ms, .ref ch, .ref md, .ref kp, .ref wy])), (co, .inr (1, [.ref h0, .int (nI t), .int (nI gn), .int (nI kd), .ref hs, .ref pl]))] := Z.sub [0, 1] (by decide) rfl
  refine W.eq (g2 := F0 mm 15 ls [.int (nI 0)]) rfl ?_
  refine nr_eq0 (tgt := 39) hx hb (by omega) dX1_syndrome_15 (by decide) (fun c_1 => ?_) (fun c_1 => absurd c_1 (fun q => q rfl))
  refine lv_iconst (v := nI 0) hx hb dX1_syndrome_39 (by decide) ?_
  refine zk_callST (cells' := 1) (slots' := 6) (rest := []) (n := 1) (wr := [(hn, .inr (0, [.ref co, .ref tr, .int (nI 1), .int (nI dep), .ref ms, .ref ch, .ref md, .ref kp, .ref wy])), (co, .inr (1, [.ref h0, .int (nI t), .int (nI gn), .int (nI kd), .ref hs, .ref pl]))]) C Z (t1_place l hfl D g) [] [0, 1] rfl rfl (by decide) (by decide) (by decide) q413 q414 q19 q415 (by decide +kernel) rfl (Nat.le_of_ble_eq_true rfl) (Nat.le_of_ble_eq_true rfl) (Nat.le_of_ble_eq_true rfl) (Nat.le_of_ble_eq_true rfl) rfl rfl hl.1 rfl (Nat.le_of_ble_eq_true rfl) dX1_syndrome_40 (fun w1 hq => ?_)
  obtain rfl := hq
  exact zk_leave hlocks hno (rfl) (Nat.le_of_ble_eq_true rfl) (Nat.le_of_ble_eq_true rfl)

set_option maxHeartbeats 4000000 in
/-- syndrome, none such -/
theorem t1_synd_j (l : Launch) (hfl : l.flags = flags0) (D : va_G) (g : G4) (hn co tr dep ms ch md kp wy : Nat) (h0 hs pl t gn kd : Nat) (w j : Int32) (d1 : 1 ≤ dep) (hw_ : nI 0 ≤ w ∧ w ≤ nI (dep - 1)) (h0_ : ¬ (nI 1 ≤ j ∧ j ≤ nI (2 * t))) : zk_MT l yX1_syndrome (ws_ yX1_syndrome cX1_syndrome 3 (some .int)) (zk_R 7 1 6) D g [.ref hn, .int w, .int j] [(hn, .inr (0, [.ref co, .ref tr, .int (nI 1), .int (nI dep), .ref ms, .ref ch, .ref md, .ref kp, .ref wy])), (co, .inr (1, [.ref h0, .int (nI t), .int (nI gn), .int (nI kd), .ref hs, .ref pl]))] zk_IOB (fun w => w = [(hn, .inr (0, [.ref co, .ref tr, .int (nI 1), .int (nI dep), .ref ms, .ref ch, .ref md, .ref kp, .ref wy])), (co, .inr (1, [.ref h0, .int (nI t), .int (nI gn), .int (nI kd), .ref hs, .ref pl]))]) := by
  refine zk_ofWT (by decide) (Nat.le_of_ble_eq_true rfl) ?_
  intro pg ev s mm below meth cd A C hlocks hno Z ls hl
  have hx := C.1.1
  have hb := C.1.2.1
  have hml := C.1.2.2.1
  have hown := C.1.2.2.2.1
  have hts := C.1.2.2.2.2
  have hl : lv_has ls 3 [(0, .ref hn), (1, .int w), (2, .int j)] := hl
  refine lv_aload_n hx hb dX1_syndrome_0 rfl (lv_at hl 0 rfl) ?_
  refine zk_callV (cells' := 0) (slots' := 0) (rest := []) (n := 0) (wr := [(co, .inr (1, [.ref h0, .int (nI t), .int (nI gn), .int (nI kd), .ref hs, .ref pl]))]) C Z (m1_code l D g hn co tr dep ms ch md kp wy) [0] [1] rfl rfl (by decide) (by decide) (by decide) 0 0 rfl rfl rfl q338 q340 qs2 q19 q341 (by decide +kernel) rfl (Nat.le_of_ble_eq_true rfl) (Nat.le_of_ble_eq_true rfl) (Nat.le_of_ble_eq_true rfl) (Nat.le_of_ble_eq_true rfl) rfl rfl hl.1 rfl (Nat.le_of_ble_eq_true rfl) dX1_syndrome_1 (fun v w1 H locs hq Z => ?_)
  obtain ⟨rfl, rfl⟩ := hq
  have Z : zk_Z D A s H locs [(hn, .inr (0, [.ref co, .ref tr, .int (nI 1), .int (nI dep), .ref ms, .ref ch, .ref md, .ref kp, .ref wy])), (co, .inr (1, [.ref h0, .int (nI t), .int (nI gn), .int (nI kd), .ref hs, .ref pl]))] := Z.sub [1, 0] (by decide) rfl
  refine W.eq (g2 := F0 mm 4 ls []) rfl ?_
  refine lv_iload_n hx hb dX1_syndrome_4 rfl (lv_at hl 1 rfl) ?_
  refine lv_iconst (v := nI 0) hx hb dX1_syndrome_5 (by decide) ?_
  refine lv_aload_n hx hb dX1_syndrome_6 rfl (lv_at hl 0 rfl) ?_
  refine zk_get C Z in_X1 0 rfl rfl 3 (by decide) q168 rfl (v := .int (nI dep)) rfl dX1_syndrome_7 ?_
  refine lv_iconst (v := nI 1) hx hb dX1_syndrome_10 (by decide) ?_
  refine nr_isub hx hb d1 dX1_syndrome_11 ?_
  refine zk_callS (cells' := 0) (slots' := 0) (rest := []) (n := 3) (wr := [(hn, .inr (0, [.ref co, .ref tr, .int (nI 1), .int (nI dep), .ref ms, .ref ch, .ref md, .ref kp, .ref wy])), (co, .inr (1, [.ref h0, .int (nI t), .int (nI gn), .int (nI kd), .ref hs, .ref pl]))]) C Z (m1_in1 l D g w (nI 0) (nI (dep - 1)) hw_.1 hw_.2) [] [0, 1] rfl rfl (by decide) (by decide) (by decide) q274 q275 q19 q276 (by decide +kernel) rfl (Nat.le_of_ble_eq_true rfl) (Nat.le_of_ble_eq_true rfl) (Nat.le_of_ble_eq_true rfl) (Nat.le_of_ble_eq_true rfl) rfl rfl hl.1 rfl (Nat.le_of_ble_eq_true rfl) dX1_syndrome_12 (fun v w1 H locs hq Z => ?_)
  obtain ⟨rfl, rfl⟩ := hq
  have Z : zk_Z D A s H locs [(hn, .inr (0, [.ref co, .ref tr, .int (nI 1), .int (nI dep), .ref ms, .ref ch, .ref md, .ref kp, .ref wy])), (co, .inr (1, [.ref h0, .int (nI t), .int (nI gn), .int (nI kd), .ref hs, .ref pl]))] := Z.sub [0, 1] (by decide) rfl
  refine W.eq (g2 := F0 mm 15 ls [.int (nI 1)]) rfl ?_
  refine nr_eq0 (tgt := 39) hx hb (by omega) dX1_syndrome_15 (by decide) (fun c_1 => absurd c_1 (by decide)) (fun c_1 => ?_)
  refine lv_iload_n hx hb dX1_syndrome_18 rfl (lv_at hl 2 rfl) ?_
  refine lv_iconst (v := nI 1) hx hb dX1_syndrome_19 (by decide) ?_
  refine lv_iconst (v := nI 2) hx hb dX1_syndrome_20 (by decide) ?_
  refine lv_aload_n hx hb dX1_syndrome_21 rfl (lv_at hl 0 rfl) ?_
  refine zk_get C Z in_X1 0 rfl rfl 0 (by decide) q165 rfl (v := .ref co) rfl dX1_syndrome_22 ?_
  refine zk_getN C Z in_X2 1 rfl rfl 1 (by decide) q94 rfl (v := .int (nI t)) rfl dX1_syndrome_25 ?_
  refine nr_imul hx hb dX1_syndrome_28 ?_
  refine zk_callS (cells' := 0) (slots' := 0) (rest := []) (n := 3) (wr := [(hn, .inr (0, [.ref co, .ref tr, .int (nI 1), .int (nI dep), .ref ms, .ref ch, .ref md, .ref kp, .ref wy])), (co, .inr (1, [.ref h0, .int (nI t), .int (nI gn), .int (nI kd), .ref hs, .ref pl]))]) C Z (m1_in0 l D g j (nI 1) (nI (2 * t)) h0_) [] [0, 1] rfl rfl (by decide) (by decide) (by decide) q274 q275 q19 q276 (by decide +kernel) rfl (Nat.le_of_ble_eq_true rfl) (Nat.le_of_ble_eq_true rfl) (Nat.le_of_ble_eq_true rfl) (Nat.le_of_ble_eq_true rfl) rfl rfl hl.1 rfl (Nat.le_of_ble_eq_true rfl) dX1_syndrome_29 (fun v w1 H locs hq Z => ?_)
  obtain ⟨rfl, rfl⟩ := hq
  have Z : zk_Z D A s H locs [(hn, .inr (0, [.ref co, .ref tr, .int (nI 1), .int (nI dep), .ref ms, .ref ch, .ref md, .ref kp, .ref wy])), (co, .inr (1, [.ref h0, .int (nI t), .int (nI gn), .int (nI kd), .ref hs, .ref pl]))] := Z.sub [0, 1] (by decide) rfl
  refine W.eq (g2 := F0 mm 32 ls [.int (nI 0)]) rfl ?_
  refine nr_eq0 (tgt := 39) hx hb (by omega) dX1_syndrome_32 (by decide) (fun c_2 => ?_) (fun c_2 => absurd c_2 (fun q => q rfl))
  refine lv_iconst (v := nI 0) hx hb dX1_syndrome_39 (by decide) ?_
  refine zk_callST (cells' := 1) (slots' := 6) (rest := []) (n := 1) (wr := [(hn, .inr (0, [.ref co, .ref tr, .int (nI 1), .int (nI dep), .ref ms, .ref ch, .ref md, .ref kp, .ref wy])), (co, .inr (1, [.ref h0, .int (nI t), .int (nI gn), .int (nI kd), .ref hs, .ref pl]))]) C Z (t1_place l hfl D g) [] [0, 1] rfl rfl (by decide) (by decide) (by decide) q413 q414 q19 q415 (by decide +kernel) rfl (Nat.le_of_ble_eq_true rfl) (Nat.le_of_ble_eq_true rfl) (Nat.le_of_ble_eq_true rfl) (Nat.le_of_ble_eq_true rfl) rfl rfl hl.1 rfl (Nat.le_of_ble_eq_true rfl) dX1_syndrome_40 (fun w1 hq => ?_)
  obtain rfl := hq
  exact zk_leave hlocks hno (rfl) (Nat.le_of_ble_eq_true rfl) (Nat.le_of_ble_eq_true rfl)

