/-! ===== the law's methods: what the component answers, or which exception it throws ===== -/
set_option maxRecDepth 100000
set_option maxHeartbeats 4000000 in
theorem lr_begin (l : Launch) (D : va_G) (g : G4) (hn : Nat) (p0 p1 p2 : Int32) (ho : Nat) (f : Nat → Int64) (w : va_W) (fs : List Value) (he : w[0]? = some (hn, .inr (0, fs))) (k : Nat) (k8 : k ≤ 8) (Qx : Option Value → va_W → Prop) (hv : ∀ v w1, Qx v w1 → ∃ r : Int32, v = some (.int r)) (hM : zk_M l yX1_begin (ws_ yX1_begin cX1_begin 7 (some .int)) (zk_R k 1 6) D g [.ref hn, .int p0, .int p1, .int p2] w Qx) : zk_ML l yX0_begin (wsW_ yX0_begin cX0_begin 6 (some .int) [(0, 12, 15, 13), (0, 12, 19, 15)]) (zk_R 9 1 6) D g [.ref hn, .int p0, .int p1, .int p2, .ref ho] (zk_oc1 g ho f :: w) (fun v w2 => v = some (.int (nI 0)) ∧ ∃ (r : Int32) (f1 : Nat → Int64) (w1 : va_W), Qx (some (.int r)) w1 ∧ f1 0 = r.toInt64 ∧ w2 = zk_oc1 g ho f1 :: w1) := by
  refine zk_ofWL (by decide) (Nat.le_of_ble_eq_true rfl) ?_
  intro pg ev s mm below meth cd A C NC htab hr hlocks Z ls hl
  have hx := C.1.1
  have hb := C.1.2.1
  have hl : lv_has ls 6 [(0, .ref hn), (1, .int p0), (2, .int p1), (3, .int p2), (4, .ref ho)] := hl
  refine lv_aload hx hb dX0_begin_0 (lv_at hl 4 rfl) ?_
  refine lv_iconst (v := nI 0) hx hb dX0_begin_2 (by decide) ?_
  refine lv_aload_n hx hb dX0_begin_3 rfl (lv_at hl 0 rfl) ?_
  refine lv_iload_n hx hb dX0_begin_4 rfl (lv_at hl 1 rfl) ?_
  refine lv_iload_n hx hb dX0_begin_5 rfl (lv_at hl 2 rfl) ?_
  refine lv_iload_n hx hb dX0_begin_6 rfl (lv_at hl 3 rfl) ?_
  refine zk_callVa (wr := [zk_oc1 g ho f]) (wc := w) (cells' := 1) (slots' := 6) (rest := [.int (nI 0), .ref ho]) (n := 3) C Z hM 0 0 rfl he rfl q270 q271 q272 q19 q273 (by decide +kernel) rfl (by show k + 1 ≤ 9; omega) (by show 8 + (7 + 11) + 60 * k ≤ 60 * 9; omega) (Nat.le_of_ble_eq_true rfl) (Nat.le_of_ble_eq_true rfl) rfl rfl hl.1 rfl (Nat.le_of_ble_eq_true rfl) dX0_begin_7 (fun v w1 H locs hq Z => ?_)
  obtain ⟨r, rfl⟩ := hv v w1 hq
  have Z : zk_Z D A s H locs (zk_oc1 g ho f :: w1) := Z
  refine W.eq (g2 := F0 mm 10 ls [.int r, .int (nI 0), .ref ho]) rfl ?_
  refine lv_i2l (v := r.toInt64) hx hb dX0_begin_10 rfl ?_
  refine zk_last C Z dX0_begin_11 (fun f1 H locs hf1 Z => ?_)
  refine lv_goto (tgt := 23) hx hb dX0_begin_12 (by decide) ?_
  refine lv_iconst (v := nI 0) hx hb dX0_begin_23 (by decide) ?_
  exact zk_iret C hr hlocks Z ⟨rfl, r, f1, w1, hq, hf1, rfl⟩ (Nat.le_of_ble_eq_true rfl) (Nat.le_of_ble_eq_true rfl) dX0_begin_24

set_option maxHeartbeats 4000000 in
theorem lt_begin_1 (l : Launch) (D : va_G) (g : G4) (hn : Nat) (p0 p1 p2 : Int32) (ho : Nat) (f : Nat → Int64) (w : va_W) (fs : List Value) (he : w[0]? = some (hn, .inr (0, fs))) (k : Nat) (k8 : k ≤ 8) (Qx : va_W → Prop) (hM : zk_MT l yX1_begin (ws_ yX1_begin cX1_begin 7 (some .int)) (zk_R k 1 6) D g [.ref hn, .int p0, .int p1, .int p2] w zk_IAE Qx) : zk_ML l yX0_begin (wsW_ yX0_begin cX0_begin 6 (some .int) [(0, 12, 15, 13), (0, 12, 19, 15)]) (zk_R 9 1 6) D g [.ref hn, .int p0, .int p1, .int p2, .ref ho] (zk_oc1 g ho f :: w) (fun v w2 => v = some (.int (nI 1)) ∧ ∃ w1 : va_W, Qx w1 ∧ w2 = zk_oc1 g ho f :: w1) := by
  refine zk_ofWL (by decide) (Nat.le_of_ble_eq_true rfl) ?_
  intro pg ev s mm below meth cd A C NC htab hr hlocks Z ls hl
  have hx := C.1.1
  have hb := C.1.2.1
  have hl : lv_has ls 6 [(0, .ref hn), (1, .int p0), (2, .int p1), (3, .int p2), (4, .ref ho)] := hl
  refine lv_aload hx hb dX0_begin_0 (lv_at hl 4 rfl) ?_
  refine lv_iconst (v := nI 0) hx hb dX0_begin_2 (by decide) ?_
  refine lv_aload_n hx hb dX0_begin_3 rfl (lv_at hl 0 rfl) ?_
  refine lv_iload_n hx hb dX0_begin_4 rfl (lv_at hl 1 rfl) ?_
  refine lv_iload_n hx hb dX0_begin_5 rfl (lv_at hl 2 rfl) ?_
  refine lv_iload_n hx hb dX0_begin_6 rfl (lv_at hl 3 rfl) ?_
  refine zk_callVTa (wr := [zk_oc1 g ho f]) (wc := w) (cells' := 1) (slots' := 6) (rest := [.int (nI 0), .ref ho]) (n := 3) C Z hM 0 0 rfl he rfl q270 q271 q272 q19 q273 (by decide +kernel) rfl (by show k + 1 ≤ 9; omega) (by show 8 + (7 + 11) + 60 * k ≤ 60 * 9; omega) (Nat.le_of_ble_eq_true rfl) (Nat.le_of_ble_eq_true rfl) rfl rfl hl.1 rfl (Nat.le_of_ble_eq_true rfl) dX0_begin_7 (fun w1 hq => ?_)
  refine zk_catch (ns := [zk_IAE, zk_ARE]) (hpc := 15) C NC htab (by decide) (fun i q N h1 h2 => by
    match i with
    | 0 => cases h1; cases h2; exact q196
    | 1 => cases h1; cases h2; exact q197
    | i + 2 => cases h1) (by decide) (by decide) (fun x H locs Z => ?_)
  refine lv_astore (lv' := [(5, .ref x), (0, .ref hn), (1, .int p0), (2, .int p1), (3, .int p2), (4, .ref ho)]) hx hb dX0_begin_15 hl (by decide) rfl (fun ls hl => ?_)
  refine lv_iconst (v := nI 1) hx hb dX0_begin_17 (by decide) ?_
  exact zk_iret C hr hlocks Z ⟨rfl, w1, hq, rfl⟩ (Nat.le_of_ble_eq_true rfl) (Nat.le_of_ble_eq_true rfl) dX0_begin_18

set_option maxHeartbeats 4000000 in
theorem lt_begin_2 (l : Launch) (D : va_G) (g : G4) (hn : Nat) (p0 p1 p2 : Int32) (ho : Nat) (f : Nat → Int64) (w : va_W) (fs : List Value) (he : w[0]? = some (hn, .inr (0, fs))) (k : Nat) (k8 : k ≤ 8) (Qx : va_W → Prop) (hM : zk_MT l yX1_begin (ws_ yX1_begin cX1_begin 7 (some .int)) (zk_R k 1 6) D g [.ref hn, .int p0, .int p1, .int p2] w zk_ARE Qx) : zk_ML l yX0_begin (wsW_ yX0_begin cX0_begin 6 (some .int) [(0, 12, 15, 13), (0, 12, 19, 15)]) (zk_R 9 1 6) D g [.ref hn, .int p0, .int p1, .int p2, .ref ho] (zk_oc1 g ho f :: w) (fun v w2 => v = some (.int (nI 2)) ∧ ∃ w1 : va_W, Qx w1 ∧ w2 = zk_oc1 g ho f :: w1) := by
  refine zk_ofWL (by decide) (Nat.le_of_ble_eq_true rfl) ?_
  intro pg ev s mm below meth cd A C NC htab hr hlocks Z ls hl
  have hx := C.1.1
  have hb := C.1.2.1
  have hl : lv_has ls 6 [(0, .ref hn), (1, .int p0), (2, .int p1), (3, .int p2), (4, .ref ho)] := hl
  refine lv_aload hx hb dX0_begin_0 (lv_at hl 4 rfl) ?_
  refine lv_iconst (v := nI 0) hx hb dX0_begin_2 (by decide) ?_
  refine lv_aload_n hx hb dX0_begin_3 rfl (lv_at hl 0 rfl) ?_
  refine lv_iload_n hx hb dX0_begin_4 rfl (lv_at hl 1 rfl) ?_
  refine lv_iload_n hx hb dX0_begin_5 rfl (lv_at hl 2 rfl) ?_
  refine lv_iload_n hx hb dX0_begin_6 rfl (lv_at hl 3 rfl) ?_
  refine zk_callVTa (wr := [zk_oc1 g ho f]) (wc := w) (cells' := 1) (slots' := 6) (rest := [.int (nI 0), .ref ho]) (n := 3) C Z hM 0 0 rfl he rfl q270 q271 q272 q19 q273 (by decide +kernel) rfl (by show k + 1 ≤ 9; omega) (by show 8 + (7 + 11) + 60 * k ≤ 60 * 9; omega) (Nat.le_of_ble_eq_true rfl) (Nat.le_of_ble_eq_true rfl) rfl rfl hl.1 rfl (Nat.le_of_ble_eq_true rfl) dX0_begin_7 (fun w1 hq => ?_)
  refine zk_catch (ns := [zk_IAE, zk_ARE]) (hpc := 19) C NC htab (by decide) (fun i q N h1 h2 => by
    match i with
    | 0 => cases h1; cases h2; exact q196
    | 1 => cases h1; cases h2; exact q197
    | i + 2 => cases h1) (by decide) (by decide) (fun x H locs Z => ?_)
  refine lv_astore (lv' := [(5, .ref x), (0, .ref hn), (1, .int p0), (2, .int p1), (3, .int p2), (4, .ref ho)]) hx hb dX0_begin_19 hl (by decide) rfl (fun ls hl => ?_)
  refine lv_iconst (v := nI 2) hx hb dX0_begin_21 (by decide) ?_
  exact zk_iret C hr hlocks Z ⟨rfl, w1, hq, rfl⟩ (Nat.le_of_ble_eq_true rfl) (Nat.le_of_ble_eq_true rfl) dX0_begin_22

set_option maxHeartbeats 4000000 in
theorem lr_length (l : Launch) (D : va_G) (g : G4) (hn : Nat) (ho : Nat) (f : Nat → Int64) (w : va_W) (fs : List Value) (he : w[0]? = some (hn, .inr (0, fs))) (k : Nat) (k8 : k ≤ 8) (Qx : Option Value → va_W → Prop) (hv : ∀ v w1, Qx v w1 → ∃ r : Int32, v = some (.int r)) (hM : zk_M l yX1_length (ws_ yX1_length cX1_length 1 (some .int)) (zk_R k 1 6) D g [.ref hn] w Qx) : zk_ML l yX0_length (wsW_ yX0_length cX0_length 3 (some .int) [(0, 8, 11, 21)]) (zk_R 9 1 6) D g [.ref hn, .ref ho] (zk_oc1 g ho f :: w) (fun v w2 => v = some (.int (nI 0)) ∧ ∃ (r : Int32) (f1 : Nat → Int64) (w1 : va_W), Qx (some (.int r)) w1 ∧ f1 0 = r.toInt64 ∧ w2 = zk_oc1 g ho f1 :: w1) := by
  refine zk_ofWL (by decide) (Nat.le_of_ble_eq_true rfl) ?_
  intro pg ev s mm below meth cd A C NC htab hr hlocks Z ls hl
  have hx := C.1.1
  have hb := C.1.2.1
  have hl : lv_has ls 3 [(0, .ref hn), (1, .ref ho)] := hl
  refine lv_aload_n hx hb dX0_length_0 rfl (lv_at hl 1 rfl) ?_
  refine lv_iconst (v := nI 0) hx hb dX0_length_1 (by decide) ?_
  refine lv_aload_n hx hb dX0_length_2 rfl (lv_at hl 0 rfl) ?_
  refine zk_callVa (wr := [zk_oc1 g ho f]) (wc := w) (cells' := 1) (slots' := 6) (rest := [.int (nI 0), .ref ho]) (n := 0) C Z hM 0 0 rfl he rfl q334 q335 q336 q19 q337 (by decide +kernel) rfl (by show k + 1 ≤ 9; omega) (by show 8 + (1 + 11) + 60 * k ≤ 60 * 9; omega) (Nat.le_of_ble_eq_true rfl) (Nat.le_of_ble_eq_true rfl) rfl rfl hl.1 rfl (Nat.le_of_ble_eq_true rfl) dX0_length_3 (fun v w1 H locs hq Z => ?_)
  obtain ⟨r, rfl⟩ := hv v w1 hq
  have Z : zk_Z D A s H locs (zk_oc1 g ho f :: w1) := Z
  refine W.eq (g2 := F0 mm 6 ls [.int r, .int (nI 0), .ref ho]) rfl ?_
  refine lv_i2l (v := r.toInt64) hx hb dX0_length_6 rfl ?_
  refine zk_last C Z dX0_length_7 (fun f1 H locs hf1 Z => ?_)
  refine lv_goto (tgt := 14) hx hb dX0_length_8 (by decide) ?_
  refine lv_iconst (v := nI 0) hx hb dX0_length_14 (by decide) ?_
  exact zk_iret C hr hlocks Z ⟨rfl, r, f1, w1, hq, hf1, rfl⟩ (Nat.le_of_ble_eq_true rfl) (Nat.le_of_ble_eq_true rfl) dX0_length_15

set_option maxHeartbeats 4000000 in
theorem lt_length_1 (l : Launch) (D : va_G) (g : G4) (hn : Nat) (ho : Nat) (f : Nat → Int64) (w : va_W) (fs : List Value) (he : w[0]? = some (hn, .inr (0, fs))) (k : Nat) (k8 : k ≤ 8) (Qx : va_W → Prop) (hM : zk_MT l yX1_length (ws_ yX1_length cX1_length 1 (some .int)) (zk_R k 1 6) D g [.ref hn] w zk_ISE Qx) : zk_ML l yX0_length (wsW_ yX0_length cX0_length 3 (some .int) [(0, 8, 11, 21)]) (zk_R 9 1 6) D g [.ref hn, .ref ho] (zk_oc1 g ho f :: w) (fun v w2 => v = some (.int (nI 1)) ∧ ∃ w1 : va_W, Qx w1 ∧ w2 = zk_oc1 g ho f :: w1) := by
  refine zk_ofWL (by decide) (Nat.le_of_ble_eq_true rfl) ?_
  intro pg ev s mm below meth cd A C NC htab hr hlocks Z ls hl
  have hx := C.1.1
  have hb := C.1.2.1
  have hl : lv_has ls 3 [(0, .ref hn), (1, .ref ho)] := hl
  refine lv_aload_n hx hb dX0_length_0 rfl (lv_at hl 1 rfl) ?_
  refine lv_iconst (v := nI 0) hx hb dX0_length_1 (by decide) ?_
  refine lv_aload_n hx hb dX0_length_2 rfl (lv_at hl 0 rfl) ?_
  refine zk_callVTa (wr := [zk_oc1 g ho f]) (wc := w) (cells' := 1) (slots' := 6) (rest := [.int (nI 0), .ref ho]) (n := 0) C Z hM 0 0 rfl he rfl q334 q335 q336 q19 q337 (by decide +kernel) rfl (by show k + 1 ≤ 9; omega) (by show 8 + (1 + 11) + 60 * k ≤ 60 * 9; omega) (Nat.le_of_ble_eq_true rfl) (Nat.le_of_ble_eq_true rfl) rfl rfl hl.1 rfl (Nat.le_of_ble_eq_true rfl) dX0_length_3 (fun w1 hq => ?_)
  refine zk_catch (ns := [zk_ISE]) (hpc := 11) C NC htab (by decide) (fun i q N h1 h2 => by
    match i with
    | 0 => cases h1; cases h2; exact q333
    | i + 1 => cases h1) (by decide) (by decide) (fun x H locs Z => ?_)
  refine lv_astore_n (lv' := [(2, .ref x), (0, .ref hn), (1, .ref ho)]) hx hb dX0_length_11 rfl hl (by decide) rfl (fun ls hl => ?_)
  refine lv_iconst (v := nI 1) hx hb dX0_length_12 (by decide) ?_
  exact zk_iret C hr hlocks Z ⟨rfl, w1, hq, rfl⟩ (Nat.le_of_ble_eq_true rfl) (Nat.le_of_ble_eq_true rfl) dX0_length_13

set_option maxHeartbeats 4000000 in
theorem lr_generator (l : Launch) (D : va_G) (g : G4) (hn : Nat) (ho : Nat) (f : Nat → Int64) (w : va_W) (fs : List Value) (he : w[0]? = some (hn, .inr (0, fs))) (k : Nat) (k8 : k ≤ 8) (Qx : Option Value → va_W → Prop) (hv : ∀ v w1, Qx v w1 → ∃ r : Int32, v = some (.int r)) (hM : zk_M l yX1_generator (ws_ yX1_generator cX1_generator 1 (some .int)) (zk_R k 1 6) D g [.ref hn] w Qx) : zk_ML l yX0_generator (wsW_ yX0_generator cX0_generator 3 (some .int) [(0, 8, 11, 21)]) (zk_R 9 1 6) D g [.ref hn, .ref ho] (zk_oc1 g ho f :: w) (fun v w2 => v = some (.int (nI 0)) ∧ ∃ (r : Int32) (f1 : Nat → Int64) (w1 : va_W), Qx (some (.int r)) w1 ∧ f1 0 = r.toInt64 ∧ w2 = zk_oc1 g ho f1 :: w1) := by
  refine zk_ofWL (by decide) (Nat.le_of_ble_eq_true rfl) ?_
  intro pg ev s mm below meth cd A C NC htab hr hlocks Z ls hl
  have hx := C.1.1
  have hb := C.1.2.1
  have hl : lv_has ls 3 [(0, .ref hn), (1, .ref ho)] := hl
  refine lv_aload_n hx hb dX0_generator_0 rfl (lv_at hl 1 rfl) ?_
  refine lv_iconst (v := nI 0) hx hb dX0_generator_1 (by decide) ?_
  refine lv_aload_n hx hb dX0_generator_2 rfl (lv_at hl 0 rfl) ?_
  refine zk_callVa (wr := [zk_oc1 g ho f]) (wc := w) (cells' := 1) (slots' := 6) (rest := [.int (nI 0), .ref ho]) (n := 0) C Z hM 0 0 rfl he rfl q361 q362 q363 q19 q364 (by decide +kernel) rfl (by show k + 1 ≤ 9; omega) (by show 8 + (1 + 11) + 60 * k ≤ 60 * 9; omega) (Nat.le_of_ble_eq_true rfl) (Nat.le_of_ble_eq_true rfl) rfl rfl hl.1 rfl (Nat.le_of_ble_eq_true rfl) dX0_generator_3 (fun v w1 H locs hq Z => ?_)
  obtain ⟨r, rfl⟩ := hv v w1 hq
  have Z : zk_Z D A s H locs (zk_oc1 g ho f :: w1) := Z
  refine W.eq (g2 := F0 mm 6 ls [.int r, .int (nI 0), .ref ho]) rfl ?_
  refine lv_i2l (v := r.toInt64) hx hb dX0_generator_6 rfl ?_
  refine zk_last C Z dX0_generator_7 (fun f1 H locs hf1 Z => ?_)
  refine lv_goto (tgt := 14) hx hb dX0_generator_8 (by decide) ?_
  refine lv_iconst (v := nI 0) hx hb dX0_generator_14 (by decide) ?_
  exact zk_iret C hr hlocks Z ⟨rfl, r, f1, w1, hq, hf1, rfl⟩ (Nat.le_of_ble_eq_true rfl) (Nat.le_of_ble_eq_true rfl) dX0_generator_15

set_option maxHeartbeats 4000000 in
theorem lt_generator_1 (l : Launch) (D : va_G) (g : G4) (hn : Nat) (ho : Nat) (f : Nat → Int64) (w : va_W) (fs : List Value) (he : w[0]? = some (hn, .inr (0, fs))) (k : Nat) (k8 : k ≤ 8) (Qx : va_W → Prop) (hM : zk_MT l yX1_generator (ws_ yX1_generator cX1_generator 1 (some .int)) (zk_R k 1 6) D g [.ref hn] w zk_ISE Qx) : zk_ML l yX0_generator (wsW_ yX0_generator cX0_generator 3 (some .int) [(0, 8, 11, 21)]) (zk_R 9 1 6) D g [.ref hn, .ref ho] (zk_oc1 g ho f :: w) (fun v w2 => v = some (.int (nI 1)) ∧ ∃ w1 : va_W, Qx w1 ∧ w2 = zk_oc1 g ho f :: w1) := by
  refine zk_ofWL (by decide) (Nat.le_of_ble_eq_true rfl) ?_
  intro pg ev s mm below meth cd A C NC htab hr hlocks Z ls hl
  have hx := C.1.1
  have hb := C.1.2.1
  have hl : lv_has ls 3 [(0, .ref hn), (1, .ref ho)] := hl
  refine lv_aload_n hx hb dX0_generator_0 rfl (lv_at hl 1 rfl) ?_
  refine lv_iconst (v := nI 0) hx hb dX0_generator_1 (by decide) ?_
  refine lv_aload_n hx hb dX0_generator_2 rfl (lv_at hl 0 rfl) ?_
  refine zk_callVTa (wr := [zk_oc1 g ho f]) (wc := w) (cells' := 1) (slots' := 6) (rest := [.int (nI 0), .ref ho]) (n := 0) C Z hM 0 0 rfl he rfl q361 q362 q363 q19 q364 (by decide +kernel) rfl (by show k + 1 ≤ 9; omega) (by show 8 + (1 + 11) + 60 * k ≤ 60 * 9; omega) (Nat.le_of_ble_eq_true rfl) (Nat.le_of_ble_eq_true rfl) rfl rfl hl.1 rfl (Nat.le_of_ble_eq_true rfl) dX0_generator_3 (fun w1 hq => ?_)
  refine zk_catch (ns := [zk_ISE]) (hpc := 11) C NC htab (by decide) (fun i q N h1 h2 => by
    match i with
    | 0 => cases h1; cases h2; exact q333
    | i + 1 => cases h1) (by decide) (by decide) (fun x H locs Z => ?_)
  refine lv_astore_n (lv' := [(2, .ref x), (0, .ref hn), (1, .ref ho)]) hx hb dX0_generator_11 rfl hl (by decide) rfl (fun ls hl => ?_)
  refine lv_iconst (v := nI 1) hx hb dX0_generator_12 (by decide) ?_
  exact zk_iret C hr hlocks Z ⟨rfl, w1, hq, rfl⟩ (Nat.le_of_ble_eq_true rfl) (Nat.le_of_ble_eq_true rfl) dX0_generator_13

set_option maxHeartbeats 4000000 in
theorem lr_power (l : Launch) (D : va_G) (g : G4) (hn : Nat) (p0 : Int32) (ho : Nat) (f : Nat → Int64) (w : va_W) (fs : List Value) (he : w[0]? = some (hn, .inr (0, fs))) (k : Nat) (k8 : k ≤ 8) (Qx : Option Value → va_W → Prop) (hv : ∀ v w1, Qx v w1 → ∃ r : Int32, v = some (.int r)) (hM : zk_M l yX1_power (ws_ yX1_power cX1_power 2 (some .int)) (zk_R k 1 6) D g [.ref hn, .int p0] w Qx) : zk_ML l yX0_power (wsW_ yX0_power cX0_power 4 (some .int) [(0, 9, 12, 21), (0, 9, 15, 13)]) (zk_R 9 1 6) D g [.ref hn, .int p0, .ref ho] (zk_oc1 g ho f :: w) (fun v w2 => v = some (.int (nI 0)) ∧ ∃ (r : Int32) (f1 : Nat → Int64) (w1 : va_W), Qx (some (.int r)) w1 ∧ f1 0 = r.toInt64 ∧ w2 = zk_oc1 g ho f1 :: w1) := by
  refine zk_ofWL (by decide) (Nat.le_of_ble_eq_true rfl) ?_
  intro pg ev s mm below meth cd A C NC htab hr hlocks Z ls hl
  have hx := C.1.1
  have hb := C.1.2.1
  have hl : lv_has ls 4 [(0, .ref hn), (1, .int p0), (2, .ref ho)] := hl
  refine lv_aload_n hx hb dX0_power_0 rfl (lv_at hl 2 rfl) ?_
  refine lv_iconst (v := nI 0) hx hb dX0_power_1 (by decide) ?_
  refine lv_aload_n hx hb dX0_power_2 rfl (lv_at hl 0 rfl) ?_
  refine lv_iload_n hx hb dX0_power_3 rfl (lv_at hl 1 rfl) ?_
  refine zk_callVa (wr := [zk_oc1 g ho f]) (wc := w) (cells' := 1) (slots' := 6) (rest := [.int (nI 0), .ref ho]) (n := 1) C Z hM 0 0 rfl he rfl q368 q369 q370 q19 q371 (by decide +kernel) rfl (by show k + 1 ≤ 9; omega) (by show 8 + (2 + 11) + 60 * k ≤ 60 * 9; omega) (Nat.le_of_ble_eq_true rfl) (Nat.le_of_ble_eq_true rfl) rfl rfl hl.1 rfl (Nat.le_of_ble_eq_true rfl) dX0_power_4 (fun v w1 H locs hq Z => ?_)
  obtain ⟨r, rfl⟩ := hv v w1 hq
  have Z : zk_Z D A s H locs (zk_oc1 g ho f :: w1) := Z
  refine W.eq (g2 := F0 mm 7 ls [.int r, .int (nI 0), .ref ho]) rfl ?_
  refine lv_i2l (v := r.toInt64) hx hb dX0_power_7 rfl ?_
  refine zk_last C Z dX0_power_8 (fun f1 H locs hf1 Z => ?_)
  refine lv_goto (tgt := 18) hx hb dX0_power_9 (by decide) ?_
  refine lv_iconst (v := nI 0) hx hb dX0_power_18 (by decide) ?_
  exact zk_iret C hr hlocks Z ⟨rfl, r, f1, w1, hq, hf1, rfl⟩ (Nat.le_of_ble_eq_true rfl) (Nat.le_of_ble_eq_true rfl) dX0_power_19

set_option maxHeartbeats 4000000 in
theorem lt_power_1 (l : Launch) (D : va_G) (g : G4) (hn : Nat) (p0 : Int32) (ho : Nat) (f : Nat → Int64) (w : va_W) (fs : List Value) (he : w[0]? = some (hn, .inr (0, fs))) (k : Nat) (k8 : k ≤ 8) (Qx : va_W → Prop) (hM : zk_MT l yX1_power (ws_ yX1_power cX1_power 2 (some .int)) (zk_R k 1 6) D g [.ref hn, .int p0] w zk_ISE Qx) : zk_ML l yX0_power (wsW_ yX0_power cX0_power 4 (some .int) [(0, 9, 12, 21), (0, 9, 15, 13)]) (zk_R 9 1 6) D g [.ref hn, .int p0, .ref ho] (zk_oc1 g ho f :: w) (fun v w2 => v = some (.int (nI 1)) ∧ ∃ w1 : va_W, Qx w1 ∧ w2 = zk_oc1 g ho f :: w1) := by
  refine zk_ofWL (by decide) (Nat.le_of_ble_eq_true rfl) ?_
  intro pg ev s mm below meth cd A C NC htab hr hlocks Z ls hl
  have hx := C.1.1
  have hb := C.1.2.1
  have hl : lv_has ls 4 [(0, .ref hn), (1, .int p0), (2, .ref ho)] := hl
  refine lv_aload_n hx hb dX0_power_0 rfl (lv_at hl 2 rfl) ?_
  refine lv_iconst (v := nI 0) hx hb dX0_power_1 (by decide) ?_
  refine lv_aload_n hx hb dX0_power_2 rfl (lv_at hl 0 rfl) ?_
  refine lv_iload_n hx hb dX0_power_3 rfl (lv_at hl 1 rfl) ?_
  refine zk_callVTa (wr := [zk_oc1 g ho f]) (wc := w) (cells' := 1) (slots' := 6) (rest := [.int (nI 0), .ref ho]) (n := 1) C Z hM 0 0 rfl he rfl q368 q369 q370 q19 q371 (by decide +kernel) rfl (by show k + 1 ≤ 9; omega) (by show 8 + (2 + 11) + 60 * k ≤ 60 * 9; omega) (Nat.le_of_ble_eq_true rfl) (Nat.le_of_ble_eq_true rfl) rfl rfl hl.1 rfl (Nat.le_of_ble_eq_true rfl) dX0_power_4 (fun w1 hq => ?_)
  refine zk_catch (ns := [zk_ISE, zk_IAE]) (hpc := 12) C NC htab (by decide) (fun i q N h1 h2 => by
    match i with
    | 0 => cases h1; cases h2; exact q333
    | 1 => cases h1; cases h2; exact q196
    | i + 2 => cases h1) (by decide) (by decide) (fun x H locs Z => ?_)
  refine lv_astore_n (lv' := [(3, .ref x), (0, .ref hn), (1, .int p0), (2, .ref ho)]) hx hb dX0_power_12 rfl hl (by decide) rfl (fun ls hl => ?_)
  refine lv_iconst (v := nI 1) hx hb dX0_power_13 (by decide) ?_
  exact zk_iret C hr hlocks Z ⟨rfl, w1, hq, rfl⟩ (Nat.le_of_ble_eq_true rfl) (Nat.le_of_ble_eq_true rfl) dX0_power_14

set_option maxHeartbeats 4000000 in
theorem lt_power_2 (l : Launch) (D : va_G) (g : G4) (hn : Nat) (p0 : Int32) (ho : Nat) (f : Nat → Int64) (w : va_W) (fs : List Value) (he : w[0]? = some (hn, .inr (0, fs))) (k : Nat) (k8 : k ≤ 8) (Qx : va_W → Prop) (hM : zk_MT l yX1_power (ws_ yX1_power cX1_power 2 (some .int)) (zk_R k 1 6) D g [.ref hn, .int p0] w zk_IAE Qx) : zk_ML l yX0_power (wsW_ yX0_power cX0_power 4 (some .int) [(0, 9, 12, 21), (0, 9, 15, 13)]) (zk_R 9 1 6) D g [.ref hn, .int p0, .ref ho] (zk_oc1 g ho f :: w) (fun v w2 => v = some (.int (nI 2)) ∧ ∃ w1 : va_W, Qx w1 ∧ w2 = zk_oc1 g ho f :: w1) := by
  refine zk_ofWL (by decide) (Nat.le_of_ble_eq_true rfl) ?_
  intro pg ev s mm below meth cd A C NC htab hr hlocks Z ls hl
  have hx := C.1.1
  have hb := C.1.2.1
  have hl : lv_has ls 4 [(0, .ref hn), (1, .int p0), (2, .ref ho)] := hl
  refine lv_aload_n hx hb dX0_power_0 rfl (lv_at hl 2 rfl) ?_
  refine lv_iconst (v := nI 0) hx hb dX0_power_1 (by decide) ?_
  refine lv_aload_n hx hb dX0_power_2 rfl (lv_at hl 0 rfl) ?_
  refine lv_iload_n hx hb dX0_power_3 rfl (lv_at hl 1 rfl) ?_
  refine zk_callVTa (wr := [zk_oc1 g ho f]) (wc := w) (cells' := 1) (slots' := 6) (rest := [.int (nI 0), .ref ho]) (n := 1) C Z hM 0 0 rfl he rfl q368 q369 q370 q19 q371 (by decide +kernel) rfl (by show k + 1 ≤ 9; omega) (by show 8 + (2 + 11) + 60 * k ≤ 60 * 9; omega) (Nat.le_of_ble_eq_true rfl) (Nat.le_of_ble_eq_true rfl) rfl rfl hl.1 rfl (Nat.le_of_ble_eq_true rfl) dX0_power_4 (fun w1 hq => ?_)
  refine zk_catch (ns := [zk_ISE, zk_IAE]) (hpc := 15) C NC htab (by decide) (fun i q N h1 h2 => by
    match i with
    | 0 => cases h1; cases h2; exact q333
    | 1 => cases h1; cases h2; exact q196
    | i + 2 => cases h1) (by decide) (by decide) (fun x H locs Z => ?_)
  refine lv_astore_n (lv' := [(3, .ref x), (0, .ref hn), (1, .int p0), (2, .ref ho)]) hx hb dX0_power_15 rfl hl (by decide) rfl (fun ls hl => ?_)
  refine lv_iconst (v := nI 2) hx hb dX0_power_16 (by decide) ?_
  exact zk_iret C hr hlocks Z ⟨rfl, w1, hq, rfl⟩ (Nat.le_of_ble_eq_true rfl) (Nat.le_of_ble_eq_true rfl) dX0_power_17

set_option maxHeartbeats 4000000 in
theorem lr_log (l : Launch) (D : va_G) (g : G4) (hn : Nat) (p0 : Int32) (ho : Nat) (f : Nat → Int64) (w : va_W) (fs : List Value) (he : w[0]? = some (hn, .inr (0, fs))) (k : Nat) (k8 : k ≤ 8) (Qx : Option Value → va_W → Prop) (hv : ∀ v w1, Qx v w1 → ∃ r : Int32, v = some (.int r)) (hM : zk_M l yX1_log (ws_ yX1_log cX1_log 2 (some .int)) (zk_R k 1 6) D g [.ref hn, .int p0] w Qx) : zk_ML l yX0_log (wsW_ yX0_log cX0_log 4 (some .int) [(0, 9, 12, 21), (0, 9, 15, 13)]) (zk_R 9 1 6) D g [.ref hn, .int p0, .ref ho] (zk_oc1 g ho f :: w) (fun v w2 => v = some (.int (nI 0)) ∧ ∃ (r : Int32) (f1 : Nat → Int64) (w1 : va_W), Qx (some (.int r)) w1 ∧ f1 0 = r.toInt64 ∧ w2 = zk_oc1 g ho f1 :: w1) := by
  refine zk_ofWL (by decide) (Nat.le_of_ble_eq_true rfl) ?_
  intro pg ev s mm below meth cd A C NC htab hr hlocks Z ls hl
  have hx := C.1.1
  have hb := C.1.2.1
  have hl : lv_has ls 4 [(0, .ref hn), (1, .int p0), (2, .ref ho)] := hl
  refine lv_aload_n hx hb dX0_log_0 rfl (lv_at hl 2 rfl) ?_
  refine lv_iconst (v := nI 0) hx hb dX0_log_1 (by decide) ?_
  refine lv_aload_n hx hb dX0_log_2 rfl (lv_at hl 0 rfl) ?_
  refine lv_iload_n hx hb dX0_log_3 rfl (lv_at hl 1 rfl) ?_
  refine zk_callVa (wr := [zk_oc1 g ho f]) (wc := w) (cells' := 1) (slots' := 6) (rest := [.int (nI 0), .ref ho]) (n := 1) C Z hM 0 0 rfl he rfl q375 q376 q377 q19 q378 (by decide +kernel) rfl (by show k + 1 ≤ 9; omega) (by show 8 + (2 + 11) + 60 * k ≤ 60 * 9; omega) (Nat.le_of_ble_eq_true rfl) (Nat.le_of_ble_eq_true rfl) rfl rfl hl.1 rfl (Nat.le_of_ble_eq_true rfl) dX0_log_4 (fun v w1 H locs hq Z => ?_)
  obtain ⟨r, rfl⟩ := hv v w1 hq
  have Z : zk_Z D A s H locs (zk_oc1 g ho f :: w1) := Z
  refine W.eq (g2 := F0 mm 7 ls [.int r, .int (nI 0), .ref ho]) rfl ?_
  refine lv_i2l (v := r.toInt64) hx hb dX0_log_7 rfl ?_
  refine zk_last C Z dX0_log_8 (fun f1 H locs hf1 Z => ?_)
  refine lv_goto (tgt := 18) hx hb dX0_log_9 (by decide) ?_
  refine lv_iconst (v := nI 0) hx hb dX0_log_18 (by decide) ?_
  exact zk_iret C hr hlocks Z ⟨rfl, r, f1, w1, hq, hf1, rfl⟩ (Nat.le_of_ble_eq_true rfl) (Nat.le_of_ble_eq_true rfl) dX0_log_19

set_option maxHeartbeats 4000000 in
theorem lt_log_1 (l : Launch) (D : va_G) (g : G4) (hn : Nat) (p0 : Int32) (ho : Nat) (f : Nat → Int64) (w : va_W) (fs : List Value) (he : w[0]? = some (hn, .inr (0, fs))) (k : Nat) (k8 : k ≤ 8) (Qx : va_W → Prop) (hM : zk_MT l yX1_log (ws_ yX1_log cX1_log 2 (some .int)) (zk_R k 1 6) D g [.ref hn, .int p0] w zk_ISE Qx) : zk_ML l yX0_log (wsW_ yX0_log cX0_log 4 (some .int) [(0, 9, 12, 21), (0, 9, 15, 13)]) (zk_R 9 1 6) D g [.ref hn, .int p0, .ref ho] (zk_oc1 g ho f :: w) (fun v w2 => v = some (.int (nI 1)) ∧ ∃ w1 : va_W, Qx w1 ∧ w2 = zk_oc1 g ho f :: w1) := by
  refine zk_ofWL (by decide) (Nat.le_of_ble_eq_true rfl) ?_
  intro pg ev s mm below meth cd A C NC htab hr hlocks Z ls hl
  have hx := C.1.1
  have hb := C.1.2.1
  have hl : lv_has ls 4 [(0, .ref hn), (1, .int p0), (2, .ref ho)] := hl
  refine lv_aload_n hx hb dX0_log_0 rfl (lv_at hl 2 rfl) ?_
  refine lv_iconst (v := nI 0) hx hb dX0_log_1 (by decide) ?_
  refine lv_aload_n hx hb dX0_log_2 rfl (lv_at hl 0 rfl) ?_
  refine lv_iload_n hx hb dX0_log_3 rfl (lv_at hl 1 rfl) ?_
  refine zk_callVTa (wr := [zk_oc1 g ho f]) (wc := w) (cells' := 1) (slots' := 6) (rest := [.int (nI 0), .ref ho]) (n := 1) C Z hM 0 0 rfl he rfl q375 q376 q377 q19 q378 (by decide +kernel) rfl (by show k + 1 ≤ 9; omega) (by show 8 + (2 + 11) + 60 * k ≤ 60 * 9; omega) (Nat.le_of_ble_eq_true rfl) (Nat.le_of_ble_eq_true rfl) rfl rfl hl.1 rfl (Nat.le_of_ble_eq_true rfl) dX0_log_4 (fun w1 hq => ?_)
  refine zk_catch (ns := [zk_ISE, zk_IAE]) (hpc := 12) C NC htab (by decide) (fun i q N h1 h2 => by
    match i with
    | 0 => cases h1; cases h2; exact q333
    | 1 => cases h1; cases h2; exact q196
    | i + 2 => cases h1) (by decide) (by decide) (fun x H locs Z => ?_)
  refine lv_astore_n (lv' := [(3, .ref x), (0, .ref hn), (1, .int p0), (2, .ref ho)]) hx hb dX0_log_12 rfl hl (by decide) rfl (fun ls hl => ?_)
  refine lv_iconst (v := nI 1) hx hb dX0_log_13 (by decide) ?_
  exact zk_iret C hr hlocks Z ⟨rfl, w1, hq, rfl⟩ (Nat.le_of_ble_eq_true rfl) (Nat.le_of_ble_eq_true rfl) dX0_log_14

set_option maxHeartbeats 4000000 in
theorem lt_log_2 (l : Launch) (D : va_G) (g : G4) (hn : Nat) (p0 : Int32) (ho : Nat) (f : Nat → Int64) (w : va_W) (fs : List Value) (he : w[0]? = some (hn, .inr (0, fs))) (k : Nat) (k8 : k ≤ 8) (Qx : va_W → Prop) (hM : zk_MT l yX1_log (ws_ yX1_log cX1_log 2 (some .int)) (zk_R k 1 6) D g [.ref hn, .int p0] w zk_IAE Qx) : zk_ML l yX0_log (wsW_ yX0_log cX0_log 4 (some .int) [(0, 9, 12, 21), (0, 9, 15, 13)]) (zk_R 9 1 6) D g [.ref hn, .int p0, .ref ho] (zk_oc1 g ho f :: w) (fun v w2 => v = some (.int (nI 2)) ∧ ∃ w1 : va_W, Qx w1 ∧ w2 = zk_oc1 g ho f :: w1) := by
  refine zk_ofWL (by decide) (Nat.le_of_ble_eq_true rfl) ?_
  intro pg ev s mm below meth cd A C NC htab hr hlocks Z ls hl
  have hx := C.1.1
  have hb := C.1.2.1
  have hl : lv_has ls 4 [(0, .ref hn), (1, .int p0), (2, .ref ho)] := hl
  refine lv_aload_n hx hb dX0_log_0 rfl (lv_at hl 2 rfl) ?_
  refine lv_iconst (v := nI 0) hx hb dX0_log_1 (by decide) ?_
  refine lv_aload_n hx hb dX0_log_2 rfl (lv_at hl 0 rfl) ?_
  refine lv_iload_n hx hb dX0_log_3 rfl (lv_at hl 1 rfl) ?_
  refine zk_callVTa (wr := [zk_oc1 g ho f]) (wc := w) (cells' := 1) (slots' := 6) (rest := [.int (nI 0), .ref ho]) (n := 1) C Z hM 0 0 rfl he rfl q375 q376 q377 q19 q378 (by decide +kernel) rfl (by show k + 1 ≤ 9; omega) (by show 8 + (2 + 11) + 60 * k ≤ 60 * 9; omega) (Nat.le_of_ble_eq_true rfl) (Nat.le_of_ble_eq_true rfl) rfl rfl hl.1 rfl (Nat.le_of_ble_eq_true rfl) dX0_log_4 (fun w1 hq => ?_)
  refine zk_catch (ns := [zk_ISE, zk_IAE]) (hpc := 15) C NC htab (by decide) (fun i q N h1 h2 => by
    match i with
    | 0 => cases h1; cases h2; exact q333
    | 1 => cases h1; cases h2; exact q196
    | i + 2 => cases h1) (by decide) (by decide) (fun x H locs Z => ?_)
  refine lv_astore_n (lv' := [(3, .ref x), (0, .ref hn), (1, .int p0), (2, .ref ho)]) hx hb dX0_log_15 rfl hl (by decide) rfl (fun ls hl => ?_)
  refine lv_iconst (v := nI 2) hx hb dX0_log_16 (by decide) ?_
  exact zk_iret C hr hlocks Z ⟨rfl, w1, hq, rfl⟩ (Nat.le_of_ble_eq_true rfl) (Nat.le_of_ble_eq_true rfl) dX0_log_17

set_option maxHeartbeats 4000000 in
theorem lr_times (l : Launch) (D : va_G) (g : G4) (hn : Nat) (p0 p1 : Int32) (ho : Nat) (f : Nat → Int64) (w : va_W) (fs : List Value) (he : w[0]? = some (hn, .inr (0, fs))) (k : Nat) (k8 : k ≤ 8) (Qx : Option Value → va_W → Prop) (hv : ∀ v w1, Qx v w1 → ∃ r : Int32, v = some (.int r)) (hM : zk_M l yX1_times (ws_ yX1_times cX1_times 3 (some .int)) (zk_R k 1 6) D g [.ref hn, .int p0, .int p1] w Qx) : zk_ML l yX0_times (wsW_ yX0_times cX0_times 5 (some .int) [(0, 10, 13, 21), (0, 10, 17, 13)]) (zk_R 9 1 6) D g [.ref hn, .int p0, .int p1, .ref ho] (zk_oc1 g ho f :: w) (fun v w2 => v = some (.int (nI 0)) ∧ ∃ (r : Int32) (f1 : Nat → Int64) (w1 : va_W), Qx (some (.int r)) w1 ∧ f1 0 = r.toInt64 ∧ w2 = zk_oc1 g ho f1 :: w1) := by
  refine zk_ofWL (by decide) (Nat.le_of_ble_eq_true rfl) ?_
  intro pg ev s mm below meth cd A C NC htab hr hlocks Z ls hl
  have hx := C.1.1
  have hb := C.1.2.1
  have hl : lv_has ls 5 [(0, .ref hn), (1, .int p0), (2, .int p1), (3, .ref ho)] := hl
  refine lv_aload_n hx hb dX0_times_0 rfl (lv_at hl 3 rfl) ?_
  refine lv_iconst (v := nI 0) hx hb dX0_times_1 (by decide) ?_
  refine lv_aload_n hx hb dX0_times_2 rfl (lv_at hl 0 rfl) ?_
  refine lv_iload_n hx hb dX0_times_3 rfl (lv_at hl 1 rfl) ?_
  refine lv_iload_n hx hb dX0_times_4 rfl (lv_at hl 2 rfl) ?_
  refine zk_callVa (wr := [zk_oc1 g ho f]) (wc := w) (cells' := 1) (slots' := 6) (rest := [.int (nI 0), .ref ho]) (n := 2) C Z hM 0 0 rfl he rfl q382 q383 q384 q19 q385 (by decide +kernel) rfl (by show k + 1 ≤ 9; omega) (by show 8 + (3 + 11) + 60 * k ≤ 60 * 9; omega) (Nat.le_of_ble_eq_true rfl) (Nat.le_of_ble_eq_true rfl) rfl rfl hl.1 rfl (Nat.le_of_ble_eq_true rfl) dX0_times_5 (fun v w1 H locs hq Z => ?_)
  obtain ⟨r, rfl⟩ := hv v w1 hq
  have Z : zk_Z D A s H locs (zk_oc1 g ho f :: w1) := Z
  refine W.eq (g2 := F0 mm 8 ls [.int r, .int (nI 0), .ref ho]) rfl ?_
  refine lv_i2l (v := r.toInt64) hx hb dX0_times_8 rfl ?_
  refine zk_last C Z dX0_times_9 (fun f1 H locs hf1 Z => ?_)
  refine lv_goto (tgt := 21) hx hb dX0_times_10 (by decide) ?_
  refine lv_iconst (v := nI 0) hx hb dX0_times_21 (by decide) ?_
  exact zk_iret C hr hlocks Z ⟨rfl, r, f1, w1, hq, hf1, rfl⟩ (Nat.le_of_ble_eq_true rfl) (Nat.le_of_ble_eq_true rfl) dX0_times_22

set_option maxHeartbeats 4000000 in
theorem lt_times_1 (l : Launch) (D : va_G) (g : G4) (hn : Nat) (p0 p1 : Int32) (ho : Nat) (f : Nat → Int64) (w : va_W) (fs : List Value) (he : w[0]? = some (hn, .inr (0, fs))) (k : Nat) (k8 : k ≤ 8) (Qx : va_W → Prop) (hM : zk_MT l yX1_times (ws_ yX1_times cX1_times 3 (some .int)) (zk_R k 1 6) D g [.ref hn, .int p0, .int p1] w zk_ISE Qx) : zk_ML l yX0_times (wsW_ yX0_times cX0_times 5 (some .int) [(0, 10, 13, 21), (0, 10, 17, 13)]) (zk_R 9 1 6) D g [.ref hn, .int p0, .int p1, .ref ho] (zk_oc1 g ho f :: w) (fun v w2 => v = some (.int (nI 1)) ∧ ∃ w1 : va_W, Qx w1 ∧ w2 = zk_oc1 g ho f :: w1) := by
  refine zk_ofWL (by decide) (Nat.le_of_ble_eq_true rfl) ?_
  intro pg ev s mm below meth cd A C NC htab hr hlocks Z ls hl
  have hx := C.1.1
  have hb := C.1.2.1
  have hl : lv_has ls 5 [(0, .ref hn), (1, .int p0), (2, .int p1), (3, .ref ho)] := hl
  refine lv_aload_n hx hb dX0_times_0 rfl (lv_at hl 3 rfl) ?_
  refine lv_iconst (v := nI 0) hx hb dX0_times_1 (by decide) ?_
  refine lv_aload_n hx hb dX0_times_2 rfl (lv_at hl 0 rfl) ?_
  refine lv_iload_n hx hb dX0_times_3 rfl (lv_at hl 1 rfl) ?_
  refine lv_iload_n hx hb dX0_times_4 rfl (lv_at hl 2 rfl) ?_
  refine zk_callVTa (wr := [zk_oc1 g ho f]) (wc := w) (cells' := 1) (slots' := 6) (rest := [.int (nI 0), .ref ho]) (n := 2) C Z hM 0 0 rfl he rfl q382 q383 q384 q19 q385 (by decide +kernel) rfl (by show k + 1 ≤ 9; omega) (by show 8 + (3 + 11) + 60 * k ≤ 60 * 9; omega) (Nat.le_of_ble_eq_true rfl) (Nat.le_of_ble_eq_true rfl) rfl rfl hl.1 rfl (Nat.le_of_ble_eq_true rfl) dX0_times_5 (fun w1 hq => ?_)
  refine zk_catch (ns := [zk_ISE, zk_IAE]) (hpc := 13) C NC htab (by decide) (fun i q N h1 h2 => by
    match i with
    | 0 => cases h1; cases h2; exact q333
    | 1 => cases h1; cases h2; exact q196
    | i + 2 => cases h1) (by decide) (by decide) (fun x H locs Z => ?_)
  refine lv_astore (lv' := [(4, .ref x), (0, .ref hn), (1, .int p0), (2, .int p1), (3, .ref ho)]) hx hb dX0_times_13 hl (by decide) rfl (fun ls hl => ?_)
  refine lv_iconst (v := nI 1) hx hb dX0_times_15 (by decide) ?_
  exact zk_iret C hr hlocks Z ⟨rfl, w1, hq, rfl⟩ (Nat.le_of_ble_eq_true rfl) (Nat.le_of_ble_eq_true rfl) dX0_times_16

set_option maxHeartbeats 4000000 in
theorem lt_times_2 (l : Launch) (D : va_G) (g : G4) (hn : Nat) (p0 p1 : Int32) (ho : Nat) (f : Nat → Int64) (w : va_W) (fs : List Value) (he : w[0]? = some (hn, .inr (0, fs))) (k : Nat) (k8 : k ≤ 8) (Qx : va_W → Prop) (hM : zk_MT l yX1_times (ws_ yX1_times cX1_times 3 (some .int)) (zk_R k 1 6) D g [.ref hn, .int p0, .int p1] w zk_IAE Qx) : zk_ML l yX0_times (wsW_ yX0_times cX0_times 5 (some .int) [(0, 10, 13, 21), (0, 10, 17, 13)]) (zk_R 9 1 6) D g [.ref hn, .int p0, .int p1, .ref ho] (zk_oc1 g ho f :: w) (fun v w2 => v = some (.int (nI 2)) ∧ ∃ w1 : va_W, Qx w1 ∧ w2 = zk_oc1 g ho f :: w1) := by
  refine zk_ofWL (by decide) (Nat.le_of_ble_eq_true rfl) ?_
  intro pg ev s mm below meth cd A C NC htab hr hlocks Z ls hl
  have hx := C.1.1
  have hb := C.1.2.1
  have hl : lv_has ls 5 [(0, .ref hn), (1, .int p0), (2, .int p1), (3, .ref ho)] := hl
  refine lv_aload_n hx hb dX0_times_0 rfl (lv_at hl 3 rfl) ?_
  refine lv_iconst (v := nI 0) hx hb dX0_times_1 (by decide) ?_
  refine lv_aload_n hx hb dX0_times_2 rfl (lv_at hl 0 rfl) ?_
  refine lv_iload_n hx hb dX0_times_3 rfl (lv_at hl 1 rfl) ?_
  refine lv_iload_n hx hb dX0_times_4 rfl (lv_at hl 2 rfl) ?_
  refine zk_callVTa (wr := [zk_oc1 g ho f]) (wc := w) (cells' := 1) (slots' := 6) (rest := [.int (nI 0), .ref ho]) (n := 2) C Z hM 0 0 rfl he rfl q382 q383 q384 q19 q385 (by decide +kernel) rfl (by show k + 1 ≤ 9; omega) (by show 8 + (3 + 11) + 60 * k ≤ 60 * 9; omega) (Nat.le_of_ble_eq_true rfl) (Nat.le_of_ble_eq_true rfl) rfl rfl hl.1 rfl (Nat.le_of_ble_eq_true rfl) dX0_times_5 (fun w1 hq => ?_)
  refine zk_catch (ns := [zk_ISE, zk_IAE]) (hpc := 17) C NC htab (by decide) (fun i q N h1 h2 => by
    match i with
    | 0 => cases h1; cases h2; exact q333
    | 1 => cases h1; cases h2; exact q196
    | i + 2 => cases h1) (by decide) (by decide) (fun x H locs Z => ?_)
  refine lv_astore (lv' := [(4, .ref x), (0, .ref hn), (1, .int p0), (2, .int p1), (3, .ref ho)]) hx hb dX0_times_17 hl (by decide) rfl (fun ls hl => ?_)
  refine lv_iconst (v := nI 2) hx hb dX0_times_19 (by decide) ?_
  exact zk_iret C hr hlocks Z ⟨rfl, w1, hq, rfl⟩ (Nat.le_of_ble_eq_true rfl) (Nat.le_of_ble_eq_true rfl) dX0_times_20

set_option maxHeartbeats 4000000 in
theorem lr_put (l : Launch) (D : va_G) (g : G4) (hn : Nat) (p0 p1 : Int32)  (w : va_W) (fs : List Value) (he : w[0]? = some (hn, .inr (0, fs))) (k : Nat) (k8 : k ≤ 8) (Qx : Option Value → va_W → Prop) (hv : ∀ v w1, Qx v w1 → v = none) (hM : zk_M l yX1_put (ws_ yX1_put cX1_put 4 none) (zk_R k 1 6) D g [.ref hn, .int p0, .int p1] w Qx) : zk_ML l yX0_put (wsW_ yX0_put cX0_put 4 (some .int) [(0, 6, 9, 21), (0, 6, 12, 41), (0, 6, 15, 13)]) (zk_R 9 1 6) D g [.ref hn, .int p0, .int p1] w (fun v w2 => v = some (.int (nI 0)) ∧ Qx none w2) := by
  refine zk_ofWL (by decide) (Nat.le_of_ble_eq_true rfl) ?_
  intro pg ev s mm below meth cd A C NC htab hr hlocks Z ls hl
  have hx := C.1.1
  have hb := C.1.2.1
  have hl : lv_has ls 4 [(0, .ref hn), (1, .int p0), (2, .int p1)] := hl
  refine lv_aload_n hx hb dX0_put_0 rfl (lv_at hl 0 rfl) ?_
  refine lv_iload_n hx hb dX0_put_1 rfl (lv_at hl 1 rfl) ?_
  refine lv_iload_n hx hb dX0_put_2 rfl (lv_at hl 2 rfl) ?_
  have Z : zk_Z D A s s.heap [] ([] ++ w) := Z
  refine zk_callVa (wr := []) (wc := w) (cells' := 1) (slots' := 6) (rest := []) (n := 2) C Z hM 0 0 rfl he rfl q409 q410 q411 q19 q412 (by decide +kernel) rfl (by show k + 1 ≤ 9; omega) (by show 8 + (4 + 11) + 60 * k ≤ 60 * 9; omega) (Nat.le_of_ble_eq_true rfl) (Nat.le_of_ble_eq_true rfl) rfl rfl hl.1 rfl (Nat.le_of_ble_eq_true rfl) dX0_put_3 (fun v w1 H locs hq Z => ?_)
  obtain rfl := hv v w1 hq
  have Z : zk_Z D A s H locs w1 := Z
  refine W.eq (g2 := F0 mm 6 ls []) rfl ?_
  refine lv_goto (tgt := 18) hx hb dX0_put_6 (by decide) ?_
  refine lv_iconst (v := nI 0) hx hb dX0_put_18 (by decide) ?_
  exact zk_iret C hr hlocks Z ⟨rfl, hq⟩ (Nat.le_of_ble_eq_true rfl) (Nat.le_of_ble_eq_true rfl) dX0_put_19

set_option maxHeartbeats 4000000 in
theorem lt_put_1 (l : Launch) (D : va_G) (g : G4) (hn : Nat) (p0 p1 : Int32)  (w : va_W) (fs : List Value) (he : w[0]? = some (hn, .inr (0, fs))) (k : Nat) (k8 : k ≤ 8) (Qx : va_W → Prop) (hM : zk_MT l yX1_put (ws_ yX1_put cX1_put 4 none) (zk_R k 1 6) D g [.ref hn, .int p0, .int p1] w zk_ISE Qx) : zk_ML l yX0_put (wsW_ yX0_put cX0_put 4 (some .int) [(0, 6, 9, 21), (0, 6, 12, 41), (0, 6, 15, 13)]) (zk_R 9 1 6) D g [.ref hn, .int p0, .int p1] w (fun v w2 => v = some (.int (nI 1)) ∧ ∃ w1 : va_W, Qx w1 ∧ w2 = w1) := by
  refine zk_ofWL (by decide) (Nat.le_of_ble_eq_true rfl) ?_
  intro pg ev s mm below meth cd A C NC htab hr hlocks Z ls hl
  have hx := C.1.1
  have hb := C.1.2.1
  have hl : lv_has ls 4 [(0, .ref hn), (1, .int p0), (2, .int p1)] := hl
  refine lv_aload_n hx hb dX0_put_0 rfl (lv_at hl 0 rfl) ?_
  refine lv_iload_n hx hb dX0_put_1 rfl (lv_at hl 1 rfl) ?_
  refine lv_iload_n hx hb dX0_put_2 rfl (lv_at hl 2 rfl) ?_
  have Z : zk_Z D A s s.heap [] ([] ++ w) := Z
  refine zk_callVTa (wr := []) (wc := w) (cells' := 1) (slots' := 6) (rest := []) (n := 2) C Z hM 0 0 rfl he rfl q409 q410 q411 q19 q412 (by decide +kernel) rfl (by show k + 1 ≤ 9; omega) (by show 8 + (4 + 11) + 60 * k ≤ 60 * 9; omega) (Nat.le_of_ble_eq_true rfl) (Nat.le_of_ble_eq_true rfl) rfl rfl hl.1 rfl (Nat.le_of_ble_eq_true rfl) dX0_put_3 (fun w1 hq => ?_)
  refine zk_catch (ns := [zk_ISE, zk_IOB, zk_IAE]) (hpc := 9) C NC htab (by decide) (fun i q N h1 h2 => by
    match i with
    | 0 => cases h1; cases h2; exact q333
    | 1 => cases h1; cases h2; exact q390
    | 2 => cases h1; cases h2; exact q196
    | i + 3 => cases h1) (by decide) (by decide) (fun x H locs Z => ?_)
  refine lv_astore_n (lv' := [(3, .ref x), (0, .ref hn), (1, .int p0), (2, .int p1)]) hx hb dX0_put_9 rfl hl (by decide) rfl (fun ls hl => ?_)
  refine lv_iconst (v := nI 1) hx hb dX0_put_10 (by decide) ?_
  exact zk_iret C hr hlocks Z ⟨rfl, w1, hq, rfl⟩ (Nat.le_of_ble_eq_true rfl) (Nat.le_of_ble_eq_true rfl) dX0_put_11

set_option maxHeartbeats 4000000 in
theorem lt_put_2 (l : Launch) (D : va_G) (g : G4) (hn : Nat) (p0 p1 : Int32)  (w : va_W) (fs : List Value) (he : w[0]? = some (hn, .inr (0, fs))) (k : Nat) (k8 : k ≤ 8) (Qx : va_W → Prop) (hM : zk_MT l yX1_put (ws_ yX1_put cX1_put 4 none) (zk_R k 1 6) D g [.ref hn, .int p0, .int p1] w zk_IOB Qx) : zk_ML l yX0_put (wsW_ yX0_put cX0_put 4 (some .int) [(0, 6, 9, 21), (0, 6, 12, 41), (0, 6, 15, 13)]) (zk_R 9 1 6) D g [.ref hn, .int p0, .int p1] w (fun v w2 => v = some (.int (nI 2)) ∧ ∃ w1 : va_W, Qx w1 ∧ w2 = w1) := by
  refine zk_ofWL (by decide) (Nat.le_of_ble_eq_true rfl) ?_
  intro pg ev s mm below meth cd A C NC htab hr hlocks Z ls hl
  have hx := C.1.1
  have hb := C.1.2.1
  have hl : lv_has ls 4 [(0, .ref hn), (1, .int p0), (2, .int p1)] := hl
  refine lv_aload_n hx hb dX0_put_0 rfl (lv_at hl 0 rfl) ?_
  refine lv_iload_n hx hb dX0_put_1 rfl (lv_at hl 1 rfl) ?_
  refine lv_iload_n hx hb dX0_put_2 rfl (lv_at hl 2 rfl) ?_
  have Z : zk_Z D A s s.heap [] ([] ++ w) := Z
  refine zk_callVTa (wr := []) (wc := w) (cells' := 1) (slots' := 6) (rest := []) (n := 2) C Z hM 0 0 rfl he rfl q409 q410 q411 q19 q412 (by decide +kernel) rfl (by show k + 1 ≤ 9; omega) (by show 8 + (4 + 11) + 60 * k ≤ 60 * 9; omega) (Nat.le_of_ble_eq_true rfl) (Nat.le_of_ble_eq_true rfl) rfl rfl hl.1 rfl (Nat.le_of_ble_eq_true rfl) dX0_put_3 (fun w1 hq => ?_)
  refine zk_catch (ns := [zk_ISE, zk_IOB, zk_IAE]) (hpc := 12) C NC htab (by decide) (fun i q N h1 h2 => by
    match i with
    | 0 => cases h1; cases h2; exact q333
    | 1 => cases h1; cases h2; exact q390
    | 2 => cases h1; cases h2; exact q196
    | i + 3 => cases h1) (by decide) (by decide) (fun x H locs Z => ?_)
  refine lv_astore_n (lv' := [(3, .ref x), (0, .ref hn), (1, .int p0), (2, .int p1)]) hx hb dX0_put_12 rfl hl (by decide) rfl (fun ls hl => ?_)
  refine lv_iconst (v := nI 2) hx hb dX0_put_13 (by decide) ?_
  exact zk_iret C hr hlocks Z ⟨rfl, w1, hq, rfl⟩ (Nat.le_of_ble_eq_true rfl) (Nat.le_of_ble_eq_true rfl) dX0_put_14

set_option maxHeartbeats 4000000 in
theorem lt_put_3 (l : Launch) (D : va_G) (g : G4) (hn : Nat) (p0 p1 : Int32)  (w : va_W) (fs : List Value) (he : w[0]? = some (hn, .inr (0, fs))) (k : Nat) (k8 : k ≤ 8) (Qx : va_W → Prop) (hM : zk_MT l yX1_put (ws_ yX1_put cX1_put 4 none) (zk_R k 1 6) D g [.ref hn, .int p0, .int p1] w zk_IAE Qx) : zk_ML l yX0_put (wsW_ yX0_put cX0_put 4 (some .int) [(0, 6, 9, 21), (0, 6, 12, 41), (0, 6, 15, 13)]) (zk_R 9 1 6) D g [.ref hn, .int p0, .int p1] w (fun v w2 => v = some (.int (nI 3)) ∧ ∃ w1 : va_W, Qx w1 ∧ w2 = w1) := by
  refine zk_ofWL (by decide) (Nat.le_of_ble_eq_true rfl) ?_
  intro pg ev s mm below meth cd A C NC htab hr hlocks Z ls hl
  have hx := C.1.1
  have hb := C.1.2.1
  have hl : lv_has ls 4 [(0, .ref hn), (1, .int p0), (2, .int p1)] := hl
  refine lv_aload_n hx hb dX0_put_0 rfl (lv_at hl 0 rfl) ?_
  refine lv_iload_n hx hb dX0_put_1 rfl (lv_at hl 1 rfl) ?_
  refine lv_iload_n hx hb dX0_put_2 rfl (lv_at hl 2 rfl) ?_
  have Z : zk_Z D A s s.heap [] ([] ++ w) := Z
  refine zk_callVTa (wr := []) (wc := w) (cells' := 1) (slots' := 6) (rest := []) (n := 2) C Z hM 0 0 rfl he rfl q409 q410 q411 q19 q412 (by decide +kernel) rfl (by show k + 1 ≤ 9; omega) (by show 8 + (4 + 11) + 60 * k ≤ 60 * 9; omega) (Nat.le_of_ble_eq_true rfl) (Nat.le_of_ble_eq_true rfl) rfl rfl hl.1 rfl (Nat.le_of_ble_eq_true rfl) dX0_put_3 (fun w1 hq => ?_)
  refine zk_catch (ns := [zk_ISE, zk_IOB, zk_IAE]) (hpc := 15) C NC htab (by decide) (fun i q N h1 h2 => by
    match i with
    | 0 => cases h1; cases h2; exact q333
    | 1 => cases h1; cases h2; exact q390
    | 2 => cases h1; cases h2; exact q196
    | i + 3 => cases h1) (by decide) (by decide) (fun x H locs Z => ?_)
  refine lv_astore_n (lv' := [(3, .ref x), (0, .ref hn), (1, .int p0), (2, .int p1)]) hx hb dX0_put_15 rfl hl (by decide) rfl (fun ls hl => ?_)
  refine lv_iconst (v := nI 3) hx hb dX0_put_16 (by decide) ?_
  exact zk_iret C hr hlocks Z ⟨rfl, w1, hq, rfl⟩ (Nat.le_of_ble_eq_true rfl) (Nat.le_of_ble_eq_true rfl) dX0_put_17

set_option maxHeartbeats 4000000 in
theorem lr_get (l : Launch) (D : va_G) (g : G4) (hn : Nat) (p0 : Int32) (ho : Nat) (f : Nat → Int64) (w : va_W) (fs : List Value) (he : w[0]? = some (hn, .inr (0, fs))) (k : Nat) (k8 : k ≤ 8) (Qx : Option Value → va_W → Prop) (hv : ∀ v w1, Qx v w1 → ∃ r : Int32, v = some (.int r)) (hM : zk_M l yX1_get (ws_ yX1_get cX1_get 2 (some .int)) (zk_R k 1 6) D g [.ref hn, .int p0] w Qx) : zk_ML l yX0_get (wsW_ yX0_get cX0_get 4 (some .int) [(0, 9, 12, 21), (0, 9, 15, 41)]) (zk_R 9 1 6) D g [.ref hn, .int p0, .ref ho] (zk_oc1 g ho f :: w) (fun v w2 => v = some (.int (nI 0)) ∧ ∃ (r : Int32) (f1 : Nat → Int64) (w1 : va_W), Qx (some (.int r)) w1 ∧ f1 0 = r.toInt64 ∧ w2 = zk_oc1 g ho f1 :: w1) := by
  refine zk_ofWL (by decide) (Nat.le_of_ble_eq_true rfl) ?_
  intro pg ev s mm below meth cd A C NC htab hr hlocks Z ls hl
  have hx := C.1.1
  have hb := C.1.2.1
  have hl : lv_has ls 4 [(0, .ref hn), (1, .int p0), (2, .ref ho)] := hl
  refine lv_aload_n hx hb dX0_get_0 rfl (lv_at hl 2 rfl) ?_
  refine lv_iconst (v := nI 0) hx hb dX0_get_1 (by decide) ?_
  refine lv_aload_n hx hb dX0_get_2 rfl (lv_at hl 0 rfl) ?_
  refine lv_iload_n hx hb dX0_get_3 rfl (lv_at hl 1 rfl) ?_
  refine zk_callVa (wr := [zk_oc1 g ho f]) (wc := w) (cells' := 1) (slots' := 6) (rest := [.int (nI 0), .ref ho]) (n := 1) C Z hM 0 0 rfl he rfl q432 q433 q434 q19 q435 (by decide +kernel) rfl (by show k + 1 ≤ 9; omega) (by show 8 + (2 + 11) + 60 * k ≤ 60 * 9; omega) (Nat.le_of_ble_eq_true rfl) (Nat.le_of_ble_eq_true rfl) rfl rfl hl.1 rfl (Nat.le_of_ble_eq_true rfl) dX0_get_4 (fun v w1 H locs hq Z => ?_)
  obtain ⟨r, rfl⟩ := hv v w1 hq
  have Z : zk_Z D A s H locs (zk_oc1 g ho f :: w1) := Z
  refine W.eq (g2 := F0 mm 7 ls [.int r, .int (nI 0), .ref ho]) rfl ?_
  refine lv_i2l (v := r.toInt64) hx hb dX0_get_7 rfl ?_
  refine zk_last C Z dX0_get_8 (fun f1 H locs hf1 Z => ?_)
  refine lv_goto (tgt := 18) hx hb dX0_get_9 (by decide) ?_
  refine lv_iconst (v := nI 0) hx hb dX0_get_18 (by decide) ?_
  exact zk_iret C hr hlocks Z ⟨rfl, r, f1, w1, hq, hf1, rfl⟩ (Nat.le_of_ble_eq_true rfl) (Nat.le_of_ble_eq_true rfl) dX0_get_19

set_option maxHeartbeats 4000000 in
theorem lt_get_1 (l : Launch) (D : va_G) (g : G4) (hn : Nat) (p0 : Int32) (ho : Nat) (f : Nat → Int64) (w : va_W) (fs : List Value) (he : w[0]? = some (hn, .inr (0, fs))) (k : Nat) (k8 : k ≤ 8) (Qx : va_W → Prop) (hM : zk_MT l yX1_get (ws_ yX1_get cX1_get 2 (some .int)) (zk_R k 1 6) D g [.ref hn, .int p0] w zk_ISE Qx) : zk_ML l yX0_get (wsW_ yX0_get cX0_get 4 (some .int) [(0, 9, 12, 21), (0, 9, 15, 41)]) (zk_R 9 1 6) D g [.ref hn, .int p0, .ref ho] (zk_oc1 g ho f :: w) (fun v w2 => v = some (.int (nI 1)) ∧ ∃ w1 : va_W, Qx w1 ∧ w2 = zk_oc1 g ho f :: w1) := by
  refine zk_ofWL (by decide) (Nat.le_of_ble_eq_true rfl) ?_
  intro pg ev s mm below meth cd A C NC htab hr hlocks Z ls hl
  have hx := C.1.1
  have hb := C.1.2.1
  have hl : lv_has ls 4 [(0, .ref hn), (1, .int p0), (2, .ref ho)] := hl
  refine lv_aload_n hx hb dX0_get_0 rfl (lv_at hl 2 rfl) ?_
  refine lv_iconst (v := nI 0) hx hb dX0_get_1 (by decide) ?_
  refine lv_aload_n hx hb dX0_get_2 rfl (lv_at hl 0 rfl) ?_
  refine lv_iload_n hx hb dX0_get_3 rfl (lv_at hl 1 rfl) ?_
  refine zk_callVTa (wr := [zk_oc1 g ho f]) (wc := w) (cells' := 1) (slots' := 6) (rest := [.int (nI 0), .ref ho]) (n := 1) C Z hM 0 0 rfl he rfl q432 q433 q434 q19 q435 (by decide +kernel) rfl (by show k + 1 ≤ 9; omega) (by show 8 + (2 + 11) + 60 * k ≤ 60 * 9; omega) (Nat.le_of_ble_eq_true rfl) (Nat.le_of_ble_eq_true rfl) rfl rfl hl.1 rfl (Nat.le_of_ble_eq_true rfl) dX0_get_4 (fun w1 hq => ?_)
  refine zk_catch (ns := [zk_ISE, zk_IOB]) (hpc := 12) C NC htab (by decide) (fun i q N h1 h2 => by
    match i with
    | 0 => cases h1; cases h2; exact q333
    | 1 => cases h1; cases h2; exact q390
    | i + 2 => cases h1) (by decide) (by decide) (fun x H locs Z => ?_)
  refine lv_astore_n (lv' := [(3, .ref x), (0, .ref hn), (1, .int p0), (2, .ref ho)]) hx hb dX0_get_12 rfl hl (by decide) rfl (fun ls hl => ?_)
  refine lv_iconst (v := nI 1) hx hb dX0_get_13 (by decide) ?_
  exact zk_iret C hr hlocks Z ⟨rfl, w1, hq, rfl⟩ (Nat.le_of_ble_eq_true rfl) (Nat.le_of_ble_eq_true rfl) dX0_get_14

set_option maxHeartbeats 4000000 in
theorem lt_get_2 (l : Launch) (D : va_G) (g : G4) (hn : Nat) (p0 : Int32) (ho : Nat) (f : Nat → Int64) (w : va_W) (fs : List Value) (he : w[0]? = some (hn, .inr (0, fs))) (k : Nat) (k8 : k ≤ 8) (Qx : va_W → Prop) (hM : zk_MT l yX1_get (ws_ yX1_get cX1_get 2 (some .int)) (zk_R k 1 6) D g [.ref hn, .int p0] w zk_IOB Qx) : zk_ML l yX0_get (wsW_ yX0_get cX0_get 4 (some .int) [(0, 9, 12, 21), (0, 9, 15, 41)]) (zk_R 9 1 6) D g [.ref hn, .int p0, .ref ho] (zk_oc1 g ho f :: w) (fun v w2 => v = some (.int (nI 2)) ∧ ∃ w1 : va_W, Qx w1 ∧ w2 = zk_oc1 g ho f :: w1) := by
  refine zk_ofWL (by decide) (Nat.le_of_ble_eq_true rfl) ?_
  intro pg ev s mm below meth cd A C NC htab hr hlocks Z ls hl
  have hx := C.1.1
  have hb := C.1.2.1
  have hl : lv_has ls 4 [(0, .ref hn), (1, .int p0), (2, .ref ho)] := hl
  refine lv_aload_n hx hb dX0_get_0 rfl (lv_at hl 2 rfl) ?_
  refine lv_iconst (v := nI 0) hx hb dX0_get_1 (by decide) ?_
  refine lv_aload_n hx hb dX0_get_2 rfl (lv_at hl 0 rfl) ?_
  refine lv_iload_n hx hb dX0_get_3 rfl (lv_at hl 1 rfl) ?_
  refine zk_callVTa (wr := [zk_oc1 g ho f]) (wc := w) (cells' := 1) (slots' := 6) (rest := [.int (nI 0), .ref ho]) (n := 1) C Z hM 0 0 rfl he rfl q432 q433 q434 q19 q435 (by decide +kernel) rfl (by show k + 1 ≤ 9; omega) (by show 8 + (2 + 11) + 60 * k ≤ 60 * 9; omega) (Nat.le_of_ble_eq_true rfl) (Nat.le_of_ble_eq_true rfl) rfl rfl hl.1 rfl (Nat.le_of_ble_eq_true rfl) dX0_get_4 (fun w1 hq => ?_)
  refine zk_catch (ns := [zk_ISE, zk_IOB]) (hpc := 15) C NC htab (by decide) (fun i q N h1 h2 => by
    match i with
    | 0 => cases h1; cases h2; exact q333
    | 1 => cases h1; cases h2; exact q390
    | i + 2 => cases h1) (by decide) (by decide) (fun x H locs Z => ?_)
  refine lv_astore_n (lv' := [(3, .ref x), (0, .ref hn), (1, .int p0), (2, .ref ho)]) hx hb dX0_get_15 rfl hl (by decide) rfl (fun ls hl => ?_)
  refine lv_iconst (v := nI 2) hx hb dX0_get_16 (by decide) ?_
  exact zk_iret C hr hlocks Z ⟨rfl, w1, hq, rfl⟩ (Nat.le_of_ble_eq_true rfl) (Nat.le_of_ble_eq_true rfl) dX0_get_17

set_option maxHeartbeats 4000000 in
theorem lr_encode (l : Launch) (D : va_G) (g : G4) (hn : Nat) (ho : Nat) (f : Nat → Int64) (w : va_W) (fs : List Value) (he : w[0]? = some (hn, .inr (0, fs))) (k : Nat) (k8 : k ≤ 8) (Qx : Option Value → va_W → Prop) (hv : ∀ v w1, Qx v w1 → ∃ r : Int32, v = some (.int r)) (hM : zk_M l yX1_encode (ws_ yX1_encode cX1_encode 3 (some .int)) (zk_R k 1 6) D g [.ref hn] w Qx) : zk_ML l yX0_encode (wsW_ yX0_encode cX0_encode 3 (some .int) [(0, 8, 11, 21)]) (zk_R 9 1 6) D g [.ref hn, .ref ho] (zk_oc1 g ho f :: w) (fun v w2 => v = some (.int (nI 0)) ∧ ∃ (r : Int32) (f1 : Nat → Int64) (w1 : va_W), Qx (some (.int r)) w1 ∧ f1 0 = r.toInt64 ∧ w2 = zk_oc1 g ho f1 :: w1) := by
  refine zk_ofWL (by decide) (Nat.le_of_ble_eq_true rfl) ?_
  intro pg ev s mm below meth cd A C NC htab hr hlocks Z ls hl
  have hx := C.1.1
  have hb := C.1.2.1
  have hl : lv_has ls 3 [(0, .ref hn), (1, .ref ho)] := hl
  refine lv_aload_n hx hb dX0_encode_0 rfl (lv_at hl 1 rfl) ?_
  refine lv_iconst (v := nI 0) hx hb dX0_encode_1 (by decide) ?_
  refine lv_aload_n hx hb dX0_encode_2 rfl (lv_at hl 0 rfl) ?_
  refine zk_callVa (wr := [zk_oc1 g ho f]) (wc := w) (cells' := 1) (slots' := 6) (rest := [.int (nI 0), .ref ho]) (n := 0) C Z hM 0 0 rfl he rfl q439 q440 q441 q19 q442 (by decide +kernel) rfl (by show k + 1 ≤ 9; omega) (by show 8 + (3 + 11) + 60 * k ≤ 60 * 9; omega) (Nat.le_of_ble_eq_true rfl) (Nat.le_of_ble_eq_true rfl) rfl rfl hl.1 rfl (Nat.le_of_ble_eq_true rfl) dX0_encode_3 (fun v w1 H locs hq Z => ?_)
  obtain ⟨r, rfl⟩ := hv v w1 hq
  have Z : zk_Z D A s H locs (zk_oc1 g ho f :: w1) := Z
  refine W.eq (g2 := F0 mm 6 ls [.int r, .int (nI 0), .ref ho]) rfl ?_
  refine lv_i2l (v := r.toInt64) hx hb dX0_encode_6 rfl ?_
  refine zk_last C Z dX0_encode_7 (fun f1 H locs hf1 Z => ?_)
  refine lv_goto (tgt := 14) hx hb dX0_encode_8 (by decide) ?_
  refine lv_iconst (v := nI 0) hx hb dX0_encode_14 (by decide) ?_
  exact zk_iret C hr hlocks Z ⟨rfl, r, f1, w1, hq, hf1, rfl⟩ (Nat.le_of_ble_eq_true rfl) (Nat.le_of_ble_eq_true rfl) dX0_encode_15

set_option maxHeartbeats 4000000 in
theorem lt_encode_1 (l : Launch) (D : va_G) (g : G4) (hn : Nat) (ho : Nat) (f : Nat → Int64) (w : va_W) (fs : List Value) (he : w[0]? = some (hn, .inr (0, fs))) (k : Nat) (k8 : k ≤ 8) (Qx : va_W → Prop) (hM : zk_MT l yX1_encode (ws_ yX1_encode cX1_encode 3 (some .int)) (zk_R k 1 6) D g [.ref hn] w zk_ISE Qx) : zk_ML l yX0_encode (wsW_ yX0_encode cX0_encode 3 (some .int) [(0, 8, 11, 21)]) (zk_R 9 1 6) D g [.ref hn, .ref ho] (zk_oc1 g ho f :: w) (fun v w2 => v = some (.int (nI 1)) ∧ ∃ w1 : va_W, Qx w1 ∧ w2 = zk_oc1 g ho f :: w1) := by
  refine zk_ofWL (by decide) (Nat.le_of_ble_eq_true rfl) ?_
  intro pg ev s mm below meth cd A C NC htab hr hlocks Z ls hl
  have hx := C.1.1
  have hb := C.1.2.1
  have hl : lv_has ls 3 [(0, .ref hn), (1, .ref ho)] := hl
  refine lv_aload_n hx hb dX0_encode_0 rfl (lv_at hl 1 rfl) ?_
  refine lv_iconst (v := nI 0) hx hb dX0_encode_1 (by decide) ?_
  refine lv_aload_n hx hb dX0_encode_2 rfl (lv_at hl 0 rfl) ?_
  refine zk_callVTa (wr := [zk_oc1 g ho f]) (wc := w) (cells' := 1) (slots' := 6) (rest := [.int (nI 0), .ref ho]) (n := 0) C Z hM 0 0 rfl he rfl q439 q440 q441 q19 q442 (by decide +kernel) rfl (by show k + 1 ≤ 9; omega) (by show 8 + (3 + 11) + 60 * k ≤ 60 * 9; omega) (Nat.le_of_ble_eq_true rfl) (Nat.le_of_ble_eq_true rfl) rfl rfl hl.1 rfl (Nat.le_of_ble_eq_true rfl) dX0_encode_3 (fun w1 hq => ?_)
  refine zk_catch (ns := [zk_ISE]) (hpc := 11) C NC htab (by decide) (fun i q N h1 h2 => by
    match i with
    | 0 => cases h1; cases h2; exact q333
    | i + 1 => cases h1) (by decide) (by decide) (fun x H locs Z => ?_)
  refine lv_astore_n (lv' := [(2, .ref x), (0, .ref hn), (1, .ref ho)]) hx hb dX0_encode_11 rfl hl (by decide) rfl (fun ls hl => ?_)
  refine lv_iconst (v := nI 1) hx hb dX0_encode_12 (by decide) ?_
  exact zk_iret C hr hlocks Z ⟨rfl, w1, hq, rfl⟩ (Nat.le_of_ble_eq_true rfl) (Nat.le_of_ble_eq_true rfl) dX0_encode_13

set_option maxHeartbeats 4000000 in
theorem lr_bit (l : Launch) (D : va_G) (g : G4) (hn : Nat) (p0 : Int32) (ho : Nat) (f : Nat → Int64) (w : va_W) (fs : List Value) (he : w[0]? = some (hn, .inr (0, fs))) (k : Nat) (k8 : k ≤ 8) (Qx : Option Value → va_W → Prop) (hv : ∀ v w1, Qx v w1 → ∃ r : Int32, v = some (.int r)) (hM : zk_M l yX1_bit (ws_ yX1_bit cX1_bit 2 (some .int)) (zk_R k 1 6) D g [.ref hn, .int p0] w Qx) : zk_ML l yX0_bit (wsW_ yX0_bit cX0_bit 4 (some .int) [(0, 9, 12, 21), (0, 9, 15, 41)]) (zk_R 9 1 6) D g [.ref hn, .int p0, .ref ho] (zk_oc1 g ho f :: w) (fun v w2 => v = some (.int (nI 0)) ∧ ∃ (r : Int32) (f1 : Nat → Int64) (w1 : va_W), Qx (some (.int r)) w1 ∧ f1 0 = r.toInt64 ∧ w2 = zk_oc1 g ho f1 :: w1) := by
  refine zk_ofWL (by decide) (Nat.le_of_ble_eq_true rfl) ?_
  intro pg ev s mm below meth cd A C NC htab hr hlocks Z ls hl
  have hx := C.1.1
  have hb := C.1.2.1
  have hl : lv_has ls 4 [(0, .ref hn), (1, .int p0), (2, .ref ho)] := hl
  refine lv_aload_n hx hb dX0_bit_0 rfl (lv_at hl 2 rfl) ?_
  refine lv_iconst (v := nI 0) hx hb dX0_bit_1 (by decide) ?_
  refine lv_aload_n hx hb dX0_bit_2 rfl (lv_at hl 0 rfl) ?_
  refine lv_iload_n hx hb dX0_bit_3 rfl (lv_at hl 1 rfl) ?_
  refine zk_callVa (wr := [zk_oc1 g ho f]) (wc := w) (cells' := 1) (slots' := 6) (rest := [.int (nI 0), .ref ho]) (n := 1) C Z hM 0 0 rfl he rfl q456 q457 q458 q19 q459 (by decide +kernel) rfl (by show k + 1 ≤ 9; omega) (by show 8 + (2 + 11) + 60 * k ≤ 60 * 9; omega) (Nat.le_of_ble_eq_true rfl) (Nat.le_of_ble_eq_true rfl) rfl rfl hl.1 rfl (Nat.le_of_ble_eq_true rfl) dX0_bit_4 (fun v w1 H locs hq Z => ?_)
  obtain ⟨r, rfl⟩ := hv v w1 hq
  have Z : zk_Z D A s H locs (zk_oc1 g ho f :: w1) := Z
  refine W.eq (g2 := F0 mm 7 ls [.int r, .int (nI 0), .ref ho]) rfl ?_
  refine lv_i2l (v := r.toInt64) hx hb dX0_bit_7 rfl ?_
  refine zk_last C Z dX0_bit_8 (fun f1 H locs hf1 Z => ?_)
  refine lv_goto (tgt := 18) hx hb dX0_bit_9 (by decide) ?_
  refine lv_iconst (v := nI 0) hx hb dX0_bit_18 (by decide) ?_
  exact zk_iret C hr hlocks Z ⟨rfl, r, f1, w1, hq, hf1, rfl⟩ (Nat.le_of_ble_eq_true rfl) (Nat.le_of_ble_eq_true rfl) dX0_bit_19

set_option maxHeartbeats 4000000 in
theorem lt_bit_1 (l : Launch) (D : va_G) (g : G4) (hn : Nat) (p0 : Int32) (ho : Nat) (f : Nat → Int64) (w : va_W) (fs : List Value) (he : w[0]? = some (hn, .inr (0, fs))) (k : Nat) (k8 : k ≤ 8) (Qx : va_W → Prop) (hM : zk_MT l yX1_bit (ws_ yX1_bit cX1_bit 2 (some .int)) (zk_R k 1 6) D g [.ref hn, .int p0] w zk_ISE Qx) : zk_ML l yX0_bit (wsW_ yX0_bit cX0_bit 4 (some .int) [(0, 9, 12, 21), (0, 9, 15, 41)]) (zk_R 9 1 6) D g [.ref hn, .int p0, .ref ho] (zk_oc1 g ho f :: w) (fun v w2 => v = some (.int (nI 1)) ∧ ∃ w1 : va_W, Qx w1 ∧ w2 = zk_oc1 g ho f :: w1) := by
  refine zk_ofWL (by decide) (Nat.le_of_ble_eq_true rfl) ?_
  intro pg ev s mm below meth cd A C NC htab hr hlocks Z ls hl
  have hx := C.1.1
  have hb := C.1.2.1
  have hl : lv_has ls 4 [(0, .ref hn), (1, .int p0), (2, .ref ho)] := hl
  refine lv_aload_n hx hb dX0_bit_0 rfl (lv_at hl 2 rfl) ?_
  refine lv_iconst (v := nI 0) hx hb dX0_bit_1 (by decide) ?_
  refine lv_aload_n hx hb dX0_bit_2 rfl (lv_at hl 0 rfl) ?_
  refine lv_iload_n hx hb dX0_bit_3 rfl (lv_at hl 1 rfl) ?_
  refine zk_callVTa (wr := [zk_oc1 g ho f]) (wc := w) (cells' := 1) (slots' := 6) (rest := [.int (nI 0), .ref ho]) (n := 1) C Z hM 0 0 rfl he rfl q456 q457 q458 q19 q459 (by decide +kernel) rfl (by show k + 1 ≤ 9; omega) (by show 8 + (2 + 11) + 60 * k ≤ 60 * 9; omega) (Nat.le_of_ble_eq_true rfl) (Nat.le_of_ble_eq_true rfl) rfl rfl hl.1 rfl (Nat.le_of_ble_eq_true rfl) dX0_bit_4 (fun w1 hq => ?_)
  refine zk_catch (ns := [zk_ISE, zk_IOB]) (hpc := 12) C NC htab (by decide) (fun i q N h1 h2 => by
    match i with
    | 0 => cases h1; cases h2; exact q333
    | 1 => cases h1; cases h2; exact q390
    | i + 2 => cases h1) (by decide) (by decide) (fun x H locs Z => ?_)
  refine lv_astore_n (lv' := [(3, .ref x), (0, .ref hn), (1, .int p0), (2, .ref ho)]) hx hb dX0_bit_12 rfl hl (by decide) rfl (fun ls hl => ?_)
  refine lv_iconst (v := nI 1) hx hb dX0_bit_13 (by decide) ?_
  exact zk_iret C hr hlocks Z ⟨rfl, w1, hq, rfl⟩ (Nat.le_of_ble_eq_true rfl) (Nat.le_of_ble_eq_true rfl) dX0_bit_14

set_option maxHeartbeats 4000000 in
theorem lt_bit_2 (l : Launch) (D : va_G) (g : G4) (hn : Nat) (p0 : Int32) (ho : Nat) (f : Nat → Int64) (w : va_W) (fs : List Value) (he : w[0]? = some (hn, .inr (0, fs))) (k : Nat) (k8 : k ≤ 8) (Qx : va_W → Prop) (hM : zk_MT l yX1_bit (ws_ yX1_bit cX1_bit 2 (some .int)) (zk_R k 1 6) D g [.ref hn, .int p0] w zk_IOB Qx) : zk_ML l yX0_bit (wsW_ yX0_bit cX0_bit 4 (some .int) [(0, 9, 12, 21), (0, 9, 15, 41)]) (zk_R 9 1 6) D g [.ref hn, .int p0, .ref ho] (zk_oc1 g ho f :: w) (fun v w2 => v = some (.int (nI 2)) ∧ ∃ w1 : va_W, Qx w1 ∧ w2 = zk_oc1 g ho f :: w1) := by
  refine zk_ofWL (by decide) (Nat.le_of_ble_eq_true rfl) ?_
  intro pg ev s mm below meth cd A C NC htab hr hlocks Z ls hl
  have hx := C.1.1
  have hb := C.1.2.1
  have hl : lv_has ls 4 [(0, .ref hn), (1, .int p0), (2, .ref ho)] := hl
  refine lv_aload_n hx hb dX0_bit_0 rfl (lv_at hl 2 rfl) ?_
  refine lv_iconst (v := nI 0) hx hb dX0_bit_1 (by decide) ?_
  refine lv_aload_n hx hb dX0_bit_2 rfl (lv_at hl 0 rfl) ?_
  refine lv_iload_n hx hb dX0_bit_3 rfl (lv_at hl 1 rfl) ?_
  refine zk_callVTa (wr := [zk_oc1 g ho f]) (wc := w) (cells' := 1) (slots' := 6) (rest := [.int (nI 0), .ref ho]) (n := 1) C Z hM 0 0 rfl he rfl q456 q457 q458 q19 q459 (by decide +kernel) rfl (by show k + 1 ≤ 9; omega) (by show 8 + (2 + 11) + 60 * k ≤ 60 * 9; omega) (Nat.le_of_ble_eq_true rfl) (Nat.le_of_ble_eq_true rfl) rfl rfl hl.1 rfl (Nat.le_of_ble_eq_true rfl) dX0_bit_4 (fun w1 hq => ?_)
  refine zk_catch (ns := [zk_ISE, zk_IOB]) (hpc := 15) C NC htab (by decide) (fun i q N h1 h2 => by
    match i with
    | 0 => cases h1; cases h2; exact q333
    | 1 => cases h1; cases h2; exact q390
    | i + 2 => cases h1) (by decide) (by decide) (fun x H locs Z => ?_)
  refine lv_astore_n (lv' := [(3, .ref x), (0, .ref hn), (1, .int p0), (2, .ref ho)]) hx hb dX0_bit_15 rfl hl (by decide) rfl (fun ls hl => ?_)
  refine lv_iconst (v := nI 2) hx hb dX0_bit_16 (by decide) ?_
  exact zk_iret C hr hlocks Z ⟨rfl, w1, hq, rfl⟩ (Nat.le_of_ble_eq_true rfl) (Nat.le_of_ble_eq_true rfl) dX0_bit_17

set_option maxHeartbeats 4000000 in
theorem lr_burst (l : Launch) (D : va_G) (g : G4) (hn : Nat) (p0 p1 : Int32)  (w : va_W) (fs : List Value) (he : w[0]? = some (hn, .inr (0, fs))) (k : Nat) (k8 : k ≤ 8) (Qx : Option Value → va_W → Prop) (hv : ∀ v w1, Qx v w1 → v = none) (hM : zk_M l yX1_burst (ws_ yX1_burst cX1_burst 5 none) (zk_R k 1 6) D g [.ref hn, .int p0, .int p1] w Qx) : zk_ML l yX0_burst (wsW_ yX0_burst cX0_burst 4 (some .int) [(0, 6, 9, 21), (0, 6, 12, 41), (0, 6, 15, 13)]) (zk_R 9 1 6) D g [.ref hn, .int p0, .int p1] w (fun v w2 => v = some (.int (nI 0)) ∧ Qx none w2) := by
  refine zk_ofWL (by decide) (Nat.le_of_ble_eq_true rfl) ?_
  intro pg ev s mm below meth cd A C NC htab hr hlocks Z ls hl
  have hx := C.1.1
  have hb := C.1.2.1
  have hl : lv_has ls 4 [(0, .ref hn), (1, .int p0), (2, .int p1)] := hl
  refine lv_aload_n hx hb dX0_burst_0 rfl (lv_at hl 0 rfl) ?_
  refine lv_iload_n hx hb dX0_burst_1 rfl (lv_at hl 1 rfl) ?_
  refine lv_iload_n hx hb dX0_burst_2 rfl (lv_at hl 2 rfl) ?_
  have Z : zk_Z D A s s.heap [] ([] ++ w) := Z
  refine zk_callVa (wr := []) (wc := w) (cells' := 1) (slots' := 6) (rest := []) (n := 2) C Z hM 0 0 rfl he rfl q463 q464 q465 q19 q466 (by decide +kernel) rfl (by show k + 1 ≤ 9; omega) (by show 8 + (5 + 11) + 60 * k ≤ 60 * 9; omega) (Nat.le_of_ble_eq_true rfl) (Nat.le_of_ble_eq_true rfl) rfl rfl hl.1 rfl (Nat.le_of_ble_eq_true rfl) dX0_burst_3 (fun v w1 H locs hq Z => ?_)
  obtain rfl := hv v w1 hq
  have Z : zk_Z D A s H locs w1 := Z
  refine W.eq (g2 := F0 mm 6 ls []) rfl ?_
  refine lv_goto (tgt := 18) hx hb dX0_burst_6 (by decide) ?_
  refine lv_iconst (v := nI 0) hx hb dX0_burst_18 (by decide) ?_
  exact zk_iret C hr hlocks Z ⟨rfl, hq⟩ (Nat.le_of_ble_eq_true rfl) (Nat.le_of_ble_eq_true rfl) dX0_burst_19

set_option maxHeartbeats 4000000 in
theorem lt_burst_1 (l : Launch) (D : va_G) (g : G4) (hn : Nat) (p0 p1 : Int32)  (w : va_W) (fs : List Value) (he : w[0]? = some (hn, .inr (0, fs))) (k : Nat) (k8 : k ≤ 8) (Qx : va_W → Prop) (hM : zk_MT l yX1_burst (ws_ yX1_burst cX1_burst 5 none) (zk_R k 1 6) D g [.ref hn, .int p0, .int p1] w zk_ISE Qx) : zk_ML l yX0_burst (wsW_ yX0_burst cX0_burst 4 (some .int) [(0, 6, 9, 21), (0, 6, 12, 41), (0, 6, 15, 13)]) (zk_R 9 1 6) D g [.ref hn, .int p0, .int p1] w (fun v w2 => v = some (.int (nI 1)) ∧ ∃ w1 : va_W, Qx w1 ∧ w2 = w1) := by
  refine zk_ofWL (by decide) (Nat.le_of_ble_eq_true rfl) ?_
  intro pg ev s mm below meth cd A C NC htab hr hlocks Z ls hl
  have hx := C.1.1
  have hb := C.1.2.1
  have hl : lv_has ls 4 [(0, .ref hn), (1, .int p0), (2, .int p1)] := hl
  refine lv_aload_n hx hb dX0_burst_0 rfl (lv_at hl 0 rfl) ?_
  refine lv_iload_n hx hb dX0_burst_1 rfl (lv_at hl 1 rfl) ?_
  refine lv_iload_n hx hb dX0_burst_2 rfl (lv_at hl 2 rfl) ?_
  have Z : zk_Z D A s s.heap [] ([] ++ w) := Z
  refine zk_callVTa (wr := []) (wc := w) (cells' := 1) (slots' := 6) (rest := []) (n := 2) C Z hM 0 0 rfl he rfl q463 q464 q465 q19 q466 (by decide +kernel) rfl (by show k + 1 ≤ 9; omega) (by show 8 + (5 + 11) + 60 * k ≤ 60 * 9; omega) (Nat.le_of_ble_eq_true rfl) (Nat.le_of_ble_eq_true rfl) rfl rfl hl.1 rfl (Nat.le_of_ble_eq_true rfl) dX0_burst_3 (fun w1 hq => ?_)
  refine zk_catch (ns := [zk_ISE, zk_IOB, zk_IAE]) (hpc := 9) C NC htab (by decide) (fun i q N h1 h2 => by
    match i with
    | 0 => cases h1; cases h2; exact q333
    | 1 => cases h1; cases h2; exact q390
    | 2 => cases h1; cases h2; exact q196
    | i + 3 => cases h1) (by decide) (by decide) (fun x H locs Z => ?_)
  refine lv_astore_n (lv' := [(3, .ref x), (0, .ref hn), (1, .int p0), (2, .int p1)]) hx hb dX0_burst_9 rfl hl (by decide) rfl (fun ls hl => ?_)
  refine lv_iconst (v := nI 1) hx hb dX0_burst_10 (by decide) ?_
  exact zk_iret C hr hlocks Z ⟨rfl, w1, hq, rfl⟩ (Nat.le_of_ble_eq_true rfl) (Nat.le_of_ble_eq_true rfl) dX0_burst_11

set_option maxHeartbeats 4000000 in
theorem lt_burst_2 (l : Launch) (D : va_G) (g : G4) (hn : Nat) (p0 p1 : Int32)  (w : va_W) (fs : List Value) (he : w[0]? = some (hn, .inr (0, fs))) (k : Nat) (k8 : k ≤ 8) (Qx : va_W → Prop) (hM : zk_MT l yX1_burst (ws_ yX1_burst cX1_burst 5 none) (zk_R k 1 6) D g [.ref hn, .int p0, .int p1] w zk_IOB Qx) : zk_ML l yX0_burst (wsW_ yX0_burst cX0_burst 4 (some .int) [(0, 6, 9, 21), (0, 6, 12, 41), (0, 6, 15, 13)]) (zk_R 9 1 6) D g [.ref hn, .int p0, .int p1] w (fun v w2 => v = some (.int (nI 2)) ∧ ∃ w1 : va_W, Qx w1 ∧ w2 = w1) := by
  refine zk_ofWL (by decide) (Nat.le_of_ble_eq_true rfl) ?_
  intro pg ev s mm below meth cd A C NC htab hr hlocks Z ls hl
  have hx := C.1.1
  have hb := C.1.2.1
  have hl : lv_has ls 4 [(0, .ref hn), (1, .int p0), (2, .int p1)] := hl
  refine lv_aload_n hx hb dX0_burst_0 rfl (lv_at hl 0 rfl) ?_
  refine lv_iload_n hx hb dX0_burst_1 rfl (lv_at hl 1 rfl) ?_
  refine lv_iload_n hx hb dX0_burst_2 rfl (lv_at hl 2 rfl) ?_
  have Z : zk_Z D A s s.heap [] ([] ++ w) := Z
  refine zk_callVTa (wr := []) (wc := w) (cells' := 1) (slots' := 6) (rest := []) (n := 2) C Z hM 0 0 rfl he rfl q463 q464 q465 q19 q466 (by decide +kernel) rfl (by show k + 1 ≤ 9; omega) (by show 8 + (5 + 11) + 60 * k ≤ 60 * 9; omega) (Nat.le_of_ble_eq_true rfl) (Nat.le_of_ble_eq_true rfl) rfl rfl hl.1 rfl (Nat.le_of_ble_eq_true rfl) dX0_burst_3 (fun w1 hq => ?_)
  refine zk_catch (ns := [zk_ISE, zk_IOB, zk_IAE]) (hpc := 12) C NC htab (by decide) (fun i q N h1 h2 => by
    match i with
    | 0 => cases h1; cases h2; exact q333
    | 1 => cases h1; cases h2; exact q390
    | 2 => cases h1; cases h2; exact q196
    | i + 3 => cases h1) (by decide) (by decide) (fun x H locs Z => ?_)
  refine lv_astore_n (lv' := [(3, .ref x), (0, .ref hn), (1, .int p0), (2, .int p1)]) hx hb dX0_burst_12 rfl hl (by decide) rfl (fun ls hl => ?_)
  refine lv_iconst (v := nI 2) hx hb dX0_burst_13 (by decide) ?_
  exact zk_iret C hr hlocks Z ⟨rfl, w1, hq, rfl⟩ (Nat.le_of_ble_eq_true rfl) (Nat.le_of_ble_eq_true rfl) dX0_burst_14

set_option maxHeartbeats 4000000 in
theorem lt_burst_3 (l : Launch) (D : va_G) (g : G4) (hn : Nat) (p0 p1 : Int32)  (w : va_W) (fs : List Value) (he : w[0]? = some (hn, .inr (0, fs))) (k : Nat) (k8 : k ≤ 8) (Qx : va_W → Prop) (hM : zk_MT l yX1_burst (ws_ yX1_burst cX1_burst 5 none) (zk_R k 1 6) D g [.ref hn, .int p0, .int p1] w zk_IAE Qx) : zk_ML l yX0_burst (wsW_ yX0_burst cX0_burst 4 (some .int) [(0, 6, 9, 21), (0, 6, 12, 41), (0, 6, 15, 13)]) (zk_R 9 1 6) D g [.ref hn, .int p0, .int p1] w (fun v w2 => v = some (.int (nI 3)) ∧ ∃ w1 : va_W, Qx w1 ∧ w2 = w1) := by
  refine zk_ofWL (by decide) (Nat.le_of_ble_eq_true rfl) ?_
  intro pg ev s mm below meth cd A C NC htab hr hlocks Z ls hl
  have hx := C.1.1
  have hb := C.1.2.1
  have hl : lv_has ls 4 [(0, .ref hn), (1, .int p0), (2, .int p1)] := hl
  refine lv_aload_n hx hb dX0_burst_0 rfl (lv_at hl 0 rfl) ?_
  refine lv_iload_n hx hb dX0_burst_1 rfl (lv_at hl 1 rfl) ?_
  refine lv_iload_n hx hb dX0_burst_2 rfl (lv_at hl 2 rfl) ?_
  have Z : zk_Z D A s s.heap [] ([] ++ w) := Z
  refine zk_callVTa (wr := []) (wc := w) (cells' := 1) (slots' := 6) (rest := []) (n := 2) C Z hM 0 0 rfl he rfl q463 q464 q465 q19 q466 (by decide +kernel) rfl (by show k + 1 ≤ 9; omega) (by show 8 + (5 + 11) + 60 * k ≤ 60 * 9; omega) (Nat.le_of_ble_eq_true rfl) (Nat.le_of_ble_eq_true rfl) rfl rfl hl.1 rfl (Nat.le_of_ble_eq_true rfl) dX0_burst_3 (fun w1 hq => ?_)
  refine zk_catch (ns := [zk_ISE, zk_IOB, zk_IAE]) (hpc := 15) C NC htab (by decide) (fun i q N h1 h2 => by
    match i with
    | 0 => cases h1; cases h2; exact q333
    | 1 => cases h1; cases h2; exact q390
    | 2 => cases h1; cases h2; exact q196
    | i + 3 => cases h1) (by decide) (by decide) (fun x H locs Z => ?_)
  refine lv_astore_n (lv' := [(3, .ref x), (0, .ref hn), (1, .int p0), (2, .int p1)]) hx hb dX0_burst_15 rfl hl (by decide) rfl (fun ls hl => ?_)
  refine lv_iconst (v := nI 3) hx hb dX0_burst_16 (by decide) ?_
  exact zk_iret C hr hlocks Z ⟨rfl, w1, hq, rfl⟩ (Nat.le_of_ble_eq_true rfl) (Nat.le_of_ble_eq_true rfl) dX0_burst_17

set_option maxHeartbeats 4000000 in
theorem lr_noise (l : Launch) (D : va_G) (g : G4) (hn : Nat) (p0 p1 : Int32) (ho : Nat) (f : Nat → Int64) (w : va_W) (fs : List Value) (he : w[0]? = some (hn, .inr (0, fs))) (k : Nat) (k8 : k ≤ 8) (Qx : Option Value → va_W → Prop) (hv : ∀ v w1, Qx v w1 → ∃ r : Int32, v = some (.int r)) (hM : zk_M l yX1_noise (ws_ yX1_noise cX1_noise 6 (some .int)) (zk_R k 1 6) D g [.ref hn, .int p0, .int p1] w Qx) : zk_ML l yX0_noise (wsW_ yX0_noise cX0_noise 5 (some .int) [(0, 10, 13, 21), (0, 10, 17, 13)]) (zk_R 9 1 6) D g [.ref hn, .int p0, .int p1, .ref ho] (zk_oc1 g ho f :: w) (fun v w2 => v = some (.int (nI 0)) ∧ ∃ (r : Int32) (f1 : Nat → Int64) (w1 : va_W), Qx (some (.int r)) w1 ∧ f1 0 = r.toInt64 ∧ w2 = zk_oc1 g ho f1 :: w1) := by
  refine zk_ofWL (by decide) (Nat.le_of_ble_eq_true rfl) ?_
  intro pg ev s mm below meth cd A C NC htab hr hlocks Z ls hl
  have hx := C.1.1
  have hb := C.1.2.1
  have hl : lv_has ls 5 [(0, .ref hn), (1, .int p0), (2, .int p1), (3, .ref ho)] := hl
  refine lv_aload_n hx hb dX0_noise_0 rfl (lv_at hl 3 rfl) ?_
  refine lv_iconst (v := nI 0) hx hb dX0_noise_1 (by decide) ?_
  refine lv_aload_n hx hb dX0_noise_2 rfl (lv_at hl 0 rfl) ?_
  refine lv_iload_n hx hb dX0_noise_3 rfl (lv_at hl 1 rfl) ?_
  refine lv_iload_n hx hb dX0_noise_4 rfl (lv_at hl 2 rfl) ?_
  refine zk_callVa (wr := [zk_oc1 g ho f]) (wc := w) (cells' := 1) (slots' := 6) (rest := [.int (nI 0), .ref ho]) (n := 2) C Z hM 0 0 rfl he rfl q474 q475 q476 q19 q477 (by decide +kernel) rfl (by show k + 1 ≤ 9; omega) (by show 8 + (6 + 11) + 60 * k ≤ 60 * 9; omega) (Nat.le_of_ble_eq_true rfl) (Nat.le_of_ble_eq_true rfl) rfl rfl hl.1 rfl (Nat.le_of_ble_eq_true rfl) dX0_noise_5 (fun v w1 H locs hq Z => ?_)
  obtain ⟨r, rfl⟩ := hv v w1 hq
  have Z : zk_Z D A s H locs (zk_oc1 g ho f :: w1) := Z
  refine W.eq (g2 := F0 mm 8 ls [.int r, .int (nI 0), .ref ho]) rfl ?_
  refine lv_i2l (v := r.toInt64) hx hb dX0_noise_8 rfl ?_
  refine zk_last C Z dX0_noise_9 (fun f1 H locs hf1 Z => ?_)
  refine lv_goto (tgt := 21) hx hb dX0_noise_10 (by decide) ?_
  refine lv_iconst (v := nI 0) hx hb dX0_noise_21 (by decide) ?_
  exact zk_iret C hr hlocks Z ⟨rfl, r, f1, w1, hq, hf1, rfl⟩ (Nat.le_of_ble_eq_true rfl) (Nat.le_of_ble_eq_true rfl) dX0_noise_22

set_option maxHeartbeats 4000000 in
theorem lt_noise_1 (l : Launch) (D : va_G) (g : G4) (hn : Nat) (p0 p1 : Int32) (ho : Nat) (f : Nat → Int64) (w : va_W) (fs : List Value) (he : w[0]? = some (hn, .inr (0, fs))) (k : Nat) (k8 : k ≤ 8) (Qx : va_W → Prop) (hM : zk_MT l yX1_noise (ws_ yX1_noise cX1_noise 6 (some .int)) (zk_R k 1 6) D g [.ref hn, .int p0, .int p1] w zk_ISE Qx) : zk_ML l yX0_noise (wsW_ yX0_noise cX0_noise 5 (some .int) [(0, 10, 13, 21), (0, 10, 17, 13)]) (zk_R 9 1 6) D g [.ref hn, .int p0, .int p1, .ref ho] (zk_oc1 g ho f :: w) (fun v w2 => v = some (.int (nI 1)) ∧ ∃ w1 : va_W, Qx w1 ∧ w2 = zk_oc1 g ho f :: w1) := by
  refine zk_ofWL (by decide) (Nat.le_of_ble_eq_true rfl) ?_
  intro pg ev s mm below meth cd A C NC htab hr hlocks Z ls hl
  have hx := C.1.1
  have hb := C.1.2.1
  have hl : lv_has ls 5 [(0, .ref hn), (1, .int p0), (2, .int p1), (3, .ref ho)] := hl
  refine lv_aload_n hx hb dX0_noise_0 rfl (lv_at hl 3 rfl) ?_
  refine lv_iconst (v := nI 0) hx hb dX0_noise_1 (by decide) ?_
  refine lv_aload_n hx hb dX0_noise_2 rfl (lv_at hl 0 rfl) ?_
  refine lv_iload_n hx hb dX0_noise_3 rfl (lv_at hl 1 rfl) ?_
  refine lv_iload_n hx hb dX0_noise_4 rfl (lv_at hl 2 rfl) ?_
  refine zk_callVTa (wr := [zk_oc1 g ho f]) (wc := w) (cells' := 1) (slots' := 6) (rest := [.int (nI 0), .ref ho]) (n := 2) C Z hM 0 0 rfl he rfl q474 q475 q476 q19 q477 (by decide +kernel) rfl (by show k + 1 ≤ 9; omega) (by show 8 + (6 + 11) + 60 * k ≤ 60 * 9; omega) (Nat.le_of_ble_eq_true rfl) (Nat.le_of_ble_eq_true rfl) rfl rfl hl.1 rfl (Nat.le_of_ble_eq_true rfl) dX0_noise_5 (fun w1 hq => ?_)
  refine zk_catch (ns := [zk_ISE, zk_IAE]) (hpc := 13) C NC htab (by decide) (fun i q N h1 h2 => by
    match i with
    | 0 => cases h1; cases h2; exact q333
    | 1 => cases h1; cases h2; exact q196
    | i + 2 => cases h1) (by decide) (by decide) (fun x H locs Z => ?_)
  refine lv_astore (lv' := [(4, .ref x), (0, .ref hn), (1, .int p0), (2, .int p1), (3, .ref ho)]) hx hb dX0_noise_13 hl (by decide) rfl (fun ls hl => ?_)
  refine lv_iconst (v := nI 1) hx hb dX0_noise_15 (by decide) ?_
  exact zk_iret C hr hlocks Z ⟨rfl, w1, hq, rfl⟩ (Nat.le_of_ble_eq_true rfl) (Nat.le_of_ble_eq_true rfl) dX0_noise_16

set_option maxHeartbeats 4000000 in
theorem lt_noise_2 (l : Launch) (D : va_G) (g : G4) (hn : Nat) (p0 p1 : Int32) (ho : Nat) (f : Nat → Int64) (w : va_W) (fs : List Value) (he : w[0]? = some (hn, .inr (0, fs))) (k : Nat) (k8 : k ≤ 8) (Qx : va_W → Prop) (hM : zk_MT l yX1_noise (ws_ yX1_noise cX1_noise 6 (some .int)) (zk_R k 1 6) D g [.ref hn, .int p0, .int p1] w zk_IAE Qx) : zk_ML l yX0_noise (wsW_ yX0_noise cX0_noise 5 (some .int) [(0, 10, 13, 21), (0, 10, 17, 13)]) (zk_R 9 1 6) D g [.ref hn, .int p0, .int p1, .ref ho] (zk_oc1 g ho f :: w) (fun v w2 => v = some (.int (nI 2)) ∧ ∃ w1 : va_W, Qx w1 ∧ w2 = zk_oc1 g ho f :: w1) := by
  refine zk_ofWL (by decide) (Nat.le_of_ble_eq_true rfl) ?_
  intro pg ev s mm below meth cd A C NC htab hr hlocks Z ls hl
  have hx := C.1.1
  have hb := C.1.2.1
  have hl : lv_has ls 5 [(0, .ref hn), (1, .int p0), (2, .int p1), (3, .ref ho)] := hl
  refine lv_aload_n hx hb dX0_noise_0 rfl (lv_at hl 3 rfl) ?_
  refine lv_iconst (v := nI 0) hx hb dX0_noise_1 (by decide) ?_
  refine lv_aload_n hx hb dX0_noise_2 rfl (lv_at hl 0 rfl) ?_
  refine lv_iload_n hx hb dX0_noise_3 rfl (lv_at hl 1 rfl) ?_
  refine lv_iload_n hx hb dX0_noise_4 rfl (lv_at hl 2 rfl) ?_
  refine zk_callVTa (wr := [zk_oc1 g ho f]) (wc := w) (cells' := 1) (slots' := 6) (rest := [.int (nI 0), .ref ho]) (n := 2) C Z hM 0 0 rfl he rfl q474 q475 q476 q19 q477 (by decide +kernel) rfl (by show k + 1 ≤ 9; omega) (by show 8 + (6 + 11) + 60 * k ≤ 60 * 9; omega) (Nat.le_of_ble_eq_true rfl) (Nat.le_of_ble_eq_true rfl) rfl rfl hl.1 rfl (Nat.le_of_ble_eq_true rfl) dX0_noise_5 (fun w1 hq => ?_)
  refine zk_catch (ns := [zk_ISE, zk_IAE]) (hpc := 17) C NC htab (by decide) (fun i q N h1 h2 => by
    match i with
    | 0 => cases h1; cases h2; exact q333
    | 1 => cases h1; cases h2; exact q196
    | i + 2 => cases h1) (by decide) (by decide) (fun x H locs Z => ?_)
  refine lv_astore (lv' := [(4, .ref x), (0, .ref hn), (1, .int p0), (2, .int p1), (3, .ref ho)]) hx hb dX0_noise_17 hl (by decide) rfl (fun ls hl => ?_)
  refine lv_iconst (v := nI 2) hx hb dX0_noise_19 (by decide) ?_
  exact zk_iret C hr hlocks Z ⟨rfl, w1, hq, rfl⟩ (Nat.le_of_ble_eq_true rfl) (Nat.le_of_ble_eq_true rfl) dX0_noise_20

set_option maxHeartbeats 4000000 in
theorem lr_syndrome (l : Launch) (D : va_G) (g : G4) (hn : Nat) (p0 p1 : Int32) (ho : Nat) (f : Nat → Int64) (w : va_W) (fs : List Value) (he : w[0]? = some (hn, .inr (0, fs))) (k : Nat) (k8 : k ≤ 8) (Qx : Option Value → va_W → Prop) (hv : ∀ v w1, Qx v w1 → ∃ r : Int32, v = some (.int r)) (hM : zk_M l yX1_syndrome (ws_ yX1_syndrome cX1_syndrome 3 (some .int)) (zk_R k 1 6) D g [.ref hn, .int p0, .int p1] w Qx) : zk_ML l yX0_syndrome (wsW_ yX0_syndrome cX0_syndrome 5 (some .int) [(0, 10, 13, 21), (0, 10, 17, 41)]) (zk_R 9 1 6) D g [.ref hn, .int p0, .int p1, .ref ho] (zk_oc1 g ho f :: w) (fun v w2 => v = some (.int (nI 0)) ∧ ∃ (r : Int32) (f1 : Nat → Int64) (w1 : va_W), Qx (some (.int r)) w1 ∧ f1 0 = r.toInt64 ∧ w2 = zk_oc1 g ho f1 :: w1) := by
  refine zk_ofWL (by decide) (Nat.le_of_ble_eq_true rfl) ?_
  intro pg ev s mm below meth cd A C NC htab hr hlocks Z ls hl
  have hx := C.1.1
  have hb := C.1.2.1
  have hl : lv_has ls 5 [(0, .ref hn), (1, .int p0), (2, .int p1), (3, .ref ho)] := hl
  refine lv_aload_n hx hb dX0_syndrome_0 rfl (lv_at hl 3 rfl) ?_
  refine lv_iconst (v := nI 0) hx hb dX0_syndrome_1 (by decide) ?_
  refine lv_aload_n hx hb dX0_syndrome_2 rfl (lv_at hl 0 rfl) ?_
  refine lv_iload_n hx hb dX0_syndrome_3 rfl (lv_at hl 1 rfl) ?_
  refine lv_iload_n hx hb dX0_syndrome_4 rfl (lv_at hl 2 rfl) ?_
  refine zk_callVa (wr := [zk_oc1 g ho f]) (wc := w) (cells' := 1) (slots' := 6) (rest := [.int (nI 0), .ref ho]) (n := 2) C Z hM 0 0 rfl he rfl q482 q483 q484 q19 q485 (by decide +kernel) rfl (by show k + 1 ≤ 9; omega) (by show 8 + (3 + 11) + 60 * k ≤ 60 * 9; omega) (Nat.le_of_ble_eq_true rfl) (Nat.le_of_ble_eq_true rfl) rfl rfl hl.1 rfl (Nat.le_of_ble_eq_true rfl) dX0_syndrome_5 (fun v w1 H locs hq Z => ?_)
  obtain ⟨r, rfl⟩ := hv v w1 hq
  have Z : zk_Z D A s H locs (zk_oc1 g ho f :: w1) := Z
  refine W.eq (g2 := F0 mm 8 ls [.int r, .int (nI 0), .ref ho]) rfl ?_
  refine lv_i2l (v := r.toInt64) hx hb dX0_syndrome_8 rfl ?_
  refine zk_last C Z dX0_syndrome_9 (fun f1 H locs hf1 Z => ?_)
  refine lv_goto (tgt := 21) hx hb dX0_syndrome_10 (by decide) ?_
  refine lv_iconst (v := nI 0) hx hb dX0_syndrome_21 (by decide) ?_
  exact zk_iret C hr hlocks Z ⟨rfl, r, f1, w1, hq, hf1, rfl⟩ (Nat.le_of_ble_eq_true rfl) (Nat.le_of_ble_eq_true rfl) dX0_syndrome_22

set_option maxHeartbeats 4000000 in
theorem lt_syndrome_1 (l : Launch) (D : va_G) (g : G4) (hn : Nat) (p0 p1 : Int32) (ho : Nat) (f : Nat → Int64) (w : va_W) (fs : List Value) (he : w[0]? = some (hn, .inr (0, fs))) (k : Nat) (k8 : k ≤ 8) (Qx : va_W → Prop) (hM : zk_MT l yX1_syndrome (ws_ yX1_syndrome cX1_syndrome 3 (some .int)) (zk_R k 1 6) D g [.ref hn, .int p0, .int p1] w zk_ISE Qx) : zk_ML l yX0_syndrome (wsW_ yX0_syndrome cX0_syndrome 5 (some .int) [(0, 10, 13, 21), (0, 10, 17, 41)]) (zk_R 9 1 6) D g [.ref hn, .int p0, .int p1, .ref ho] (zk_oc1 g ho f :: w) (fun v w2 => v = some (.int (nI 1)) ∧ ∃ w1 : va_W, Qx w1 ∧ w2 = zk_oc1 g ho f :: w1) := by
  refine zk_ofWL (by decide) (Nat.le_of_ble_eq_true rfl) ?_
  intro pg ev s mm below meth cd A C NC htab hr hlocks Z ls hl
  have hx := C.1.1
  have hb := C.1.2.1
  have hl : lv_has ls 5 [(0, .ref hn), (1, .int p0), (2, .int p1), (3, .ref ho)] := hl
  refine lv_aload_n hx hb dX0_syndrome_0 rfl (lv_at hl 3 rfl) ?_
  refine lv_iconst (v := nI 0) hx hb dX0_syndrome_1 (by decide) ?_
  refine lv_aload_n hx hb dX0_syndrome_2 rfl (lv_at hl 0 rfl) ?_
  refine lv_iload_n hx hb dX0_syndrome_3 rfl (lv_at hl 1 rfl) ?_
  refine lv_iload_n hx hb dX0_syndrome_4 rfl (lv_at hl 2 rfl) ?_
  refine zk_callVTa (wr := [zk_oc1 g ho f]) (wc := w) (cells' := 1) (slots' := 6) (rest := [.int (nI 0), .ref ho]) (n := 2) C Z hM 0 0 rfl he rfl q482 q483 q484 q19 q485 (by decide +kernel) rfl (by show k + 1 ≤ 9; omega) (by show 8 + (3 + 11) + 60 * k ≤ 60 * 9; omega) (Nat.le_of_ble_eq_true rfl) (Nat.le_of_ble_eq_true rfl) rfl rfl hl.1 rfl (Nat.le_of_ble_eq_true rfl) dX0_syndrome_5 (fun w1 hq => ?_)
  refine zk_catch (ns := [zk_ISE, zk_IOB]) (hpc := 13) C NC htab (by decide) (fun i q N h1 h2 => by
    match i with
    | 0 => cases h1; cases h2; exact q333
    | 1 => cases h1; cases h2; exact q390
    | i + 2 => cases h1) (by decide) (by decide) (fun x H locs Z => ?_)
  refine lv_astore (lv' := [(4, .ref x), (0, .ref hn), (1, .int p0), (2, .int p1), (3, .ref ho)]) hx hb dX0_syndrome_13 hl (by decide) rfl (fun ls hl => ?_)
  refine lv_iconst (v := nI 1) hx hb dX0_syndrome_15 (by decide) ?_
  exact zk_iret C hr hlocks Z ⟨rfl, w1, hq, rfl⟩ (Nat.le_of_ble_eq_true rfl) (Nat.le_of_ble_eq_true rfl) dX0_syndrome_16

set_option maxHeartbeats 4000000 in
theorem lt_syndrome_2 (l : Launch) (D : va_G) (g : G4) (hn : Nat) (p0 p1 : Int32) (ho : Nat) (f : Nat → Int64) (w : va_W) (fs : List Value) (he : w[0]? = some (hn, .inr (0, fs))) (k : Nat) (k8 : k ≤ 8) (Qx : va_W → Prop) (hM : zk_MT l yX1_syndrome (ws_ yX1_syndrome cX1_syndrome 3 (some .int)) (zk_R k 1 6) D g [.ref hn, .int p0, .int p1] w zk_IOB Qx) : zk_ML l yX0_syndrome (wsW_ yX0_syndrome cX0_syndrome 5 (some .int) [(0, 10, 13, 21), (0, 10, 17, 41)]) (zk_R 9 1 6) D g [.ref hn, .int p0, .int p1, .ref ho] (zk_oc1 g ho f :: w) (fun v w2 => v = some (.int (nI 2)) ∧ ∃ w1 : va_W, Qx w1 ∧ w2 = zk_oc1 g ho f :: w1) := by
  refine zk_ofWL (by decide) (Nat.le_of_ble_eq_true rfl) ?_
  intro pg ev s mm below meth cd A C NC htab hr hlocks Z ls hl
  have hx := C.1.1
  have hb := C.1.2.1
  have hl : lv_has ls 5 [(0, .ref hn), (1, .int p0), (2, .int p1), (3, .ref ho)] := hl
  refine lv_aload_n hx hb dX0_syndrome_0 rfl (lv_at hl 3 rfl) ?_
  refine lv_iconst (v := nI 0) hx hb dX0_syndrome_1 (by decide) ?_
  refine lv_aload_n hx hb dX0_syndrome_2 rfl (lv_at hl 0 rfl) ?_
  refine lv_iload_n hx hb dX0_syndrome_3 rfl (lv_at hl 1 rfl) ?_
  refine lv_iload_n hx hb dX0_syndrome_4 rfl (lv_at hl 2 rfl) ?_
  refine zk_callVTa (wr := [zk_oc1 g ho f]) (wc := w) (cells' := 1) (slots' := 6) (rest := [.int (nI 0), .ref ho]) (n := 2) C Z hM 0 0 rfl he rfl q482 q483 q484 q19 q485 (by decide +kernel) rfl (by show k + 1 ≤ 9; omega) (by show 8 + (3 + 11) + 60 * k ≤ 60 * 9; omega) (Nat.le_of_ble_eq_true rfl) (Nat.le_of_ble_eq_true rfl) rfl rfl hl.1 rfl (Nat.le_of_ble_eq_true rfl) dX0_syndrome_5 (fun w1 hq => ?_)
  refine zk_catch (ns := [zk_ISE, zk_IOB]) (hpc := 17) C NC htab (by decide) (fun i q N h1 h2 => by
    match i with
    | 0 => cases h1; cases h2; exact q333
    | 1 => cases h1; cases h2; exact q390
    | i + 2 => cases h1) (by decide) (by decide) (fun x H locs Z => ?_)
  refine lv_astore (lv' := [(4, .ref x), (0, .ref hn), (1, .int p0), (2, .int p1), (3, .ref ho)]) hx hb dX0_syndrome_17 hl (by decide) rfl (fun ls hl => ?_)
  refine lv_iconst (v := nI 2) hx hb dX0_syndrome_19 (by decide) ?_
  exact zk_iret C hr hlocks Z ⟨rfl, w1, hq, rfl⟩ (Nat.le_of_ble_eq_true rfl) (Nat.le_of_ble_eq_true rfl) dX0_syndrome_20

set_option maxHeartbeats 4000000 in
theorem lr_decode (l : Launch) (D : va_G) (g : G4) (hn : Nat) (p0 : Int32) (ho : Nat) (f : Nat → Int64) (w : va_W) (fs : List Value) (he : w[0]? = some (hn, .inr (0, fs))) (k : Nat) (k8 : k ≤ 8) (Qx : Option Value → va_W → Prop) (hv : ∀ v w1, Qx v w1 → ∃ r : Int32, v = some (.int r)) (hM : zk_M l yX1_decode (ws_ yX1_decode cX1_decode 2 (some .int)) (zk_R k 1 6) D g [.ref hn, .int p0] w Qx) : zk_ML l yX0_decode (wsW_ yX0_decode cX0_decode 4 (some .int) [(0, 9, 12, 21), (0, 9, 15, 13), (0, 9, 18, 15)]) (zk_R 9 1 6) D g [.ref hn, .int p0, .ref ho] (zk_oc1 g ho f :: w) (fun v w2 => v = some (.int (nI 0)) ∧ ∃ (r : Int32) (f1 : Nat → Int64) (w1 : va_W), Qx (some (.int r)) w1 ∧ f1 0 = r.toInt64 ∧ w2 = zk_oc1 g ho f1 :: w1) := by
  refine zk_ofWL (by decide) (Nat.le_of_ble_eq_true rfl) ?_
  intro pg ev s mm below meth cd A C NC htab hr hlocks Z ls hl
  have hx := C.1.1
  have hb := C.1.2.1
  have hl : lv_has ls 4 [(0, .ref hn), (1, .int p0), (2, .ref ho)] := hl
  refine lv_aload_n hx hb dX0_decode_0 rfl (lv_at hl 2 rfl) ?_
  refine lv_iconst (v := nI 0) hx hb dX0_decode_1 (by decide) ?_
  refine lv_aload_n hx hb dX0_decode_2 rfl (lv_at hl 0 rfl) ?_
  refine lv_iload_n hx hb dX0_decode_3 rfl (lv_at hl 1 rfl) ?_
  refine zk_callVa (wr := [zk_oc1 g ho f]) (wc := w) (cells' := 1) (slots' := 6) (rest := [.int (nI 0), .ref ho]) (n := 1) C Z hM 0 0 rfl he rfl q490 q491 q492 q19 q493 (by decide +kernel) rfl (by show k + 1 ≤ 9; omega) (by show 8 + (2 + 11) + 60 * k ≤ 60 * 9; omega) (Nat.le_of_ble_eq_true rfl) (Nat.le_of_ble_eq_true rfl) rfl rfl hl.1 rfl (Nat.le_of_ble_eq_true rfl) dX0_decode_4 (fun v w1 H locs hq Z => ?_)
  obtain ⟨r, rfl⟩ := hv v w1 hq
  have Z : zk_Z D A s H locs (zk_oc1 g ho f :: w1) := Z
  refine W.eq (g2 := F0 mm 7 ls [.int r, .int (nI 0), .ref ho]) rfl ?_
  refine lv_i2l (v := r.toInt64) hx hb dX0_decode_7 rfl ?_
  refine zk_last C Z dX0_decode_8 (fun f1 H locs hf1 Z => ?_)
  refine lv_goto (tgt := 21) hx hb dX0_decode_9 (by decide) ?_
  refine lv_iconst (v := nI 0) hx hb dX0_decode_21 (by decide) ?_
  exact zk_iret C hr hlocks Z ⟨rfl, r, f1, w1, hq, hf1, rfl⟩ (Nat.le_of_ble_eq_true rfl) (Nat.le_of_ble_eq_true rfl) dX0_decode_22

set_option maxHeartbeats 4000000 in
theorem lt_decode_1 (l : Launch) (D : va_G) (g : G4) (hn : Nat) (p0 : Int32) (ho : Nat) (f : Nat → Int64) (w : va_W) (fs : List Value) (he : w[0]? = some (hn, .inr (0, fs))) (k : Nat) (k8 : k ≤ 8) (Qx : va_W → Prop) (hM : zk_MT l yX1_decode (ws_ yX1_decode cX1_decode 2 (some .int)) (zk_R k 1 6) D g [.ref hn, .int p0] w zk_ISE Qx) : zk_ML l yX0_decode (wsW_ yX0_decode cX0_decode 4 (some .int) [(0, 9, 12, 21), (0, 9, 15, 13), (0, 9, 18, 15)]) (zk_R 9 1 6) D g [.ref hn, .int p0, .ref ho] (zk_oc1 g ho f :: w) (fun v w2 => v = some (.int (nI 1)) ∧ ∃ w1 : va_W, Qx w1 ∧ w2 = zk_oc1 g ho f :: w1) := by
  refine zk_ofWL (by decide) (Nat.le_of_ble_eq_true rfl) ?_
  intro pg ev s mm below meth cd A C NC htab hr hlocks Z ls hl
  have hx := C.1.1
  have hb := C.1.2.1
  have hl : lv_has ls 4 [(0, .ref hn), (1, .int p0), (2, .ref ho)] := hl
  refine lv_aload_n hx hb dX0_decode_0 rfl (lv_at hl 2 rfl) ?_
  refine lv_iconst (v := nI 0) hx hb dX0_decode_1 (by decide) ?_
  refine lv_aload_n hx hb dX0_decode_2 rfl (lv_at hl 0 rfl) ?_
  refine lv_iload_n hx hb dX0_decode_3 rfl (lv_at hl 1 rfl) ?_
  refine zk_callVTa (wr := [zk_oc1 g ho f]) (wc := w) (cells' := 1) (slots' := 6) (rest := [.int (nI 0), .ref ho]) (n := 1) C Z hM 0 0 rfl he rfl q490 q491 q492 q19 q493 (by decide +kernel) rfl (by show k + 1 ≤ 9; omega) (by show 8 + (2 + 11) + 60 * k ≤ 60 * 9; omega) (Nat.le_of_ble_eq_true rfl) (Nat.le_of_ble_eq_true rfl) rfl rfl hl.1 rfl (Nat.le_of_ble_eq_true rfl) dX0_decode_4 (fun w1 hq => ?_)
  refine zk_catch (ns := [zk_ISE, zk_IAE, zk_ARE]) (hpc := 12) C NC htab (by decide) (fun i q N h1 h2 => by
    match i with
    | 0 => cases h1; cases h2; exact q333
    | 1 => cases h1; cases h2; exact q196
    | 2 => cases h1; cases h2; exact q197
    | i + 3 => cases h1) (by decide) (by decide) (fun x H locs Z => ?_)
  refine lv_astore_n (lv' := [(3, .ref x), (0, .ref hn), (1, .int p0), (2, .ref ho)]) hx hb dX0_decode_12 rfl hl (by decide) rfl (fun ls hl => ?_)
  refine lv_iconst (v := nI 1) hx hb dX0_decode_13 (by decide) ?_
  exact zk_iret C hr hlocks Z ⟨rfl, w1, hq, rfl⟩ (Nat.le_of_ble_eq_true rfl) (Nat.le_of_ble_eq_true rfl) dX0_decode_14

set_option maxHeartbeats 4000000 in
theorem lt_decode_2 (l : Launch) (D : va_G) (g : G4) (hn : Nat) (p0 : Int32) (ho : Nat) (f : Nat → Int64) (w : va_W) (fs : List Value) (he : w[0]? = some (hn, .inr (0, fs))) (k : Nat) (k8 : k ≤ 8) (Qx : va_W → Prop) (hM : zk_MT l yX1_decode (ws_ yX1_decode cX1_decode 2 (some .int)) (zk_R k 1 6) D g [.ref hn, .int p0] w zk_IAE Qx) : zk_ML l yX0_decode (wsW_ yX0_decode cX0_decode 4 (some .int) [(0, 9, 12, 21), (0, 9, 15, 13), (0, 9, 18, 15)]) (zk_R 9 1 6) D g [.ref hn, .int p0, .ref ho] (zk_oc1 g ho f :: w) (fun v w2 => v = some (.int (nI 2)) ∧ ∃ w1 : va_W, Qx w1 ∧ w2 = zk_oc1 g ho f :: w1) := by
  refine zk_ofWL (by decide) (Nat.le_of_ble_eq_true rfl) ?_
  intro pg ev s mm below meth cd A C NC htab hr hlocks Z ls hl
  have hx := C.1.1
  have hb := C.1.2.1
  have hl : lv_has ls 4 [(0, .ref hn), (1, .int p0), (2, .ref ho)] := hl
  refine lv_aload_n hx hb dX0_decode_0 rfl (lv_at hl 2 rfl) ?_
  refine lv_iconst (v := nI 0) hx hb dX0_decode_1 (by decide) ?_
  refine lv_aload_n hx hb dX0_decode_2 rfl (lv_at hl 0 rfl) ?_
  refine lv_iload_n hx hb dX0_decode_3 rfl (lv_at hl 1 rfl) ?_
  refine zk_callVTa (wr := [zk_oc1 g ho f]) (wc := w) (cells' := 1) (slots' := 6) (rest := [.int (nI 0), .ref ho]) (n := 1) C Z hM 0 0 rfl he rfl q490 q491 q492 q19 q493 (by decide +kernel) rfl (by show k + 1 ≤ 9; omega) (by show 8 + (2 + 11) + 60 * k ≤ 60 * 9; omega) (Nat.le_of_ble_eq_true rfl) (Nat.le_of_ble_eq_true rfl) rfl rfl hl.1 rfl (Nat.le_of_ble_eq_true rfl) dX0_decode_4 (fun w1 hq => ?_)
  refine zk_catch (ns := [zk_ISE, zk_IAE, zk_ARE]) (hpc := 15) C NC htab (by decide) (fun i q N h1 h2 => by
    match i with
    | 0 => cases h1; cases h2; exact q333
    | 1 => cases h1; cases h2; exact q196
    | 2 => cases h1; cases h2; exact q197
    | i + 3 => cases h1) (by decide) (by decide) (fun x H locs Z => ?_)
  refine lv_astore_n (lv' := [(3, .ref x), (0, .ref hn), (1, .int p0), (2, .ref ho)]) hx hb dX0_decode_15 rfl hl (by decide) rfl (fun ls hl => ?_)
  refine lv_iconst (v := nI 2) hx hb dX0_decode_16 (by decide) ?_
  exact zk_iret C hr hlocks Z ⟨rfl, w1, hq, rfl⟩ (Nat.le_of_ble_eq_true rfl) (Nat.le_of_ble_eq_true rfl) dX0_decode_17

set_option maxHeartbeats 4000000 in
theorem lt_decode_3 (l : Launch) (D : va_G) (g : G4) (hn : Nat) (p0 : Int32) (ho : Nat) (f : Nat → Int64) (w : va_W) (fs : List Value) (he : w[0]? = some (hn, .inr (0, fs))) (k : Nat) (k8 : k ≤ 8) (Qx : va_W → Prop) (hM : zk_MT l yX1_decode (ws_ yX1_decode cX1_decode 2 (some .int)) (zk_R k 1 6) D g [.ref hn, .int p0] w zk_ARE Qx) : zk_ML l yX0_decode (wsW_ yX0_decode cX0_decode 4 (some .int) [(0, 9, 12, 21), (0, 9, 15, 13), (0, 9, 18, 15)]) (zk_R 9 1 6) D g [.ref hn, .int p0, .ref ho] (zk_oc1 g ho f :: w) (fun v w2 => v = some (.int (nI 3)) ∧ ∃ w1 : va_W, Qx w1 ∧ w2 = zk_oc1 g ho f :: w1) := by
  refine zk_ofWL (by decide) (Nat.le_of_ble_eq_true rfl) ?_
  intro pg ev s mm below meth cd A C NC htab hr hlocks Z ls hl
  have hx := C.1.1
  have hb := C.1.2.1
  have hl : lv_has ls 4 [(0, .ref hn), (1, .int p0), (2, .ref ho)] := hl
  refine lv_aload_n hx hb dX0_decode_0 rfl (lv_at hl 2 rfl) ?_
  refine lv_iconst (v := nI 0) hx hb dX0_decode_1 (by decide) ?_
  refine lv_aload_n hx hb dX0_decode_2 rfl (lv_at hl 0 rfl) ?_
  refine lv_iload_n hx hb dX0_decode_3 rfl (lv_at hl 1 rfl) ?_
  refine zk_callVTa (wr := [zk_oc1 g ho f]) (wc := w) (cells' := 1) (slots' := 6) (rest := [.int (nI 0), .ref ho]) (n := 1) C Z hM 0 0 rfl he rfl q490 q491 q492 q19 q493 (by decide +kernel) rfl (by show k + 1 ≤ 9; omega) (by show 8 + (2 + 11) + 60 * k ≤ 60 * 9; omega) (Nat.le_of_ble_eq_true rfl) (Nat.le_of_ble_eq_true rfl) rfl rfl hl.1 rfl (Nat.le_of_ble_eq_true rfl) dX0_decode_4 (fun w1 hq => ?_)
  refine zk_catch (ns := [zk_ISE, zk_IAE, zk_ARE]) (hpc := 18) C NC htab (by decide) (fun i q N h1 h2 => by
    match i with
    | 0 => cases h1; cases h2; exact q333
    | 1 => cases h1; cases h2; exact q196
    | 2 => cases h1; cases h2; exact q197
    | i + 3 => cases h1) (by decide) (by decide) (fun x H locs Z => ?_)
  refine lv_astore_n (lv' := [(3, .ref x), (0, .ref hn), (1, .int p0), (2, .ref ho)]) hx hb dX0_decode_18 rfl hl (by decide) rfl (fun ls hl => ?_)
  refine lv_iconst (v := nI 3) hx hb dX0_decode_19 (by decide) ?_
  exact zk_iret C hr hlocks Z ⟨rfl, w1, hq, rfl⟩ (Nat.le_of_ble_eq_true rfl) (Nat.le_of_ble_eq_true rfl) dX0_decode_20

set_option maxHeartbeats 4000000 in
theorem lr_save (l : Launch) (D : va_G) (g : G4) (hn : Nat) (p0 : Int32)  (w : va_W) (fs : List Value) (he : w[0]? = some (hn, .inr (0, fs))) (k : Nat) (k8 : k ≤ 8) (Qx : Option Value → va_W → Prop) (hv : ∀ v w1, Qx v w1 → v = none) (hM : zk_M l yX1_save (ws_ yX1_save cX1_save 2 none) (zk_R k 1 6) D g [.ref hn, .int p0] w Qx) : zk_ML l yX0_save (wsW_ yX0_save cX0_save 3 (some .int) [(0, 5, 8, 21), (0, 5, 11, 41)]) (zk_R 9 1 6) D g [.ref hn, .int p0] w (fun v w2 => v = some (.int (nI 0)) ∧ Qx none w2) := by
  refine zk_ofWL (by decide) (Nat.le_of_ble_eq_true rfl) ?_
  intro pg ev s mm below meth cd A C NC htab hr hlocks Z ls hl
  have hx := C.1.1
  have hb := C.1.2.1
  have hl : lv_has ls 3 [(0, .ref hn), (1, .int p0)] := hl
  refine lv_aload_n hx hb dX0_save_0 rfl (lv_at hl 0 rfl) ?_
  refine lv_iload_n hx hb dX0_save_1 rfl (lv_at hl 1 rfl) ?_
  have Z : zk_Z D A s s.heap [] ([] ++ w) := Z
  refine zk_callVa (wr := []) (wc := w) (cells' := 1) (slots' := 6) (rest := []) (n := 1) C Z hM 0 0 rfl he rfl q579 q580 q581 q19 q582 (by decide +kernel) rfl (by show k + 1 ≤ 9; omega) (by show 8 + (2 + 11) + 60 * k ≤ 60 * 9; omega) (Nat.le_of_ble_eq_true rfl) (Nat.le_of_ble_eq_true rfl) rfl rfl hl.1 rfl (Nat.le_of_ble_eq_true rfl) dX0_save_2 (fun v w1 H locs hq Z => ?_)
  obtain rfl := hv v w1 hq
  have Z : zk_Z D A s H locs w1 := Z
  refine W.eq (g2 := F0 mm 5 ls []) rfl ?_
  refine lv_goto (tgt := 14) hx hb dX0_save_5 (by decide) ?_
  refine lv_iconst (v := nI 0) hx hb dX0_save_14 (by decide) ?_
  exact zk_iret C hr hlocks Z ⟨rfl, hq⟩ (Nat.le_of_ble_eq_true rfl) (Nat.le_of_ble_eq_true rfl) dX0_save_15

set_option maxHeartbeats 4000000 in
theorem lt_save_1 (l : Launch) (D : va_G) (g : G4) (hn : Nat) (p0 : Int32)  (w : va_W) (fs : List Value) (he : w[0]? = some (hn, .inr (0, fs))) (k : Nat) (k8 : k ≤ 8) (Qx : va_W → Prop) (hM : zk_MT l yX1_save (ws_ yX1_save cX1_save 2 none) (zk_R k 1 6) D g [.ref hn, .int p0] w zk_ISE Qx) : zk_ML l yX0_save (wsW_ yX0_save cX0_save 3 (some .int) [(0, 5, 8, 21), (0, 5, 11, 41)]) (zk_R 9 1 6) D g [.ref hn, .int p0] w (fun v w2 => v = some (.int (nI 1)) ∧ ∃ w1 : va_W, Qx w1 ∧ w2 = w1) := by
  refine zk_ofWL (by decide) (Nat.le_of_ble_eq_true rfl) ?_
  intro pg ev s mm below meth cd A C NC htab hr hlocks Z ls hl
  have hx := C.1.1
  have hb := C.1.2.1
  have hl : lv_has ls 3 [(0, .ref hn), (1, .int p0)] := hl
  refine lv_aload_n hx hb dX0_save_0 rfl (lv_at hl 0 rfl) ?_
  refine lv_iload_n hx hb dX0_save_1 rfl (lv_at hl 1 rfl) ?_
  have Z : zk_Z D A s s.heap [] ([] ++ w) := Z
  refine zk_callVTa (wr := []) (wc := w) (cells' := 1) (slots' := 6) (rest := []) (n := 1) C Z hM 0 0 rfl he rfl q579 q580 q581 q19 q582 (by decide +kernel) rfl (by show k + 1 ≤ 9; omega) (by show 8 + (2 + 11) + 60 * k ≤ 60 * 9; omega) (Nat.le_of_ble_eq_true rfl) (Nat.le_of_ble_eq_true rfl) rfl rfl hl.1 rfl (Nat.le_of_ble_eq_true rfl) dX0_save_2 (fun w1 hq => ?_)
  refine zk_catch (ns := [zk_ISE, zk_IOB]) (hpc := 8) C NC htab (by decide) (fun i q N h1 h2 => by
    match i with
    | 0 => cases h1; cases h2; exact q333
    | 1 => cases h1; cases h2; exact q390
    | i + 2 => cases h1) (by decide) (by decide) (fun x H locs Z => ?_)
  refine lv_astore_n (lv' := [(2, .ref x), (0, .ref hn), (1, .int p0)]) hx hb dX0_save_8 rfl hl (by decide) rfl (fun ls hl => ?_)
  refine lv_iconst (v := nI 1) hx hb dX0_save_9 (by decide) ?_
  exact zk_iret C hr hlocks Z ⟨rfl, w1, hq, rfl⟩ (Nat.le_of_ble_eq_true rfl) (Nat.le_of_ble_eq_true rfl) dX0_save_10

set_option maxHeartbeats 4000000 in
theorem lt_save_2 (l : Launch) (D : va_G) (g : G4) (hn : Nat) (p0 : Int32)  (w : va_W) (fs : List Value) (he : w[0]? = some (hn, .inr (0, fs))) (k : Nat) (k8 : k ≤ 8) (Qx : va_W → Prop) (hM : zk_MT l yX1_save (ws_ yX1_save cX1_save 2 none) (zk_R k 1 6) D g [.ref hn, .int p0] w zk_IOB Qx) : zk_ML l yX0_save (wsW_ yX0_save cX0_save 3 (some .int) [(0, 5, 8, 21), (0, 5, 11, 41)]) (zk_R 9 1 6) D g [.ref hn, .int p0] w (fun v w2 => v = some (.int (nI 2)) ∧ ∃ w1 : va_W, Qx w1 ∧ w2 = w1) := by
  refine zk_ofWL (by decide) (Nat.le_of_ble_eq_true rfl) ?_
  intro pg ev s mm below meth cd A C NC htab hr hlocks Z ls hl
  have hx := C.1.1
  have hb := C.1.2.1
  have hl : lv_has ls 3 [(0, .ref hn), (1, .int p0)] := hl
  refine lv_aload_n hx hb dX0_save_0 rfl (lv_at hl 0 rfl) ?_
  refine lv_iload_n hx hb dX0_save_1 rfl (lv_at hl 1 rfl) ?_
  have Z : zk_Z D A s s.heap [] ([] ++ w) := Z
  refine zk_callVTa (wr := []) (wc := w) (cells' := 1) (slots' := 6) (rest := []) (n := 1) C Z hM 0 0 rfl he rfl q579 q580 q581 q19 q582 (by decide +kernel) rfl (by show k + 1 ≤ 9; omega) (by show 8 + (2 + 11) + 60 * k ≤ 60 * 9; omega) (Nat.le_of_ble_eq_true rfl) (Nat.le_of_ble_eq_true rfl) rfl rfl hl.1 rfl (Nat.le_of_ble_eq_true rfl) dX0_save_2 (fun w1 hq => ?_)
  refine zk_catch (ns := [zk_ISE, zk_IOB]) (hpc := 11) C NC htab (by decide) (fun i q N h1 h2 => by
    match i with
    | 0 => cases h1; cases h2; exact q333
    | 1 => cases h1; cases h2; exact q390
    | i + 2 => cases h1) (by decide) (by decide) (fun x H locs Z => ?_)
  refine lv_astore_n (lv' := [(2, .ref x), (0, .ref hn), (1, .int p0)]) hx hb dX0_save_11 rfl hl (by decide) rfl (fun ls hl => ?_)
  refine lv_iconst (v := nI 2) hx hb dX0_save_12 (by decide) ?_
  exact zk_iret C hr hlocks Z ⟨rfl, w1, hq, rfl⟩ (Nat.le_of_ble_eq_true rfl) (Nat.le_of_ble_eq_true rfl) dX0_save_13

set_option maxHeartbeats 4000000 in
theorem lr_load (l : Launch) (D : va_G) (g : G4) (hn : Nat) (p0 : Int32) (ho : Nat) (f : Nat → Int64) (w : va_W) (fs : List Value) (he : w[0]? = some (hn, .inr (0, fs))) (k : Nat) (k8 : k ≤ 8) (Qx : Option Value → va_W → Prop) (hv : ∀ v w1, Qx v w1 → ∃ r : Int32, v = some (.int r)) (hM : zk_M l yX1_load (ws_ yX1_load cX1_load 3 (some .int)) (zk_R k 1 6) D g [.ref hn, .int p0] w Qx) : zk_ML l yX0_load (wsW_ yX0_load cX0_load 4 (some .int) [(0, 9, 12, 21), (0, 9, 15, 41), (0, 9, 18, 15)]) (zk_R 9 1 6) D g [.ref hn, .int p0, .ref ho] (zk_oc1 g ho f :: w) (fun v w2 => v = some (.int (nI 0)) ∧ ∃ (r : Int32) (f1 : Nat → Int64) (w1 : va_W), Qx (some (.int r)) w1 ∧ f1 0 = r.toInt64 ∧ w2 = zk_oc1 g ho f1 :: w1) := by
  refine zk_ofWL (by decide) (Nat.le_of_ble_eq_true rfl) ?_
  intro pg ev s mm below meth cd A C NC htab hr hlocks Z ls hl
  have hx := C.1.1
  have hb := C.1.2.1
  have hl : lv_has ls 4 [(0, .ref hn), (1, .int p0), (2, .ref ho)] := hl
  refine lv_aload_n hx hb dX0_load_0 rfl (lv_at hl 2 rfl) ?_
  refine lv_iconst (v := nI 0) hx hb dX0_load_1 (by decide) ?_
  refine lv_aload_n hx hb dX0_load_2 rfl (lv_at hl 0 rfl) ?_
  refine lv_iload_n hx hb dX0_load_3 rfl (lv_at hl 1 rfl) ?_
  refine zk_callVa (wr := [zk_oc1 g ho f]) (wc := w) (cells' := 1) (slots' := 6) (rest := [.int (nI 0), .ref ho]) (n := 1) C Z hM 0 0 rfl he rfl q587 q588 q589 q19 q590 (by decide +kernel) rfl (by show k + 1 ≤ 9; omega) (by show 8 + (3 + 11) + 60 * k ≤ 60 * 9; omega) (Nat.le_of_ble_eq_true rfl) (Nat.le_of_ble_eq_true rfl) rfl rfl hl.1 rfl (Nat.le_of_ble_eq_true rfl) dX0_load_4 (fun v w1 H locs hq Z => ?_)
  obtain ⟨r, rfl⟩ := hv v w1 hq
  have Z : zk_Z D A s H locs (zk_oc1 g ho f :: w1) := Z
  refine W.eq (g2 := F0 mm 7 ls [.int r, .int (nI 0), .ref ho]) rfl ?_
  refine lv_i2l (v := r.toInt64) hx hb dX0_load_7 rfl ?_
  refine zk_last C Z dX0_load_8 (fun f1 H locs hf1 Z => ?_)
  refine lv_goto (tgt := 21) hx hb dX0_load_9 (by decide) ?_
  refine lv_iconst (v := nI 0) hx hb dX0_load_21 (by decide) ?_
  exact zk_iret C hr hlocks Z ⟨rfl, r, f1, w1, hq, hf1, rfl⟩ (Nat.le_of_ble_eq_true rfl) (Nat.le_of_ble_eq_true rfl) dX0_load_22

set_option maxHeartbeats 4000000 in
theorem lt_load_1 (l : Launch) (D : va_G) (g : G4) (hn : Nat) (p0 : Int32) (ho : Nat) (f : Nat → Int64) (w : va_W) (fs : List Value) (he : w[0]? = some (hn, .inr (0, fs))) (k : Nat) (k8 : k ≤ 8) (Qx : va_W → Prop) (hM : zk_MT l yX1_load (ws_ yX1_load cX1_load 3 (some .int)) (zk_R k 1 6) D g [.ref hn, .int p0] w zk_ISE Qx) : zk_ML l yX0_load (wsW_ yX0_load cX0_load 4 (some .int) [(0, 9, 12, 21), (0, 9, 15, 41), (0, 9, 18, 15)]) (zk_R 9 1 6) D g [.ref hn, .int p0, .ref ho] (zk_oc1 g ho f :: w) (fun v w2 => v = some (.int (nI 1)) ∧ ∃ w1 : va_W, Qx w1 ∧ w2 = zk_oc1 g ho f :: w1) := by
  refine zk_ofWL (by decide) (Nat.le_of_ble_eq_true rfl) ?_
  intro pg ev s mm below meth cd A C NC htab hr hlocks Z ls hl
  have hx := C.1.1
  have hb := C.1.2.1
  have hl : lv_has ls 4 [(0, .ref hn), (1, .int p0), (2, .ref ho)] := hl
  refine lv_aload_n hx hb dX0_load_0 rfl (lv_at hl 2 rfl) ?_
  refine lv_iconst (v := nI 0) hx hb dX0_load_1 (by decide) ?_
  refine lv_aload_n hx hb dX0_load_2 rfl (lv_at hl 0 rfl) ?_
  refine lv_iload_n hx hb dX0_load_3 rfl (lv_at hl 1 rfl) ?_
  refine zk_callVTa (wr := [zk_oc1 g ho f]) (wc := w) (cells' := 1) (slots' := 6) (rest := [.int (nI 0), .ref ho]) (n := 1) C Z hM 0 0 rfl he rfl q587 q588 q589 q19 q590 (by decide +kernel) rfl (by show k + 1 ≤ 9; omega) (by show 8 + (3 + 11) + 60 * k ≤ 60 * 9; omega) (Nat.le_of_ble_eq_true rfl) (Nat.le_of_ble_eq_true rfl) rfl rfl hl.1 rfl (Nat.le_of_ble_eq_true rfl) dX0_load_4 (fun w1 hq => ?_)
  refine zk_catch (ns := [zk_ISE, zk_IOB, zk_ARE]) (hpc := 12) C NC htab (by decide) (fun i q N h1 h2 => by
    match i with
    | 0 => cases h1; cases h2; exact q333
    | 1 => cases h1; cases h2; exact q390
    | 2 => cases h1; cases h2; exact q197
    | i + 3 => cases h1) (by decide) (by decide) (fun x H locs Z => ?_)
  refine lv_astore_n (lv' := [(3, .ref x), (0, .ref hn), (1, .int p0), (2, .ref ho)]) hx hb dX0_load_12 rfl hl (by decide) rfl (fun ls hl => ?_)
  refine lv_iconst (v := nI 1) hx hb dX0_load_13 (by decide) ?_
  exact zk_iret C hr hlocks Z ⟨rfl, w1, hq, rfl⟩ (Nat.le_of_ble_eq_true rfl) (Nat.le_of_ble_eq_true rfl) dX0_load_14

set_option maxHeartbeats 4000000 in
theorem lt_load_2 (l : Launch) (D : va_G) (g : G4) (hn : Nat) (p0 : Int32) (ho : Nat) (f : Nat → Int64) (w : va_W) (fs : List Value) (he : w[0]? = some (hn, .inr (0, fs))) (k : Nat) (k8 : k ≤ 8) (Qx : va_W → Prop) (hM : zk_MT l yX1_load (ws_ yX1_load cX1_load 3 (some .int)) (zk_R k 1 6) D g [.ref hn, .int p0] w zk_IOB Qx) : zk_ML l yX0_load (wsW_ yX0_load cX0_load 4 (some .int) [(0, 9, 12, 21), (0, 9, 15, 41), (0, 9, 18, 15)]) (zk_R 9 1 6) D g [.ref hn, .int p0, .ref ho] (zk_oc1 g ho f :: w) (fun v w2 => v = some (.int (nI 2)) ∧ ∃ w1 : va_W, Qx w1 ∧ w2 = zk_oc1 g ho f :: w1) := by
  refine zk_ofWL (by decide) (Nat.le_of_ble_eq_true rfl) ?_
  intro pg ev s mm below meth cd A C NC htab hr hlocks Z ls hl
  have hx := C.1.1
  have hb := C.1.2.1
  have hl : lv_has ls 4 [(0, .ref hn), (1, .int p0), (2, .ref ho)] := hl
  refine lv_aload_n hx hb dX0_load_0 rfl (lv_at hl 2 rfl) ?_
  refine lv_iconst (v := nI 0) hx hb dX0_load_1 (by decide) ?_
  refine lv_aload_n hx hb dX0_load_2 rfl (lv_at hl 0 rfl) ?_
  refine lv_iload_n hx hb dX0_load_3 rfl (lv_at hl 1 rfl) ?_
  refine zk_callVTa (wr := [zk_oc1 g ho f]) (wc := w) (cells' := 1) (slots' := 6) (rest := [.int (nI 0), .ref ho]) (n := 1) C Z hM 0 0 rfl he rfl q587 q588 q589 q19 q590 (by decide +kernel) rfl (by show k + 1 ≤ 9; omega) (by show 8 + (3 + 11) + 60 * k ≤ 60 * 9; omega) (Nat.le_of_ble_eq_true rfl) (Nat.le_of_ble_eq_true rfl) rfl rfl hl.1 rfl (Nat.le_of_ble_eq_true rfl) dX0_load_4 (fun w1 hq => ?_)
  refine zk_catch (ns := [zk_ISE, zk_IOB, zk_ARE]) (hpc := 15) C NC htab (by decide) (fun i q N h1 h2 => by
    match i with
    | 0 => cases h1; cases h2; exact q333
    | 1 => cases h1; cases h2; exact q390
    | 2 => cases h1; cases h2; exact q197
    | i + 3 => cases h1) (by decide) (by decide) (fun x H locs Z => ?_)
  refine lv_astore_n (lv' := [(3, .ref x), (0, .ref hn), (1, .int p0), (2, .ref ho)]) hx hb dX0_load_15 rfl hl (by decide) rfl (fun ls hl => ?_)
  refine lv_iconst (v := nI 2) hx hb dX0_load_16 (by decide) ?_
  exact zk_iret C hr hlocks Z ⟨rfl, w1, hq, rfl⟩ (Nat.le_of_ble_eq_true rfl) (Nat.le_of_ble_eq_true rfl) dX0_load_17

set_option maxHeartbeats 4000000 in
theorem lt_load_3 (l : Launch) (D : va_G) (g : G4) (hn : Nat) (p0 : Int32) (ho : Nat) (f : Nat → Int64) (w : va_W) (fs : List Value) (he : w[0]? = some (hn, .inr (0, fs))) (k : Nat) (k8 : k ≤ 8) (Qx : va_W → Prop) (hM : zk_MT l yX1_load (ws_ yX1_load cX1_load 3 (some .int)) (zk_R k 1 6) D g [.ref hn, .int p0] w zk_ARE Qx) : zk_ML l yX0_load (wsW_ yX0_load cX0_load 4 (some .int) [(0, 9, 12, 21), (0, 9, 15, 41), (0, 9, 18, 15)]) (zk_R 9 1 6) D g [.ref hn, .int p0, .ref ho] (zk_oc1 g ho f :: w) (fun v w2 => v = some (.int (nI 3)) ∧ ∃ w1 : va_W, Qx w1 ∧ w2 = zk_oc1 g ho f :: w1) := by
  refine zk_ofWL (by decide) (Nat.le_of_ble_eq_true rfl) ?_
  intro pg ev s mm below meth cd A C NC htab hr hlocks Z ls hl
  have hx := C.1.1
  have hb := C.1.2.1
  have hl : lv_has ls 4 [(0, .ref hn), (1, .int p0), (2, .ref ho)] := hl
  refine lv_aload_n hx hb dX0_load_0 rfl (lv_at hl 2 rfl) ?_
  refine lv_iconst (v := nI 0) hx hb dX0_load_1 (by decide) ?_
  refine lv_aload_n hx hb dX0_load_2 rfl (lv_at hl 0 rfl) ?_
  refine lv_iload_n hx hb dX0_load_3 rfl (lv_at hl 1 rfl) ?_
  refine zk_callVTa (wr := [zk_oc1 g ho f]) (wc := w) (cells' := 1) (slots' := 6) (rest := [.int (nI 0), .ref ho]) (n := 1) C Z hM 0 0 rfl he rfl q587 q588 q589 q19 q590 (by decide +kernel) rfl (by show k + 1 ≤ 9; omega) (by show 8 + (3 + 11) + 60 * k ≤ 60 * 9; omega) (Nat.le_of_ble_eq_true rfl) (Nat.le_of_ble_eq_true rfl) rfl rfl hl.1 rfl (Nat.le_of_ble_eq_true rfl) dX0_load_4 (fun w1 hq => ?_)
  refine zk_catch (ns := [zk_ISE, zk_IOB, zk_ARE]) (hpc := 18) C NC htab (by decide) (fun i q N h1 h2 => by
    match i with
    | 0 => cases h1; cases h2; exact q333
    | 1 => cases h1; cases h2; exact q390
    | 2 => cases h1; cases h2; exact q197
    | i + 3 => cases h1) (by decide) (by decide) (fun x H locs Z => ?_)
  refine lv_astore_n (lv' := [(3, .ref x), (0, .ref hn), (1, .int p0), (2, .ref ho)]) hx hb dX0_load_18 rfl hl (by decide) rfl (fun ls hl => ?_)
  refine lv_iconst (v := nI 3) hx hb dX0_load_19 (by decide) ?_
  exact zk_iret C hr hlocks Z ⟨rfl, w1, hq, rfl⟩ (Nat.le_of_ble_eq_true rfl) (Nat.le_of_ble_eq_true rfl) dX0_load_20

