/-! ===== bitCount, within, need, needPlace, needCode ===== -/
set_option maxRecDepth 100000
def bc1 (x : Nat) : Nat := x - (x >>> 1 &&& 1431655765)
def bc2 (x : Nat) : Nat := (x &&& 858993459) + (x >>> 2 &&& 858993459)
def bc3 (x : Nat) : Nat := (x + x >>> 4) &&& 252645135
def bc4 (x : Nat) : Nat := x + x >>> 8
def bc5 (x : Nat) : Nat := x + x >>> 16
def bct (x : Nat) : Nat := bc5 (bc4 (bc3 (bc2 (bc1 x)))) &&& 63
theorem zk_shle (x k : Nat) : x >>> k ≤ x := by rw [Nat.shiftRight_eq_div_pow]; exact Nat.div_le_self _ _
theorem bc1_b {x : Nat} (h : x < 2 ^ 31) : (x >>> 1 &&& 1431655765) ≤ x ∧ bc1 x < 2 ^ 31 := by
  have h1 : (x >>> 1 &&& 1431655765) ≤ x >>> 1 := Nat.and_le_left
  have h2 := zk_shle x 1
  unfold bc1
  omega
theorem bc2_b (x : Nat) : bc2 x < 2 ^ 31 := by
  have h1 : (x &&& 858993459) ≤ 858993459 := Nat.and_le_right
  have h2 : (x >>> 2 &&& 858993459) ≤ 858993459 := Nat.and_le_right
  unfold bc2
  omega
theorem bc3_b (x : Nat) : bc3 x ≤ 252645135 := Nat.and_le_right
theorem bc4_b (x : Nat) : bc4 x ≤ 2 * x := by
  have h2 := zk_shle x 8
  unfold bc4
  omega
/-- an int that is not negative is a number -/
theorem zk_nat {v : Int32} (h : ¬ v < 0) : ∃ k, k < 2 ^ 31 ∧ v = nI k := by
  have h0 : (0 : Int) ≤ v.toInt := by
    have h1 : ¬ v.toInt < (0 : Int32).toInt := fun q => h (Int32.lt_iff_toInt_lt.mpr q)
    have h2 : (0 : Int32).toInt = 0 := rfl
    omega
  have h1 : v.toInt < 2 ^ 31 := v.toInt_lt
  refine ⟨v.toInt.toNat, by omega, Int32.toInt_inj.mp ?_⟩
  rw [nI_toInt (by omega)]
  omega
theorem zk_in {v : Int32} {a b : Nat} (hb : b < 2 ^ 31) (h1 : nI a ≤ v) (h2 : v ≤ nI b) (ha : a ≤ b) : ∃ k, a ≤ k ∧ k ≤ b ∧ v = nI k := by
  have h0 : (nI a).toInt ≤ v.toInt := Int32.le_iff_toInt_le.mp h1
  have h3 : v.toInt ≤ (nI b).toInt := Int32.le_iff_toInt_le.mp h2
  rw [nI_toInt (by omega)] at h0
  rw [nI_toInt hb] at h3
  refine ⟨v.toInt.toNat, by omega, by omega, Int32.toInt_inj.mp ?_⟩
  rw [nI_toInt (by omega)]
  omega
set_option maxHeartbeats 4000000 in
/-- Integer.bitCount -/
theorem mJ_bc (l : Launch) (D : va_G) (g : G4) (x : Nat) (x31 : x < 2 ^ 31) : zk_M l yJ9_bitCount (ws_ yJ9_bitCount cJ9_bitCount 1 (some .int)) (zk_R 0 0 0) D g [.int (nI x)] [] (zk_D (some (.int (nI (bct x)))) []) := by
  refine zk_ofW (by decide) (Nat.le_of_ble_eq_true rfl) ?_
  intro pg ev s mm below meth cd A C hr hlocks hname Z ls hl
  have hx := C.1.1
  have hb := C.1.2.1
  have hml := C.1.2.2.1
  have hown := C.1.2.2.2.1
  have hts := C.1.2.2.2.2
  have hl : lv_has ls 1 [(0, .int (nI x))] := hl
  refine lv_iload_n hx hb dJ9_bitCount_0 rfl (lv_at hl 0 rfl) ?_
  refine lv_iload_n hx hb dJ9_bitCount_1 rfl (lv_at hl 0 rfl) ?_
  refine lv_iconst (v := nI 1) hx hb dJ9_bitCount_2 (by decide) ?_
  refine nr_iushr hx hb (by omega) (by decide) dJ9_bitCount_3 ?_
  refine lv_ldcw (v := nI 1431655765) hx hb hown (hts _ q450) dJ9_bitCount_4 ?_
  refine nr_iand hx hb dJ9_bitCount_7 ?_
  refine nr_isub hx hb (bc1_b x31).1 dJ9_bitCount_8 ?_
  rw [show x - ((x >>> 1) &&& 1431655765) = bc1 x from rfl]
  refine lv_istore_n (lv' := [(0, .int (nI (bc1 x)))]) hx hb dJ9_bitCount_9 rfl hl (by decide) rfl (fun ls hl => ?_)
  refine lv_iload_n hx hb dJ9_bitCount_10 rfl (lv_at hl 0 rfl) ?_
  refine lv_ldcw (v := nI 858993459) hx hb hown (hts _ q451) dJ9_bitCount_11 ?_
  refine nr_iand hx hb dJ9_bitCount_14 ?_
  refine lv_iload_n hx hb dJ9_bitCount_15 rfl (lv_at hl 0 rfl) ?_
  refine lv_iconst (v := nI 2) hx hb dJ9_bitCount_16 (by decide) ?_
  refine nr_iushr hx hb (by have := (bc1_b x31).2; omega) (by decide) dJ9_bitCount_17 ?_
  refine lv_ldcw (v := nI 858993459) hx hb hown (hts _ q451) dJ9_bitCount_18 ?_
  refine nr_iand hx hb dJ9_bitCount_21 ?_
  refine nr_iadd hx hb dJ9_bitCount_22 ?_
  rw [show ((bc1 x) &&& 858993459) + (((bc1 x) >>> 2) &&& 858993459) = bc2 (bc1 x) from rfl]
  refine lv_istore_n (lv' := [(0, .int (nI (bc2 (bc1 x))))]) hx hb dJ9_bitCount_23 rfl hl (by decide) rfl (fun ls hl => ?_)
  refine lv_iload_n hx hb dJ9_bitCount_24 rfl (lv_at hl 0 rfl) ?_
  refine lv_iload_n hx hb dJ9_bitCount_25 rfl (lv_at hl 0 rfl) ?_
  refine lv_iconst (v := nI 4) hx hb dJ9_bitCount_26 (by decide) ?_
  refine nr_iushr hx hb (by have := bc2_b (bc1 x); omega) (by decide) dJ9_bitCount_27 ?_
  refine nr_iadd hx hb dJ9_bitCount_28 ?_
  refine lv_ldcw (v := nI 252645135) hx hb hown (hts _ q452) dJ9_bitCount_29 ?_
  refine nr_iand hx hb dJ9_bitCount_32 ?_
  rw [show ((bc2 (bc1 x)) + ((bc2 (bc1 x)) >>> 4)) &&& 252645135 = bc3 (bc2 (bc1 x)) from rfl]
  refine lv_istore_n (lv' := [(0, .int (nI (bc3 (bc2 (bc1 x)))))]) hx hb dJ9_bitCount_33 rfl hl (by decide) rfl (fun ls hl => ?_)
  refine lv_iload_n hx hb dJ9_bitCount_34 rfl (lv_at hl 0 rfl) ?_
  refine lv_iload_n hx hb dJ9_bitCount_35 rfl (lv_at hl 0 rfl) ?_
  refine lv_bipush (v := nI 8) hx hb dJ9_bitCount_36 (by decide) ?_
  refine nr_iushr hx hb (by have := bc3_b (bc2 (bc1 x)); omega) (by decide) dJ9_bitCount_38 ?_
  refine nr_iadd hx hb dJ9_bitCount_39 ?_
  rw [show (bc3 (bc2 (bc1 x))) + ((bc3 (bc2 (bc1 x))) >>> 8) = bc4 (bc3 (bc2 (bc1 x))) from rfl]
  refine lv_istore_n (lv' := [(0, .int (nI (bc4 (bc3 (bc2 (bc1 x))))))]) hx hb dJ9_bitCount_40 rfl hl (by decide) rfl (fun ls hl => ?_)
  refine lv_iload_n hx hb dJ9_bitCount_41 rfl (lv_at hl 0 rfl) ?_
  refine lv_iload_n hx hb dJ9_bitCount_42 rfl (lv_at hl 0 rfl) ?_
  refine lv_bipush (v := nI 16) hx hb dJ9_bitCount_43 (by decide) ?_
  refine nr_iushr hx hb (by have := bc3_b (bc2 (bc1 x)); have := bc4_b (bc3 (bc2 (bc1 x))); omega) (by decide) dJ9_bitCount_45 ?_
  refine nr_iadd hx hb dJ9_bitCount_46 ?_
  rw [show (bc4 (bc3 (bc2 (bc1 x)))) + ((bc4 (bc3 (bc2 (bc1 x)))) >>> 16) = bc5 (bc4 (bc3 (bc2 (bc1 x)))) from rfl]
  refine lv_istore_n (lv' := [(0, .int (nI (bc5 (bc4 (bc3 (bc2 (bc1 x)))))))]) hx hb dJ9_bitCount_47 rfl hl (by decide) rfl (fun ls hl => ?_)
  refine lv_iload_n hx hb dJ9_bitCount_48 rfl (lv_at hl 0 rfl) ?_
  refine lv_bipush (v := nI 63) hx hb dJ9_bitCount_49 (by decide) ?_
  refine nr_iand hx hb dJ9_bitCount_51 ?_
  exact zk_iret C hr hlocks Z ⟨rfl, rfl⟩ (Nat.le_of_ble_eq_true rfl) (Nat.le_of_ble_eq_true rfl) dJ9_bitCount_52

set_option maxHeartbeats 4000000 in
/-- within, yes -/
theorem m1_in1 (l : Launch) (D : va_G) (g : G4) (v a b : Int32) (h1 : a ≤ v) (h2 : v ≤ b) : zk_M l yX1_within (ws_ yX1_within cX1_within 3 (some .boolean)) (zk_R 0 0 0) D g [.int v, .int a, .int b] [] (zk_D (some (.int (nI 1))) []) := by
  refine zk_ofW (by decide) (Nat.le_of_ble_eq_true rfl) ?_
  intro pg ev s mm below meth cd A C hr hlocks hname Z ls hl
  have hx := C.1.1
  have hb := C.1.2.1
  have hml := C.1.2.2.1
  have hown := C.1.2.2.2.1
  have hts := C.1.2.2.2.2
  have hl : lv_has ls 3 [(0, .int v), (1, .int a), (2, .int b)] := hl
  have h1 := Int32.le_iff_toInt_le.mp h1
  have h2 := Int32.le_iff_toInt_le.mp h2
  refine lv_iload_n hx hb dX1_within_0 rfl (lv_at hl 0 rfl) ?_
  refine lv_iload_n hx hb dX1_within_1 rfl (lv_at hl 1 rfl) ?_
  refine lv_icmp_lt (tgt := 14) hx hb dX1_within_2 (by decide) (fun c_1 => absurd (Int32.lt_iff_toInt_lt.mp c_1) (by omega)) (fun c_1 => ?_)
  refine lv_iload_n hx hb dX1_within_5 rfl (lv_at hl 0 rfl) ?_
  refine lv_iload_n hx hb dX1_within_6 rfl (lv_at hl 2 rfl) ?_
  refine lv_icmp_gt (tgt := 14) hx hb dX1_within_7 (by decide) (fun c_2 => absurd (Int32.lt_iff_toInt_lt.mp c_2) (by omega)) (fun c_2 => ?_)
  refine lv_iconst (v := nI 1) hx hb dX1_within_10 (by decide) ?_
  refine lv_goto (tgt := 15) hx hb dX1_within_11 (by decide) ?_
  exact zk_zret C hr hlocks Z rfl ⟨rfl, rfl⟩ (Nat.le_of_ble_eq_true rfl) (Nat.le_of_ble_eq_true rfl) dX1_within_15

set_option maxHeartbeats 4000000 in
/-- within, no -/
theorem m1_in0 (l : Launch) (D : va_G) (g : G4) (v a b : Int32) (h0 : ¬ (a ≤ v ∧ v ≤ b)) : zk_M l yX1_within (ws_ yX1_within cX1_within 3 (some .boolean)) (zk_R 0 0 0) D g [.int v, .int a, .int b] [] (zk_D (some (.int (nI 0))) []) := by
  refine zk_ofW (by decide) (Nat.le_of_ble_eq_true rfl) ?_
  intro pg ev s mm below meth cd A C hr hlocks hname Z ls hl
  have hx := C.1.1
  have hb := C.1.2.1
  have hml := C.1.2.2.1
  have hown := C.1.2.2.2.1
  have hts := C.1.2.2.2.2
  have hl : lv_has ls 3 [(0, .int v), (1, .int a), (2, .int b)] := hl
  refine lv_iload_n hx hb dX1_within_0 rfl (lv_at hl 0 rfl) ?_
  refine lv_iload_n hx hb dX1_within_1 rfl (lv_at hl 1 rfl) ?_
  refine lv_icmp_lt (tgt := 14) hx hb dX1_within_2 (by decide) (fun c_1 => ?_) (fun c_1 => ?_)
  · refine lv_iconst (v := nI 0) hx hb dX1_within_14 (by decide) ?_
    exact zk_zret C hr hlocks Z rfl ⟨rfl, rfl⟩ (Nat.le_of_ble_eq_true rfl) (Nat.le_of_ble_eq_true rfl) dX1_within_15
  · refine lv_iload_n hx hb dX1_within_5 rfl (lv_at hl 0 rfl) ?_
    refine lv_iload_n hx hb dX1_within_6 rfl (lv_at hl 2 rfl) ?_
    refine lv_icmp_gt (tgt := 14) hx hb dX1_within_7 (by decide) (fun c_2 => ?_) (fun c_2 => absurd c_2 (fun c_2 => h0 ⟨Int32.not_lt.mp c_1, Int32.not_lt.mp c_2⟩))
    refine lv_iconst (v := nI 0) hx hb dX1_within_14 (by decide) ?_
    exact zk_zret C hr hlocks Z rfl ⟨rfl, rfl⟩ (Nat.le_of_ble_eq_true rfl) (Nat.le_of_ble_eq_true rfl) dX1_within_15

set_option maxHeartbeats 4000000 in
/-- within, yes -/
theorem m8_in1 (l : Launch) (D : va_G) (g : G4) (v a b : Int32) (h1 : a ≤ v) (h2 : v ≤ b) : zk_M l yX8_within (ws_ yX8_within cX8_within 3 (some .boolean)) (zk_R 0 0 0) D g [.int v, .int a, .int b] [] (zk_D (some (.int (nI 1))) []) := by
  refine zk_ofW (by decide) (Nat.le_of_ble_eq_true rfl) ?_
  intro pg ev s mm below meth cd A C hr hlocks hname Z ls hl
  have hx := C.1.1
  have hb := C.1.2.1
  have hml := C.1.2.2.1
  have hown := C.1.2.2.2.1
  have hts := C.1.2.2.2.2
  have hl : lv_has ls 3 [(0, .int v), (1, .int a), (2, .int b)] := hl
  have h1 := Int32.le_iff_toInt_le.mp h1
  have h2 := Int32.le_iff_toInt_le.mp h2
  refine lv_iload_n hx hb dX8_within_0 rfl (lv_at hl 0 rfl) ?_
  refine lv_iload_n hx hb dX8_within_1 rfl (lv_at hl 1 rfl) ?_
  refine lv_icmp_lt (tgt := 14) hx hb dX8_within_2 (by decide) (fun c_1 => absurd (Int32.lt_iff_toInt_lt.mp c_1) (by omega)) (fun c_1 => ?_)
  refine lv_iload_n hx hb dX8_within_5 rfl (lv_at hl 0 rfl) ?_
  refine lv_iload_n hx hb dX8_within_6 rfl (lv_at hl 2 rfl) ?_
  refine lv_icmp_gt (tgt := 14) hx hb dX8_within_7 (by decide) (fun c_2 => absurd (Int32.lt_iff_toInt_lt.mp c_2) (by omega)) (fun c_2 => ?_)
  refine lv_iconst (v := nI 1) hx hb dX8_within_10 (by decide) ?_
  refine lv_goto (tgt := 15) hx hb dX8_within_11 (by decide) ?_
  exact zk_zret C hr hlocks Z rfl ⟨rfl, rfl⟩ (Nat.le_of_ble_eq_true rfl) (Nat.le_of_ble_eq_true rfl) dX8_within_15

set_option maxHeartbeats 4000000 in
/-- within, no -/
theorem m8_in0 (l : Launch) (D : va_G) (g : G4) (v a b : Int32) (h0 : ¬ (a ≤ v ∧ v ≤ b)) : zk_M l yX8_within (ws_ yX8_within cX8_within 3 (some .boolean)) (zk_R 0 0 0) D g [.int v, .int a, .int b] [] (zk_D (some (.int (nI 0))) []) := by
  refine zk_ofW (by decide) (Nat.le_of_ble_eq_true rfl) ?_
  intro pg ev s mm below meth cd A C hr hlocks hname Z ls hl
  have hx := C.1.1
  have hb := C.1.2.1
  have hml := C.1.2.2.1
  have hown := C.1.2.2.2.1
  have hts := C.1.2.2.2.2
  have hl : lv_has ls 3 [(0, .int v), (1, .int a), (2, .int b)] := hl
  refine lv_iload_n hx hb dX8_within_0 rfl (lv_at hl 0 rfl) ?_
  refine lv_iload_n hx hb dX8_within_1 rfl (lv_at hl 1 rfl) ?_
  refine lv_icmp_lt (tgt := 14) hx hb dX8_within_2 (by decide) (fun c_1 => ?_) (fun c_1 => ?_)
  · refine lv_iconst (v := nI 0) hx hb dX8_within_14 (by decide) ?_
    exact zk_zret C hr hlocks Z rfl ⟨rfl, rfl⟩ (Nat.le_of_ble_eq_true rfl) (Nat.le_of_ble_eq_true rfl) dX8_within_15
  · refine lv_iload_n hx hb dX8_within_5 rfl (lv_at hl 0 rfl) ?_
    refine lv_iload_n hx hb dX8_within_6 rfl (lv_at hl 2 rfl) ?_
    refine lv_icmp_gt (tgt := 14) hx hb dX8_within_7 (by decide) (fun c_2 => ?_) (fun c_2 => absurd c_2 (fun c_2 => h0 ⟨Int32.not_lt.mp c_1, Int32.not_lt.mp c_2⟩))
    refine lv_iconst (v := nI 0) hx hb dX8_within_14 (by decide) ?_
    exact zk_zret C hr hlocks Z rfl ⟨rfl, rfl⟩ (Nat.le_of_ble_eq_true rfl) (Nat.le_of_ble_eq_true rfl) dX8_within_15

set_option maxHeartbeats 4000000 in
/-- need -/
theorem m1_need (l : Launch) (D : va_G) (g : G4)  : zk_M l yX1_need (ws_ yX1_need cX1_need 1 none) (zk_R 0 0 0) D g [.int (nI 1)] [] (zk_D none []) := by
  refine zk_ofW (by decide) (Nat.le_of_ble_eq_true rfl) ?_
  intro pg ev s mm below meth cd A C hr hlocks hname Z ls hl
  have hx := C.1.1
  have hb := C.1.2.1
  have hml := C.1.2.2.1
  have hown := C.1.2.2.2.1
  have hts := C.1.2.2.2.2
  have hl : lv_has ls 1 [(0, .int (nI 1))] := hl
  refine lv_iload_n hx hb dX1_need_0 rfl (lv_at hl 0 rfl) ?_
  refine nr_ne0 (tgt := 14) hx hb (by omega) dX1_need_1 (by decide) (fun c_1 => ?_) (fun c_1 => absurd c_1 (by decide))
  exact zk_vret C hr hlocks Z ⟨rfl, rfl⟩ (Nat.le_of_ble_eq_true rfl) (Nat.le_of_ble_eq_true rfl) dX1_need_14

set_option maxHeartbeats 4000000 in
/-- need, which throws -/
theorem t1_need (l : Launch) (hfl : l.flags = flags0) (D : va_G) (g : G4)  : zk_MT l yX1_need (ws_ yX1_need cX1_need 1 none) (zk_R 6 1 6) D g [.int (nI 0)] [] zk_IAE (fun w => w = []) := by
  refine zk_ofWT (by decide) (Nat.le_of_ble_eq_true rfl) ?_
  intro pg ev s mm below meth cd A C hlocks hno Z ls hl
  have hx := C.1.1
  have hb := C.1.2.1
  have hml := C.1.2.2.1
  have hown := C.1.2.2.2.1
  have hts := C.1.2.2.2.2
  have hl : lv_has ls 1 [(0, .int (nI 0))] := hl
  refine lv_iload_n hx hb dX1_need_0 rfl (lv_at hl 0 rfl) ?_
  refine nr_ne0 (tgt := 14) hx hb (by omega) dX1_need_1 (by decide) (fun c_1 => absurd c_1 (fun q => q rfl)) (fun c_1 => ?_)
  exact zk_throw hfl C Z hlocks hno (by decide +kernel) (zk_ownIAE q290) q280 q32 q289 rfl (Nat.le_of_ble_eq_true rfl) (Nat.le_of_ble_eq_true rfl) (Nat.le_of_ble_eq_true rfl) (Nat.le_of_ble_eq_true rfl) (Nat.le_of_ble_eq_true rfl) (Nat.le_of_ble_eq_true rfl) hl.1 dX1_need_4 dX1_need_7 dX1_need_8 dX1_need_10 dX1_need_13

set_option maxHeartbeats 4000000 in
/-- place -/
theorem m1_place (l : Launch) (D : va_G) (g : G4)  : zk_M l yX1_needPlace (ws_ yX1_needPlace cX1_needPlace 1 none) (zk_R 0 0 0) D g [.int (nI 1)] [] (zk_D none []) := by
  refine zk_ofW (by decide) (Nat.le_of_ble_eq_true rfl) ?_
  intro pg ev s mm below meth cd A C hr hlocks hname Z ls hl
  have hx := C.1.1
  have hb := C.1.2.1
  have hml := C.1.2.2.1
  have hown := C.1.2.2.2.1
  have hts := C.1.2.2.2.2
  have hl : lv_has ls 1 [(0, .int (nI 1))] := hl
  refine lv_iload_n hx hb dX1_needPlace_0 rfl (lv_at hl 0 rfl) ?_
  refine nr_ne0 (tgt := 14) hx hb (by omega) dX1_needPlace_1 (by decide) (fun c_1 => ?_) (fun c_1 => absurd c_1 (by decide))
  exact zk_vret C hr hlocks Z ⟨rfl, rfl⟩ (Nat.le_of_ble_eq_true rfl) (Nat.le_of_ble_eq_true rfl) dX1_needPlace_14

set_option maxHeartbeats 4000000 in
/-- place, which throws -/
theorem t1_place (l : Launch) (hfl : l.flags = flags0) (D : va_G) (g : G4)  : zk_MT l yX1_needPlace (ws_ yX1_needPlace cX1_needPlace 1 none) (zk_R 6 1 6) D g [.int (nI 0)] [] zk_IOB (fun w => w = []) := by
  refine zk_ofWT (by decide) (Nat.le_of_ble_eq_true rfl) ?_
  intro pg ev s mm below meth cd A C hlocks hno Z ls hl
  have hx := C.1.1
  have hb := C.1.2.1
  have hml := C.1.2.2.1
  have hown := C.1.2.2.2.1
  have hts := C.1.2.2.2.2
  have hl : lv_has ls 1 [(0, .int (nI 0))] := hl
  refine lv_iload_n hx hb dX1_needPlace_0 rfl (lv_at hl 0 rfl) ?_
  refine nr_ne0 (tgt := 14) hx hb (by omega) dX1_needPlace_1 (by decide) (fun c_1 => absurd c_1 (fun q => q rfl)) (fun c_1 => ?_)
  exact zk_throw hfl C Z hlocks hno (by decide +kernel) (zk_ownIOB q426) q416 q34 q425 rfl (Nat.le_of_ble_eq_true rfl) (Nat.le_of_ble_eq_true rfl) (Nat.le_of_ble_eq_true rfl) (Nat.le_of_ble_eq_true rfl) (Nat.le_of_ble_eq_true rfl) (Nat.le_of_ble_eq_true rfl) hl.1 dX1_needPlace_4 dX1_needPlace_7 dX1_needPlace_8 dX1_needPlace_10 dX1_needPlace_13

set_option maxHeartbeats 4000000 in
/-- needCode -/
theorem m1_code (l : Launch) (D : va_G) (g : G4) (hn co tr dep ms ch md kp wy : Nat) : zk_M l yX1_needCode (ws_ yX1_needCode cX1_needCode 1 none) (zk_R 0 0 0) D g [.ref hn] [(hn, .inr (0, [.ref co, .ref tr, .int (nI 1), .int (nI dep), .ref ms, .ref ch, .ref md, .ref kp, .ref wy]))] (zk_D none [(hn, .inr (0, [.ref co, .ref tr, .int (nI 1), .int (nI dep), .ref ms, .ref ch, .ref md, .ref kp, .ref wy]))]) := by
  refine zk_ofW (by decide) (Nat.le_of_ble_eq_true rfl) ?_
  intro pg ev s mm below meth cd A C hr hlocks hname Z ls hl
  have hx := C.1.1
  have hb := C.1.2.1
  have hml := C.1.2.2.1
  have hown := C.1.2.2.2.1
  have hts := C.1.2.2.2.2
  have hl : lv_has ls 1 [(0, .ref hn)] := hl
  refine lv_aload_n hx hb dX1_needCode_0 rfl (lv_at hl 0 rfl) ?_
  refine zk_get C Z in_X1 0 rfl rfl 2 (by decide) q167 rfl (v := .int (nI 1)) rfl dX1_needCode_1 ?_
  refine nr_ne0 (tgt := 17) hx hb (by omega) dX1_needCode_4 (by decide) (fun c_1 => ?_) (fun c_1 => absurd c_1 (by decide))
  exact zk_vret C hr hlocks Z ⟨rfl, rfl⟩ (Nat.le_of_ble_eq_true rfl) (Nat.le_of_ble_eq_true rfl) dX1_needCode_17

set_option maxHeartbeats 4000000 in
/-- needCode, which throws -/
theorem t1_code (l : Launch) (hfl : l.flags = flags0) (D : va_G) (g : G4) (hn co tr dep ms ch md kp wy : Nat) : zk_MT l yX1_needCode (ws_ yX1_needCode cX1_needCode 1 none) (zk_R 6 1 6) D g [.ref hn] [(hn, .inr (0, [.ref co, .ref tr, .int (nI 0), .int (nI dep), .ref ms, .ref ch, .ref md, .ref kp, .ref wy]))] zk_ISE (fun w => w = [(hn, .inr (0, [.ref co, .ref tr, .int (nI 0), .int (nI dep), .ref ms, .ref ch, .ref md, .ref kp, .ref wy]))]) := by
  refine zk_ofWT (by decide) (Nat.le_of_ble_eq_true rfl) ?_
  intro pg ev s mm below meth cd A C hlocks hno Z ls hl
  have hx := C.1.1
  have hb := C.1.2.1
  have hml := C.1.2.2.1
  have hown := C.1.2.2.2.1
  have hts := C.1.2.2.2.2
  have hl : lv_has ls 1 [(0, .ref hn)] := hl
  refine lv_aload_n hx hb dX1_needCode_0 rfl (lv_at hl 0 rfl) ?_
  refine zk_get C Z in_X1 0 rfl rfl 2 (by decide) q167 rfl (v := .int (nI 0)) rfl dX1_needCode_1 ?_
  refine nr_ne0 (tgt := 17) hx hb (by omega) dX1_needCode_4 (by decide) (fun c_1 => absurd c_1 (fun q => q rfl)) (fun c_1 => ?_)
  exact zk_throw hfl C Z hlocks hno (by decide +kernel) (zk_ownISE q352) q342 q33 q351 rfl (Nat.le_of_ble_eq_true rfl) (Nat.le_of_ble_eq_true rfl) (Nat.le_of_ble_eq_true rfl) (Nat.le_of_ble_eq_true rfl) (Nat.le_of_ble_eq_true rfl) (Nat.le_of_ble_eq_true rfl) hl.1 dX1_needCode_7 dX1_needCode_10 dX1_needCode_11 dX1_needCode_13 dX1_needCode_16

