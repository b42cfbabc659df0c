/-! ===== degreeOf, Field.make ===== -/
set_option maxRecDepth 100000
set_option maxHeartbeats 4000000 in
/-- the loop of degreeOf -/
theorem lp1_degreeOf {pg : Program} {l : Launch} {ev : Env} {s : State} {mm : MethodId} {args : Array Value} {below : List Frame} {meth : Method} {cd : Code} {Q : State → Prop} {D : va_G} {g : G4} {A : Nat → Prop} (C : zk_C pg s mm cd args cX1_degreeOf 3 RX1 D g A) (x : Nat) (fin : Int32) (kk : ∀ (H : Heap) (locs : List Loc) (ls : Array Slot), zk_Z D A s H locs [] → lv_has ls 3 [(0, .int (nI x)), (1, .int fin)] → W pg l ev (zk_R 0 0 0) s mm args below meth cd H locs 0 0 Q (F0 mm 18 ls [])) :
    ∀ (k : Nat) (d : Int32) (y : Nat) (H : Heap) (locs : List Loc) (ls : Array Slot), (y < 2 ^ k) → (y < 2 ^ 31) → (d + nI (zk_bl y) = fin) → zk_Z D A s H locs [] → lv_has ls 3 [(0, .int (nI x)), (1, .int d), (2, .int (nI y))] → W pg l ev (zk_R 0 0 0) s mm args below meth cd H locs 0 0 Q (F0 mm 4 ls []) := by
  have hx := C.1.1
  have hb := C.1.2.1
  have hml := C.1.2.2.1
  have hown := C.1.2.2.2.1
  have hts := C.1.2.2.2.2
  intro k
  induction k with
  | zero =>
    intro d y H locs ls hy hyb hfin Z hl
    have hx0 : y = 0 := by rw [Nat.pow_zero] at hy; omega
    have hfin2 : d + 0 = fin := by rw [← hfin, hx0]; rfl
    rw [Int32.add_zero] at hfin2
    subst hfin2
    refine lv_iload_n hx hb dX1_degreeOf_4 rfl (lv_at hl 2 rfl) ?_
    refine nr_eq0 (tgt := 18) hx hb (by omega) dX1_degreeOf_5 (by decide) (fun c_1 => ?_) (fun c_1 => absurd c_1 (fun q => q hx0))
    exact kk  H locs ls  Z (lv_sub hl [0, 1] rfl)
  | succ k ih =>
    intro d y H locs ls hy hyb hfin Z hl
    refine lv_iload_n hx hb dX1_degreeOf_4 rfl (lv_at hl 2 rfl) ?_
    refine nr_eq0 (tgt := 18) hx hb (by omega) dX1_degreeOf_5 (by decide) (fun c_1 => ?_) (fun c_1 => ?_)
    · have hfin2 : d + 0 = fin := by rw [← hfin, c_1]; rfl
      rw [Int32.add_zero] at hfin2
      subst hfin2
      exact kk H locs ls Z (lv_sub hl [0, 1] rfl)
    · refine lv_iinc (v := d + 1) (lv' := [(1, .int (d + 1)), (0, .int (nI x)), (2, .int (nI y))]) hx hb dX1_degreeOf_8 hl (k := 1) rfl rfl (by decide) rfl (fun ls hl => ?_)
      refine lv_iload_n hx hb dX1_degreeOf_11 rfl (lv_at hl 2 rfl) ?_
      refine lv_iconst (v := nI 1) hx hb dX1_degreeOf_12 (by decide) ?_
      refine nr_iushr hx hb (by omega) (by omega) dX1_degreeOf_13 ?_
      refine lv_istore_n (lv' := [(2, .int (nI (y >>> 1))), (1, .int (d + 1)), (0, .int (nI x))]) hx hb dX1_degreeOf_14 rfl hl (by decide) rfl (fun ls hl => ?_)
      refine lv_goto (tgt := 4) hx hb dX1_degreeOf_15 (by decide) ?_
      exact ih (d + 1) (y >>> 1) H locs ls (by rw [Nat.shiftRight_eq_div_pow, Nat.pow_succ] at *; omega) (by rw [Nat.shiftRight_eq_div_pow]; omega) (by rw [← hfin, zk_bl_s c_1, ← nI_1, Int32.add_assoc, Int32.add_comm 1]) Z (lv_sub hl [2, 1, 0] rfl)

set_option maxHeartbeats 4000000 in
/-- degreeOf -/
theorem m1_degreeOf (l : Launch) (D : va_G) (g : G4) (x : Nat) (x0 : x ≠ 0) (xb : x < 2 ^ 31) : zk_M l yX1_degreeOf (ws_ yX1_degreeOf cX1_degreeOf 3 (some .int)) (zk_R 0 0 0) D g [.int (nI x)] [] (zk_D (some (.int (nI (Nat.log2 x)))) []) := by
  refine zk_ofW (by decide) (Nat.le_of_ble_eq_true rfl) ?_
  intro pg ev s mm below meth cd A C hr hlocks hname Z ls hl
  have hx := C.1.1
  have hb := C.1.2.1
  have hml := C.1.2.2.1
  have hown := C.1.2.2.2.1
  have hts := C.1.2.2.2.2
  have hl : lv_has ls 3 [(0, .int (nI x))] := hl
  obtain ⟨H, hH⟩ : ∃ H, H = s.heap := ⟨_, rfl⟩
  obtain ⟨locs, hlocs⟩ : ∃ q : List Loc, q = [] := ⟨_, rfl⟩
  rw [← hH, ← hlocs] at Z ⊢
  refine lv_iconst (v := (-1)) hx hb dX1_degreeOf_0 (by decide) ?_
  refine lv_istore_n (lv' := [(1, .int (-1)), (0, .int (nI x))]) hx hb dX1_degreeOf_1 rfl hl (by decide) rfl (fun ls hl => ?_)
  refine lv_iload_n hx hb dX1_degreeOf_2 rfl (lv_at hl 1 rfl) ?_
  refine lv_istore_n (lv' := [(2, .int (nI x)), (1, .int (-1)), (0, .int (nI x))]) hx hb dX1_degreeOf_3 rfl hl (by decide) rfl (fun ls hl => ?_)
  refine lp1_degreeOf C x _ (fun H locs ls Z hl => ?_) 31 (-1) x H locs ls (by omega) (by omega) rfl Z (lv_sub hl [2, 1, 0] rfl)
  refine lv_iload_n hx hb dX1_degreeOf_18 rfl (lv_at hl 1 rfl) ?_
  exact zk_iret C hr hlocks Z ⟨(congrArg (fun q => some (Value.int q)) (show -1 + nI (zk_bl x) = nI (Nat.log2 x) by unfold zk_bl; rw [if_neg x0, Int32.add_comm, pk_m1])), rfl⟩ (Nat.le_of_ble_eq_true rfl) (Nat.le_of_ble_eq_true rfl) dX1_degreeOf_19

set_option maxHeartbeats 4000000 in
/-- the first loop of Field.make -/
theorem lp3_make1 {pg : Program} {l : Launch} {ev : Env} {s : State} {mm : MethodId} {args : Array Value} {below : List Frame} {meth : Method} {cd : Code} {Q : State → Prop} {D : va_G} {g : G4} {A : Nat → Prop} (C : zk_C pg s mm cd args cX3_make 5 RX3 D g A) (h0 hp hq x d : Nat) (x8 : 8 ≤ x) (x64 : x < 64) (kk : ∀ (P L : List Nat) (y : Nat) (H : Heap) (locs : List Loc) (ls : Array Slot), P.length = 62 → L.length = 32 → mk_T x (zk_nn x) (zk_nn x) P L → (∀ j, 0 < j → j < zk_nn x → mkX x (zk_nn x) j ≠ 1) → y = mkX x (zk_nn x) (zk_nn x) → zk_Z D A s H locs [(h0, .inr (2, [.int (nI (zk_nn x)), .ref hp, .ref hq])), (hp, .inl (g.1, 62, .inl (zk_ia P))), (hq, .inl (g.1, 32, .inl (zk_ia L)))] → lv_has ls 5 [(0, .ref h0), (1, .int (nI x)), (2, .int (nI d)), (3, .int (nI y)), (4, .int (nI (zk_nn x)))] → W pg l ev (zk_R 1 0 0) s mm args below meth cd H locs 0 0 Q (F0 mm 82 ls [])) (k2 : ∀ (P L : List Nat) (H : Heap) (locs : List Loc) (ls : Array Slot), P.length = 62 → L.length = 32 → (x, zk_nn x) ∉ zk_pr → zk_Z D A s H locs [(h0, .inr (2, [.int (nI (zk_nn x)), .ref hp, .ref hq])), (hp, .inl (g.1, 62, .inl (zk_ia P))), (hq, .inl (g.1, 32, .inl (zk_ia L)))] → lv_has ls 5 [(0, .ref h0)] → W pg l ev (zk_R 1 0 0) s mm args below meth cd H locs 0 0 Q (F0 mm 38 ls [])) :
    ∀ (k : Nat) (i y : Nat) (P L : List Nat) (H : Heap) (locs : List Loc) (ls : Array Slot), (i + k = zk_nn x) → (y = mkX x (zk_nn x) i) → (∀ j, 0 < j → j < i → mkX x (zk_nn x) j ≠ 1) → (P.length = 62) → (L.length = 32) → (mk_T x (zk_nn x) i P L) → zk_Z D A s H locs [(h0, .inr (2, [.int (nI (zk_nn x)), .ref hp, .ref hq])), (hp, .inl (g.1, 62, .inl (zk_ia P))), (hq, .inl (g.1, 32, .inl (zk_ia L)))] → lv_has ls 5 [(0, .ref h0), (1, .int (nI x)), (2, .int (nI d)), (3, .int (nI y)), (4, .int (nI i))] → W pg l ev (zk_R 1 0 0) s mm args below meth cd H locs 0 0 Q (F0 mm 19 ls []) := by
  have hx := C.1.1
  have hb := C.1.2.1
  have hml := C.1.2.2.1
  have hown := C.1.2.2.2.1
  have hts := C.1.2.2.2.2
  have hn := zk_nn_3 x
  intro k
  induction k with
  | zero =>
    intro i y P L H locs ls hik hye hno hP hL hT Z hl
    have hi : zk_nn x = i := by omega
    have hyl := mkX_le x x64 x8 i (by omega)
    rw [← hye] at hyl
    rw [← hi] at hye hno hT hl
    refine lv_iload hx hb dX3_make_19 (lv_at hl 4 rfl) ?_
    refine lv_aload_n hx hb dX3_make_21 rfl (lv_at hl 0 rfl) ?_
    refine zk_get C Z in_X3 0 rfl rfl 0 (by decide) q58 rfl (v := .int (nI (zk_nn x))) rfl dX3_make_22 ?_
    refine nr_ge (tgt := 82) hx hb (by omega) (by omega) dX3_make_25 (by decide) (fun c_1 => ?_) (fun c_1 => absurd c_1 (by omega))
    exact kk P L y H locs ls hP hL hT hno hye Z (lv_sub hl [0, 1, 2, 3, 4] rfl)
  | succ k ih =>
    intro i y P L H locs ls hik hye hno hP hL hT Z hl
    have hyl := mkX_le x x64 x8 i (by omega)
    rw [← hye] at hyl
    have hsh : y <<< 1 = y * 2 := by rw [Nat.shiftLeft_eq]
    refine lv_iload hx hb dX3_make_19 (lv_at hl 4 rfl) ?_
    refine lv_aload_n hx hb dX3_make_21 rfl (lv_at hl 0 rfl) ?_
    refine zk_get C Z in_X3 0 rfl rfl 0 (by decide) q58 rfl (v := .int (nI (zk_nn x))) rfl dX3_make_22 ?_
    refine nr_ge (tgt := 82) hx hb (by omega) (by omega) dX3_make_25 (by decide) (fun c_1 => absurd c_1 (by omega)) (fun c_1 => ?_)
    refine lv_iload hx hb dX3_make_28 (lv_at hl 4 rfl) ?_
    refine nr_le0 (tgt := 40) hx hb (by omega) dX3_make_30 (by decide) (fun c_1 => ?_) (fun c_1 => ?_)
    · refine lv_aload_n hx hb dX3_make_40 rfl (lv_at hl 0 rfl) ?_
      refine zk_get C Z in_X3 0 rfl rfl 1 (by decide) q62 rfl (v := .ref hp) rfl dX3_make_41 ?_
      refine lv_iload hx hb dX3_make_44 (lv_at hl 4 rfl) ?_
      refine lv_iload_n hx hb dX3_make_46 rfl (lv_at hl 3 rfl) ?_
      refine zk_iast C Z 1 rfl (by decide) (by omega) hP dX3_make_47 (fun H locs Z => ?_)
      have hlen_2 : (P.set i y).length = 62 := by rw [List.length_set]; exact hP
      have Z : zk_Z D A s H locs [(h0, .inr (2, [.int (nI (zk_nn x)), .ref hp, .ref hq])), (hp, .inl (g.1, 62, .inl (zk_ia (P.set i y)))), (hq, .inl (g.1, 32, .inl (zk_ia L)))] := Z
      refine lv_aload_n hx hb dX3_make_48 rfl (lv_at hl 0 rfl) ?_
      refine zk_get C Z in_X3 0 rfl rfl 2 (by decide) q66 rfl (v := .ref hq) rfl dX3_make_49 ?_
      refine lv_iload_n hx hb dX3_make_52 rfl (lv_at hl 3 rfl) ?_
      refine lv_iload hx hb dX3_make_53 (lv_at hl 4 rfl) ?_
      refine zk_iast C Z 2 rfl (by decide) (by omega) hL dX3_make_55 (fun H locs Z => ?_)
      have hlen_3 : (L.set y i).length = 32 := by rw [List.length_set]; exact hL
      have Z : zk_Z D A s H locs [(h0, .inr (2, [.int (nI (zk_nn x)), .ref hp, .ref hq])), (hp, .inl (g.1, 62, .inl (zk_ia (P.set i y)))), (hq, .inl (g.1, 32, .inl (zk_ia (L.set y i))))] := Z
      refine lv_iload_n hx hb dX3_make_56 rfl (lv_at hl 3 rfl) ?_
      refine lv_iconst (v := nI 1) hx hb dX3_make_57 (by decide) ?_
      refine nr_ishl hx hb (by decide) dX3_make_58 ?_
      refine lv_istore_n (lv' := [(3, .int (nI (y <<< 1))), (0, .ref h0), (1, .int (nI x)), (2, .int (nI d)), (4, .int (nI i))]) hx hb dX3_make_59 rfl hl (by decide) rfl (fun ls hl => ?_)
      refine lv_iload_n hx hb dX3_make_60 rfl (lv_at hl 0 rfl) ?_
      refine lv_iload_n hx hb dX3_make_61 rfl (lv_at hl 0 rfl) ?_
      refine lv_aload_n hx hb dX3_make_62 rfl (lv_at hl 1 rfl) ?_
      refine zk_get C Z in_X3 0 rfl rfl 0 (by decide) q58 rfl (v := .int (nI (zk_nn x))) rfl dX3_make_63 ?_
      refine nr_le (tgt := 73) hx hb (by omega) (by omega) dX3_make_66 (by decide) (fun c_3 => ?_) (fun c_3 => ?_)
      · refine lv_iconst (v := nI 0) hx hb dX3_make_73 (by decide) ?_
        refine nr_ixor hx hb dX3_make_74 ?_
        refine lv_istore_n (lv' := [(3, .int (nI ((y <<< 1) ^^^ 0))), (0, .ref h0), (1, .int (nI x)), (2, .int (nI d)), (4, .int (nI i))]) hx hb dX3_make_75 rfl hl (by decide) rfl (fun ls hl => ?_)
        refine nr_iinc (n := 1) (lv' := [(4, .int (nI (i + 1))), (3, .int (nI ((y <<< 1) ^^^ 0))), (0, .ref h0), (1, .int (nI x)), (2, .int (nI d))]) hx hb (by decide) dX3_make_76 hl (k := 4) rfl (by decide) rfl (fun ls hl => ?_)
        refine lv_goto (tgt := 19) hx hb dX3_make_79 (by decide) ?_
        exact ih (i + 1) ((y <<< 1) ^^^ 0) (P.set i y) (L.set y i) H locs ls (by omega) (mkX_s0 hye c_3) (mk_no hno hye (by first | exact Or.inl c_1 | exact Or.inr c_2)) hlen_2 hlen_3 (mk_T_s hT (by omega) (by omega) hP hL hye) Z (lv_sub hl [2, 3, 4, 1, 0] rfl)
      · refine lv_iload_n hx hb dX3_make_69 rfl (lv_at hl 2 rfl) ?_
        refine lv_goto (tgt := 74) hx hb dX3_make_70 (by decide) ?_
        refine nr_ixor hx hb dX3_make_74 ?_
        refine lv_istore_n (lv' := [(3, .int (nI ((y <<< 1) ^^^ x))), (0, .ref h0), (1, .int (nI x)), (2, .int (nI d)), (4, .int (nI i))]) hx hb dX3_make_75 rfl hl (by decide) rfl (fun ls hl => ?_)
        refine nr_iinc (n := 1) (lv' := [(4, .int (nI (i + 1))), (3, .int (nI ((y <<< 1) ^^^ x))), (0, .ref h0), (1, .int (nI x)), (2, .int (nI d))]) hx hb (by decide) dX3_make_76 hl (k := 4) rfl (by decide) rfl (fun ls hl => ?_)
        refine lv_goto (tgt := 19) hx hb dX3_make_79 (by decide) ?_
        exact ih (i + 1) ((y <<< 1) ^^^ x) (P.set i y) (L.set y i) H locs ls (by omega) (mkX_s1 hye c_3) (mk_no hno hye (by first | exact Or.inl c_1 | exact Or.inr c_2)) hlen_2 hlen_3 (mk_T_s hT (by omega) (by omega) hP hL hye) Z (lv_sub hl [2, 3, 4, 1, 0] rfl)
    · refine lv_iload_n hx hb dX3_make_33 rfl (lv_at hl 3 rfl) ?_
      refine lv_iconst (v := nI 1) hx hb dX3_make_34 (by decide) ?_
      refine nr_ne (tgt := 40) hx hb (by omega) (by omega) dX3_make_35 (by decide) (fun c_2 => ?_) (fun c_2 => ?_)
      · refine lv_aload_n hx hb dX3_make_40 rfl (lv_at hl 0 rfl) ?_
        refine zk_get C Z in_X3 0 rfl rfl 1 (by decide) q62 rfl (v := .ref hp) rfl dX3_make_41 ?_
        refine lv_iload hx hb dX3_make_44 (lv_at hl 4 rfl) ?_
        refine lv_iload_n hx hb dX3_make_46 rfl (lv_at hl 3 rfl) ?_
        refine zk_iast C Z 1 rfl (by decide) (by omega) hP dX3_make_47 (fun H locs Z => ?_)
        have hlen_4 : (P.set i y).length = 62 := by rw [List.length_set]; exact hP
        have Z : zk_Z D A s H locs [(h0, .inr (2, [.int (nI (zk_nn x)), .ref hp, .ref hq])), (hp, .inl (g.1, 62, .inl (zk_ia (P.set i y)))), (hq, .inl (g.1, 32, .inl (zk_ia L)))] := Z
        refine lv_aload_n hx hb dX3_make_48 rfl (lv_at hl 0 rfl) ?_
        refine zk_get C Z in_X3 0 rfl rfl 2 (by decide) q66 rfl (v := .ref hq) rfl dX3_make_49 ?_
        refine lv_iload_n hx hb dX3_make_52 rfl (lv_at hl 3 rfl) ?_
        refine lv_iload hx hb dX3_make_53 (lv_at hl 4 rfl) ?_
        refine zk_iast C Z 2 rfl (by decide) (by omega) hL dX3_make_55 (fun H locs Z => ?_)
        have hlen_5 : (L.set y i).length = 32 := by rw [List.length_set]; exact hL
        have Z : zk_Z D A s H locs [(h0, .inr (2, [.int (nI (zk_nn x)), .ref hp, .ref hq])), (hp, .inl (g.1, 62, .inl (zk_ia (P.set i y)))), (hq, .inl (g.1, 32, .inl (zk_ia (L.set y i))))] := Z
        refine lv_iload_n hx hb dX3_make_56 rfl (lv_at hl 3 rfl) ?_
        refine lv_iconst (v := nI 1) hx hb dX3_make_57 (by decide) ?_
        refine nr_ishl hx hb (by decide) dX3_make_58 ?_
        refine lv_istore_n (lv' := [(3, .int (nI (y <<< 1))), (0, .ref h0), (1, .int (nI x)), (2, .int (nI d)), (4, .int (nI i))]) hx hb dX3_make_59 rfl hl (by decide) rfl (fun ls hl => ?_)
        refine lv_iload_n hx hb dX3_make_60 rfl (lv_at hl 0 rfl) ?_
        refine lv_iload_n hx hb dX3_make_61 rfl (lv_at hl 0 rfl) ?_
        refine lv_aload_n hx hb dX3_make_62 rfl (lv_at hl 1 rfl) ?_
        refine zk_get C Z in_X3 0 rfl rfl 0 (by decide) q58 rfl (v := .int (nI (zk_nn x))) rfl dX3_make_63 ?_
        refine nr_le (tgt := 73) hx hb (by omega) (by omega) dX3_make_66 (by decide) (fun c_3 => ?_) (fun c_3 => ?_)
        · refine lv_iconst (v := nI 0) hx hb dX3_make_73 (by decide) ?_
          refine nr_ixor hx hb dX3_make_74 ?_
          refine lv_istore_n (lv' := [(3, .int (nI ((y <<< 1) ^^^ 0))), (0, .ref h0), (1, .int (nI x)), (2, .int (nI d)), (4, .int (nI i))]) hx hb dX3_make_75 rfl hl (by decide) rfl (fun ls hl => ?_)
          refine nr_iinc (n := 1) (lv' := [(4, .int (nI (i + 1))), (3, .int (nI ((y <<< 1) ^^^ 0))), (0, .ref h0), (1, .int (nI x)), (2, .int (nI d))]) hx hb (by decide) dX3_make_76 hl (k := 4) rfl (by decide) rfl (fun ls hl => ?_)
          refine lv_goto (tgt := 19) hx hb dX3_make_79 (by decide) ?_
          exact ih (i + 1) ((y <<< 1) ^^^ 0) (P.set i y) (L.set y i) H locs ls (by omega) (mkX_s0 hye c_3) (mk_no hno hye (by first | exact Or.inl c_1 | exact Or.inr c_2)) hlen_4 hlen_5 (mk_T_s hT (by omega) (by omega) hP hL hye) Z (lv_sub hl [2, 3, 4, 1, 0] rfl)
        · refine lv_iload_n hx hb dX3_make_69 rfl (lv_at hl 2 rfl) ?_
          refine lv_goto (tgt := 74) hx hb dX3_make_70 (by decide) ?_
          refine nr_ixor hx hb dX3_make_74 ?_
          refine lv_istore_n (lv' := [(3, .int (nI ((y <<< 1) ^^^ x))), (0, .ref h0), (1, .int (nI x)), (2, .int (nI d)), (4, .int (nI i))]) hx hb dX3_make_75 rfl hl (by decide) rfl (fun ls hl => ?_)
          refine nr_iinc (n := 1) (lv' := [(4, .int (nI (i + 1))), (3, .int (nI ((y <<< 1) ^^^ x))), (0, .ref h0), (1, .int (nI x)), (2, .int (nI d))]) hx hb (by decide) dX3_make_76 hl (k := 4) rfl (by decide) rfl (fun ls hl => ?_)
          refine lv_goto (tgt := 19) hx hb dX3_make_79 (by decide) ?_
          exact ih (i + 1) ((y <<< 1) ^^^ x) (P.set i y) (L.set y i) H locs ls (by omega) (mkX_s1 hye c_3) (mk_no hno hye (by first | exact Or.inl c_1 | exact Or.inr c_2)) hlen_4 hlen_5 (mk_T_s hT (by omega) (by omega) hP hL hye) Z (lv_sub hl [2, 3, 4, 1, 0] rfl)
      · exact k2 P L H locs ls hP hL (fun hpr => ((mkX_pr (x, zk_nn x) hpr).1 i (show i < zk_nn x by omega)).2 c_1 (show mkX x (zk_nn x) i = 1 by rw [← hye]; exact c_2)) Z (lv_sub hl [0] rfl)

set_option maxHeartbeats 4000000 in
/-- the second loop of Field.make -/
theorem lp3_make2 {pg : Program} {l : Launch} {ev : Env} {s : State} {mm : MethodId} {args : Array Value} {below : List Frame} {meth : Method} {cd : Code} {Q : State → Prop} {D : va_G} {g : G4} {A : Nat → Prop} (C : zk_C pg s mm cd args cX3_make 5 RX3 D g A) (h0 hp hq x d : Nat) (x8 : 8 ≤ x) (x64 : x < 64) (y : Nat) (L : List Nat) (kk : ∀ (P : List Nat) (H : Heap) (locs : List Loc) (ls : Array Slot), P.length = 62 → mk_U x (zk_nn x) (2 * zk_nn x) P L → zk_Z D A s H locs [(h0, .inr (2, [.int (nI (zk_nn x)), .ref hp, .ref hq])), (hp, .inl (g.1, 62, .inl (zk_ia P))), (hq, .inl (g.1, 32, .inl (zk_ia L)))] → lv_has ls 5 [(0, .ref h0), (1, .int (nI x)), (2, .int (nI d)), (3, .int (nI y)), (4, .int (nI (2 * zk_nn x)))] → W pg l ev (zk_R 1 0 0) s mm args below meth cd H locs 0 0 Q (F0 mm 124 ls [])) :
    ∀ (k : Nat) (i : Nat) (P : List Nat) (H : Heap) (locs : List Loc) (ls : Array Slot), (i + k = 2 * zk_nn x) → (zk_nn x ≤ i) → (P.length = 62) → (mk_U x (zk_nn x) i P L) → zk_Z D A s H locs [(h0, .inr (2, [.int (nI (zk_nn x)), .ref hp, .ref hq])), (hp, .inl (g.1, 62, .inl (zk_ia P))), (hq, .inl (g.1, 32, .inl (zk_ia L)))] → lv_has ls 5 [(0, .ref h0), (1, .int (nI x)), (2, .int (nI d)), (3, .int (nI y)), (4, .int (nI i))] → W pg l ev (zk_R 1 0 0) s mm args below meth cd H locs 0 0 Q (F0 mm 88 ls []) := by
  have hx := C.1.1
  have hb := C.1.2.1
  have hml := C.1.2.2.1
  have hown := C.1.2.2.2.1
  have hts := C.1.2.2.2.2
  have hn := zk_nn_3 x
  intro k
  induction k with
  | zero =>
    intro i P H locs ls hik hin hP hU Z hl
    have hi : 2 * zk_nn x = i := by omega
    rw [← hi] at hU hl
    refine lv_iload hx hb dX3_make_88 (lv_at hl 4 rfl) ?_
    refine lv_iconst (v := nI 2) hx hb dX3_make_90 (by decide) ?_
    refine lv_aload_n hx hb dX3_make_91 rfl (lv_at hl 0 rfl) ?_
    refine zk_get C Z in_X3 0 rfl rfl 0 (by decide) q58 rfl (v := .int (nI (zk_nn x))) rfl dX3_make_92 ?_
    refine nr_imul hx hb dX3_make_95 ?_
    refine nr_ge (tgt := 124) hx hb (by omega) (by omega) dX3_make_96 (by decide) (fun c_1 => ?_) (fun c_1 => absurd c_1 (by omega))
    exact kk P H locs ls hP hU Z (lv_sub hl [0, 1, 2, 3, 4] rfl)
  | succ k ih =>
    intro i P H locs ls hik hin hP hU Z hl
    refine lv_iload hx hb dX3_make_88 (lv_at hl 4 rfl) ?_
    refine lv_iconst (v := nI 2) hx hb dX3_make_90 (by decide) ?_
    refine lv_aload_n hx hb dX3_make_91 rfl (lv_at hl 0 rfl) ?_
    refine zk_get C Z in_X3 0 rfl rfl 0 (by decide) q58 rfl (v := .int (nI (zk_nn x))) rfl dX3_make_92 ?_
    refine nr_imul hx hb dX3_make_95 ?_
    refine nr_ge (tgt := 124) hx hb (by omega) (by omega) dX3_make_96 (by decide) (fun c_1 => absurd c_1 (by omega)) (fun c_1 => ?_)
    refine lv_aload_n hx hb dX3_make_99 rfl (lv_at hl 0 rfl) ?_
    refine zk_get C Z in_X3 0 rfl rfl 1 (by decide) q62 rfl (v := .ref hp) rfl dX3_make_100 ?_
    refine lv_iload hx hb dX3_make_103 (lv_at hl 4 rfl) ?_
    refine lv_aload_n hx hb dX3_make_105 rfl (lv_at hl 0 rfl) ?_
    refine zk_get C Z in_X3 0 rfl rfl 1 (by decide) q62 rfl (v := .ref hp) rfl dX3_make_106 ?_
    refine lv_iload hx hb dX3_make_109 (lv_at hl 4 rfl) ?_
    refine lv_aload_n hx hb dX3_make_111 rfl (lv_at hl 0 rfl) ?_
    refine zk_get C Z in_X3 0 rfl rfl 0 (by decide) q58 rfl (v := .int (nI (zk_nn x))) rfl dX3_make_112 ?_
    refine nr_isub hx hb (by omega) dX3_make_115 ?_
    refine zk_iald C Z 1 rfl (by decide) (by omega) dX3_make_116 ?_
    refine zk_iast C Z 1 rfl (by decide) (by omega) hP dX3_make_117 (fun H locs Z => ?_)
    have hlen_2 : (P.set i (P.getD (i - (zk_nn x)) 0)).length = 62 := by rw [List.length_set]; exact hP
    have Z : zk_Z D A s H locs [(h0, .inr (2, [.int (nI (zk_nn x)), .ref hp, .ref hq])), (hp, .inl (g.1, 62, .inl (zk_ia (P.set i (P.getD (i - (zk_nn x)) 0))))), (hq, .inl (g.1, 32, .inl (zk_ia L)))] := Z
    refine nr_iinc (n := 1) (lv' := [(4, .int (nI (i + 1))), (0, .ref h0), (1, .int (nI x)), (2, .int (nI d)), (3, .int (nI y))]) hx hb (by decide) dX3_make_118 hl (k := 4) rfl (by decide) rfl (fun ls hl => ?_)
    refine lv_goto (tgt := 88) hx hb dX3_make_121 (by decide) ?_
    exact ih (i + 1) (P.set i (P.getD (i - (zk_nn x)) 0)) H locs ls (by omega) (by omega) hlen_2 (mk_U_s hU hin (by omega) (by omega) hP) Z (lv_sub hl [1, 2, 3, 4, 0] rfl)

set_option maxHeartbeats 4000000 in
/-- Field.make -/
theorem m3_make (l : Launch) (D : va_G) (g : G4) (h0 hp hq x n0 : Nat) (P L : List Nat) (hP : P.length = 62) (hL : L.length = 32) (x8 : 8 ≤ x) (x64 : x < 64) : zk_M l yX3_make (ws_ yX3_make cX3_make 5 (some .boolean)) (zk_R 1 0 0) D g [.ref h0, .int (nI x)] [(h0, .inr (2, [.int (nI n0), .ref hp, .ref hq])), (hp, .inl (g.1, 62, .inl (zk_ia P))), (hq, .inl (g.1, 32, .inl (zk_ia L)))] (fun v w => ∃ P1 L1 : List Nat, w = [(h0, .inr (2, [.int (nI (zk_nn x)), .ref hp, .ref hq])), (hp, .inl (g.1, 62, .inl (zk_ia P1))), (hq, .inl (g.1, 32, .inl (zk_ia L1)))] ∧ P1.length = 62 ∧ L1.length = 32 ∧ ((x, zk_nn x) ∈ zk_pr → v = some (.int (nI 1)) ∧ zk_F x (zk_nn x) P1 L1) ∧ ((x, zk_nn x) ∉ zk_pr → v = some (.int (nI 0)))) := by
  refine zk_ofW (by decide) (Nat.le_of_ble_eq_true rfl) ?_
  intro pg ev s mm below meth cd A C hr hlocks hname Z ls hl
  have hx := C.1.1
  have hb := C.1.2.1
  have hml := C.1.2.2.1
  have hown := C.1.2.2.2.1
  have hts := C.1.2.2.2.2
  have hl : lv_has ls 5 [(0, .ref h0), (1, .int (nI x))] := hl
  have hn := zk_nn_3 x
  have hlg := zk_log2n x x64 x8
  obtain ⟨H, hH⟩ : ∃ H, H = s.heap := ⟨_, rfl⟩
  obtain ⟨locs, hlocs⟩ : ∃ q : List Loc, q = [] := ⟨_, rfl⟩
  rw [← hH, ← hlocs] at Z ⊢
  refine lv_iload_n hx hb dX3_make_0 rfl (lv_at hl 1 rfl) ?_
  refine zk_callSN (cells' := 0) (slots' := 0) (rest := []) (n := 1) (wr := [(h0, .inr (2, [.int (nI n0), .ref hp, .ref hq])), (hp, .inl (g.1, 62, .inl (zk_ia P))), (hq, .inl (g.1, 32, .inl (zk_ia L)))]) C Z (m1_degreeOf l D g x (by omega) (by omega)) [] [0, 1, 2] rfl rfl (by decide) (by decide) (by decide) q304 q305 q19 q306 (by decide +kernel) rfl (Nat.le_of_ble_eq_true rfl) (Nat.le_of_ble_eq_true rfl) (Nat.le_of_ble_eq_true rfl) (Nat.le_of_ble_eq_true rfl) rfl rfl hl.1 rfl (Nat.le_of_ble_eq_true rfl) dX3_make_1 (fun v w1 H locs hq Z => ?_)
  obtain ⟨rfl, rfl⟩ := hq
  have Z : zk_Z D A s H locs [(h0, .inr (2, [.int (nI n0), .ref hp, .ref hq])), (hp, .inl (g.1, 62, .inl (zk_ia P))), (hq, .inl (g.1, 32, .inl (zk_ia L)))] := Z.sub [0, 1, 2] (by decide) rfl
  refine W.eq (g2 := F0 mm 4 ls [.int (nI (Nat.log2 x))]) rfl ?_
  refine lv_istore_n (lv' := [(2, .int (nI (Nat.log2 x))), (0, .ref h0), (1, .int (nI x))]) hx hb dX3_make_4 rfl hl (by decide) rfl (fun ls hl => ?_)
  refine lv_aload_n hx hb dX3_make_5 rfl (lv_at hl 1 rfl) ?_
  refine lv_iconst (v := nI 1) hx hb dX3_make_6 (by decide) ?_
  refine lv_iload_n hx hb dX3_make_7 rfl (lv_at hl 0 rfl) ?_
  refine nr_ishl hx hb hlg.2.2 dX3_make_8 ?_
  refine lv_iconst (v := nI 1) hx hb dX3_make_9 (by decide) ?_
  refine nr_isub hx hb hlg.2.1 dX3_make_10 ?_
  rw [show (1 <<< (Nat.log2 x)) - 1 = zk_nn x from hlg.1]
  refine zk_put C Z in_X3 tyX3 tyX3_ok nmX3 0 rfl rfl 0 (by decide) q58 rfl rfl (v := .int (nI (zk_nn x))) rfl rfl (Nat.le_of_ble_eq_true rfl) dX3_make_11 (fun H locs Z => ?_)
  have Z : zk_Z D A s H locs [(h0, .inr (2, [.int (nI (zk_nn x)), .ref hp, .ref hq])), (hp, .inl (g.1, 62, .inl (zk_ia P))), (hq, .inl (g.1, 32, .inl (zk_ia L)))] := Z
  refine lv_iconst (v := nI 1) hx hb dX3_make_14 (by decide) ?_
  refine lv_istore_n (lv' := [(3, .int (nI 1)), (2, .int (nI (Nat.log2 x))), (0, .ref h0), (1, .int (nI x))]) hx hb dX3_make_15 rfl hl (by decide) rfl (fun ls hl => ?_)
  refine lv_iconst (v := nI 0) hx hb dX3_make_16 (by decide) ?_
  refine lv_istore (lv' := [(4, .int (nI 0)), (3, .int (nI 1)), (2, .int (nI (Nat.log2 x))), (0, .ref h0), (1, .int (nI x))]) hx hb dX3_make_17 hl (by decide) rfl (fun ls hl => ?_)
  refine lp3_make1 C h0 hp hq x (Nat.log2 x) x8 x64 (fun P L y H locs ls hP hL hT hno hye Z hl => ?_) (fun P L H locs ls hP hL hnp Z hl => ?_) (zk_nn x) 0 1 P L H locs ls (by omega) rfl (fun j j0 j1 => absurd j1 (Nat.not_lt_zero j)) hP hL mk_T_0 Z (lv_sub hl [3, 4, 2, 1, 0] rfl)
  · refine lv_aload_n hx hb dX3_make_82 rfl (lv_at hl 0 rfl) ?_
    refine zk_get C Z in_X3 0 rfl rfl 0 (by decide) q58 rfl (v := .int (nI (zk_nn x))) rfl dX3_make_83 ?_
    refine lv_istore (lv' := [(4, .int (nI (zk_nn x))), (0, .ref h0), (1, .int (nI x)), (2, .int (nI (Nat.log2 x))), (3, .int (nI y))]) hx hb dX3_make_86 hl (by decide) rfl (fun ls hl => ?_)
    refine lp3_make2 C h0 hp hq x (Nat.log2 x) x8 x64 y L (fun P H locs ls hP hU Z hl => ?_) (zk_nn x) (zk_nn x) P H locs ls (by omega) (Nat.le_refl _) hP (mk_U_0 hT) Z (lv_sub hl [1, 2, 3, 4, 0] rfl)
    have hyl := mkX_le x x64 x8 (zk_nn x) (by omega)
    rw [← hye] at hyl
    refine lv_iload_n hx hb dX3_make_124 rfl (lv_at hl 3 rfl) ?_
    refine lv_iconst (v := nI 1) hx hb dX3_make_125 (by decide) ?_
    refine nr_ne (tgt := 133) hx hb (by omega) (by omega) dX3_make_126 (by decide) (fun c_9 => ?_) (fun c_9 => ?_)
    · refine lv_iconst (v := nI 0) hx hb dX3_make_133 (by decide) ?_
      exact zk_zret C hr hlocks Z rfl ⟨P, L, rfl, hP, hL, fun h => absurd (show y = 1 by rw [hye]; exact (mkX_pr (x, zk_nn x) h).2.1) c_9, fun _ => rfl⟩ (Nat.le_of_ble_eq_true rfl) (Nat.le_of_ble_eq_true rfl) dX3_make_134
    · refine lv_iconst (v := nI 1) hx hb dX3_make_129 (by decide) ?_
      refine lv_goto (tgt := 134) hx hb dX3_make_130 (by decide) ?_
      exact zk_zret C hr hlocks Z rfl ⟨P, L, rfl, hP, hL, fun h => ⟨rfl, mk_F h hU hP hL⟩, fun h => absurd (mkX_un x x64 x8 h) (fun q => q.elim (fun ⟨j, h1, h2, h3⟩ => hno j h2 h1 h3) (fun q => q (by rw [← hye]; exact c_9)))⟩ (Nat.le_of_ble_eq_true rfl) (Nat.le_of_ble_eq_true rfl) dX3_make_134
  · refine lv_iconst (v := nI 0) hx hb dX3_make_38 (by decide) ?_
    exact zk_zret C hr hlocks Z rfl ⟨P, L, rfl, hP, hL, fun h => absurd h hnp, fun _ => rfl⟩ (Nat.le_of_ble_eq_true rfl) (Nat.le_of_ble_eq_true rfl) dX3_make_39

