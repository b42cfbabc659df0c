/-! ===== Equations ===== -/
set_option maxRecDepth 100000
set_option maxHeartbeats 4000000 in
theorem lp5_c1 {pg : Program} {l : Launch} {ev : Env} {s : State} {mm : MethodId} {args : Array Value} {below : List Frame} {meth : Method} {cd : Code} {Q : State → Prop} {D : va_G} {g : G4} {A : Nat → Prop} (C : zk_C pg s mm cd args cX5_clear 8 RX5 D g A) (he hr r0 r1 r2 k v : Nat) (h0 hp hq p n : Nat) (P L : List Nat) (F : zk_F p n P L) (hkv : k < v) (hv3 : v ≤ 3) (by_ : Nat) (byn : by_ ≤ n) (by0 : by_ ≠ 0) (fin : List (List Nat)) (kk : ∀ (M : List (List Nat)) (H : Heap) (locs : List Loc) (ls : Array Slot), M = fin → zk_Z D A s H locs [(he, .inr (4, [.ref hr])), (hr, .inl (g.2.2.1, 3, .inr (.inr (.inr (.inr (zk_ra ([r0, r1, r2]))))))), (r0, .inl (g.1, 4, .inl (zk_ia (M.getD 0 [])))), (r1, .inl (g.1, 4, .inl (zk_ia (M.getD 1 [])))), (r2, .inl (g.1, 4, .inl (zk_ia (M.getD 2 [])))), (h0, .inr (2, [.int (nI n), .ref hp, .ref hq])), (hp, .inl (g.1, 62, .inl (zk_ia P))), (hq, .inl (g.1, 32, .inl (zk_ia L)))] → lv_has ls 8 [(0, .ref he), (1, .ref h0), (2, .int (nI k)), (3, .int (nI v)), (4, .int (nI by_))] → W pg l ev (zk_R 1 0 0) s mm args below meth cd H locs 0 0 Q (F0 mm 49 ls [])) :
    ∀ (r : Nat) (j : Nat) (M : List (List Nat)) (H : Heap) (locs : List Loc) (ls : Array Slot), (j + r = v + 1) → (zk_ml M) → (zk_bm n v M) → (zk_it (ecF p k by_) r j M = fin) → zk_Z D A s H locs [(he, .inr (4, [.ref hr])), (hr, .inl (g.2.2.1, 3, .inr (.inr (.inr (.inr (zk_ra ([r0, r1, r2]))))))), (r0, .inl (g.1, 4, .inl (zk_ia (M.getD 0 [])))), (r1, .inl (g.1, 4, .inl (zk_ia (M.getD 1 [])))), (r2, .inl (g.1, 4, .inl (zk_ia (M.getD 2 [])))), (h0, .inr (2, [.int (nI n), .ref hp, .ref hq])), (hp, .inl (g.1, 62, .inl (zk_ia P))), (hq, .inl (g.1, 32, .inl (zk_ia L)))] → lv_has ls 8 [(0, .ref he), (1, .ref h0), (2, .int (nI k)), (3, .int (nI v)), (4, .int (nI by_)), (5, .int (nI j))] → W pg l ev (zk_R 1 0 0) s mm args below meth cd H locs 0 0 Q (F0 mm 13 ls []) := by
  have hx := C.1.1
  have hb := C.1.2.1
  have hml := C.1.2.2.1
  have hown := C.1.2.2.2.1
  have hts := C.1.2.2.2.2
  have hn := F.n31
  intro r
  induction r with
  | zero =>
    intro j M H locs ls hik hM bM hfin Z hl
    have hfin : M = fin := hfin
    refine lv_iload hx hb dX5_clear_13 (lv_at hl 5 rfl) ?_
    refine lv_iload_n hx hb dX5_clear_15 rfl (lv_at hl 3 rfl) ?_
    refine nr_gt (tgt := 49) hx hb (by omega) (by omega) dX5_clear_16 (by decide) (fun c_1 => ?_) (fun c_1 => absurd c_1 (by omega))
    exact kk M H locs ls hfin Z (lv_sub hl [0, 1, 2, 3, 4] rfl)
  | succ r ih =>
    intro j M H locs ls hik hM bM hfin Z hl
    refine lv_iload hx hb dX5_clear_13 (lv_at hl 5 rfl) ?_
    refine lv_iload_n hx hb dX5_clear_15 rfl (lv_at hl 3 rfl) ?_
    refine nr_gt (tgt := 49) hx hb (by omega) (by omega) dX5_clear_16 (by decide) (fun c_1 => absurd c_1 (by omega)) (fun c_1 => ?_)
    refine lv_aload_n hx hb dX5_clear_19 rfl (lv_at hl 0 rfl) ?_
    refine zk_get C Z in_X5 0 rfl rfl 0 (by decide) q125 rfl (v := .ref hr) rfl dX5_clear_20 ?_
    refine lv_iload_n hx hb dX5_clear_23 rfl (lv_at hl 2 rfl) ?_
    refine zk_aald (v := [r0, r1, r2].getD k 0) C Z 1 rfl (by decide) (by omega) (zk_g3 (by omega)) dX5_clear_24 ?_
    refine lv_iload hx hb dX5_clear_25 (lv_at hl 5 rfl) ?_
    refine lv_aload_n hx hb dX5_clear_27 rfl (lv_at hl 1 rfl) ?_
    refine lv_aload_n hx hb dX5_clear_28 rfl (lv_at hl 0 rfl) ?_
    refine zk_get C Z in_X5 0 rfl rfl 0 (by decide) q125 rfl (v := .ref hr) rfl dX5_clear_29 ?_
    refine lv_iload_n hx hb dX5_clear_32 rfl (lv_at hl 2 rfl) ?_
    refine zk_aald (v := [r0, r1, r2].getD k 0) C Z 1 rfl (by decide) (by omega) (zk_g3 (by omega)) dX5_clear_33 ?_
    refine lv_iload hx hb dX5_clear_34 (lv_at hl 5 rfl) ?_
    refine zk_iald C Z (2 + k) (zk_rd3 (by omega)) (by decide) (by omega) dX5_clear_36 ?_
    refine W.eq (g2 := F0 mm 37 ls [.int (nI (mg M k j)), .ref h0, .int (nI j), .ref ([r0, r1, r2].getD k 0)]) rfl ?_
    refine lv_iload hx hb dX5_clear_37 (lv_at hl 4 rfl) ?_
    refine zk_callV (cells' := 0) (slots' := 0) (rest := [.int (nI j), .ref ([r0, r1, r2].getD k 0)]) (n := 2) (wr := [(he, .inr (4, [.ref hr])), (hr, .inl (g.2.2.1, 3, .inr (.inr (.inr (.inr (zk_ra ([r0, r1, r2]))))))), (r0, .inl (g.1, 4, .inl (zk_ia (M.getD 0 [])))), (r1, .inl (g.1, 4, .inl (zk_ia (M.getD 1 [])))), (r2, .inl (g.1, 4, .inl (zk_ia (M.getD 2 []))))]) C Z (m3_over l D g h0 hp hq p n P L (mg M k j) by_ F (bM _ _ (by omega) (by omega)) byn by0) [5, 6, 7] [0, 1, 2, 3, 4] rfl rfl (by decide) (by decide) (by decide) 5 2 rfl rfl rfl q548 q526 q527 q21 q528 (by decide +kernel) rfl (Nat.le_of_ble_eq_true rfl) (Nat.le_of_ble_eq_true rfl) (Nat.le_of_ble_eq_true rfl) (Nat.le_of_ble_eq_true rfl) rfl rfl hl.1 rfl (Nat.le_of_ble_eq_true rfl) dX5_clear_39 (fun v w1 H locs hq Z => ?_)
    obtain ⟨rfl, rfl⟩ := hq
    have Z : zk_Z D A s H locs [(he, .inr (4, [.ref hr])), (hr, .inl (g.2.2.1, 3, .inr (.inr (.inr (.inr (zk_ra ([r0, r1, r2]))))))), (r0, .inl (g.1, 4, .inl (zk_ia (M.getD 0 [])))), (r1, .inl (g.1, 4, .inl (zk_ia (M.getD 1 [])))), (r2, .inl (g.1, 4, .inl (zk_ia (M.getD 2 [])))), (h0, .inr (2, [.int (nI n), .ref hp, .ref hq])), (hp, .inl (g.1, 62, .inl (zk_ia P))), (hq, .inl (g.1, 32, .inl (zk_ia L)))] := Z.sub [0, 1, 2, 3, 4, 5, 6, 7] (by decide) rfl
    refine W.eq (g2 := F0 mm 42 ls [.int (nI (gd p (mg M k j) by_)), .int (nI j), .ref ([r0, r1, r2].getD k 0)]) rfl ?_
    refine zk_iast C Z (2 + k) (zk_rd3 (by omega)) (by decide) (by omega) (hM.2 _ (by omega)) dX5_clear_42 (fun H locs Z => ?_)
    have Z : zk_Z D A s H locs [(he, .inr (4, [.ref hr])), (hr, .inl (g.2.2.1, 3, .inr (.inr (.inr (.inr (zk_ra ([r0, r1, r2]))))))), (r0, .inl (g.1, 4, .inl (zk_ia ((mset M k j (gd p (mg M k j) by_)).getD 0 [])))), (r1, .inl (g.1, 4, .inl (zk_ia ((mset M k j (gd p (mg M k j) by_)).getD 1 [])))), (r2, .inl (g.1, 4, .inl (zk_ia ((mset M k j (gd p (mg M k j) by_)).getD 2 [])))), (h0, .inr (2, [.int (nI n), .ref hp, .ref hq])), (hp, .inl (g.1, 62, .inl (zk_ia P))), (hq, .inl (g.1, 32, .inl (zk_ia L)))] := Eq.mp (congrArg (zk_Z D A s H locs) (zk_st3 (i := k) hM.1 (by omega))) Z
    have hM_2 : zk_ml (mset M k j (gd p (mg M k j) by_)) := zk_ml_set hM
    have bM_3 : zk_bm n v (mset M k j (gd p (mg M k j) by_)) := zk_bm_set bM (F.gdl (bM _ _ (by omega) (by omega)) byn by0)
    refine nr_iinc (n := 1) (lv' := [(5, .int (nI (j + 1))), (0, .ref he), (1, .ref h0), (2, .int (nI k)), (3, .int (nI v)), (4, .int (nI by_))]) hx hb (by decide) dX5_clear_43 hl (k := 5) rfl (by decide) rfl (fun ls hl => ?_)
    refine lv_goto (tgt := 13) hx hb dX5_clear_46 (by decide) ?_
    exact ih (j + 1) (mset M k j (gd p (mg M k j) by_)) H locs ls (by omega) hM_2 bM_3 hfin Z (lv_sub hl [1, 2, 3, 4, 5, 0] rfl)

set_option maxHeartbeats 4000000 in
theorem lp5_c2 {pg : Program} {l : Launch} {ev : Env} {s : State} {mm : MethodId} {args : Array Value} {below : List Frame} {meth : Method} {cd : Code} {Q : State → Prop} {D : va_G} {g : G4} {A : Nat → Prop} (C : zk_C pg s mm cd args cX5_clear 8 RX5 D g A) (he hr r0 r1 r2 k v : Nat) (h0 hp hq p n : Nat) (P L : List Nat) (F : zk_F p n P L) (hkv : k < v) (hv3 : v ≤ 3) (by_ i tm : Nat) (hi : i < v) (hne : i ≠ k) (tmn : tm ≤ n) (fin : List (List Nat)) (kk : ∀ (M : List (List Nat)) (H : Heap) (locs : List Loc) (ls : Array Slot), zk_ml M → zk_bm n v M → M = fin → zk_Z D A s H locs [(he, .inr (4, [.ref hr])), (hr, .inl (g.2.2.1, 3, .inr (.inr (.inr (.inr (zk_ra ([r0, r1, r2]))))))), (r0, .inl (g.1, 4, .inl (zk_ia (M.getD 0 [])))), (r1, .inl (g.1, 4, .inl (zk_ia (M.getD 1 [])))), (r2, .inl (g.1, 4, .inl (zk_ia (M.getD 2 [])))), (h0, .inr (2, [.int (nI n), .ref hp, .ref hq])), (hp, .inl (g.1, 62, .inl (zk_ia P))), (hq, .inl (g.1, 32, .inl (zk_ia L)))] → lv_has ls 8 [(0, .ref he), (1, .ref h0), (2, .int (nI k)), (3, .int (nI v)), (4, .int (nI by_)), (5, .int (nI i))] → W pg l ev (zk_R 1 0 0) s mm args below meth cd H locs 0 0 Q (F0 mm 118 ls [])) :
    ∀ (r : Nat) (j : Nat) (M : List (List Nat)) (H : Heap) (locs : List Loc) (ls : Array Slot), (j + r = v + 1) → (k ≤ j) → (zk_ml M) → (zk_bm n v M) → (zk_it (eiF p k i tm) r j M = fin) → zk_Z D A s H locs [(he, .inr (4, [.ref hr])), (hr, .inl (g.2.2.1, 3, .inr (.inr (.inr (.inr (zk_ra ([r0, r1, r2]))))))), (r0, .inl (g.1, 4, .inl (zk_ia (M.getD 0 [])))), (r1, .inl (g.1, 4, .inl (zk_ia (M.getD 1 [])))), (r2, .inl (g.1, 4, .inl (zk_ia (M.getD 2 [])))), (h0, .inr (2, [.int (nI n), .ref hp, .ref hq])), (hp, .inl (g.1, 62, .inl (zk_ia P))), (hq, .inl (g.1, 32, .inl (zk_ia L)))] → lv_has ls 8 [(0, .ref he), (1, .ref h0), (2, .int (nI k)), (3, .int (nI v)), (4, .int (nI by_)), (5, .int (nI i)), (6, .int (nI tm)), (7, .int (nI j))] → W pg l ev (zk_R 1 0 0) s mm args below meth cd H locs 0 0 Q (F0 mm 72 ls []) := by
  have hx := C.1.1
  have hb := C.1.2.1
  have hml := C.1.2.2.1
  have hown := C.1.2.2.2.1
  have hts := C.1.2.2.2.2
  have hn := F.n31
  intro r
  induction r with
  | zero =>
    intro j M H locs ls hik hkj hM bM hfin Z hl
    have hfin : M = fin := hfin
    refine lv_iload hx hb dX5_clear_72 (lv_at hl 7 rfl) ?_
    refine lv_iload_n hx hb dX5_clear_74 rfl (lv_at hl 3 rfl) ?_
    refine nr_gt (tgt := 118) hx hb (by omega) (by omega) dX5_clear_75 (by decide) (fun c_1 => ?_) (fun c_1 => absurd c_1 (by omega))
    exact kk M H locs ls hM bM hfin Z (lv_sub hl [0, 1, 2, 3, 4, 5] rfl)
  | succ r ih =>
    intro j M H locs ls hik hkj hM bM hfin Z hl
    refine lv_iload hx hb dX5_clear_72 (lv_at hl 7 rfl) ?_
    refine lv_iload_n hx hb dX5_clear_74 rfl (lv_at hl 3 rfl) ?_
    refine nr_gt (tgt := 118) hx hb (by omega) (by omega) dX5_clear_75 (by decide) (fun c_1 => absurd c_1 (by omega)) (fun c_1 => ?_)
    refine lv_iload hx hb dX5_clear_78 (lv_at hl 5 rfl) ?_
    refine lv_iload_n hx hb dX5_clear_80 rfl (lv_at hl 2 rfl) ?_
    refine nr_eq (tgt := 118) hx hb (by omega) (by omega) dX5_clear_81 (by decide) (fun c_2 => absurd c_2 hne) (fun c_2 => ?_)
    refine lv_aload_n hx hb dX5_clear_84 rfl (lv_at hl 0 rfl) ?_
    refine zk_get C Z in_X5 0 rfl rfl 0 (by decide) q125 rfl (v := .ref hr) rfl dX5_clear_85 ?_
    refine lv_iload hx hb dX5_clear_88 (lv_at hl 5 rfl) ?_
    refine zk_aald (v := [r0, r1, r2].getD i 0) C Z 1 rfl (by decide) (by omega) (zk_g3 (by omega)) dX5_clear_90 ?_
    refine lv_iload hx hb dX5_clear_91 (lv_at hl 7 rfl) ?_
    refine lv_dup2_11 hx hb dX5_clear_93 rfl rfl ?_
    refine zk_iald C Z (2 + i) (zk_rd3 (by omega)) (by decide) (by omega) dX5_clear_94 ?_
    refine W.eq (g2 := F0 mm 95 ls [.int (nI (mg M i j)), .int (nI j), .ref ([r0, r1, r2].getD i 0)]) rfl ?_
    refine lv_aload_n hx hb dX5_clear_95 rfl (lv_at hl 1 rfl) ?_
    refine lv_iload hx hb dX5_clear_96 (lv_at hl 6 rfl) ?_
    refine lv_aload_n hx hb dX5_clear_98 rfl (lv_at hl 0 rfl) ?_
    refine zk_get C Z in_X5 0 rfl rfl 0 (by decide) q125 rfl (v := .ref hr) rfl dX5_clear_99 ?_
    refine lv_iload_n hx hb dX5_clear_102 rfl (lv_at hl 2 rfl) ?_
    refine zk_aald (v := [r0, r1, r2].getD k 0) C Z 1 rfl (by decide) (by omega) (zk_g3 (by omega)) dX5_clear_103 ?_
    refine lv_iload hx hb dX5_clear_104 (lv_at hl 7 rfl) ?_
    refine zk_iald C Z (2 + k) (zk_rd3 (by omega)) (by decide) (by omega) dX5_clear_106 ?_
    refine W.eq (g2 := F0 mm 107 ls [.int (nI (mg M k j)), .int (nI tm), .ref h0, .int (nI (mg M i j)), .int (nI j), .ref ([r0, r1, r2].getD i 0)]) rfl ?_
    refine zk_callV (cells' := 0) (slots' := 0) (rest := [.int (nI (mg M i j)), .int (nI j), .ref ([r0, r1, r2].getD i 0)]) (n := 2) (wr := [(he, .inr (4, [.ref hr])), (hr, .inl (g.2.2.1, 3, .inr (.inr (.inr (.inr (zk_ra ([r0, r1, r2]))))))), (r0, .inl (g.1, 4, .inl (zk_ia (M.getD 0 [])))), (r1, .inl (g.1, 4, .inl (zk_ia (M.getD 1 [])))), (r2, .inl (g.1, 4, .inl (zk_ia (M.getD 2 []))))]) C Z (m3_times l D g h0 hp hq p n P L tm (mg M k j) F tmn (bM _ _ (by omega) (by omega))) [5, 6, 7] [0, 1, 2, 3, 4] rfl rfl (by decide) (by decide) (by decide) 5 2 rfl rfl rfl q549 q320 q321 q21 q322 (by decide +kernel) rfl (Nat.le_of_ble_eq_true rfl) (Nat.le_of_ble_eq_true rfl) (Nat.le_of_ble_eq_true rfl) (Nat.le_of_ble_eq_true rfl) rfl rfl hl.1 rfl (Nat.le_of_ble_eq_true rfl) dX5_clear_107 (fun v w1 H locs hq Z => ?_)
    obtain ⟨rfl, rfl⟩ := hq
    have Z : zk_Z D A s H locs [(he, .inr (4, [.ref hr])), (hr, .inl (g.2.2.1, 3, .inr (.inr (.inr (.inr (zk_ra ([r0, r1, r2]))))))), (r0, .inl (g.1, 4, .inl (zk_ia (M.getD 0 [])))), (r1, .inl (g.1, 4, .inl (zk_ia (M.getD 1 [])))), (r2, .inl (g.1, 4, .inl (zk_ia (M.getD 2 [])))), (h0, .inr (2, [.int (nI n), .ref hp, .ref hq])), (hp, .inl (g.1, 62, .inl (zk_ia P))), (hq, .inl (g.1, 32, .inl (zk_ia L)))] := Z.sub [0, 1, 2, 3, 4, 5, 6, 7] (by decide) rfl
    refine W.eq (g2 := F0 mm 110 ls [.int (nI (gm p tm (mg M k j))), .int (nI (mg M i j)), .int (nI j), .ref ([r0, r1, r2].getD i 0)]) rfl ?_
    refine nr_ixor hx hb dX5_clear_110 ?_
    refine zk_iast C Z (2 + i) (zk_rd3 (by omega)) (by decide) (by omega) (hM.2 _ (by omega)) dX5_clear_111 (fun H locs Z => ?_)
    have Z : zk_Z D A s H locs [(he, .inr (4, [.ref hr])), (hr, .inl (g.2.2.1, 3, .inr (.inr (.inr (.inr (zk_ra ([r0, r1, r2]))))))), (r0, .inl (g.1, 4, .inl (zk_ia ((mset M i j ((mg M i j) ^^^ (gm p tm (mg M k j)))).getD 0 [])))), (r1, .inl (g.1, 4, .inl (zk_ia ((mset M i j ((mg M i j) ^^^ (gm p tm (mg M k j)))).getD 1 [])))), (r2, .inl (g.1, 4, .inl (zk_ia ((mset M i j ((mg M i j) ^^^ (gm p tm (mg M k j)))).getD 2 [])))), (h0, .inr (2, [.int (nI n), .ref hp, .ref hq])), (hp, .inl (g.1, 62, .inl (zk_ia P))), (hq, .inl (g.1, 32, .inl (zk_ia L)))] := Eq.mp (congrArg (zk_Z D A s H locs) (zk_st3 (i := i) hM.1 (by omega))) Z
    have hM_3 : zk_ml (mset M i j ((mg M i j) ^^^ (gm p tm (mg M k j)))) := zk_ml_set hM
    have bM_4 : zk_bm n v (mset M i j ((mg M i j) ^^^ (gm p tm (mg M k j)))) := zk_bm_set bM (F.xl (bM _ _ (by omega) (by omega)) (F.gml tmn (bM _ _ (by omega) (by omega))))
    refine nr_iinc (n := 1) (lv' := [(7, .int (nI (j + 1))), (0, .ref he), (1, .ref h0), (2, .int (nI k)), (3, .int (nI v)), (4, .int (nI by_)), (5, .int (nI i)), (6, .int (nI tm))]) hx hb (by decide) dX5_clear_112 hl (k := 7) rfl (by decide) rfl (fun ls hl => ?_)
    refine lv_goto (tgt := 72) hx hb dX5_clear_115 (by decide) ?_
    exact ih (j + 1) (mset M i j ((mg M i j) ^^^ (gm p tm (mg M k j)))) H locs ls (by omega) (by omega) hM_3 bM_4 hfin Z (lv_sub hl [1, 2, 3, 4, 5, 6, 7, 0] rfl)

set_option maxHeartbeats 4000000 in
theorem lp5_c3 {pg : Program} {l : Launch} {ev : Env} {s : State} {mm : MethodId} {args : Array Value} {below : List Frame} {meth : Method} {cd : Code} {Q : State → Prop} {D : va_G} {g : G4} {A : Nat → Prop} (C : zk_C pg s mm cd args cX5_clear 8 RX5 D g A) (he hr r0 r1 r2 k v : Nat) (h0 hp hq p n : Nat) (P L : List Nat) (F : zk_F p n P L) (hkv : k < v) (hv3 : v ≤ 3) (by_ : Nat) (fin : List (List Nat)) (kk : ∀ (M : List (List Nat)) (H : Heap) (locs : List Loc) (ls : Array Slot), M = fin → zk_Z D A s H locs [(he, .inr (4, [.ref hr])), (hr, .inl (g.2.2.1, 3, .inr (.inr (.inr (.inr (zk_ra ([r0, r1, r2]))))))), (r0, .inl (g.1, 4, .inl (zk_ia (M.getD 0 [])))), (r1, .inl (g.1, 4, .inl (zk_ia (M.getD 1 [])))), (r2, .inl (g.1, 4, .inl (zk_ia (M.getD 2 [])))), (h0, .inr (2, [.int (nI n), .ref hp, .ref hq])), (hp, .inl (g.1, 62, .inl (zk_ia P))), (hq, .inl (g.1, 32, .inl (zk_ia L)))] → lv_has ls 8 [(0, .ref he)] → W pg l ev (zk_R 1 0 0) s mm args below meth cd H locs 0 0 Q (F0 mm 124 ls [])) :
    ∀ (r : Nat) (i : Nat) (M : List (List Nat)) (H : Heap) (locs : List Loc) (ls : Array Slot), (i + r = v) → (zk_ml M) → (zk_bm n v M) → (zk_it (ei p k v) r i M = fin) → zk_Z D A s H locs [(he, .inr (4, [.ref hr])), (hr, .inl (g.2.2.1, 3, .inr (.inr (.inr (.inr (zk_ra ([r0, r1, r2]))))))), (r0, .inl (g.1, 4, .inl (zk_ia (M.getD 0 [])))), (r1, .inl (g.1, 4, .inl (zk_ia (M.getD 1 [])))), (r2, .inl (g.1, 4, .inl (zk_ia (M.getD 2 [])))), (h0, .inr (2, [.int (nI n), .ref hp, .ref hq])), (hp, .inl (g.1, 62, .inl (zk_ia P))), (hq, .inl (g.1, 32, .inl (zk_ia L)))] → lv_has ls 8 [(0, .ref he), (1, .ref h0), (2, .int (nI k)), (3, .int (nI v)), (4, .int (nI by_)), (5, .int (nI i))] → W pg l ev (zk_R 1 0 0) s mm args below meth cd H locs 0 0 Q (F0 mm 52 ls []) := by
  have hx := C.1.1
  have hb := C.1.2.1
  have hml := C.1.2.2.1
  have hown := C.1.2.2.2.1
  have hts := C.1.2.2.2.2
  have hn := F.n31
  intro r
  induction r with
  | zero =>
    intro i M H locs ls hik hM bM hfin Z hl
    have hfin : M = fin := hfin
    refine lv_iload hx hb dX5_clear_52 (lv_at hl 5 rfl) ?_
    refine lv_iload_n hx hb dX5_clear_54 rfl (lv_at hl 3 rfl) ?_
    refine nr_ge (tgt := 124) hx hb (by omega) (by omega) dX5_clear_55 (by decide) (fun c_1 => ?_) (fun c_1 => absurd c_1 (by omega))
    exact kk M H locs ls hfin Z (lv_sub hl [0] rfl)
  | succ r ih =>
    intro i M H locs ls hik hM bM hfin Z hl
    refine lv_iload hx hb dX5_clear_52 (lv_at hl 5 rfl) ?_
    refine lv_iload_n hx hb dX5_clear_54 rfl (lv_at hl 3 rfl) ?_
    refine nr_ge (tgt := 124) hx hb (by omega) (by omega) dX5_clear_55 (by decide) (fun c_1 => absurd c_1 (by omega)) (fun c_1 => ?_)
    refine lv_aload_n hx hb dX5_clear_58 rfl (lv_at hl 0 rfl) ?_
    refine zk_get C Z in_X5 0 rfl rfl 0 (by decide) q125 rfl (v := .ref hr) rfl dX5_clear_59 ?_
    refine lv_iload hx hb dX5_clear_62 (lv_at hl 5 rfl) ?_
    refine zk_aald (v := [r0, r1, r2].getD i 0) C Z 1 rfl (by decide) (by omega) (zk_g3 (by omega)) dX5_clear_64 ?_
    refine lv_iload_n hx hb dX5_clear_65 rfl (lv_at hl 2 rfl) ?_
    refine zk_iald C Z (2 + i) (zk_rd3 (by omega)) (by decide) (by omega) dX5_clear_66 ?_
    refine W.eq (g2 := F0 mm 67 ls [.int (nI (mg M i k))]) rfl ?_
    refine lv_istore (lv' := [(6, .int (nI (mg M i k))), (0, .ref he), (1, .ref h0), (2, .int (nI k)), (3, .int (nI v)), (4, .int (nI by_)), (5, .int (nI i))]) hx hb dX5_clear_67 hl (by decide) rfl (fun ls hl => ?_)
    refine lv_iload_n hx hb dX5_clear_69 rfl (lv_at hl 3 rfl) ?_
    refine lv_istore (lv' := [(7, .int (nI k)), (6, .int (nI (mg M i k))), (0, .ref he), (1, .ref h0), (2, .int (nI k)), (3, .int (nI v)), (4, .int (nI by_)), (5, .int (nI i))]) hx hb dX5_clear_70 hl (by decide) rfl (fun ls hl => ?_)
    by_cases hik2 : i = k
    · have hei : ei p k v i M = M := by unfold ei; rw [if_pos hik2]
      refine lv_iload hx hb dX5_clear_72 (lv_at hl 0 rfl) ?_
      refine lv_iload_n hx hb dX5_clear_74 rfl (lv_at hl 5 rfl) ?_
      refine nr_gt (tgt := 118) hx hb (by omega) (by omega) dX5_clear_75 (by decide) (fun c_1 => absurd c_1 (by omega)) (fun c_1 => ?_)
      refine lv_iload hx hb dX5_clear_78 (lv_at hl 7 rfl) ?_
      refine lv_iload_n hx hb dX5_clear_80 rfl (lv_at hl 4 rfl) ?_
      refine nr_eq (tgt := 118) hx hb (by omega) (by omega) dX5_clear_81 (by decide) (fun c_2 => ?_) (fun c_2 => absurd c_2 (fun q => q hik2))
      refine nr_iinc (n := 1) (lv' := [(5, .int (nI (i + 1))), (7, .int (nI k)), (6, .int (nI (mg M i k))), (0, .ref he), (1, .ref h0), (2, .int (nI k)), (3, .int (nI v)), (4, .int (nI by_))]) hx hb (by decide) dX5_clear_118 hl (k := 7) rfl (by decide) rfl (fun ls hl => ?_)
      refine lv_goto (tgt := 52) hx hb dX5_clear_121 (by decide) ?_
      exact ih (i + 1) M H locs ls (by omega) hM bM (by rw [zk_it_s, hei] at hfin; exact hfin) Z (lv_sub hl [3, 4, 5, 6, 7, 0] rfl)
    · refine lp5_c2 C he hr r0 r1 r2 k v h0 hp hq p n P L F hkv hv3 by_ i (mg M i k) (by omega) hik2 (bM _ _ (by omega) (by omega)) _ (fun M1 H locs ls hM1 bM1 e1 Z hl => ?_) (v + 1 - k) k M H locs ls (by omega) (Nat.le_refl _) hM bM rfl Z (lv_sub hl [2, 3, 4, 5, 6, 7, 1, 0] rfl)
      refine nr_iinc (n := 1) (lv' := [(5, .int (nI (i + 1))), (0, .ref he), (1, .ref h0), (2, .int (nI k)), (3, .int (nI v)), (4, .int (nI by_))]) hx hb (by decide) dX5_clear_118 hl (k := 5) rfl (by decide) rfl (fun ls hl => ?_)
      refine lv_goto (tgt := 52) hx hb dX5_clear_121 (by decide) ?_
      exact ih (i + 1) M1 H locs ls (by omega) hM1 bM1 (by rw [zk_it_s] at hfin; rw [e1, show zk_it (eiF p k i (mg M i k)) (v + 1 - k) k M = ei p k v i M from (by unfold ei; rw [if_neg hik2])]; exact hfin) Z (lv_sub hl [1, 2, 3, 4, 5, 0] rfl)

set_option maxHeartbeats 4000000 in
/-- Equations.clear -/
theorem m5_clear (l : Launch) (D : va_G) (g : G4) (he hr r0 r1 r2 k v : Nat) (h0 hp hq p n : Nat) (P L : List Nat) (F : zk_F p n P L) (hkv : k < v) (hv3 : v ≤ 3) (M : List (List Nat)) (hM : zk_ml M) (bM : zk_bm n v M) (hkk : mg M k k ≠ 0) : zk_M l yX5_clear (ws_ yX5_clear cX5_clear 8 none) (zk_R 1 0 0) D g [.ref he, .ref h0, .int (nI k), .int (nI v)] [(he, .inr (4, [.ref hr])), (hr, .inl (g.2.2.1, 3, .inr (.inr (.inr (.inr (zk_ra ([r0, r1, r2]))))))), (r0, .inl (g.1, 4, .inl (zk_ia (M.getD 0 [])))), (r1, .inl (g.1, 4, .inl (zk_ia (M.getD 1 [])))), (r2, .inl (g.1, 4, .inl (zk_ia (M.getD 2 [])))), (h0, .inr (2, [.int (nI n), .ref hp, .ref hq])), (hp, .inl (g.1, 62, .inl (zk_ia P))), (hq, .inl (g.1, 32, .inl (zk_ia L)))] (zk_D none [(he, .inr (4, [.ref hr])), (hr, .inl (g.2.2.1, 3, .inr (.inr (.inr (.inr (zk_ra ([r0, r1, r2]))))))), (r0, .inl (g.1, 4, .inl (zk_ia ((eqclear p k v M).getD 0 [])))), (r1, .inl (g.1, 4, .inl (zk_ia ((eqclear p k v M).getD 1 [])))), (r2, .inl (g.1, 4, .inl (zk_ia ((eqclear p k v M).getD 2 [])))), (h0, .inr (2, [.int (nI n), .ref hp, .ref hq])), (hp, .inl (g.1, 62, .inl (zk_ia P))), (hq, .inl (g.1, 32, .inl (zk_ia L)))]) := by
  refine zk_ofW (by decide) (Nat.le_of_ble_eq_true rfl) ?_
  intro pg ev s mm below meth cd A C hr9 hlocks hname Z ls hl
  have hx := C.1.1
  have hb := C.1.2.1
  have hml := C.1.2.2.1
  have hown := C.1.2.2.2.1
  have hts := C.1.2.2.2.2
  have hl : lv_has ls 8 [(0, .ref he), (1, .ref h0), (2, .int (nI k)), (3, .int (nI v))] := hl
  have hn := F.n31
  obtain ⟨H, hH⟩ : ∃ H, H = s.heap := ⟨_, rfl⟩
  obtain ⟨locs, hlocs⟩ : ∃ q : List Loc, q = [] := ⟨_, rfl⟩
  rw [← hH, ← hlocs] at Z ⊢
  refine lv_aload_n hx hb dX5_clear_0 rfl (lv_at hl 0 rfl) ?_
  refine zk_get C Z in_X5 0 rfl rfl 0 (by decide) q125 rfl (v := .ref hr) rfl dX5_clear_1 ?_
  refine lv_iload_n hx hb dX5_clear_4 rfl (lv_at hl 2 rfl) ?_
  refine zk_aald (v := [r0, r1, r2].getD k 0) C Z 1 rfl (by decide) (by omega) (zk_g3 (by omega)) dX5_clear_5 ?_
  refine lv_iload_n hx hb dX5_clear_6 rfl (lv_at hl 2 rfl) ?_
  refine zk_iald C Z (2 + k) (zk_rd3 (by omega)) (by decide) (by omega) dX5_clear_7 ?_
  refine W.eq (g2 := F0 mm 8 ls [.int (nI (mg M k k))]) rfl ?_
  refine lv_istore (lv' := [(4, .int (nI (mg M k k))), (0, .ref he), (1, .ref h0), (2, .int (nI k)), (3, .int (nI v))]) hx hb dX5_clear_8 hl (by decide) rfl (fun ls hl => ?_)
  refine lv_iload_n hx hb dX5_clear_10 rfl (lv_at hl 3 rfl) ?_
  refine lv_istore (lv' := [(5, .int (nI k)), (4, .int (nI (mg M k k))), (0, .ref he), (1, .ref h0), (2, .int (nI k)), (3, .int (nI v))]) hx hb dX5_clear_11 hl (by decide) rfl (fun ls hl => ?_)
  refine lp5_c1 C he hr r0 r1 r2 k v h0 hp hq p n P L F hkv hv3 (mg M k k) (bM _ _ (by omega) (by omega)) hkk _ (fun M1 H locs ls e1 Z hl => ?_) (v + 1 - k) k M H locs ls (by omega) hM bM rfl Z (lv_sub hl [2, 3, 4, 5, 1, 0] rfl)
  have e1 : M1 = ec1 p k v M := e1
  have hok := ec1_ok (v := v) F hkv hkk ⟨hM, bM⟩
  rw [← e1] at hok
  refine lv_iconst (v := nI 0) hx hb dX5_clear_49 (by decide) ?_
  refine lv_istore (lv' := [(5, .int (nI 0)), (0, .ref he), (1, .ref h0), (2, .int (nI k)), (3, .int (nI v)), (4, .int (nI (mg M k k)))]) hx hb dX5_clear_50 hl (by decide) rfl (fun ls hl => ?_)
  refine lp5_c3 C he hr r0 r1 r2 k v h0 hp hq p n P L F hkv hv3 (mg M k k) _ (fun M2 H locs ls e2 Z hl => ?_) v 0 M1 H locs ls (by omega) hok.1 hok.2 rfl Z (lv_sub hl [1, 2, 3, 4, 5, 0] rfl)
  exact zk_vret C hr9 hlocks Z ⟨rfl, by rw [e2, e1]; rfl⟩ (Nat.le_of_ble_eq_true rfl) (Nat.le_of_ble_eq_true rfl) dX5_clear_124

set_option maxHeartbeats 4000000 in
theorem lp5_f1 {pg : Program} {l : Launch} {ev : Env} {s : State} {mm : MethodId} {args : Array Value} {below : List Frame} {meth : Method} {cd : Code} {Q : State → Prop} {D : va_G} {g : G4} {A : Nat → Prop} (C : zk_C pg s mm cd args cX5_solve 7 RX5 D g A) (he hr hs v : Nat) (h0 hp hq p n : Nat) (P L : List Nat) (S : List Nat) (F : zk_F p n P L) (bS : zk_bs n v S) (hv1 : 1 ≤ v) (hv3 : v ≤ 3) (r0 r1 r2 : Nat) (i : Nat) (hi : i < v) (fin : List (List Nat)) (kk : ∀ (M : List (List Nat)) (H : Heap) (locs : List Loc) (ls : Array Slot), zk_ml M → M = fin → zk_Z D A s H locs [(he, .inr (4, [.ref hr])), (hr, .inl (g.2.2.1, 3, .inr (.inr (.inr (.inr (zk_ra ([r0, r1, r2]))))))), (r0, .inl (g.1, 4, .inl (zk_ia (M.getD 0 [])))), (r1, .inl (g.1, 4, .inl (zk_ia (M.getD 1 [])))), (r2, .inl (g.1, 4, .inl (zk_ia (M.getD 2 [])))), (h0, .inr (2, [.int (nI n), .ref hp, .ref hq])), (hp, .inl (g.1, 62, .inl (zk_ia P))), (hq, .inl (g.1, 32, .inl (zk_ia L))), (hs, .inl (g.1, 7, .inl (zk_ia S)))] → lv_has ls 7 [(0, .ref he), (1, .ref h0), (2, .ref hs), (3, .int (nI v)), (4, .int (nI i))] → W pg l ev (zk_R 2 0 0) s mm args below meth cd H locs 0 0 Q (F0 mm 43 ls [])) :
    ∀ (r : Nat) (j : Nat) (M : List (List Nat)) (H : Heap) (locs : List Loc) (ls : Array Slot), (j + r = v + 1) → (zk_ml M) → (zk_it (efF S i) r j M = fin) → zk_Z D A s H locs [(he, .inr (4, [.ref hr])), (hr, .inl (g.2.2.1, 3, .inr (.inr (.inr (.inr (zk_ra ([r0, r1, r2]))))))), (r0, .inl (g.1, 4, .inl (zk_ia (M.getD 0 [])))), (r1, .inl (g.1, 4, .inl (zk_ia (M.getD 1 [])))), (r2, .inl (g.1, 4, .inl (zk_ia (M.getD 2 [])))), (h0, .inr (2, [.int (nI n), .ref hp, .ref hq])), (hp, .inl (g.1, 62, .inl (zk_ia P))), (hq, .inl (g.1, 32, .inl (zk_ia L))), (hs, .inl (g.1, 7, .inl (zk_ia S)))] → lv_has ls 7 [(0, .ref he), (1, .ref h0), (2, .ref hs), (3, .int (nI v)), (4, .int (nI i)), (5, .int (nI j))] → W pg l ev (zk_R 2 0 0) s mm args below meth cd H locs 0 0 Q (F0 mm 12 ls []) := by
  have hx := C.1.1
  have hb := C.1.2.1
  have hml := C.1.2.2.1
  have hown := C.1.2.2.2.1
  have hts := C.1.2.2.2.2
  intro r
  induction r with
  | zero =>
    intro j M H locs ls hik hM hfin Z hl
    have hfin : M = fin := hfin
    refine lv_iload hx hb dX5_solve_12 (lv_at hl 5 rfl) ?_
    refine lv_iload_n hx hb dX5_solve_14 rfl (lv_at hl 3 rfl) ?_
    refine nr_gt (tgt := 43) hx hb (by omega) (by omega) dX5_solve_15 (by decide) (fun c_1 => ?_) (fun c_1 => absurd c_1 (by omega))
    exact kk M H locs ls hM hfin Z (lv_sub hl [0, 1, 2, 3, 4] rfl)
  | succ r ih =>
    intro j M H locs ls hik hM hfin Z hl
    refine lv_iload hx hb dX5_solve_12 (lv_at hl 5 rfl) ?_
    refine lv_iload_n hx hb dX5_solve_14 rfl (lv_at hl 3 rfl) ?_
    refine nr_gt (tgt := 43) hx hb (by omega) (by omega) dX5_solve_15 (by decide) (fun c_1 => absurd c_1 (by omega)) (fun c_1 => ?_)
    refine lv_aload_n hx hb dX5_solve_18 rfl (lv_at hl 0 rfl) ?_
    refine zk_get C Z in_X5 0 rfl rfl 0 (by decide) q125 rfl (v := .ref hr) rfl dX5_solve_19 ?_
    refine lv_iload hx hb dX5_solve_22 (lv_at hl 4 rfl) ?_
    refine zk_aald (v := [r0, r1, r2].getD i 0) C Z 1 rfl (by decide) (by omega) (zk_g3 (by omega)) dX5_solve_24 ?_
    refine lv_iload hx hb dX5_solve_25 (lv_at hl 5 rfl) ?_
    refine lv_aload_n hx hb dX5_solve_27 rfl (lv_at hl 2 rfl) ?_
    refine lv_iload hx hb dX5_solve_28 (lv_at hl 4 rfl) ?_
    refine lv_iload hx hb dX5_solve_30 (lv_at hl 5 rfl) ?_
    refine nr_iadd hx hb dX5_solve_32 ?_
    refine lv_iconst (v := nI 1) hx hb dX5_solve_33 (by decide) ?_
    refine nr_iadd hx hb dX5_solve_34 ?_
    refine zk_iald C Z 8 rfl (by decide) (by omega) dX5_solve_35 ?_
    refine zk_iast C Z (2 + i) (zk_rd3 (by omega)) (by decide) (by omega) (hM.2 _ (by omega)) dX5_solve_36 (fun H locs Z => ?_)
    have Z : zk_Z D A s H locs [(he, .inr (4, [.ref hr])), (hr, .inl (g.2.2.1, 3, .inr (.inr (.inr (.inr (zk_ra ([r0, r1, r2]))))))), (r0, .inl (g.1, 4, .inl (zk_ia ((mset M i j (S.getD ((i + j) + 1) 0)).getD 0 [])))), (r1, .inl (g.1, 4, .inl (zk_ia ((mset M i j (S.getD ((i + j) + 1) 0)).getD 1 [])))), (r2, .inl (g.1, 4, .inl (zk_ia ((mset M i j (S.getD ((i + j) + 1) 0)).getD 2 [])))), (h0, .inr (2, [.int (nI n), .ref hp, .ref hq])), (hp, .inl (g.1, 62, .inl (zk_ia P))), (hq, .inl (g.1, 32, .inl (zk_ia L))), (hs, .inl (g.1, 7, .inl (zk_ia S)))] := Eq.mp (congrArg (zk_Z D A s H locs) (zk_st3 (i := i) hM.1 (by omega))) Z
    have hM_2 : zk_ml (mset M i j (S.getD ((i + j) + 1) 0)) := zk_ml_set hM
    refine nr_iinc (n := 1) (lv' := [(5, .int (nI (j + 1))), (0, .ref he), (1, .ref h0), (2, .ref hs), (3, .int (nI v)), (4, .int (nI i))]) hx hb (by decide) dX5_solve_37 hl (k := 5) rfl (by decide) rfl (fun ls hl => ?_)
    refine lv_goto (tgt := 12) hx hb dX5_solve_40 (by decide) ?_
    exact ih (j + 1) (mset M i j (S.getD ((i + j) + 1) 0)) H locs ls (by omega) hM_2 hfin Z (lv_sub hl [1, 2, 3, 4, 5, 0] rfl)

set_option maxHeartbeats 4000000 in
theorem lp5_f2 {pg : Program} {l : Launch} {ev : Env} {s : State} {mm : MethodId} {args : Array Value} {below : List Frame} {meth : Method} {cd : Code} {Q : State → Prop} {D : va_G} {g : G4} {A : Nat → Prop} (C : zk_C pg s mm cd args cX5_solve 7 RX5 D g A) (he hr hs v : Nat) (h0 hp hq p n : Nat) (P L : List Nat) (S : List Nat) (F : zk_F p n P L) (bS : zk_bs n v S) (hv1 : 1 ≤ v) (hv3 : v ≤ 3) (r0 r1 r2 : Nat) (fin : List (List Nat)) (kk : ∀ (M : List (List Nat)) (H : Heap) (locs : List Loc) (ls : Array Slot), zk_ml M → M = fin → zk_Z D A s H locs [(he, .inr (4, [.ref hr])), (hr, .inl (g.2.2.1, 3, .inr (.inr (.inr (.inr (zk_ra ([r0, r1, r2]))))))), (r0, .inl (g.1, 4, .inl (zk_ia (M.getD 0 [])))), (r1, .inl (g.1, 4, .inl (zk_ia (M.getD 1 [])))), (r2, .inl (g.1, 4, .inl (zk_ia (M.getD 2 [])))), (h0, .inr (2, [.int (nI n), .ref hp, .ref hq])), (hp, .inl (g.1, 62, .inl (zk_ia P))), (hq, .inl (g.1, 32, .inl (zk_ia L))), (hs, .inl (g.1, 7, .inl (zk_ia S)))] → lv_has ls 7 [(0, .ref he), (1, .ref h0), (2, .ref hs), (3, .int (nI v))] → W pg l ev (zk_R 2 0 0) s mm args below meth cd H locs 0 0 Q (F0 mm 49 ls [])) :
    ∀ (r : Nat) (i : Nat) (M : List (List Nat)) (H : Heap) (locs : List Loc) (ls : Array Slot), (i + r = v) → (zk_ml M) → (zk_it (efR S v) r i M = fin) → zk_Z D A s H locs [(he, .inr (4, [.ref hr])), (hr, .inl (g.2.2.1, 3, .inr (.inr (.inr (.inr (zk_ra ([r0, r1, r2]))))))), (r0, .inl (g.1, 4, .inl (zk_ia (M.getD 0 [])))), (r1, .inl (g.1, 4, .inl (zk_ia (M.getD 1 [])))), (r2, .inl (g.1, 4, .inl (zk_ia (M.getD 2 [])))), (h0, .inr (2, [.int (nI n), .ref hp, .ref hq])), (hp, .inl (g.1, 62, .inl (zk_ia P))), (hq, .inl (g.1, 32, .inl (zk_ia L))), (hs, .inl (g.1, 7, .inl (zk_ia S)))] → lv_has ls 7 [(0, .ref he), (1, .ref h0), (2, .ref hs), (3, .int (nI v)), (4, .int (nI i))] → W pg l ev (zk_R 2 0 0) s mm args below meth cd H locs 0 0 Q (F0 mm 3 ls []) := by
  have hx := C.1.1
  have hb := C.1.2.1
  have hml := C.1.2.2.1
  have hown := C.1.2.2.2.1
  have hts := C.1.2.2.2.2
  intro r
  induction r with
  | zero =>
    intro i M H locs ls hik hM hfin Z hl
    have hfin : M = fin := hfin
    refine lv_iload hx hb dX5_solve_3 (lv_at hl 4 rfl) ?_
    refine lv_iload_n hx hb dX5_solve_5 rfl (lv_at hl 3 rfl) ?_
    refine nr_ge (tgt := 49) hx hb (by omega) (by omega) dX5_solve_6 (by decide) (fun c_1 => ?_) (fun c_1 => absurd c_1 (by omega))
    exact kk M H locs ls hM hfin Z (lv_sub hl [0, 1, 2, 3] rfl)
  | succ r ih =>
    intro i M H locs ls hik hM hfin Z hl
    refine lv_iload hx hb dX5_solve_3 (lv_at hl 4 rfl) ?_
    refine lv_iload_n hx hb dX5_solve_5 rfl (lv_at hl 3 rfl) ?_
    refine nr_ge (tgt := 49) hx hb (by omega) (by omega) dX5_solve_6 (by decide) (fun c_1 => absurd c_1 (by omega)) (fun c_1 => ?_)
    refine lv_iconst (v := nI 0) hx hb dX5_solve_9 (by decide) ?_
    refine lv_istore (lv' := [(5, .int (nI 0)), (0, .ref he), (1, .ref h0), (2, .ref hs), (3, .int (nI v)), (4, .int (nI i))]) hx hb dX5_solve_10 hl (by decide) rfl (fun ls hl => ?_)
    refine lp5_f1 C he hr hs v h0 hp hq p n P L S F bS hv1 hv3 r0 r1 r2 i (by omega) _ (fun M1 H locs ls hM1 e1 Z hl => ?_) (v + 1) 0 M H locs ls (by omega) hM rfl Z (lv_sub hl [1, 2, 3, 4, 5, 0] rfl)
    refine nr_iinc (n := 1) (lv' := [(4, .int (nI (i + 1))), (0, .ref he), (1, .ref h0), (2, .ref hs), (3, .int (nI v))]) hx hb (by decide) dX5_solve_43 hl (k := 4) rfl (by decide) rfl (fun ls hl => ?_)
    refine lv_goto (tgt := 3) hx hb dX5_solve_46 (by decide) ?_
    exact ih (i + 1) M1 H locs ls (by omega) hM1 (by rw [e1]; exact hfin) Z (lv_sub hl [1, 2, 3, 4, 0] rfl)

set_option maxHeartbeats 4000000 in
theorem lp5_pv {pg : Program} {l : Launch} {ev : Env} {s : State} {mm : MethodId} {args : Array Value} {below : List Frame} {meth : Method} {cd : Code} {Q : State → Prop} {D : va_G} {g : G4} {A : Nat → Prop} (C : zk_C pg s mm cd args cX5_solve 7 RX5 D g A) (he hr hs v : Nat) (h0 hp hq p n : Nat) (P L : List Nat) (S : List Nat) (F : zk_F p n P L) (bS : zk_bs n v S) (hv1 : 1 ≤ v) (hv3 : v ≤ 3) (r0 r1 r2 : Nat) (k fin : Nat) (M : List (List Nat)) (hkv : k < v) (bM : zk_bm n v M) (kk : ∀ (q : Nat) (H : Heap) (locs : List Loc) (ls : Array Slot), q = fin → zk_Z D A s H locs [(he, .inr (4, [.ref hr])), (hr, .inl (g.2.2.1, 3, .inr (.inr (.inr (.inr (zk_ra ([r0, r1, r2]))))))), (r0, .inl (g.1, 4, .inl (zk_ia (M.getD 0 [])))), (r1, .inl (g.1, 4, .inl (zk_ia (M.getD 1 [])))), (r2, .inl (g.1, 4, .inl (zk_ia (M.getD 2 [])))), (h0, .inr (2, [.int (nI n), .ref hp, .ref hq])), (hp, .inl (g.1, 62, .inl (zk_ia P))), (hq, .inl (g.1, 32, .inl (zk_ia L))), (hs, .inl (g.1, 7, .inl (zk_ia S)))] → lv_has ls 7 [(0, .ref he), (1, .ref h0), (2, .ref hs), (3, .int (nI v)), (4, .int (nI k)), (5, .int (nI q))] → W pg l ev (zk_R 2 0 0) s mm args below meth cd H locs 0 0 Q (F0 mm 87 ls [])) :
    ∀ (r : Nat) (q : Nat) (H : Heap) (locs : List Loc) (ls : Array Slot), (q + r = v) → (epv M k r q = fin) → zk_Z D A s H locs [(he, .inr (4, [.ref hr])), (hr, .inl (g.2.2.1, 3, .inr (.inr (.inr (.inr (zk_ra ([r0, r1, r2]))))))), (r0, .inl (g.1, 4, .inl (zk_ia (M.getD 0 [])))), (r1, .inl (g.1, 4, .inl (zk_ia (M.getD 1 [])))), (r2, .inl (g.1, 4, .inl (zk_ia (M.getD 2 [])))), (h0, .inr (2, [.int (nI n), .ref hp, .ref hq])), (hp, .inl (g.1, 62, .inl (zk_ia P))), (hq, .inl (g.1, 32, .inl (zk_ia L))), (hs, .inl (g.1, 7, .inl (zk_ia S)))] → lv_has ls 7 [(0, .ref he), (1, .ref h0), (2, .ref hs), (3, .int (nI v)), (4, .int (nI k)), (5, .int (nI q))] → W pg l ev (zk_R 2 0 0) s mm args below meth cd H locs 0 0 Q (F0 mm 62 ls []) := by
  have hx := C.1.1
  have hb := C.1.2.1
  have hml := C.1.2.2.1
  have hown := C.1.2.2.2.1
  have hts := C.1.2.2.2.2
  have hn := F.n31
  intro r
  induction r with
  | zero =>
    intro q H locs ls hik hfin Z hl
    have hfin : q = fin := hfin
    refine lv_iload hx hb dX5_solve_62 (lv_at hl 5 rfl) ?_
    refine lv_iload_n hx hb dX5_solve_64 rfl (lv_at hl 3 rfl) ?_
    refine nr_ge (tgt := 87) hx hb (by omega) (by omega) dX5_solve_65 (by decide) (fun c_1 => ?_) (fun c_1 => absurd c_1 (by omega))
    exact kk q H locs ls hfin Z (lv_sub hl [0, 1, 2, 3, 4, 5] rfl)
  | succ r ih =>
    intro q H locs ls hik hfin Z hl
    refine lv_iload hx hb dX5_solve_62 (lv_at hl 5 rfl) ?_
    refine lv_iload_n hx hb dX5_solve_64 rfl (lv_at hl 3 rfl) ?_
    refine nr_ge (tgt := 87) hx hb (by omega) (by omega) dX5_solve_65 (by decide) (fun c_1 => absurd c_1 (by omega)) (fun c_1 => ?_)
    refine lv_aload_n hx hb dX5_solve_68 rfl (lv_at hl 0 rfl) ?_
    refine zk_get C Z in_X5 0 rfl rfl 0 (by decide) q125 rfl (v := .ref hr) rfl dX5_solve_69 ?_
    refine lv_iload hx hb dX5_solve_72 (lv_at hl 5 rfl) ?_
    refine zk_aald (v := [r0, r1, r2].getD q 0) C Z 1 rfl (by decide) (by omega) (zk_g3 (by omega)) dX5_solve_74 ?_
    refine lv_iload hx hb dX5_solve_75 (lv_at hl 4 rfl) ?_
    refine zk_iald C Z (2 + q) (zk_rd3 (by omega)) (by decide) (by omega) dX5_solve_77 ?_
    refine W.eq (g2 := F0 mm 78 ls [.int (nI (mg M q k))]) rfl ?_
    refine nr_ne0 (tgt := 87) hx hb (by have := bM q k (by omega) (by omega); omega) dX5_solve_78 (by decide) (fun c_1 => ?_) (fun c_1 => ?_)
    · rw [epv_s1 c_1] at hfin
      exact kk q H locs ls hfin Z (lv_sub hl [0, 1, 2, 3, 4, 5] rfl)
    · refine nr_iinc (n := 1) (lv' := [(5, .int (nI (q + 1))), (0, .ref he), (1, .ref h0), (2, .ref hs), (3, .int (nI v)), (4, .int (nI k))]) hx hb (by decide) dX5_solve_81 hl (k := 5) rfl (by decide) rfl (fun ls hl => ?_)
      refine lv_goto (tgt := 62) hx hb dX5_solve_84 (by decide) ?_
      exact ih (q + 1) H locs ls (by omega) (by rw [epv_s0 c_1] at hfin; exact hfin) Z (lv_sub hl [1, 2, 3, 4, 5, 0] rfl)

set_option maxHeartbeats 4000000 in
theorem lp5_k {pg : Program} {l : Launch} {ev : Env} {s : State} {mm : MethodId} {args : Array Value} {below : List Frame} {meth : Method} {cd : Code} {Q : State → Prop} {D : va_G} {g : G4} {A : Nat → Prop} (C : zk_C pg s mm cd args cX5_solve 7 RX5 D g A) (he hr hs v : Nat) (h0 hp hq p n : Nat) (P L : List Nat) (S : List Nat) (F : zk_F p n P L) (bS : zk_bs n v S) (hv1 : 1 ≤ v) (hv3 : v ≤ 3) (fin : Bool × List (List Nat)) (kk : ∀ (r0 r1 r2 : Nat) (M : List (List Nat)) (H : Heap) (locs : List Loc) (ls : Array Slot), (true, M) = fin → zk_Z D A s H locs [(he, .inr (4, [.ref hr])), (hr, .inl (g.2.2.1, 3, .inr (.inr (.inr (.inr (zk_ra ([r0, r1, r2]))))))), (r0, .inl (g.1, 4, .inl (zk_ia (M.getD 0 [])))), (r1, .inl (g.1, 4, .inl (zk_ia (M.getD 1 [])))), (r2, .inl (g.1, 4, .inl (zk_ia (M.getD 2 [])))), (h0, .inr (2, [.int (nI n), .ref hp, .ref hq])), (hp, .inl (g.1, 62, .inl (zk_ia P))), (hq, .inl (g.1, 32, .inl (zk_ia L))), (hs, .inl (g.1, 7, .inl (zk_ia S)))] → lv_has ls 7 [(0, .ref he)] → W pg l ev (zk_R 2 0 0) s mm args below meth cd H locs 0 0 Q (F0 mm 141 ls [])) (k2 : ∀ (r0 r1 r2 : Nat) (M : List (List Nat)) (H : Heap) (locs : List Loc) (ls : Array Slot), (false, M) = fin → zk_Z D A s H locs [(he, .inr (4, [.ref hr])), (hr, .inl (g.2.2.1, 3, .inr (.inr (.inr (.inr (zk_ra ([r0, r1, r2]))))))), (r0, .inl (g.1, 4, .inl (zk_ia (M.getD 0 [])))), (r1, .inl (g.1, 4, .inl (zk_ia (M.getD 1 [])))), (r2, .inl (g.1, 4, .inl (zk_ia (M.getD 2 [])))), (h0, .inr (2, [.int (nI n), .ref hp, .ref hq])), (hp, .inl (g.1, 62, .inl (zk_ia P))), (hq, .inl (g.1, 32, .inl (zk_ia L))), (hs, .inl (g.1, 7, .inl (zk_ia S)))] → lv_has ls 7 [(0, .ref he)] → W pg l ev (zk_R 2 0 0) s mm args below meth cd H locs 0 0 Q (F0 mm 93 ls [])) :
    ∀ (r : Nat) (k : Nat) (r0 r1 r2 : Nat) (M : List (List Nat)) (H : Heap) (locs : List Loc) (ls : Array Slot), (k + r = v) → (zk_ml M) → (zk_bm n v M) → (esl p v r k M = fin) → zk_Z D A s H locs [(he, .inr (4, [.ref hr])), (hr, .inl (g.2.2.1, 3, .inr (.inr (.inr (.inr (zk_ra ([r0, r1, r2]))))))), (r0, .inl (g.1, 4, .inl (zk_ia (M.getD 0 [])))), (r1, .inl (g.1, 4, .inl (zk_ia (M.getD 1 [])))), (r2, .inl (g.1, 4, .inl (zk_ia (M.getD 2 [])))), (h0, .inr (2, [.int (nI n), .ref hp, .ref hq])), (hp, .inl (g.1, 62, .inl (zk_ia P))), (hq, .inl (g.1, 32, .inl (zk_ia L))), (hs, .inl (g.1, 7, .inl (zk_ia S)))] → lv_has ls 7 [(0, .ref he), (1, .ref h0), (2, .ref hs), (3, .int (nI v)), (4, .int (nI k))] → W pg l ev (zk_R 2 0 0) s mm args below meth cd H locs 0 0 Q (F0 mm 52 ls []) := by
  have hx := C.1.1
  have hb := C.1.2.1
  have hml := C.1.2.2.1
  have hown := C.1.2.2.2.1
  have hts := C.1.2.2.2.2
  have hn := F.n31
  intro r
  induction r with
  | zero =>
    intro k r0 r1 r2 M H locs ls hik hM bM hfin Z hl
    refine lv_iload hx hb dX5_solve_52 (lv_at hl 4 rfl) ?_
    refine lv_iload_n hx hb dX5_solve_54 rfl (lv_at hl 3 rfl) ?_
    refine nr_ge (tgt := 141) hx hb (by omega) (by omega) dX5_solve_55 (by decide) (fun c_1 => ?_) (fun c_1 => absurd c_1 (by omega))
    exact kk r0 r1 r2 M H locs ls hfin Z (lv_sub hl [0] rfl)
  | succ r ih =>
    intro k r0 r1 r2 M H locs ls hik hM bM hfin Z hl
    refine lv_iload hx hb dX5_solve_52 (lv_at hl 4 rfl) ?_
    refine lv_iload_n hx hb dX5_solve_54 rfl (lv_at hl 3 rfl) ?_
    refine nr_ge (tgt := 141) hx hb (by omega) (by omega) dX5_solve_55 (by decide) (fun c_1 => absurd c_1 (by omega)) (fun c_1 => ?_)
    refine lv_iload hx hb dX5_solve_58 (lv_at hl 4 rfl) ?_
    refine lv_istore (lv' := [(5, .int (nI k)), (0, .ref he), (1, .ref h0), (2, .ref hs), (3, .int (nI v)), (4, .int (nI k))]) hx hb dX5_solve_60 hl (by decide) rfl (fun ls hl => ?_)
    refine lp5_pv C he hr hs v h0 hp hq p n P L S F bS hv1 hv3 r0 r1 r2 k _ M (by omega) bM (fun q H locs ls e1 Z hl => ?_) (v - k) k H locs ls (by omega) rfl Z (lv_sub hl [1, 2, 3, 4, 5, 0] rfl)
    obtain ⟨ha1, ha2, ha3⟩ := epv_le (M := M) (k := k) (v - k) k
    rw [← e1] at ha1 ha2 ha3
    refine lv_iload hx hb dX5_solve_87 (lv_at hl 5 rfl) ?_
    refine lv_iload_n hx hb dX5_solve_89 rfl (lv_at hl 3 rfl) ?_
    refine nr_ne (tgt := 95) hx hb (by omega) (by omega) dX5_solve_90 (by decide) (fun c_1 => ?_) (fun c_1 => ?_)
    · refine lv_aload_n hx hb dX5_solve_95 rfl (lv_at hl 0 rfl) ?_
      refine zk_get C Z in_X5 0 rfl rfl 0 (by decide) q125 rfl (v := .ref hr) rfl dX5_solve_96 ?_
      refine lv_iload hx hb dX5_solve_99 (lv_at hl 4 rfl) ?_
      refine zk_aald (v := [r0, r1, r2].getD k 0) C Z 1 rfl (by decide) (by omega) (zk_g3 (by omega)) dX5_solve_101 ?_
      refine lv_astore (lv' := [(6, .ref ([r0, r1, r2].getD k 0)), (0, .ref he), (1, .ref h0), (2, .ref hs), (3, .int (nI v)), (4, .int (nI k)), (5, .int (nI q))]) hx hb dX5_solve_102 hl (by decide) rfl (fun ls hl => ?_)
      refine lv_aload_n hx hb dX5_solve_104 rfl (lv_at hl 1 rfl) ?_
      refine zk_get C Z in_X5 0 rfl rfl 0 (by decide) q125 rfl (v := .ref hr) rfl dX5_solve_105 ?_
      refine lv_iload hx hb dX5_solve_108 (lv_at hl 5 rfl) ?_
      refine lv_aload_n hx hb dX5_solve_110 rfl (lv_at hl 1 rfl) ?_
      refine zk_get C Z in_X5 0 rfl rfl 0 (by decide) q125 rfl (v := .ref hr) rfl dX5_solve_111 ?_
      refine lv_iload hx hb dX5_solve_114 (lv_at hl 6 rfl) ?_
      refine zk_aald (v := [r0, r1, r2].getD q 0) C Z 1 rfl (by decide) (by omega) (zk_g3 (by omega)) dX5_solve_116 ?_
      refine zk_aast C Z 1 (2 + q) rfl (zk_rd3 (by omega)) (by decide) (by omega) rfl dX5_solve_117 (fun H locs Z => ?_)
      have Z : zk_Z D A s H locs [(he, .inr (4, [.ref hr])), (hr, .inl (g.2.2.1, 3, .inr (.inr (.inr (.inr (zk_ra ([r0, r1, r2].set k ([r0, r1, r2].getD q 0)))))))), (r0, .inl (g.1, 4, .inl (zk_ia (M.getD 0 [])))), (r1, .inl (g.1, 4, .inl (zk_ia (M.getD 1 [])))), (r2, .inl (g.1, 4, .inl (zk_ia (M.getD 2 [])))), (h0, .inr (2, [.int (nI n), .ref hp, .ref hq])), (hp, .inl (g.1, 62, .inl (zk_ia P))), (hq, .inl (g.1, 32, .inl (zk_ia L))), (hs, .inl (g.1, 7, .inl (zk_ia S)))] := Z
      refine lv_aload_n hx hb dX5_solve_118 rfl (lv_at hl 1 rfl) ?_
      refine zk_get C Z in_X5 0 rfl rfl 0 (by decide) q125 rfl (v := .ref hr) rfl dX5_solve_119 ?_
      refine lv_iload hx hb dX5_solve_122 (lv_at hl 6 rfl) ?_
      refine lv_aload hx hb dX5_solve_124 (lv_at hl 0 rfl) ?_
      refine zk_aast C Z 1 (2 + k) rfl (zk_rd3 (by omega)) (by decide) (by omega) (by rw [List.length_set]; rfl) dX5_solve_126 (fun H locs Z => ?_)
      have Z : zk_Z D A s H locs [(he, .inr (4, [.ref hr])), (hr, .inl (g.2.2.1, 3, .inr (.inr (.inr (.inr (zk_ra (([r0, r1, r2].set k ([r0, r1, r2].getD q 0)).set q ([r0, r1, r2].getD k 0)))))))), (r0, .inl (g.1, 4, .inl (zk_ia (M.getD 0 [])))), (r1, .inl (g.1, 4, .inl (zk_ia (M.getD 1 [])))), (r2, .inl (g.1, 4, .inl (zk_ia (M.getD 2 [])))), (h0, .inr (2, [.int (nI n), .ref hp, .ref hq])), (hp, .inl (g.1, 62, .inl (zk_ia P))), (hq, .inl (g.1, 32, .inl (zk_ia L))), (hs, .inl (g.1, 7, .inl (zk_ia S)))] := Z
      obtain ⟨s0, s1, s2, Z⟩ := zk_swZ (k := k) (q := q) hM.1 (by omega) (by omega) Z
      refine lv_aload_n hx hb dX5_solve_127 rfl (lv_at hl 1 rfl) ?_
      refine lv_aload_n hx hb dX5_solve_128 rfl (lv_at hl 2 rfl) ?_
      refine lv_iload hx hb dX5_solve_129 (lv_at hl 5 rfl) ?_
      refine lv_iload_n hx hb dX5_solve_131 rfl (lv_at hl 4 rfl) ?_
      have hMs := zk_ml_sw (k := k) (q := q) hM (by omega) (by omega)
      have bMs := zk_bm_sw (k := k) (q := q) hM hv3 (by omega) (by omega) bM
      have hkk : mg (zk_sw M k q) k k ≠ 0 := by
        rw [mg_sw hM (by omega) (by omega)]
        split
        · next e => rw [← e] at ha3; exact ha3 (by omega)
        · rw [if_pos rfl]; exact ha3 (by omega)
      refine zk_callV (cells' := 0) (slots' := 0) (rest := []) (n := 3) (wr := [(hs, .inl (g.1, 7, .inl (zk_ia S)))]) C Z (m5_clear l D g he hr s0 s1 s2 k v h0 hp hq p n P L F (by omega) hv3 (zk_sw M k q) hMs bMs hkk) [0, 1, 2, 3, 4, 5, 6, 7] [8] rfl rfl (by decide) (by decide) (by decide) 0 4 rfl rfl rfl q544 q546 qs7 q23 q547 (by decide +kernel) rfl (Nat.le_of_ble_eq_true rfl) (Nat.le_of_ble_eq_true rfl) (Nat.le_of_ble_eq_true rfl) (Nat.le_of_ble_eq_true rfl) rfl rfl hl.1 rfl (Nat.le_of_ble_eq_true rfl) dX5_solve_132 (fun v w1 H locs hq Z => ?_)
      obtain ⟨rfl, rfl⟩ := hq
      have Z : zk_Z D A s H locs [(he, .inr (4, [.ref hr])), (hr, .inl (g.2.2.1, 3, .inr (.inr (.inr (.inr (zk_ra ([s0, s1, s2]))))))), (s0, .inl (g.1, 4, .inl (zk_ia ((eqclear p k v (zk_sw M k q)).getD 0 [])))), (s1, .inl (g.1, 4, .inl (zk_ia ((eqclear p k v (zk_sw M k q)).getD 1 [])))), (s2, .inl (g.1, 4, .inl (zk_ia ((eqclear p k v (zk_sw M k q)).getD 2 [])))), (h0, .inr (2, [.int (nI n), .ref hp, .ref hq])), (hp, .inl (g.1, 62, .inl (zk_ia P))), (hq, .inl (g.1, 32, .inl (zk_ia L))), (hs, .inl (g.1, 7, .inl (zk_ia S)))] := Z.sub [1, 2, 3, 4, 5, 6, 7, 8, 0] (by decide) rfl
      refine W.eq (g2 := F0 mm 135 ls []) rfl ?_
      refine nr_iinc (n := 1) (lv' := [(4, .int (nI (k + 1))), (6, .ref ([r0, r1, r2].getD k 0)), (0, .ref he), (1, .ref h0), (2, .ref hs), (3, .int (nI v)), (5, .int (nI q))]) hx hb (by decide) dX5_solve_135 hl (k := 5) rfl (by decide) rfl (fun ls hl => ?_)
      refine lv_goto (tgt := 52) hx hb dX5_solve_138 (by decide) ?_
      have hok := eqclear_ok (v := v) F (by omega) hkk ⟨hMs, bMs⟩
      exact ih (k + 1) s0 s1 s2 _ H locs ls (by omega) hok.1 hok.2 (by rw [esl_s1 (by rw [← e1]; exact c_1), ← e1] at hfin; exact hfin) Z (lv_sub hl [2, 3, 4, 5, 0] rfl)
    · exact k2 r0 r1 r2 M H locs ls (by rw [esl_s0 (by rw [← e1]; exact c_1)] at hfin; exact hfin) Z (lv_sub hl [0] rfl)

set_option maxHeartbeats 4000000 in
/-- Equations.solve -/
theorem m5_solve (l : Launch) (D : va_G) (g : G4) (he hr hs v : Nat) (h0 hp hq p n : Nat) (P L : List Nat) (S : List Nat) (F : zk_F p n P L) (bS : zk_bs n v S) (hv1 : 1 ≤ v) (hv3 : v ≤ 3) (r0 r1 r2 : Nat) (M : List (List Nat)) (hM : zk_ml M) : zk_M l yX5_solve (ws_ yX5_solve cX5_solve 7 (some .boolean)) (zk_R 2 0 0) D g [.ref he, .ref h0, .ref hs, .int (nI v)] [(he, .inr (4, [.ref hr])), (hr, .inl (g.2.2.1, 3, .inr (.inr (.inr (.inr (zk_ra ([r0, r1, r2]))))))), (r0, .inl (g.1, 4, .inl (zk_ia (M.getD 0 [])))), (r1, .inl (g.1, 4, .inl (zk_ia (M.getD 1 [])))), (r2, .inl (g.1, 4, .inl (zk_ia (M.getD 2 [])))), (h0, .inr (2, [.int (nI n), .ref hp, .ref hq])), (hp, .inl (g.1, 62, .inl (zk_ia P))), (hq, .inl (g.1, 32, .inl (zk_ia L))), (hs, .inl (g.1, 7, .inl (zk_ia S)))] (fun v1 w => v1 = some (.int (nI (zk_bn (eqsolve p v S M).1))) ∧ ∃ s0 s1 s2 : Nat, w = [(he, .inr (4, [.ref hr])), (hr, .inl (g.2.2.1, 3, .inr (.inr (.inr (.inr (zk_ra ([s0, s1, s2]))))))), (s0, .inl (g.1, 4, .inl (zk_ia (((eqsolve p v S M).2).getD 0 [])))), (s1, .inl (g.1, 4, .inl (zk_ia (((eqsolve p v S M).2).getD 1 [])))), (s2, .inl (g.1, 4, .inl (zk_ia (((eqsolve p v S M).2).getD 2 [])))), (h0, .inr (2, [.int (nI n), .ref hp, .ref hq])), (hp, .inl (g.1, 62, .inl (zk_ia P))), (hq, .inl (g.1, 32, .inl (zk_ia L))), (hs, .inl (g.1, 7, .inl (zk_ia S)))]) := by
  refine zk_ofW (by decide) (Nat.le_of_ble_eq_true rfl) ?_
  intro pg ev s mm below meth cd A C hr9 hlocks hname Z ls hl
  have hx := C.1.1
  have hb := C.1.2.1
  have hml := C.1.2.2.1
  have hown := C.1.2.2.2.1
  have hts := C.1.2.2.2.2
  have hl : lv_has ls 7 [(0, .ref he), (1, .ref h0), (2, .ref hs), (3, .int (nI v))] := hl
  have hn := F.n31
  obtain ⟨H, hH⟩ : ∃ H, H = s.heap := ⟨_, rfl⟩
  obtain ⟨locs, hlocs⟩ : ∃ q : List Loc, q = [] := ⟨_, rfl⟩
  rw [← hH, ← hlocs] at Z ⊢
  refine lv_iconst (v := nI 0) hx hb dX5_solve_0 (by decide) ?_
  refine lv_istore (lv' := [(4, .int (nI 0)), (0, .ref he), (1, .ref h0), (2, .ref hs), (3, .int (nI v))]) hx hb dX5_solve_1 hl (by decide) rfl (fun ls hl => ?_)
  refine lp5_f2 C he hr hs v h0 hp hq p n P L S F bS hv1 hv3 r0 r1 r2 _ (fun M1 H locs ls hM1 e1 Z hl => ?_) v 0 M H locs ls (by omega) hM rfl Z (lv_sub hl [1, 2, 3, 4, 0] rfl)
  have bM1 : zk_bm n v M1 := by rw [e1]; exact (eqfill_ok bS hv3 hM).2
  refine lv_iconst (v := nI 0) hx hb dX5_solve_49 (by decide) ?_
  refine lv_istore (lv' := [(4, .int (nI 0)), (0, .ref he), (1, .ref h0), (2, .ref hs), (3, .int (nI v))]) hx hb dX5_solve_50 hl (by decide) rfl (fun ls hl => ?_)
  refine lp5_k C he hr hs v h0 hp hq p n P L S F bS hv1 hv3 _ (fun s0 s1 s2 M2 H locs ls e2 Z hl => ?_) (fun s0 s1 s2 M2 H locs ls e2 Z hl => ?_) v 0 r0 r1 r2 M1 H locs ls (by omega) hM1 bM1 rfl Z (lv_sub hl [1, 2, 3, 4, 0] rfl)
  · refine lv_iconst (v := nI 1) hx hb dX5_solve_141 (by decide) ?_
    have e3 : eqsolve p v S M = (true, M2) := by rw [e2, e1]; rfl
    exact zk_zret C hr9 hlocks Z rfl ⟨by rw [e3]; rfl, s0, s1, s2, by rw [e3]⟩ (Nat.le_of_ble_eq_true rfl) (Nat.le_of_ble_eq_true rfl) dX5_solve_142
  · refine lv_iconst (v := nI 0) hx hb dX5_solve_93 (by decide) ?_
    have e3 : eqsolve p v S M = (false, M2) := by rw [e2, e1]; rfl
    exact zk_zret C hr9 hlocks Z rfl ⟨by rw [e3]; rfl, s0, s1, s2, by rw [e3]⟩ (Nat.le_of_ble_eq_true rfl) (Nat.le_of_ble_eq_true rfl) dX5_solve_94

theorem zk_bn_lt (b : Bool) : zk_bn b < 2 ^ 32 := by cases b <;> decide
set_option maxHeartbeats 4000000 in
theorem lp5_v {pg : Program} {l : Launch} {ev : Env} {s : State} {mm : MethodId} {args : Array Value} {below : List Frame} {meth : Method} {cd : Code} {Q : State → Prop} {D : va_G} {g : G4} {A : Nat → Prop} (C : zk_C pg s mm cd args cX5_find 7 RX5 D g A) (he hr hs hw hwc t : Nat) (h0 hp hq p n : Nat) (P L : List Nat) (S : List Nat) (F : zk_F p n P L) (bS : zk_bs n t S) (t3 : t ≤ 3) (c : List Nat) (fin : Nat × List (List Nat)) (kk : ∀ (r0 r1 r2 : Nat) (v : Nat) (M : List (List Nat)) (H : Heap) (locs : List Loc) (ls : Array Slot), (v, M) = fin → v ≤ 3 → zk_ml M → zk_Z D A s H locs [(he, .inr (4, [.ref hr])), (hr, .inl (g.2.2.1, 3, .inr (.inr (.inr (.inr (zk_ra ([r0, r1, r2]))))))), (r0, .inl (g.1, 4, .inl (zk_ia (M.getD 0 [])))), (r1, .inl (g.1, 4, .inl (zk_ia (M.getD 1 [])))), (r2, .inl (g.1, 4, .inl (zk_ia (M.getD 2 [])))), (h0, .inr (2, [.int (nI n), .ref hp, .ref hq])), (hp, .inl (g.1, 62, .inl (zk_ia P))), (hq, .inl (g.1, 32, .inl (zk_ia L))), (hs, .inl (g.1, 7, .inl (zk_ia S))), (hw, .inr (3, [.ref hwc])), (hwc, .inl (g.1, 8, .inl (zk_ia c)))] → lv_has ls 7 [(0, .ref he), (1, .ref h0), (2, .ref hs), (3, .int (nI t)), (4, .ref hw), (5, .int (nI v))] → W pg l ev (zk_R 3 0 0) s mm args below meth cd H locs 0 0 Q (F0 mm 25 ls [])) :
    ∀ (v : Nat) (r0 r1 r2 : Nat) (M : List (List Nat)) (H : Heap) (locs : List Loc) (ls : Array Slot), (v ≤ t) → (zk_ml M) → (eqv p S v M = fin) → zk_Z D A s H locs [(he, .inr (4, [.ref hr])), (hr, .inl (g.2.2.1, 3, .inr (.inr (.inr (.inr (zk_ra ([r0, r1, r2]))))))), (r0, .inl (g.1, 4, .inl (zk_ia (M.getD 0 [])))), (r1, .inl (g.1, 4, .inl (zk_ia (M.getD 1 [])))), (r2, .inl (g.1, 4, .inl (zk_ia (M.getD 2 [])))), (h0, .inr (2, [.int (nI n), .ref hp, .ref hq])), (hp, .inl (g.1, 62, .inl (zk_ia P))), (hq, .inl (g.1, 32, .inl (zk_ia L))), (hs, .inl (g.1, 7, .inl (zk_ia S))), (hw, .inr (3, [.ref hwc])), (hwc, .inl (g.1, 8, .inl (zk_ia c)))] → lv_has ls 7 [(0, .ref he), (1, .ref h0), (2, .ref hs), (3, .int (nI t)), (4, .ref hw), (5, .int (nI v))] → W pg l ev (zk_R 3 0 0) s mm args below meth cd H locs 0 0 Q (F0 mm 3 ls []) := by
  have hx := C.1.1
  have hb := C.1.2.1
  have hml := C.1.2.2.1
  have hown := C.1.2.2.2.1
  have hts := C.1.2.2.2.2
  have hn := F.n31
  intro v
  induction v with
  | zero =>
    intro r0 r1 r2 M H locs ls hv hM hfin Z hl
    refine lv_iload hx hb dX5_find_3 (lv_at hl 5 rfl) ?_
    refine nr_le0 (tgt := 25) hx hb (by omega) dX5_find_5 (by decide) (fun c_1 => ?_) (fun c_1 => absurd c_1 (by omega))
    exact kk r0 r1 r2 0 M H locs ls hfin (by omega) hM Z (lv_sub hl [0, 1, 2, 3, 4, 5] rfl)
  | succ v ih =>
    intro r0 r1 r2 M H locs ls hv hM hfin Z hl
    refine lv_iload hx hb dX5_find_3 (lv_at hl 5 rfl) ?_
    refine nr_le0 (tgt := 25) hx hb (by omega) dX5_find_5 (by decide) (fun c_1 => absurd c_1 (by omega)) (fun c_1 => ?_)
    refine lv_aload_n hx hb dX5_find_8 rfl (lv_at hl 0 rfl) ?_
    refine lv_aload_n hx hb dX5_find_9 rfl (lv_at hl 1 rfl) ?_
    refine lv_aload_n hx hb dX5_find_10 rfl (lv_at hl 2 rfl) ?_
    refine lv_iload hx hb dX5_find_11 (lv_at hl 5 rfl) ?_
    refine zk_callV (cells' := 0) (slots' := 0) (rest := []) (n := 3) (wr := [(hw, .inr (3, [.ref hwc])), (hwc, .inl (g.1, 8, .inl (zk_ia c)))]) C Z (m5_solve l D g he hr hs (v + 1) h0 hp hq p n P L S F (zk_bs_mono bS (by omega)) (by omega) (by omega) r0 r1 r2 M hM) [0, 1, 2, 3, 4, 5, 6, 7, 8] [9, 10] rfl rfl (by decide) (by decide) (by decide) 0 4 rfl rfl rfl q540 q542 qs6 q23 q543 (by decide +kernel) rfl (Nat.le_of_ble_eq_true rfl) (Nat.le_of_ble_eq_true rfl) (Nat.le_of_ble_eq_true rfl) (Nat.le_of_ble_eq_true rfl) rfl rfl hl.1 rfl (Nat.le_of_ble_eq_true rfl) dX5_find_13 (fun v1 w1 H locs hq9 Z => ?_)
    obtain ⟨rfl, s0, s1, s2, rfl⟩ := hq9
    have Z : zk_Z D A s H locs [(he, .inr (4, [.ref hr])), (hr, .inl (g.2.2.1, 3, .inr (.inr (.inr (.inr (zk_ra ([s0, s1, s2]))))))), (s0, .inl (g.1, 4, .inl (zk_ia (((eqsolve p (v + 1) S M).2).getD 0 [])))), (s1, .inl (g.1, 4, .inl (zk_ia (((eqsolve p (v + 1) S M).2).getD 1 [])))), (s2, .inl (g.1, 4, .inl (zk_ia (((eqsolve p (v + 1) S M).2).getD 2 [])))), (h0, .inr (2, [.int (nI n), .ref hp, .ref hq])), (hp, .inl (g.1, 62, .inl (zk_ia P))), (hq, .inl (g.1, 32, .inl (zk_ia L))), (hs, .inl (g.1, 7, .inl (zk_ia S))), (hw, .inr (3, [.ref hwc])), (hwc, .inl (g.1, 8, .inl (zk_ia c)))] := Z.sub [2, 3, 4, 5, 6, 7, 8, 9, 10, 0, 1] (by decide) rfl
    refine W.eq (g2 := F0 mm 16 ls [.int (nI (zk_bn (eqsolve p (v + 1) S M).1))]) rfl ?_
    have hok := eqsolve_ok F (zk_bs_mono bS (by omega)) (v := v + 1) (by omega) hM
    refine nr_ne0 (tgt := 25) hx hb (zk_bn_lt _) dX5_find_16 (by decide) (fun c_1 => ?_) (fun c_1 => ?_)
    · have hb9 : (eqsolve p (v + 1) S M).1 = true := by
        cases hz : (eqsolve p (v + 1) S M).1 with
        | true => rfl
        | false => rw [hz] at c_1; exact absurd rfl c_1
      rw [eqv_s1 hb9] at hfin
      exact kk s0 s1 s2 (v + 1) _ H locs ls hfin (by omega) hok.1 Z (lv_sub hl [0, 1, 2, 3, 4, 5] rfl)
    · have hb9 : ¬ (eqsolve p (v + 1) S M).1 = true := fun z => by rw [z] at c_1; exact absurd c_1 (by decide)
      rw [eqv_s0 hb9] at hfin
      refine nr_idec (lv' := [(5, .int (nI v)), (0, .ref he), (1, .ref h0), (2, .ref hs), (3, .int (nI t)), (4, .ref hw)]) hx hb dX5_find_19 hl (k := 5) rfl (by decide) rfl (fun ls hl => ?_)
      refine lv_goto (tgt := 3) hx hb dX5_find_22 (by decide) ?_
      exact ih s0 s1 s2 _ H locs ls (by omega) hok.1 hfin Z (lv_sub hl [1, 2, 3, 4, 5, 0] rfl)

set_option maxHeartbeats 4000000 in
theorem lp5_g {pg : Program} {l : Launch} {ev : Env} {s : State} {mm : MethodId} {args : Array Value} {below : List Frame} {meth : Method} {cd : Code} {Q : State → Prop} {D : va_G} {g : G4} {A : Nat → Prop} (C : zk_C pg s mm cd args cX5_find 7 RX5 D g A) (he hr hs hw hwc t : Nat) (h0 hp hq p n : Nat) (P L : List Nat) (S : List Nat) (F : zk_F p n P L) (bS : zk_bs n t S) (t3 : t ≤ 3) (r0 r1 r2 : Nat) (v : Nat) (M : List (List Nat)) (hv3 : v ≤ 3) (hM : zk_ml M) (fin : List Nat) (kk : ∀ (c : List Nat) (H : Heap) (locs : List Loc) (ls : Array Slot), c = fin → zk_Z D A s H locs [(he, .inr (4, [.ref hr])), (hr, .inl (g.2.2.1, 3, .inr (.inr (.inr (.inr (zk_ra ([r0, r1, r2]))))))), (r0, .inl (g.1, 4, .inl (zk_ia (M.getD 0 [])))), (r1, .inl (g.1, 4, .inl (zk_ia (M.getD 1 [])))), (r2, .inl (g.1, 4, .inl (zk_ia (M.getD 2 [])))), (h0, .inr (2, [.int (nI n), .ref hp, .ref hq])), (hp, .inl (g.1, 62, .inl (zk_ia P))), (hq, .inl (g.1, 32, .inl (zk_ia L))), (hs, .inl (g.1, 7, .inl (zk_ia S))), (hw, .inr (3, [.ref hwc])), (hwc, .inl (g.1, 8, .inl (zk_ia c)))] → lv_has ls 7 [(0, .ref he)] → W pg l ev (zk_R 3 0 0) s mm args below meth cd H locs 0 0 Q (F0 mm 76 ls [])) :
    ∀ (r : Nat) (i : Nat) (c : List Nat) (H : Heap) (locs : List Loc) (ls : Array Slot), (i + r = v) → (c.length = 8) → (zk_it (egF v M) r i c = fin) → zk_Z D A s H locs [(he, .inr (4, [.ref hr])), (hr, .inl (g.2.2.1, 3, .inr (.inr (.inr (.inr (zk_ra ([r0, r1, r2]))))))), (r0, .inl (g.1, 4, .inl (zk_ia (M.getD 0 [])))), (r1, .inl (g.1, 4, .inl (zk_ia (M.getD 1 [])))), (r2, .inl (g.1, 4, .inl (zk_ia (M.getD 2 [])))), (h0, .inr (2, [.int (nI n), .ref hp, .ref hq])), (hp, .inl (g.1, 62, .inl (zk_ia P))), (hq, .inl (g.1, 32, .inl (zk_ia L))), (hs, .inl (g.1, 7, .inl (zk_ia S))), (hw, .inr (3, [.ref hwc])), (hwc, .inl (g.1, 8, .inl (zk_ia c)))] → lv_has ls 7 [(0, .ref he), (1, .ref h0), (2, .ref hs), (3, .int (nI t)), (4, .ref hw), (5, .int (nI v)), (6, .int (nI i))] → W pg l ev (zk_R 3 0 0) s mm args below meth cd H locs 0 0 Q (F0 mm 42 ls []) := by
  have hx := C.1.1
  have hb := C.1.2.1
  have hml := C.1.2.2.1
  have hown := C.1.2.2.2.1
  have hts := C.1.2.2.2.2
  intro r
  induction r with
  | zero =>
    intro i c H locs ls hik hc hfin Z hl
    have hfin : c = fin := hfin
    refine lv_iload hx hb dX5_find_42 (lv_at hl 6 rfl) ?_
    refine lv_iload hx hb dX5_find_44 (lv_at hl 5 rfl) ?_
    refine nr_ge (tgt := 76) hx hb (by omega) (by omega) dX5_find_46 (by decide) (fun c_1 => ?_) (fun c_1 => absurd c_1 (by omega))
    exact kk c H locs ls hfin Z (lv_sub hl [0] rfl)
  | succ r ih =>
    intro i c H locs ls hik hc hfin Z hl
    refine lv_iload hx hb dX5_find_42 (lv_at hl 6 rfl) ?_
    refine lv_iload hx hb dX5_find_44 (lv_at hl 5 rfl) ?_
    refine nr_ge (tgt := 76) hx hb (by omega) (by omega) dX5_find_46 (by decide) (fun c_1 => absurd c_1 (by omega)) (fun c_1 => ?_)
    refine lv_aload hx hb dX5_find_49 (lv_at hl 4 rfl) ?_
    refine zk_getN C Z in_X4 9 rfl rfl 0 (by decide) q86 rfl (v := .ref hwc) rfl dX5_find_51 ?_
    refine lv_iload hx hb dX5_find_54 (lv_at hl 5 rfl) ?_
    refine lv_iload hx hb dX5_find_56 (lv_at hl 6 rfl) ?_
    refine nr_isub hx hb (by omega) dX5_find_58 ?_
    refine lv_aload_n hx hb dX5_find_59 rfl (lv_at hl 0 rfl) ?_
    refine zk_get C Z in_X5 0 rfl rfl 0 (by decide) q125 rfl (v := .ref hr) rfl dX5_find_60 ?_
    refine lv_iload hx hb dX5_find_63 (lv_at hl 6 rfl) ?_
    refine zk_aald (v := [r0, r1, r2].getD i 0) C Z 1 rfl (by decide) (by omega) (zk_g3 (by omega)) dX5_find_65 ?_
    refine lv_iload hx hb dX5_find_66 (lv_at hl 5 rfl) ?_
    refine zk_iald C Z (2 + i) (zk_rd3 (by omega)) (by decide) (by omega) dX5_find_68 ?_
    refine W.eq (g2 := F0 mm 69 ls [.int (nI (mg M i v)), .int (nI (v - i)), .ref hwc]) rfl ?_
    refine zk_iast C Z 10 rfl (by decide) (by omega) hc dX5_find_69 (fun H locs Z => ?_)
    have hlen_2 : (c.set (v - i) (mg M i v)).length = 8 := by rw [List.length_set]; exact hc
    have Z : zk_Z D A s H locs [(he, .inr (4, [.ref hr])), (hr, .inl (g.2.2.1, 3, .inr (.inr (.inr (.inr (zk_ra ([r0, r1, r2]))))))), (r0, .inl (g.1, 4, .inl (zk_ia (M.getD 0 [])))), (r1, .inl (g.1, 4, .inl (zk_ia (M.getD 1 [])))), (r2, .inl (g.1, 4, .inl (zk_ia (M.getD 2 [])))), (h0, .inr (2, [.int (nI n), .ref hp, .ref hq])), (hp, .inl (g.1, 62, .inl (zk_ia P))), (hq, .inl (g.1, 32, .inl (zk_ia L))), (hs, .inl (g.1, 7, .inl (zk_ia S))), (hw, .inr (3, [.ref hwc])), (hwc, .inl (g.1, 8, .inl (zk_ia (c.set (v - i) (mg M i v)))))] := Z
    refine nr_iinc (n := 1) (lv' := [(6, .int (nI (i + 1))), (0, .ref he), (1, .ref h0), (2, .ref hs), (3, .int (nI t)), (4, .ref hw), (5, .int (nI v))]) hx hb (by decide) dX5_find_70 hl (k := 6) rfl (by decide) rfl (fun ls hl => ?_)
    refine lv_goto (tgt := 42) hx hb dX5_find_73 (by decide) ?_
    exact ih (i + 1) (c.set (v - i) (mg M i v)) H locs ls (by omega) hlen_2 hfin Z (lv_sub hl [1, 2, 3, 4, 5, 6, 0] rfl)

set_option maxHeartbeats 4000000 in
/-- Equations.find -/
theorem m5_find (l : Launch) (D : va_G) (g : G4) (he hr hs hw hwc t : Nat) (h0 hp hq p n : Nat) (P L : List Nat) (S : List Nat) (F : zk_F p n P L) (bS : zk_bs n t S) (t3 : t ≤ 3) (r0 r1 r2 : Nat) (M : List (List Nat)) (c : List Nat) (hM : zk_ml M) (hc : c.length = 8) : zk_M l yX5_find (ws_ yX5_find cX5_find 7 none) (zk_R 3 0 0) D g [.ref he, .ref h0, .ref hs, .int (nI t), .ref hw] [(he, .inr (4, [.ref hr])), (hr, .inl (g.2.2.1, 3, .inr (.inr (.inr (.inr (zk_ra ([r0, r1, r2]))))))), (r0, .inl (g.1, 4, .inl (zk_ia (M.getD 0 [])))), (r1, .inl (g.1, 4, .inl (zk_ia (M.getD 1 [])))), (r2, .inl (g.1, 4, .inl (zk_ia (M.getD 2 [])))), (h0, .inr (2, [.int (nI n), .ref hp, .ref hq])), (hp, .inl (g.1, 62, .inl (zk_ia P))), (hq, .inl (g.1, 32, .inl (zk_ia L))), (hs, .inl (g.1, 7, .inl (zk_ia S))), (hw, .inr (3, [.ref hwc])), (hwc, .inl (g.1, 8, .inl (zk_ia c)))] (fun v1 w => v1 = none ∧ ∃ (s0 s1 s2 : Nat) (M1 : List (List Nat)), zk_ml M1 ∧ w = [(he, .inr (4, [.ref hr])), (hr, .inl (g.2.2.1, 3, .inr (.inr (.inr (.inr (zk_ra ([s0, s1, s2]))))))), (s0, .inl (g.1, 4, .inl (zk_ia (M1.getD 0 [])))), (s1, .inl (g.1, 4, .inl (zk_ia (M1.getD 1 [])))), (s2, .inl (g.1, 4, .inl (zk_ia (M1.getD 2 [])))), (h0, .inr (2, [.int (nI n), .ref hp, .ref hq])), (hp, .inl (g.1, 62, .inl (zk_ia P))), (hq, .inl (g.1, 32, .inl (zk_ia L))), (hs, .inl (g.1, 7, .inl (zk_ia S))), (hw, .inr (3, [.ref hwc])), (hwc, .inl (g.1, 8, .inl (zk_ia (equa p t S M))))]) := by
  refine zk_ofW (by decide) (Nat.le_of_ble_eq_true rfl) ?_
  intro pg ev s mm below meth cd A C hr9 hlocks hname Z ls hl
  have hx := C.1.1
  have hb := C.1.2.1
  have hml := C.1.2.2.1
  have hown := C.1.2.2.2.1
  have hts := C.1.2.2.2.2
  have hl : lv_has ls 7 [(0, .ref he), (1, .ref h0), (2, .ref hs), (3, .int (nI t)), (4, .ref hw)] := hl
  have hn := F.n31
  obtain ⟨H, hH⟩ : ∃ H, H = s.heap := ⟨_, rfl⟩
  obtain ⟨locs, hlocs⟩ : ∃ q : List Loc, q = [] := ⟨_, rfl⟩
  rw [← hH, ← hlocs] at Z ⊢
  refine lv_iload_n hx hb dX5_find_0 rfl (lv_at hl 3 rfl) ?_
  refine lv_istore (lv' := [(5, .int (nI t)), (0, .ref he), (1, .ref h0), (2, .ref hs), (3, .int (nI t)), (4, .ref hw)]) hx hb dX5_find_1 hl (by decide) rfl (fun ls hl => ?_)
  refine lp5_v C he hr hs hw hwc t h0 hp hq p n P L S F bS t3 c _ (fun s0 s1 s2 v1 M1 H locs ls e1 hv1 hM1 Z hl => ?_) t r0 r1 r2 M H locs ls (Nat.le_refl _) hM rfl Z (lv_sub hl [1, 2, 3, 4, 5, 0] rfl)
  refine lv_aload hx hb dX5_find_25 (lv_at hl 4 rfl) ?_
  refine zk_callV (cells' := 0) (slots' := 0) (rest := []) (n := 0) (wr := [(he, .inr (4, [.ref hr])), (hr, .inl (g.2.2.1, 3, .inr (.inr (.inr (.inr (zk_ra ([s0, s1, s2]))))))), (s0, .inl (g.1, 4, .inl (zk_ia (M1.getD 0 [])))), (s1, .inl (g.1, 4, .inl (zk_ia (M1.getD 1 [])))), (s2, .inl (g.1, 4, .inl (zk_ia (M1.getD 2 [])))), (h0, .inr (2, [.int (nI n), .ref hp, .ref hq])), (hp, .inl (g.1, 62, .inl (zk_ia P))), (hq, .inl (g.1, 32, .inl (zk_ia L))), (hs, .inl (g.1, 7, .inl (zk_ia S)))]) C Z (m4_clear l D g hw hwc c hc) [9, 10] [0, 1, 2, 3, 4, 5, 6, 7, 8] rfl rfl (by decide) (by decide) (by decide) 9 3 rfl rfl rfl q550 q316 q317 q22 q318 (by decide +kernel) rfl (Nat.le_of_ble_eq_true rfl) (Nat.le_of_ble_eq_true rfl) (Nat.le_of_ble_eq_true rfl) (Nat.le_of_ble_eq_true rfl) rfl rfl hl.1 rfl (Nat.le_of_ble_eq_true rfl) dX5_find_27 (fun v w1 H locs hq Z => ?_)
  obtain ⟨rfl, rfl⟩ := hq
  have Z : zk_Z D A s H locs [(he, .inr (4, [.ref hr])), (hr, .inl (g.2.2.1, 3, .inr (.inr (.inr (.inr (zk_ra ([s0, s1, s2]))))))), (s0, .inl (g.1, 4, .inl (zk_ia (M1.getD 0 [])))), (s1, .inl (g.1, 4, .inl (zk_ia (M1.getD 1 [])))), (s2, .inl (g.1, 4, .inl (zk_ia (M1.getD 2 [])))), (h0, .inr (2, [.int (nI n), .ref hp, .ref hq])), (hp, .inl (g.1, 62, .inl (zk_ia P))), (hq, .inl (g.1, 32, .inl (zk_ia L))), (hs, .inl (g.1, 7, .inl (zk_ia S))), (hw, .inr (3, [.ref hwc])), (hwc, .inl (g.1, 8, .inl (zk_ia ([0, 0, 0, 0, 0, 0, 0, 0]))))] := Z.sub [0, 1, 2, 3, 4, 5, 6, 7, 8, 9, 10] (by decide) rfl
  refine W.eq (g2 := F0 mm 30 ls [.ref hw]) rfl ?_
  refine lv_pop hx hb dX5_find_30 rfl ?_
  refine lv_aload hx hb dX5_find_31 (lv_at hl 4 rfl) ?_
  refine zk_getN C Z in_X4 9 rfl rfl 0 (by decide) q86 rfl (v := .ref hwc) rfl dX5_find_33 ?_
  refine lv_iconst (v := nI 0) hx hb dX5_find_36 (by decide) ?_
  refine lv_iconst (v := nI 1) hx hb dX5_find_37 (by decide) ?_
  refine zk_iast C Z 10 rfl (by decide) (by omega) (show ([0, 0, 0, 0, 0, 0, 0, 0] : List Nat).length = 8 from rfl) dX5_find_38 (fun H locs Z => ?_)
  have hlen_1 : (([0, 0, 0, 0, 0, 0, 0, 0]).set 0 1).length = 8 := by rw [List.length_set]; exact (show ([0, 0, 0, 0, 0, 0, 0, 0] : List Nat).length = 8 from rfl)
  have hbd_2 : zk_bd n (([0, 0, 0, 0, 0, 0, 0, 0]).set 0 1) := zk_bd_set zk_bd_z8 (by omega)
  have Z : zk_Z D A s H locs [(he, .inr (4, [.ref hr])), (hr, .inl (g.2.2.1, 3, .inr (.inr (.inr (.inr (zk_ra ([s0, s1, s2]))))))), (s0, .inl (g.1, 4, .inl (zk_ia (M1.getD 0 [])))), (s1, .inl (g.1, 4, .inl (zk_ia (M1.getD 1 [])))), (s2, .inl (g.1, 4, .inl (zk_ia (M1.getD 2 [])))), (h0, .inr (2, [.int (nI n), .ref hp, .ref hq])), (hp, .inl (g.1, 62, .inl (zk_ia P))), (hq, .inl (g.1, 32, .inl (zk_ia L))), (hs, .inl (g.1, 7, .inl (zk_ia S))), (hw, .inr (3, [.ref hwc])), (hwc, .inl (g.1, 8, .inl (zk_ia (([0, 0, 0, 0, 0, 0, 0, 0]).set 0 1))))] := Z
  refine lv_iconst (v := nI 0) hx hb dX5_find_39 (by decide) ?_
  refine lv_istore (lv' := [(6, .int (nI 0)), (0, .ref he), (1, .ref h0), (2, .ref hs), (3, .int (nI t)), (4, .ref hw), (5, .int (nI v1))]) hx hb dX5_find_40 hl (by decide) rfl (fun ls hl => ?_)
  refine lp5_g C he hr hs hw hwc t h0 hp hq p n P L S F bS t3 s0 s1 s2 v1 M1 hv1 hM1 _ (fun c2 H locs ls e2 Z hl => ?_) v1 0 _ H locs ls (by omega) hlen_1 rfl Z (lv_sub hl [1, 2, 3, 4, 5, 6, 0] rfl)
  exact zk_vret C hr9 hlocks Z ⟨rfl, s0, s1, s2, M1, hM1, by rw [e2]; unfold equa; rw [← e1]⟩ (Nat.le_of_ble_eq_true rfl) (Nat.le_of_ble_eq_true rfl) dX5_find_76

