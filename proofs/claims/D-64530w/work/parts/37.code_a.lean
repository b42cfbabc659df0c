/-! ===== Code: product, isRight, encode ===== -/
set_option maxRecDepth 100000
set_option maxHeartbeats 4000000 in
theorem lp2_prd {pg : Program} {l : Launch} {ev : Env} {s : State} {mm : MethodId} {args : Array Value} {below : List Frame} {meth : Method} {cd : Code} {Q : State → Prop} {D : va_G} {g : G4} {A : Nat → Prop} (C : zk_C pg s mm cd args cX2_product 5 RX2 D g A) (a b fin : Nat) (ha31 : a < 2 ^ 31) (hb31 : b < 2 ^ 31) (kk : ∀ (H : Heap) (locs : List Loc) (ls : Array Slot), zk_Z D A s H locs [] → lv_has ls 5 [(2, .long (nL fin))] → W pg l ev (zk_R 0 0 0) s mm args below meth cd H locs 0 0 Q (F0 mm 39 ls [])) :
    ∀ (k : Nat) (i sm : Nat) (H : Heap) (locs : List Loc) (ls : Array Slot), (i + k = 32) → (zk_it (prF a b) k i sm = fin) → zk_Z D A s H locs [] → lv_has ls 5 [(0, .int (nI a)), (1, .int (nI b)), (2, .long (nL sm)), (4, .int (nI i))] → W pg l ev (zk_R 0 0 0) s mm args below meth cd H locs 0 0 Q (F0 mm 5 ls []) := by
  have hx := C.1.1
  have hb := C.1.2.1
  have hml := C.1.2.2.1
  have hown := C.1.2.2.2.1
  have hts := C.1.2.2.2.2
  intro k
  induction k with
  | zero =>
    intro i sm H locs ls hik hfin Z hl
    have hfin : sm = fin := hfin
    subst hfin
    refine lv_iload hx hb dX2_product_5 (lv_at hl 3 rfl) ?_
    refine lv_bipush (v := nI 31) hx hb dX2_product_7 (by decide) ?_
    refine nr_gt (tgt := 39) hx hb (by omega) (by omega) dX2_product_9 (by decide) (fun c_1 => ?_) (fun c_1 => absurd c_1 (by omega))
    exact kk  H locs ls  Z (lv_sub hl [2] rfl)
  | succ k ih =>
    intro i sm H locs ls hik hfin Z hl
    refine lv_iload hx hb dX2_product_5 (lv_at hl 3 rfl) ?_
    refine lv_bipush (v := nI 31) hx hb dX2_product_7 (by decide) ?_
    refine nr_gt (tgt := 39) hx hb (by omega) (by omega) dX2_product_9 (by decide) (fun c_1 => absurd c_1 (by omega)) (fun c_1 => ?_)
    refine lv_lload_n hx hb dX2_product_12 rfl (lv_at hl 2 rfl) ?_
    refine lv_iload_n hx hb dX2_product_13 rfl (lv_at hl 1 rfl) ?_
    refine lv_iload hx hb dX2_product_14 (lv_at hl 3 rfl) ?_
    refine nr_ishr hx hb hb31 (by omega) dX2_product_16 ?_
    refine lv_iconst (v := nI 1) hx hb dX2_product_17 (by decide) ?_
    refine nr_iand hx hb dX2_product_18 ?_
    refine nr_ne0 (tgt := 26) hx hb (zk_lt32 (zk_b1 _)) dX2_product_19 (by decide) (fun c_1 => ?_) (fun c_1 => ?_)
    · refine lv_iload_n hx hb dX2_product_26 rfl (lv_at hl 0 rfl) ?_
      refine nr_i2l hx hb ha31 dX2_product_27 ?_
      refine lv_iload hx hb dX2_product_28 (lv_at hl 3 rfl) ?_
      refine nr_lshl hx hb (by omega) dX2_product_30 ?_
      refine nr_lxor hx hb dX2_product_31 ?_
      refine lv_lstore_n (lv' := [(2, .long (nL (sm ^^^ (a <<< i)))), (0, .int (nI a)), (1, .int (nI b)), (4, .int (nI i))]) hx hb dX2_product_32 rfl hl (by decide) rfl (fun ls hl => ?_)
      refine nr_iinc (n := 1) (lv' := [(4, .int (nI (i + 1))), (2, .long (nL (sm ^^^ (a <<< i)))), (0, .int (nI a)), (1, .int (nI b))]) hx hb (by decide) dX2_product_33 hl (k := 3) rfl (by decide) rfl (fun ls hl => ?_)
      refine lv_goto (tgt := 5) hx hb dX2_product_36 (by decide) ?_
      exact ih (i + 1) (sm ^^^ (a <<< i)) H locs ls (by omega) ((congrArg (zk_it (prF a b) k (i + 1)) (prF_1 c_1)).trans hfin) Z (lv_sub hl [2, 3, 1, 0] rfl)
    · refine lv_lconst (v := nL 0) hx hb dX2_product_22 rfl ?_
      refine lv_goto (tgt := 31) hx hb dX2_product_23 (by decide) ?_
      refine nr_lxor hx hb dX2_product_31 ?_
      refine lv_lstore_n (lv' := [(2, .long (nL (sm ^^^ 0))), (0, .int (nI a)), (1, .int (nI b)), (4, .int (nI i))]) hx hb dX2_product_32 rfl hl (by decide) rfl (fun ls hl => ?_)
      refine nr_iinc (n := 1) (lv' := [(4, .int (nI (i + 1))), (2, .long (nL (sm ^^^ 0))), (0, .int (nI a)), (1, .int (nI b))]) hx hb (by decide) dX2_product_33 hl (k := 3) rfl (by decide) rfl (fun ls hl => ?_)
      refine lv_goto (tgt := 5) hx hb dX2_product_36 (by decide) ?_
      exact ih (i + 1) (sm ^^^ 0) H locs ls (by omega) ((congrArg (zk_it (prF a b) k (i + 1)) (prF_0 c_1)).trans hfin) Z (lv_sub hl [2, 3, 1, 0] rfl)

set_option maxHeartbeats 4000000 in
/-- Code.product -/
theorem m2_prd (l : Launch) (D : va_G) (g : G4) (a b : Nat) (ha31 : a < 2 ^ 31) (hb31 : b < 2 ^ 31) : zk_M l yX2_product (ws_ yX2_product cX2_product 5 (some .int)) (zk_R 0 0 0) D g [.int (nI a), .int (nI b)] [] (zk_D (some (.int (nI (prd a b)))) []) := by
  refine zk_ofW (by decide) (Nat.le_of_ble_eq_true rfl) ?_
  intro pg ev s mm below meth cd A C hr hlocks hname Z ls hl
  have hx := C.1.1
  have hb := C.1.2.1
  have hml := C.1.2.2.1
  have hown := C.1.2.2.2.1
  have hts := C.1.2.2.2.2
  have hl : lv_has ls 5 [(0, .int (nI a)), (1, .int (nI b))] := hl
  obtain ⟨H, hH⟩ : ∃ H, H = s.heap := ⟨_, rfl⟩
  obtain ⟨locs, hlocs⟩ : ∃ q : List Loc, q = [] := ⟨_, rfl⟩
  rw [← hH, ← hlocs] at Z ⊢
  refine lv_lconst (v := nL 0) hx hb dX2_product_0 rfl ?_
  refine lv_lstore_n (lv' := [(2, .long (nL 0)), (0, .int (nI a)), (1, .int (nI b))]) hx hb dX2_product_1 rfl hl (by decide) rfl (fun ls hl => ?_)
  refine lv_iconst (v := nI 0) hx hb dX2_product_2 (by decide) ?_
  refine lv_istore (lv' := [(4, .int (nI 0)), (2, .long (nL 0)), (0, .int (nI a)), (1, .int (nI b))]) hx hb dX2_product_3 hl (by decide) rfl (fun ls hl => ?_)
  refine lp2_prd C a b _ ha31 hb31 (fun H locs ls Z hl => ?_) 32 0 0 H locs ls rfl rfl Z (lv_sub hl [2, 3, 1, 0] rfl)
  refine lv_lload_n hx hb dX2_product_39 rfl (lv_at hl 0 rfl) ?_
  refine nr_l2i hx hb dX2_product_40 ?_
  exact zk_iret C hr hlocks Z ⟨rfl, rfl⟩ (Nat.le_of_ble_eq_true rfl) (Nat.le_of_ble_eq_true rfl) dX2_product_41

set_option maxHeartbeats 4000000 in
theorem lp2_rt {pg : Program} {l : Launch} {ev : Env} {s : State} {mm : MethodId} {args : Array Value} {below : List Frame} {meth : Method} {cd : Code} {Q : State → Prop} {D : va_G} {g : G4} {A : Nat → Prop} (C : zk_C pg s mm cd args cX2_isRight 4 RX2 D g A) (hc hs pl t gn kd : Nat) (h0 hp hq p n : Nat) (P L : List Nat) (wd : Nat) (F : zk_F p n P L) (hwd : wd < 2 ^ 31) (t3 : t ≤ 3) (fS : List Nat) (fr : Nat) (kk : ∀ (H : Heap) (locs : List Loc) (ls : Array Slot), fr < 2 → zk_Z D A s H locs [(hc, .inr (1, [.ref h0, .int (nI t), .int (nI gn), .int (nI kd), .ref hs, .ref pl])), (h0, .inr (2, [.int (nI n), .ref hp, .ref hq])), (hp, .inl (g.1, 62, .inl (zk_ia P))), (hq, .inl (g.1, 32, .inl (zk_ia L))), (hs, .inl (g.1, 7, .inl (zk_ia fS)))] → lv_has ls 4 [(0, .ref hc), (2, .int (nI fr))] → W pg l ev (zk_R 1 0 0) s mm args below meth cd H locs 0 0 Q (F0 mm 52 ls [])) :
    ∀ (k : Nat) (j : Nat) (S : List Nat) (r : Nat) (H : Heap) (locs : List Loc) (ls : Array Slot), (1 ≤ j) → (j + k = 2 * t + 1) → (r < 2) → (S.length = 7) → (zk_it (syF p n wd) k j S = fS) → (zk_it (rtF p n wd) k j r = fr) → zk_Z D A s H locs [(hc, .inr (1, [.ref h0, .int (nI t), .int (nI gn), .int (nI kd), .ref hs, .ref pl])), (h0, .inr (2, [.int (nI n), .ref hp, .ref hq])), (hp, .inl (g.1, 62, .inl (zk_ia P))), (hq, .inl (g.1, 32, .inl (zk_ia L))), (hs, .inl (g.1, 7, .inl (zk_ia S)))] → lv_has ls 4 [(0, .ref hc), (1, .int (nI wd)), (2, .int (nI r)), (3, .int (nI j))] → W pg l ev (zk_R 1 0 0) s mm args below meth cd H locs 0 0 Q (F0 mm 4 ls []) := by
  have hx := C.1.1
  have hb := C.1.2.1
  have hml := C.1.2.2.1
  have hown := C.1.2.2.2.1
  have hts := C.1.2.2.2.2
  have hn := F.n31
  intro k
  induction k with
  | zero =>
    intro j S r H locs ls hj1 hik hr2 hS hf1 hf2 Z hl
    have hf1 : S = fS := hf1
    have hf2 : r = fr := hf2
    subst hf1
    subst hf2
    refine lv_iload_n hx hb dX2_isRight_4 rfl (lv_at hl 3 rfl) ?_
    refine lv_iconst (v := nI 2) hx hb dX2_isRight_5 (by decide) ?_
    refine lv_aload_n hx hb dX2_isRight_6 rfl (lv_at hl 0 rfl) ?_
    refine zk_get C Z in_X2 0 rfl rfl 1 (by decide) q93 rfl (v := .int (nI t)) rfl dX2_isRight_7 ?_
    refine nr_imul hx hb dX2_isRight_10 ?_
    refine nr_gt (tgt := 52) hx hb (by omega) (by omega) dX2_isRight_11 (by decide) (fun c_1 => ?_) (fun c_1 => absurd c_1 (by omega))
    exact kk H locs ls hr2 Z (lv_sub hl [0, 2] rfl)
  | succ k ih =>
    intro j S r H locs ls hj1 hik hr2 hS hf1 hf2 Z hl
    refine lv_iload_n hx hb dX2_isRight_4 rfl (lv_at hl 3 rfl) ?_
    refine lv_iconst (v := nI 2) hx hb dX2_isRight_5 (by decide) ?_
    refine lv_aload_n hx hb dX2_isRight_6 rfl (lv_at hl 0 rfl) ?_
    refine zk_get C Z in_X2 0 rfl rfl 1 (by decide) q93 rfl (v := .int (nI t)) rfl dX2_isRight_7 ?_
    refine nr_imul hx hb dX2_isRight_10 ?_
    refine nr_gt (tgt := 52) hx hb (by omega) (by omega) dX2_isRight_11 (by decide) (fun c_1 => absurd c_1 (by omega)) (fun c_1 => ?_)
    refine lv_aload_n hx hb dX2_isRight_14 rfl (lv_at hl 0 rfl) ?_
    refine zk_get C Z in_X2 0 rfl rfl 4 (by decide) q99 rfl (v := .ref hs) rfl dX2_isRight_15 ?_
    refine lv_iload_n hx hb dX2_isRight_18 rfl (lv_at hl 3 rfl) ?_
    refine lv_aload_n hx hb dX2_isRight_19 rfl (lv_at hl 0 rfl) ?_
    refine zk_get C Z in_X2 0 rfl rfl 0 (by decide) q91 rfl (v := .ref h0) rfl dX2_isRight_20 ?_
    refine lv_iload_n hx hb dX2_isRight_23 rfl (lv_at hl 1 rfl) ?_
    refine lv_iload_n hx hb dX2_isRight_24 rfl (lv_at hl 3 rfl) ?_
    refine zk_callV (cells' := 0) (slots' := 0) (rest := [.int (nI j), .ref hs]) (n := 2) (wr := [(hc, .inr (1, [.ref h0, .int (nI t), .int (nI gn), .int (nI kd), .ref hs, .ref pl])), (hs, .inl (g.1, 7, .inl (zk_ia S)))]) C Z (m3_at l D g h0 hp hq p n P L wd j F hwd (by omega)) [1, 2, 3] [0, 4] rfl rfl (by decide) (by decide) (by decide) 1 2 rfl rfl rfl q307 q308 q309 q21 q310 (by decide +kernel) rfl (Nat.le_of_ble_eq_true rfl) (Nat.le_of_ble_eq_true rfl) (Nat.le_of_ble_eq_true rfl) (Nat.le_of_ble_eq_true rfl) rfl rfl hl.1 rfl (Nat.le_of_ble_eq_true rfl) dX2_isRight_25 (fun v w1 H locs hq Z => ?_)
    obtain ⟨rfl, rfl⟩ := hq
    have Z : zk_Z D A s H locs [(hc, .inr (1, [.ref h0, .int (nI t), .int (nI gn), .int (nI kd), .ref hs, .ref pl])), (h0, .inr (2, [.int (nI n), .ref hp, .ref hq])), (hp, .inl (g.1, 62, .inl (zk_ia P))), (hq, .inl (g.1, 32, .inl (zk_ia L))), (hs, .inl (g.1, 7, .inl (zk_ia S)))] := Z.sub [0, 2, 3, 4, 1] (by decide) rfl
    refine W.eq (g2 := F0 mm 28 ls [.int (nI (atv p n wd j)), .int (nI j), .ref hs]) rfl ?_
    refine zk_iast C Z 4 rfl (by decide) (by omega) hS dX2_isRight_28 (fun H locs Z => ?_)
    have hlen_2 : (S.set j (atv p n wd j)).length = 7 := by rw [List.length_set]; exact hS
    have Z : zk_Z D A s H locs [(hc, .inr (1, [.ref h0, .int (nI t), .int (nI gn), .int (nI kd), .ref hs, .ref pl])), (h0, .inr (2, [.int (nI n), .ref hp, .ref hq])), (hp, .inl (g.1, 62, .inl (zk_ia P))), (hq, .inl (g.1, 32, .inl (zk_ia L))), (hs, .inl (g.1, 7, .inl (zk_ia (S.set j (atv p n wd j)))))] := Z
    refine lv_iload_n hx hb dX2_isRight_29 rfl (lv_at hl 2 rfl) ?_
    refine lv_aload_n hx hb dX2_isRight_30 rfl (lv_at hl 0 rfl) ?_
    refine zk_get C Z in_X2 0 rfl rfl 4 (by decide) q99 rfl (v := .ref hs) rfl dX2_isRight_31 ?_
    refine lv_iload_n hx hb dX2_isRight_34 rfl (lv_at hl 3 rfl) ?_
    refine zk_iald C Z 4 rfl (by decide) (by omega) dX2_isRight_35 ?_
    rw [show (S.set j (atv p n wd j)).getD j 0 = atv p n wd j from zk_sg (by omega)]
    refine nr_ne0 (tgt := 43) hx hb (by have := atF_le F (wd := wd) (x := j) n 0 0 (Nat.zero_le n); have h9 : atv p n wd j ≤ n := this; omega) dX2_isRight_36 (by decide) (fun c_1 => ?_) (fun c_1 => ?_)
    · refine lv_iconst (v := nI 0) hx hb dX2_isRight_43 (by decide) ?_
      refine nr_iand hx hb dX2_isRight_44 ?_
      refine lv_istore_n (lv' := [(2, .int (nI (r &&& 0))), (0, .ref hc), (1, .int (nI wd)), (3, .int (nI j))]) hx hb dX2_isRight_45 rfl hl (by decide) rfl (fun ls hl => ?_)
      refine nr_iinc (n := 1) (lv' := [(3, .int (nI (j + 1))), (2, .int (nI (r &&& 0))), (0, .ref hc), (1, .int (nI wd))]) hx hb (by decide) dX2_isRight_46 hl (k := 3) rfl (by decide) rfl (fun ls hl => ?_)
      refine lv_goto (tgt := 4) hx hb dX2_isRight_49 (by decide) ?_
      exact ih (j + 1) (S.set j (atv p n wd j)) (r &&& 0) H locs ls (by omega) (by omega) (by rw [rtF_0 c_1]; exact rtF_lt hr2) hlen_2 hf1 ((congrArg (zk_it (rtF p n wd) k (j + 1)) (rtF_0 c_1)).trans hf2) Z (lv_sub hl [2, 3, 1, 0] rfl)
    · refine lv_iconst (v := nI 1) hx hb dX2_isRight_39 (by decide) ?_
      refine lv_goto (tgt := 44) hx hb dX2_isRight_40 (by decide) ?_
      refine nr_iand hx hb dX2_isRight_44 ?_
      refine lv_istore_n (lv' := [(2, .int (nI (r &&& 1))), (0, .ref hc), (1, .int (nI wd)), (3, .int (nI j))]) hx hb dX2_isRight_45 rfl hl (by decide) rfl (fun ls hl => ?_)
      refine nr_iinc (n := 1) (lv' := [(3, .int (nI (j + 1))), (2, .int (nI (r &&& 1))), (0, .ref hc), (1, .int (nI wd))]) hx hb (by decide) dX2_isRight_46 hl (k := 3) rfl (by decide) rfl (fun ls hl => ?_)
      refine lv_goto (tgt := 4) hx hb dX2_isRight_49 (by decide) ?_
      exact ih (j + 1) (S.set j (atv p n wd j)) (r &&& 1) H locs ls (by omega) (by omega) (by rw [rtF_1 c_1]; exact rtF_lt hr2) hlen_2 hf1 ((congrArg (zk_it (rtF p n wd) k (j + 1)) (rtF_1 c_1)).trans hf2) Z (lv_sub hl [2, 3, 1, 0] rfl)

set_option maxHeartbeats 4000000 in
/-- Code.isRight -/
theorem m2_right (l : Launch) (D : va_G) (g : G4) (hc hs pl t gn kd : Nat) (h0 hp hq p n : Nat) (P L : List Nat) (wd : Nat) (F : zk_F p n P L) (hwd : wd < 2 ^ 31) (t3 : t ≤ 3) (S : List Nat) (hS : S.length = 7) : zk_M l yX2_isRight (ws_ yX2_isRight cX2_isRight 4 (some .boolean)) (zk_R 1 0 0) D g [.ref hc, .int (nI wd)] [(hc, .inr (1, [.ref h0, .int (nI t), .int (nI gn), .int (nI kd), .ref hs, .ref pl])), (h0, .inr (2, [.int (nI n), .ref hp, .ref hq])), (hp, .inl (g.1, 62, .inl (zk_ia P))), (hq, .inl (g.1, 32, .inl (zk_ia L))), (hs, .inl (g.1, 7, .inl (zk_ia S)))] (zk_D (some (.int (nI (rgt p n t wd)))) [(hc, .inr (1, [.ref h0, .int (nI t), .int (nI gn), .int (nI kd), .ref hs, .ref pl])), (h0, .inr (2, [.int (nI n), .ref hp, .ref hq])), (hp, .inl (g.1, 62, .inl (zk_ia P))), (hq, .inl (g.1, 32, .inl (zk_ia L))), (hs, .inl (g.1, 7, .inl (zk_ia (syn p n t wd S))))]) := by
  refine zk_ofW (by decide) (Nat.le_of_ble_eq_true rfl) ?_
  intro pg ev s mm below meth cd A C hr hlocks hname Z ls hl
  have hx := C.1.1
  have hb := C.1.2.1
  have hml := C.1.2.2.1
  have hown := C.1.2.2.2.1
  have hts := C.1.2.2.2.2
  have hl : lv_has ls 4 [(0, .ref hc), (1, .int (nI wd))] := hl
  have hn := F.n31
  obtain ⟨H, hH⟩ : ∃ H, H = s.heap := ⟨_, rfl⟩
  obtain ⟨locs, hlocs⟩ : ∃ q : List Loc, q = [] := ⟨_, rfl⟩
  rw [← hH, ← hlocs] at Z ⊢
  refine lv_iconst (v := nI 1) hx hb dX2_isRight_0 (by decide) ?_
  refine lv_istore_n (lv' := [(2, .int (nI 1)), (0, .ref hc), (1, .int (nI wd))]) hx hb dX2_isRight_1 rfl hl (by decide) rfl (fun ls hl => ?_)
  refine lv_iconst (v := nI 1) hx hb dX2_isRight_2 (by decide) ?_
  refine lv_istore_n (lv' := [(3, .int (nI 1)), (2, .int (nI 1)), (0, .ref hc), (1, .int (nI wd))]) hx hb dX2_isRight_3 rfl hl (by decide) rfl (fun ls hl => ?_)
  refine lp2_rt C hc hs pl t gn kd h0 hp hq p n P L wd F hwd t3 _ _ (fun H locs ls hr2 Z hl => ?_) (2 * t) 1 S 1 H locs ls (by omega) (by omega) (by decide) hS rfl rfl Z (lv_sub hl [2, 3, 1, 0] rfl)
  refine lv_iload_n hx hb dX2_isRight_52 rfl (lv_at hl 1 rfl) ?_
  exact zk_zret C hr hlocks Z (zk_nar hr2) ⟨rfl, rfl⟩ (Nat.le_of_ble_eq_true rfl) (Nat.le_of_ble_eq_true rfl) dX2_isRight_53

set_option maxHeartbeats 4000000 in
theorem lp2_enc {pg : Program} {l : Launch} {ev : Env} {s : State} {mm : MethodId} {args : Array Value} {below : List Frame} {meth : Method} {cd : Code} {Q : State → Prop} {D : va_G} {g : G4} {A : Nat → Prop} (C : zk_C pg s mm cd args cX2_encode 5 RX2 D g A) (hc hs pl t gn kd h0 hp hq n x : Nat) (n31 : n ≤ 31) (hkn : kd < n) (hg1 : gn < 2 ^ (n - kd + 1)) (hg2 : gn.testBit (n - kd) = true) (fin : Nat) (kk : ∀ (H : Heap) (locs : List Loc) (ls : Array Slot), zk_Z D A s H locs [(hc, .inr (1, [.ref h0, .int (nI t), .int (nI gn), .int (nI kd), .ref hs, .ref pl])), (h0, .inr (2, [.int (nI n), .ref hp, .ref hq]))] → lv_has ls 5 [(0, .ref hc), (1, .int (nI x)), (2, .int (nI (n - kd))), (3, .int (nI fin))] → W pg l ev (zk_R 0 0 0) s mm args below meth cd H locs 0 0 Q (F0 mm 65 ls [])) :
    ∀ (k : Nat) (r : Nat) (H : Heap) (locs : List Loc) (ls : Array Slot), (n - kd + k ≤ n) → (r < 2 ^ (n - kd + k)) → (enR gn (n - kd) k r = fin) → zk_Z D A s H locs [(hc, .inr (1, [.ref h0, .int (nI t), .int (nI gn), .int (nI kd), .ref hs, .ref pl])), (h0, .inr (2, [.int (nI n), .ref hp, .ref hq]))] → lv_has ls 5 [(0, .ref hc), (1, .int (nI x)), (2, .int (nI (n - kd))), (3, .int (nI r)), (4, .int (nI (n - kd + k) + (-1)))] → W pg l ev (zk_R 0 0 0) s mm args below meth cd H locs 0 0 Q (F0 mm 28 ls []) := by
  have hx := C.1.1
  have hb := C.1.2.1
  have hml := C.1.2.2.1
  have hown := C.1.2.2.2.1
  have hts := C.1.2.2.2.2
  intro k
  induction k with
  | zero =>
    intro r H locs ls hik hr hfin Z hl
    have hfin : r = fin := hfin
    subst hfin
    rw [zk_m1 (by omega)] at hl
    refine lv_iload hx hb dX2_encode_28 (lv_at hl 4 rfl) ?_
    refine lv_iload_n hx hb dX2_encode_30 rfl (lv_at hl 2 rfl) ?_
    refine nr_lt (tgt := 65) hx hb (by omega) (by omega) dX2_encode_31 (by decide) (fun c_1 => ?_) (fun c_1 => absurd c_1 (by omega))
    exact kk  H locs ls  Z (lv_sub hl [0, 1, 2, 3] rfl)
  | succ k ih =>
    intro r H locs ls hik hr hfin Z hl
    rw [show n - kd + (k + 1) = n - kd + k + 1 from rfl, pk_m1] at hl
    refine lv_iload hx hb dX2_encode_28 (lv_at hl 4 rfl) ?_
    refine lv_iload_n hx hb dX2_encode_30 rfl (lv_at hl 2 rfl) ?_
    refine nr_lt (tgt := 65) hx hb (by omega) (by omega) dX2_encode_31 (by decide) (fun c_1 => absurd c_1 (by omega)) (fun c_1 => ?_)
    refine lv_iload_n hx hb dX2_encode_34 rfl (lv_at hl 3 rfl) ?_
    refine lv_iload_n hx hb dX2_encode_35 rfl (lv_at hl 3 rfl) ?_
    refine lv_iload hx hb dX2_encode_36 (lv_at hl 4 rfl) ?_
    refine nr_ishr hx hb (Nat.lt_of_lt_of_le hr (Nat.pow_le_pow_right (by decide) (by omega))) (by omega) dX2_encode_38 ?_
    refine lv_iconst (v := nI 1) hx hb dX2_encode_39 (by decide) ?_
    refine nr_iand hx hb dX2_encode_40 ?_
    refine nr_ne0 (tgt := 48) hx hb (zk_lt32 (zk_b1 _)) dX2_encode_41 (by decide) (fun c_1 => ?_) (fun c_1 => ?_)
    · refine lv_aload_n hx hb dX2_encode_48 rfl (lv_at hl 0 rfl) ?_
      refine zk_get C Z in_X2 0 rfl rfl 2 (by decide) q95 rfl (v := .int (nI gn)) rfl dX2_encode_49 ?_
      refine lv_iload hx hb dX2_encode_52 (lv_at hl 4 rfl) ?_
      refine lv_iload_n hx hb dX2_encode_54 rfl (lv_at hl 2 rfl) ?_
      refine nr_isub hx hb (by omega) dX2_encode_55 ?_
      refine nr_ishl hx hb (by omega) dX2_encode_56 ?_
      refine nr_ixor hx hb dX2_encode_57 ?_
      refine lv_istore_n (lv' := [(3, .int (nI (r ^^^ (gn <<< ((n - kd + k) - (n - kd)))))), (0, .ref hc), (1, .int (nI x)), (2, .int (nI (n - kd))), (4, .int (nI (n - kd + k)))]) hx hb dX2_encode_58 rfl hl (by decide) rfl (fun ls hl => ?_)
      refine lv_iinc (v := nI (n - kd + k) + (-1)) (lv' := [(4, .int (nI (n - kd + k) + (-1))), (3, .int (nI (r ^^^ (gn <<< ((n - kd + k) - (n - kd)))))), (0, .ref hc), (1, .int (nI x)), (2, .int (nI (n - kd)))]) hx hb dX2_encode_59 hl (k := 4) rfl rfl (by decide) rfl (fun ls hl => ?_)
      refine lv_goto (tgt := 28) hx hb dX2_encode_62 (by decide) ?_
      exact ih (r ^^^ (gn <<< ((n - kd + k) - (n - kd)))) H locs ls (by omega) (by rw [enF_1 c_1]; exact enF_lt hr (by omega) hg1 hg2) (by rw [enF_1 c_1]; exact hfin) Z (lv_sub hl [2, 3, 4, 1, 0] rfl)
    · refine lv_iconst (v := nI 0) hx hb dX2_encode_44 (by decide) ?_
      refine lv_goto (tgt := 57) hx hb dX2_encode_45 (by decide) ?_
      refine nr_ixor hx hb dX2_encode_57 ?_
      refine lv_istore_n (lv' := [(3, .int (nI (r ^^^ 0))), (0, .ref hc), (1, .int (nI x)), (2, .int (nI (n - kd))), (4, .int (nI (n - kd + k)))]) hx hb dX2_encode_58 rfl hl (by decide) rfl (fun ls hl => ?_)
      refine lv_iinc (v := nI (n - kd + k) + (-1)) (lv' := [(4, .int (nI (n - kd + k) + (-1))), (3, .int (nI (r ^^^ 0))), (0, .ref hc), (1, .int (nI x)), (2, .int (nI (n - kd)))]) hx hb dX2_encode_59 hl (k := 4) rfl rfl (by decide) rfl (fun ls hl => ?_)
      refine lv_goto (tgt := 28) hx hb dX2_encode_62 (by decide) ?_
      exact ih (r ^^^ 0) H locs ls (by omega) (by rw [enF_0 c_1]; exact enF_lt hr (by omega) hg1 hg2) (by rw [enF_0 c_1]; exact hfin) Z (lv_sub hl [2, 3, 4, 1, 0] rfl)

set_option maxHeartbeats 4000000 in
/-- Code.encode -/
theorem m2_enc (l : Launch) (D : va_G) (g : G4) (hc hs pl t gn kd h0 hp hq n x : Nat) (n31 : n ≤ 31) (hkn : kd < n) (hg1 : gn < 2 ^ (n - kd + 1)) (hg2 : gn.testBit (n - kd) = true) (hx9 : x <<< (n - kd) < 2 ^ (n - kd + kd)) : zk_M l yX2_encode (ws_ yX2_encode cX2_encode 5 (some .int)) (zk_R 0 0 0) D g [.ref hc, .int (nI x)] [(hc, .inr (1, [.ref h0, .int (nI t), .int (nI gn), .int (nI kd), .ref hs, .ref pl])), (h0, .inr (2, [.int (nI n), .ref hp, .ref hq]))] (zk_D (some (.int (nI (enc gn (n - kd) n x)))) [(hc, .inr (1, [.ref h0, .int (nI t), .int (nI gn), .int (nI kd), .ref hs, .ref pl])), (h0, .inr (2, [.int (nI n), .ref hp, .ref hq]))]) := by
  refine zk_ofW (by decide) (Nat.le_of_ble_eq_true rfl) ?_
  intro pg ev s mm below meth cd A C hr hlocks hname Z ls hl
  have hx := C.1.1
  have hb := C.1.2.1
  have hml := C.1.2.2.1
  have hown := C.1.2.2.2.1
  have hts := C.1.2.2.2.2
  have hl : lv_has ls 5 [(0, .ref hc), (1, .int (nI x))] := hl
  obtain ⟨H, hH⟩ : ∃ H, H = s.heap := ⟨_, rfl⟩
  obtain ⟨locs, hlocs⟩ : ∃ q : List Loc, q = [] := ⟨_, rfl⟩
  rw [← hH, ← hlocs] at Z ⊢
  refine lv_aload_n hx hb dX2_encode_0 rfl (lv_at hl 0 rfl) ?_
  refine zk_get C Z in_X2 0 rfl rfl 0 (by decide) q91 rfl (v := .ref h0) rfl dX2_encode_1 ?_
  refine zk_getN C Z in_X3 1 rfl rfl 0 (by decide) q59 rfl (v := .int (nI n)) rfl dX2_encode_4 ?_
  refine lv_aload_n hx hb dX2_encode_7 rfl (lv_at hl 0 rfl) ?_
  refine zk_get C Z in_X2 0 rfl rfl 3 (by decide) q97 rfl (v := .int (nI kd)) rfl dX2_encode_8 ?_
  refine nr_isub hx hb (by omega) dX2_encode_11 ?_
  refine lv_istore_n (lv' := [(2, .int (nI (n - kd))), (0, .ref hc), (1, .int (nI x))]) hx hb dX2_encode_12 rfl hl (by decide) rfl (fun ls hl => ?_)
  refine lv_iload_n hx hb dX2_encode_13 rfl (lv_at hl 2 rfl) ?_
  refine lv_iload_n hx hb dX2_encode_14 rfl (lv_at hl 0 rfl) ?_
  refine nr_ishl hx hb (by omega) dX2_encode_15 ?_
  refine lv_istore_n (lv' := [(3, .int (nI (x <<< (n - kd)))), (2, .int (nI (n - kd))), (0, .ref hc), (1, .int (nI x))]) hx hb dX2_encode_16 rfl hl (by decide) rfl (fun ls hl => ?_)
  refine lv_aload_n hx hb dX2_encode_17 rfl (lv_at hl 2 rfl) ?_
  refine zk_get C Z in_X2 0 rfl rfl 0 (by decide) q91 rfl (v := .ref h0) rfl dX2_encode_18 ?_
  refine zk_getN C Z in_X3 1 rfl rfl 0 (by decide) q59 rfl (v := .int (nI n)) rfl dX2_encode_21 ?_
  refine lv_iconst (v := nI 1) hx hb dX2_encode_24 (by decide) ?_
  refine nr_isub hx hb (by omega) dX2_encode_25 ?_
  refine lv_istore (lv' := [(4, .int (nI (n - 1))), (3, .int (nI (x <<< (n - kd)))), (2, .int (nI (n - kd))), (0, .ref hc), (1, .int (nI x))]) hx hb dX2_encode_26 hl (by decide) rfl (fun ls hl => ?_)
  rw [show n - 1 = n - kd + kd - 1 by omega, ← zk_m1 (by omega)] at hl
  refine lp2_enc C hc hs pl t gn kd h0 hp hq n x n31 hkn hg1 hg2 _ (fun H locs ls Z hl => ?_) kd (x <<< (n - kd)) H locs ls (by omega) hx9 rfl Z (lv_sub hl [3, 4, 2, 1, 0] rfl)
  refine lv_iload_n hx hb dX2_encode_65 rfl (lv_at hl 1 rfl) ?_
  refine lv_iload_n hx hb dX2_encode_66 rfl (lv_at hl 2 rfl) ?_
  refine nr_ishl hx hb (by omega) dX2_encode_67 ?_
  refine lv_iload_n hx hb dX2_encode_68 rfl (lv_at hl 3 rfl) ?_
  refine nr_ior hx hb dX2_encode_69 ?_
  exact zk_iret C hr hlocks Z ⟨congrArg (fun x => some (Value.int (nI x))) (by unfold enc; rw [show n - (n - kd) = kd by omega]), rfl⟩ (Nat.le_of_ble_eq_true rfl) (Nat.le_of_ble_eq_true rfl) dX2_encode_70

