/-! ===== Poly ===== -/
set_option maxRecDepth 100000
set_option maxHeartbeats 4000000 in
theorem lp4_clear {pg : Program} {l : Launch} {ev : Env} {s : State} {mm : MethodId} {args : Array Value} {below : List Frame} {meth : Method} {cd : Code} {Q : State → Prop} {D : va_G} {g : G4} {A : Nat → Prop} (C : zk_C pg s mm cd args cX4_clear 2 RX4 D g A) (ha hb1 : Nat) (fin : List Nat) (kk : ∀ (H : Heap) (locs : List Loc) (ls : Array Slot), zk_Z D A s H locs [(ha, .inr (3, [.ref hb1])), (hb1, .inl (g.1, 8, .inl (zk_ia fin)))] → lv_has ls 2 [(0, .ref ha)] → W pg l ev (zk_R 0 0 0) s mm args below meth cd H locs 0 0 Q (F0 mm 24 ls [])) :
    ∀ (k : Nat) (i : Nat) (c : List Nat) (H : Heap) (locs : List Loc) (ls : Array Slot), (i + k = 8) → (c.length = 8) → (zk_it clF k i c = fin) → zk_Z D A s H locs [(ha, .inr (3, [.ref hb1])), (hb1, .inl (g.1, 8, .inl (zk_ia c)))] → lv_has ls 2 [(0, .ref ha), (1, .int (nI i))] → W pg l ev (zk_R 0 0 0) s mm args below meth cd H locs 0 0 Q (F0 mm 2 ls []) := by
  have hx := C.1.1
  have hb := C.1.2.1
  have hml := C.1.2.2.1
  have hown := C.1.2.2.2.1
  have hts := C.1.2.2.2.2
  intro k
  induction k with
  | zero =>
    intro i c H locs ls hik hc hfin Z hl
    have hfin : c = fin := hfin
    subst hfin
    refine lv_iload_n hx hb dX4_clear_2 rfl (lv_at hl 1 rfl) ?_
    refine lv_aload_n hx hb dX4_clear_3 rfl (lv_at hl 0 rfl) ?_
    refine zk_get C Z in_X4 0 rfl rfl 0 (by decide) q83 rfl (v := .ref hb1) rfl dX4_clear_4 ?_
    refine zk_alen C Z 1 rfl dX4_clear_7 ?_
    refine nr_ge (tgt := 24) hx hb (by omega) (by omega) dX4_clear_8 (by decide) (fun c_1 => ?_) (fun c_1 => absurd c_1 (by omega))
    exact kk  H locs ls  Z (lv_sub hl [0] rfl)
  | succ k ih =>
    intro i c H locs ls hik hc hfin Z hl
    refine lv_iload_n hx hb dX4_clear_2 rfl (lv_at hl 1 rfl) ?_
    refine lv_aload_n hx hb dX4_clear_3 rfl (lv_at hl 0 rfl) ?_
    refine zk_get C Z in_X4 0 rfl rfl 0 (by decide) q83 rfl (v := .ref hb1) rfl dX4_clear_4 ?_
    refine zk_alen C Z 1 rfl dX4_clear_7 ?_
    refine nr_ge (tgt := 24) hx hb (by omega) (by omega) dX4_clear_8 (by decide) (fun c_1 => absurd c_1 (by omega)) (fun c_1 => ?_)
    refine lv_aload_n hx hb dX4_clear_11 rfl (lv_at hl 0 rfl) ?_
    refine zk_get C Z in_X4 0 rfl rfl 0 (by decide) q83 rfl (v := .ref hb1) rfl dX4_clear_12 ?_
    refine lv_iload_n hx hb dX4_clear_15 rfl (lv_at hl 1 rfl) ?_
    refine lv_iconst (v := nI 0) hx hb dX4_clear_16 (by decide) ?_
    refine zk_iast C Z 1 rfl (by decide) (by omega) hc dX4_clear_17 (fun H locs Z => ?_)
    have hlen_2 : (c.set i 0).length = 8 := by rw [List.length_set]; exact hc
    have Z : zk_Z D A s H locs [(ha, .inr (3, [.ref hb1])), (hb1, .inl (g.1, 8, .inl (zk_ia (c.set i 0))))] := Z
    refine nr_iinc (n := 1) (lv' := [(1, .int (nI (i + 1))), (0, .ref ha)]) hx hb (by decide) dX4_clear_18 hl (k := 1) rfl (by decide) rfl (fun ls hl => ?_)
    refine lv_goto (tgt := 2) hx hb dX4_clear_21 (by decide) ?_
    exact ih (i + 1) (c.set i 0) H locs ls (by omega) hlen_2 hfin Z (lv_sub hl [1, 0] rfl)

set_option maxHeartbeats 4000000 in
/-- Poly.clear -/
theorem m4_clear (l : Launch) (D : va_G) (g : G4) (ha hb1 : Nat) (c : List Nat) (hc : c.length = 8) : zk_M l yX4_clear (ws_ yX4_clear cX4_clear 2 (some (.object "NoisyCodes$Poly"))) (zk_R 0 0 0) D g [.ref ha] [(ha, .inr (3, [.ref hb1])), (hb1, .inl (g.1, 8, .inl (zk_ia c)))] (zk_D (some (.ref ha)) [(ha, .inr (3, [.ref hb1])), (hb1, .inl (g.1, 8, .inl (zk_ia ([0, 0, 0, 0, 0, 0, 0, 0]))))]) := by
  refine zk_ofW (by decide) (Nat.le_of_ble_eq_true rfl) ?_
  intro pg ev s mm below meth cd A C hr hlocks hname Z ls hl
  have hx := C.1.1
  have hb := C.1.2.1
  have hml := C.1.2.2.1
  have hown := C.1.2.2.2.1
  have hts := C.1.2.2.2.2
  have hl : lv_has ls 2 [(0, .ref ha)] := hl
  obtain ⟨H, hH⟩ : ∃ H, H = s.heap := ⟨_, rfl⟩
  obtain ⟨locs, hlocs⟩ : ∃ q : List Loc, q = [] := ⟨_, rfl⟩
  rw [← hH, ← hlocs] at Z ⊢
  refine lv_iconst (v := nI 0) hx hb dX4_clear_0 (by decide) ?_
  refine lv_istore_n (lv' := [(1, .int (nI 0)), (0, .ref ha)]) hx hb dX4_clear_1 rfl hl (by decide) rfl (fun ls hl => ?_)
  refine lp4_clear C ha hb1 _ (fun H locs ls Z hl => ?_) 8 0 c H locs ls rfl hc (clF_8 hc) Z (lv_sub hl [1, 0] rfl)
  refine lv_aload_n hx hb dX4_clear_24 rfl (lv_at hl 0 rfl) ?_
  exact zk_aret C hr hlocks Z ⟨rfl, rfl⟩ (Nat.le_of_ble_eq_true rfl) (Nat.le_of_ble_eq_true rfl) dX4_clear_25

set_option maxHeartbeats 4000000 in
/-- Poly.copy -/
theorem m4_copy (l : Launch) (D : va_G) (g : G4) (ha hb1 ka kb : Nat) (c d : List Nat) (hc : c.length = 8) (hd : d.length = 8) : zk_M l yX4_copy (ws_ yX4_copy cX4_copy 2 none) (zk_R 1 0 0) D g [.ref ha, .ref ka] [(ha, .inr (3, [.ref hb1])), (hb1, .inl (g.1, 8, .inl (zk_ia c))), (ka, .inr (3, [.ref kb])), (kb, .inl (g.1, 8, .inl (zk_ia d)))] (zk_D none [(ha, .inr (3, [.ref hb1])), (hb1, .inl (g.1, 8, .inl (zk_ia d))), (ka, .inr (3, [.ref kb])), (kb, .inl (g.1, 8, .inl (zk_ia d)))]) := by
  refine zk_ofW (by decide) (Nat.le_of_ble_eq_true rfl) ?_
  intro pg ev s mm below meth cd A C hr hlocks hname Z ls hl
  have hx := C.1.1
  have hb := C.1.2.1
  have hml := C.1.2.2.1
  have hown := C.1.2.2.2.1
  have hts := C.1.2.2.2.2
  have hl : lv_has ls 2 [(0, .ref ha), (1, .ref ka)] := hl
  refine lv_aload_n hx hb dX4_copy_0 rfl (lv_at hl 1 rfl) ?_
  refine zk_get C Z in_X4 2 rfl rfl 0 (by decide) q83 rfl (v := .ref kb) rfl dX4_copy_1 ?_
  refine lv_iconst (v := nI 0) hx hb dX4_copy_4 (by decide) ?_
  refine lv_aload_n hx hb dX4_copy_5 rfl (lv_at hl 0 rfl) ?_
  refine zk_get C Z in_X4 0 rfl rfl 0 (by decide) q83 rfl (v := .ref hb1) rfl dX4_copy_6 ?_
  refine lv_iconst (v := nI 0) hx hb dX4_copy_9 (by decide) ?_
  refine lv_aload_n hx hb dX4_copy_10 rfl (lv_at hl 0 rfl) ?_
  refine zk_get C Z in_X4 0 rfl rfl 0 (by decide) q83 rfl (v := .ref hb1) rfl dX4_copy_11 ?_
  refine zk_alen C Z 1 rfl dX4_copy_14 ?_
  refine zk_copy C Z q563 3 1 rfl rfl hd hc (by decide) hl.1 (by decide) (by decide) dX4_copy_15 (fun H locs Z => ?_)
  have Z : zk_Z D A s H locs [(ha, .inr (3, [.ref hb1])), (hb1, .inl (g.1, 8, .inl (zk_ia d))), (ka, .inr (3, [.ref kb])), (kb, .inl (g.1, 8, .inl (zk_ia d)))] := Z
  exact zk_vret C hr hlocks Z ⟨rfl, rfl⟩ (Nat.le_of_ble_eq_true rfl) (Nat.le_of_ble_eq_true rfl) dX4_copy_18

set_option maxHeartbeats 4000000 in
theorem lp4_degree {pg : Program} {l : Launch} {ev : Env} {s : State} {mm : MethodId} {args : Array Value} {below : List Frame} {meth : Method} {cd : Code} {Q : State → Prop} {D : va_G} {g : G4} {A : Nat → Prop} (C : zk_C pg s mm cd args cX4_degree 2 RX4 D g A) (ha hb1 fin : Nat) (c : List Nat) (hc : c.length = 8) (hbd : zk_bd 31 c) (kk : ∀ (H : Heap) (locs : List Loc) (ls : Array Slot), zk_Z D A s H locs [(ha, .inr (3, [.ref hb1])), (hb1, .inl (g.1, 8, .inl (zk_ia c)))] → lv_has ls 2 [(0, .ref ha), (1, .int (nI fin + (-1)))] → W pg l ev (zk_R 0 0 0) s mm args below meth cd H locs 0 0 Q (F0 mm 27 ls [])) :
    ∀ (j : Nat)  (H : Heap) (locs : List Loc) (ls : Array Slot), (j ≤ 8) → (dgn c j = fin) → zk_Z D A s H locs [(ha, .inr (3, [.ref hb1])), (hb1, .inl (g.1, 8, .inl (zk_ia c)))] → lv_has ls 2 [(0, .ref ha), (1, .int (nI j + (-1)))] → W pg l ev (zk_R 0 0 0) s mm args below meth cd H locs 0 0 Q (F0 mm 8 ls []) := by
  have hx := C.1.1
  have hb := C.1.2.1
  have hml := C.1.2.2.1
  have hown := C.1.2.2.2.1
  have hts := C.1.2.2.2.2
  intro j
  induction j with
  | zero =>
    intro  H locs ls hj hfin Z hl
    have hfin : 0 = fin := hfin
    subst hfin
    refine lv_iload_n hx hb dX4_degree_8 rfl (lv_at hl 1 rfl) ?_
    refine lv_if_lt (tgt := 27) hx hb dX4_degree_9 (by decide) (fun c_1 => ?_) (fun c_1 => absurd c_1 (fun q => q (by decide)))
    exact kk  H locs ls  Z (lv_sub hl [0, 1] rfl)
  | succ j ih =>
    intro  H locs ls hj hfin Z hl
    rw [pk_m1] at hl
    refine lv_iload_n hx hb dX4_degree_8 rfl (lv_at hl 1 rfl) ?_
    refine nr_lt0 (tgt := 27) hx hb (by omega) dX4_degree_9 (by decide) ?_
    refine lv_aload_n hx hb dX4_degree_12 rfl (lv_at hl 0 rfl) ?_
    refine zk_get C Z in_X4 0 rfl rfl 0 (by decide) q83 rfl (v := .ref hb1) rfl dX4_degree_13 ?_
    refine lv_iload_n hx hb dX4_degree_16 rfl (lv_at hl 1 rfl) ?_
    refine zk_iald C Z 1 rfl (by decide) (by omega) dX4_degree_17 ?_
    refine nr_ne0 (tgt := 27) hx hb (show _ < 2 ^ 32 by have := hbd j; omega) dX4_degree_18 (by decide) (fun c_1 => ?_) (fun c_1 => ?_)
    · rw [dgn_s1 c_1] at hfin
      subst hfin
      rw [← pk_m1] at hl
      exact kk H locs ls Z (lv_sub hl [0, 1] rfl)
    · refine lv_iinc (v := nI j + (-1)) (lv' := [(1, .int (nI j + (-1))), (0, .ref ha)]) hx hb dX4_degree_21 hl (k := 1) rfl rfl (by decide) rfl (fun ls hl => ?_)
      refine lv_goto (tgt := 8) hx hb dX4_degree_24 (by decide) ?_
      exact ih  H locs ls (by omega) (by rw [dgn_s0 c_1] at hfin; exact hfin) Z (lv_sub hl [1, 0] rfl)

set_option maxHeartbeats 4000000 in
/-- Poly.degree -/
theorem m4_degree (l : Launch) (D : va_G) (g : G4) (ha hb1 : Nat) (c : List Nat) (hc : c.length = 8) (hbd : zk_bd 31 c) : zk_M l yX4_degree (ws_ yX4_degree cX4_degree 2 (some .int)) (zk_R 0 0 0) D g [.ref ha] [(ha, .inr (3, [.ref hb1])), (hb1, .inl (g.1, 8, .inl (zk_ia c)))] (zk_D (some (.int (nI (dgn c 8) + (-1)))) [(ha, .inr (3, [.ref hb1])), (hb1, .inl (g.1, 8, .inl (zk_ia c)))]) := by
  refine zk_ofW (by decide) (Nat.le_of_ble_eq_true rfl) ?_
  intro pg ev s mm below meth cd A C hr hlocks hname Z ls hl
  have hx := C.1.1
  have hb := C.1.2.1
  have hml := C.1.2.2.1
  have hown := C.1.2.2.2.1
  have hts := C.1.2.2.2.2
  have hl : lv_has ls 2 [(0, .ref ha)] := hl
  obtain ⟨H, hH⟩ : ∃ H, H = s.heap := ⟨_, rfl⟩
  obtain ⟨locs, hlocs⟩ : ∃ q : List Loc, q = [] := ⟨_, rfl⟩
  rw [← hH, ← hlocs] at Z ⊢
  refine lv_aload_n hx hb dX4_degree_0 rfl (lv_at hl 0 rfl) ?_
  refine zk_get C Z in_X4 0 rfl rfl 0 (by decide) q83 rfl (v := .ref hb1) rfl dX4_degree_1 ?_
  refine zk_alen C Z 1 rfl dX4_degree_4 ?_
  refine lv_iconst (v := nI 1) hx hb dX4_degree_5 (by decide) ?_
  refine nr_isub hx hb (by decide) dX4_degree_6 ?_
  refine lv_istore_n (lv' := [(1, .int (nI (8 - 1))), (0, .ref ha)]) hx hb dX4_degree_7 rfl hl (by decide) rfl (fun ls hl => ?_)
  rw [show (8 : Nat) - 1 = 7 from rfl, show nI 7 = nI 8 + (-1) from rfl] at hl
  refine lp4_degree C ha hb1 _ c hc hbd (fun H locs ls Z hl => ?_) 8 H locs ls (Nat.le_refl _) rfl Z (lv_sub hl [1, 0] rfl)
  refine lv_iload_n hx hb dX4_degree_27 rfl (lv_at hl 1 rfl) ?_
  exact zk_iret C hr hlocks Z ⟨rfl, rfl⟩ (Nat.le_of_ble_eq_true rfl) (Nat.le_of_ble_eq_true rfl) dX4_degree_28

set_option maxHeartbeats 4000000 in
theorem lp4_add {pg : Program} {l : Launch} {ev : Env} {s : State} {mm : MethodId} {args : Array Value} {below : List Frame} {meth : Method} {cd : Code} {Q : State → Prop} {D : va_G} {g : G4} {A : Nat → Prop} (C : zk_C pg s mm cd args cX4_add 6 RX4 D g A) (ha hb1 ka kb by_ sh : Nat) (h0 hp hq p n : Nat) (P L : List Nat) (d : List Nat) (F : zk_F p n P L) (hq2 : zk_bd n d) (hby : by_ ≤ n) (hsh : sh ≤ 8) (fin : List Nat) (kk : ∀ (H : Heap) (locs : List Loc) (ls : Array Slot), zk_Z D A s H locs [(ha, .inr (3, [.ref hb1])), (hb1, .inl (g.1, 8, .inl (zk_ia fin))), (h0, .inr (2, [.int (nI n), .ref hp, .ref hq])), (hp, .inl (g.1, 62, .inl (zk_ia P))), (hq, .inl (g.1, 32, .inl (zk_ia L))), (ka, .inr (3, [.ref kb])), (kb, .inl (g.1, 8, .inl (zk_ia d)))] → lv_has ls 6 [(0, .ref ha)] → W pg l ev (zk_R 1 0 0) s mm args below meth cd H locs 0 0 Q (F0 mm 47 ls [])) :
    ∀ (k : Nat) (i : Nat) (c : List Nat) (H : Heap) (locs : List Loc) (ls : Array Slot), (i + k + sh = 8) → (c.length = 8) → (zk_it (paF p by_ sh d) k i c = fin) → zk_Z D A s H locs [(ha, .inr (3, [.ref hb1])), (hb1, .inl (g.1, 8, .inl (zk_ia c))), (h0, .inr (2, [.int (nI n), .ref hp, .ref hq])), (hp, .inl (g.1, 62, .inl (zk_ia P))), (hq, .inl (g.1, 32, .inl (zk_ia L))), (ka, .inr (3, [.ref kb])), (kb, .inl (g.1, 8, .inl (zk_ia d)))] → lv_has ls 6 [(0, .ref ha), (1, .ref h0), (2, .ref ka), (3, .int (nI by_)), (4, .int (nI sh)), (5, .int (nI i))] → W pg l ev (zk_R 1 0 0) s mm args below meth cd H locs 0 0 Q (F0 mm 3 ls []) := by
  have hx := C.1.1
  have hb := C.1.2.1
  have hml := C.1.2.2.1
  have hown := C.1.2.2.2.1
  have hts := C.1.2.2.2.2
  have hn := F.n31
  intro k
  induction k with
  | zero =>
    intro i c H locs ls hik hc hfin Z hl
    have hfin : c = fin := hfin
    subst hfin
    refine lv_iload hx hb dX4_add_3 (lv_at hl 5 rfl) ?_
    refine lv_iload hx hb dX4_add_5 (lv_at hl 4 rfl) ?_
    refine nr_iadd hx hb dX4_add_7 ?_
    refine lv_aload_n hx hb dX4_add_8 rfl (lv_at hl 0 rfl) ?_
    refine zk_get C Z in_X4 0 rfl rfl 0 (by decide) q83 rfl (v := .ref hb1) rfl dX4_add_9 ?_
    refine zk_alen C Z 1 rfl dX4_add_12 ?_
    refine nr_ge (tgt := 47) hx hb (by omega) (by omega) dX4_add_13 (by decide) (fun c_1 => ?_) (fun c_1 => absurd c_1 (by omega))
    exact kk  H locs ls  Z (lv_sub hl [0] rfl)
  | succ k ih =>
    intro i c H locs ls hik hc hfin Z hl
    refine lv_iload hx hb dX4_add_3 (lv_at hl 5 rfl) ?_
    refine lv_iload hx hb dX4_add_5 (lv_at hl 4 rfl) ?_
    refine nr_iadd hx hb dX4_add_7 ?_
    refine lv_aload_n hx hb dX4_add_8 rfl (lv_at hl 0 rfl) ?_
    refine zk_get C Z in_X4 0 rfl rfl 0 (by decide) q83 rfl (v := .ref hb1) rfl dX4_add_9 ?_
    refine zk_alen C Z 1 rfl dX4_add_12 ?_
    refine nr_ge (tgt := 47) hx hb (by omega) (by omega) dX4_add_13 (by decide) (fun c_1 => absurd c_1 (by omega)) (fun c_1 => ?_)
    refine lv_aload_n hx hb dX4_add_16 rfl (lv_at hl 0 rfl) ?_
    refine zk_get C Z in_X4 0 rfl rfl 0 (by decide) q83 rfl (v := .ref hb1) rfl dX4_add_17 ?_
    refine lv_iload hx hb dX4_add_20 (lv_at hl 5 rfl) ?_
    refine lv_iload hx hb dX4_add_22 (lv_at hl 4 rfl) ?_
    refine nr_iadd hx hb dX4_add_24 ?_
    refine lv_dup2_11 hx hb dX4_add_25 rfl rfl ?_
    refine zk_iald C Z 1 rfl (by decide) (by omega) dX4_add_26 ?_
    refine lv_aload_n hx hb dX4_add_27 rfl (lv_at hl 1 rfl) ?_
    refine lv_aload_n hx hb dX4_add_28 rfl (lv_at hl 2 rfl) ?_
    refine zk_get C Z in_X4 5 rfl rfl 0 (by decide) q83 rfl (v := .ref kb) rfl dX4_add_29 ?_
    refine lv_iload hx hb dX4_add_32 (lv_at hl 5 rfl) ?_
    refine zk_iald C Z 6 rfl (by decide) (by omega) dX4_add_34 ?_
    refine lv_iload_n hx hb dX4_add_35 rfl (lv_at hl 3 rfl) ?_
    refine zk_callV (cells' := 0) (slots' := 0) (rest := [.int (nI (c.getD (i + sh) 0)), .int (nI (i + sh)), .ref hb1]) (n := 2) (wr := [(ha, .inr (3, [.ref hb1])), (hb1, .inl (g.1, 8, .inl (zk_ia c))), (ka, .inr (3, [.ref kb])), (kb, .inl (g.1, 8, .inl (zk_ia d)))]) C Z (m3_times l D g h0 hp hq p n P L (d.getD i 0) by_ F (hq2 _) hby) [2, 3, 4] [0, 1, 5, 6] rfl rfl (by decide) (by decide) (by decide) 2 2 rfl rfl rfl q533 q320 q321 q21 q322 (by decide +kernel) rfl (Nat.le_of_ble_eq_true rfl) (Nat.le_of_ble_eq_true rfl) (Nat.le_of_ble_eq_true rfl) (Nat.le_of_ble_eq_true rfl) rfl rfl hl.1 rfl (Nat.le_of_ble_eq_true rfl) dX4_add_36 (fun v w1 H locs hq Z => ?_)
    obtain ⟨rfl, rfl⟩ := hq
    have Z : zk_Z D A s H locs [(ha, .inr (3, [.ref hb1])), (hb1, .inl (g.1, 8, .inl (zk_ia c))), (h0, .inr (2, [.int (nI n), .ref hp, .ref hq])), (hp, .inl (g.1, 62, .inl (zk_ia P))), (hq, .inl (g.1, 32, .inl (zk_ia L))), (ka, .inr (3, [.ref kb])), (kb, .inl (g.1, 8, .inl (zk_ia d)))] := Z.sub [0, 1, 4, 5, 6, 2, 3] (by decide) rfl
    refine W.eq (g2 := F0 mm 39 ls [.int (nI (gm p (d.getD i 0) by_)), .int (nI (c.getD (i + sh) 0)), .int (nI (i + sh)), .ref hb1]) rfl ?_
    refine nr_ixor hx hb dX4_add_39 ?_
    refine zk_iast C Z 1 rfl (by decide) (by omega) hc dX4_add_40 (fun H locs Z => ?_)
    have hlen_2 : (c.set (i + sh) ((c.getD (i + sh) 0) ^^^ (gm p (d.getD i 0) by_))).length = 8 := by rw [List.length_set]; exact hc
    have Z : zk_Z D A s H locs [(ha, .inr (3, [.ref hb1])), (hb1, .inl (g.1, 8, .inl (zk_ia (c.set (i + sh) ((c.getD (i + sh) 0) ^^^ (gm p (d.getD i 0) by_)))))), (h0, .inr (2, [.int (nI n), .ref hp, .ref hq])), (hp, .inl (g.1, 62, .inl (zk_ia P))), (hq, .inl (g.1, 32, .inl (zk_ia L))), (ka, .inr (3, [.ref kb])), (kb, .inl (g.1, 8, .inl (zk_ia d)))] := Z
    refine nr_iinc (n := 1) (lv' := [(5, .int (nI (i + 1))), (0, .ref ha), (1, .ref h0), (2, .ref ka), (3, .int (nI by_)), (4, .int (nI sh))]) hx hb (by decide) dX4_add_41 hl (k := 5) rfl (by decide) rfl (fun ls hl => ?_)
    refine lv_goto (tgt := 3) hx hb dX4_add_44 (by decide) ?_
    exact ih (i + 1) (c.set (i + sh) ((c.getD (i + sh) 0) ^^^ (gm p (d.getD i 0) by_))) H locs ls (by omega) hlen_2 hfin Z (lv_sub hl [1, 2, 3, 4, 5, 0] rfl)

set_option maxHeartbeats 4000000 in
/-- Poly.add -/
theorem m4_add (l : Launch) (D : va_G) (g : G4) (ha hb1 ka kb by_ sh : Nat) (h0 hp hq p n : Nat) (P L : List Nat) (d : List Nat) (F : zk_F p n P L) (hq2 : zk_bd n d) (hby : by_ ≤ n) (hsh : sh ≤ 8) (c : List Nat) (hc : c.length = 8) : zk_M l yX4_add (ws_ yX4_add cX4_add 6 none) (zk_R 1 0 0) D g [.ref ha, .ref h0, .ref ka, .int (nI by_), .int (nI sh)] [(ha, .inr (3, [.ref hb1])), (hb1, .inl (g.1, 8, .inl (zk_ia c))), (h0, .inr (2, [.int (nI n), .ref hp, .ref hq])), (hp, .inl (g.1, 62, .inl (zk_ia P))), (hq, .inl (g.1, 32, .inl (zk_ia L))), (ka, .inr (3, [.ref kb])), (kb, .inl (g.1, 8, .inl (zk_ia d)))] (zk_D none [(ha, .inr (3, [.ref hb1])), (hb1, .inl (g.1, 8, .inl (zk_ia (padd p by_ sh d c)))), (h0, .inr (2, [.int (nI n), .ref hp, .ref hq])), (hp, .inl (g.1, 62, .inl (zk_ia P))), (hq, .inl (g.1, 32, .inl (zk_ia L))), (ka, .inr (3, [.ref kb])), (kb, .inl (g.1, 8, .inl (zk_ia d)))]) := by
  refine zk_ofW (by decide) (Nat.le_of_ble_eq_true rfl) ?_
  intro pg ev s mm below meth cd A C hr hlocks hname Z ls hl
  have hx := C.1.1
  have hb := C.1.2.1
  have hml := C.1.2.2.1
  have hown := C.1.2.2.2.1
  have hts := C.1.2.2.2.2
  have hl : lv_has ls 6 [(0, .ref ha), (1, .ref h0), (2, .ref ka), (3, .int (nI by_)), (4, .int (nI sh))] := hl
  obtain ⟨H, hH⟩ : ∃ H, H = s.heap := ⟨_, rfl⟩
  obtain ⟨locs, hlocs⟩ : ∃ q : List Loc, q = [] := ⟨_, rfl⟩
  rw [← hH, ← hlocs] at Z ⊢
  refine lv_iconst (v := nI 0) hx hb dX4_add_0 (by decide) ?_
  refine lv_istore (lv' := [(5, .int (nI 0)), (0, .ref ha), (1, .ref h0), (2, .ref ka), (3, .int (nI by_)), (4, .int (nI sh))]) hx hb dX4_add_1 hl (by decide) rfl (fun ls hl => ?_)
  refine lp4_add C ha hb1 ka kb by_ sh h0 hp hq p n P L d F hq2 hby hsh _ (fun H locs ls Z hl => ?_) (8 - sh) 0 c H locs ls (by omega) hc rfl Z (lv_sub hl [1, 2, 3, 4, 5, 0] rfl)
  exact zk_vret C hr hlocks Z ⟨rfl, rfl⟩ (Nat.le_of_ble_eq_true rfl) (Nat.le_of_ble_eq_true rfl) dX4_add_47

set_option maxHeartbeats 4000000 in
theorem lp4_value {pg : Program} {l : Launch} {ev : Env} {s : State} {mm : MethodId} {args : Array Value} {below : List Frame} {meth : Method} {cd : Code} {Q : State → Prop} {D : va_G} {g : G4} {A : Nat → Prop} (C : zk_C pg s mm cd args cX4_value 5 RX4 D g A) (ha hb1 x : Nat) (h0 hp hq p n : Nat) (P L : List Nat) (c : List Nat) (F : zk_F p n P L) (hcb : zk_bd n c) (hx6 : x < 64) (fin : Nat) (kk : ∀ (H : Heap) (locs : List Loc) (ls : Array Slot), zk_Z D A s H locs [(ha, .inr (3, [.ref hb1])), (hb1, .inl (g.1, 8, .inl (zk_ia c))), (h0, .inr (2, [.int (nI n), .ref hp, .ref hq])), (hp, .inl (g.1, 62, .inl (zk_ia P))), (hq, .inl (g.1, 32, .inl (zk_ia L)))] → lv_has ls 5 [(0, .ref ha), (3, .int (nI fin))] → W pg l ev (zk_R 0 0 0) s mm args below meth cd H locs 0 0 Q (F0 mm 65 ls [])) :
    ∀ (k : Nat) (i sum : Nat) (H : Heap) (locs : List Loc) (ls : Array Slot), (i + k = 8) → (zk_it (vaF p n x c) k i sum = fin) → zk_Z D A s H locs [(ha, .inr (3, [.ref hb1])), (hb1, .inl (g.1, 8, .inl (zk_ia c))), (h0, .inr (2, [.int (nI n), .ref hp, .ref hq])), (hp, .inl (g.1, 62, .inl (zk_ia P))), (hq, .inl (g.1, 32, .inl (zk_ia L)))] → lv_has ls 5 [(0, .ref ha), (1, .ref h0), (2, .int (nI x)), (3, .int (nI sum)), (4, .int (nI i))] → W pg l ev (zk_R 0 0 0) s mm args below meth cd H locs 0 0 Q (F0 mm 5 ls []) := by
  have hx := C.1.1
  have hb := C.1.2.1
  have hml := C.1.2.2.1
  have hown := C.1.2.2.2.1
  have hts := C.1.2.2.2.2
  have hn := F.n31
  intro k
  induction k with
  | zero =>
    intro i sum H locs ls hik hfin Z hl
    have hfin : sum = fin := hfin
    subst hfin
    refine lv_iload hx hb dX4_value_5 (lv_at hl 4 rfl) ?_
    refine lv_aload_n hx hb dX4_value_7 rfl (lv_at hl 0 rfl) ?_
    refine zk_get C Z in_X4 0 rfl rfl 0 (by decide) q83 rfl (v := .ref hb1) rfl dX4_value_8 ?_
    refine zk_alen C Z 1 rfl dX4_value_11 ?_
    refine nr_ge (tgt := 65) hx hb (by omega) (by omega) dX4_value_12 (by decide) (fun c_1 => ?_) (fun c_1 => absurd c_1 (by omega))
    exact kk  H locs ls  Z (lv_sub hl [0, 3] rfl)
  | succ k ih =>
    intro i sum H locs ls hik hfin Z hl
    have hie : i * x < 2 ^ 30 := by
      have := Nat.mul_le_mul (show i ≤ 8 by omega) (show x ≤ 64 by omega)
      omega
    refine lv_iload hx hb dX4_value_5 (lv_at hl 4 rfl) ?_
    refine lv_aload_n hx hb dX4_value_7 rfl (lv_at hl 0 rfl) ?_
    refine zk_get C Z in_X4 0 rfl rfl 0 (by decide) q83 rfl (v := .ref hb1) rfl dX4_value_8 ?_
    refine zk_alen C Z 1 rfl dX4_value_11 ?_
    refine nr_ge (tgt := 65) hx hb (by omega) (by omega) dX4_value_12 (by decide) (fun c_1 => absurd c_1 (by omega)) (fun c_1 => ?_)
    refine lv_iload_n hx hb dX4_value_15 rfl (lv_at hl 3 rfl) ?_
    refine lv_aload_n hx hb dX4_value_16 rfl (lv_at hl 0 rfl) ?_
    refine zk_get C Z in_X4 0 rfl rfl 0 (by decide) q83 rfl (v := .ref hb1) rfl dX4_value_17 ?_
    refine lv_iload hx hb dX4_value_20 (lv_at hl 4 rfl) ?_
    refine zk_iald C Z 1 rfl (by decide) (by omega) dX4_value_22 ?_
    refine nr_ne0 (tgt := 30) hx hb (by have := hcb i; omega) dX4_value_23 (by decide) (fun c_1 => ?_) (fun c_1 => ?_)
    · refine lv_aload_n hx hb dX4_value_30 rfl (lv_at hl 1 rfl) ?_
      refine zk_getN C Z in_X3 2 rfl rfl 1 (by decide) q64 rfl (v := .ref hp) rfl dX4_value_31 ?_
      refine lv_aload_n hx hb dX4_value_34 rfl (lv_at hl 1 rfl) ?_
      refine zk_getN C Z in_X3 2 rfl rfl 2 (by decide) q67 rfl (v := .ref hq) rfl dX4_value_35 ?_
      refine lv_aload_n hx hb dX4_value_38 rfl (lv_at hl 0 rfl) ?_
      refine zk_get C Z in_X4 0 rfl rfl 0 (by decide) q83 rfl (v := .ref hb1) rfl dX4_value_39 ?_
      refine lv_iload hx hb dX4_value_42 (lv_at hl 4 rfl) ?_
      refine zk_iald C Z 1 rfl (by decide) (by omega) dX4_value_44 ?_
      have hci := hcb i
      have hlg := F.lgl c_1 hci
      refine zk_iald C Z 4 rfl (by decide) (by omega) dX4_value_45 ?_
      refine lv_iload hx hb dX4_value_46 (lv_at hl 4 rfl) ?_
      refine lv_iload_n hx hb dX4_value_48 rfl (lv_at hl 2 rfl) ?_
      refine nr_imul hx hb dX4_value_49 ?_
      refine nr_iadd hx hb dX4_value_50 ?_
      refine lv_aload_n hx hb dX4_value_51 rfl (lv_at hl 1 rfl) ?_
      refine zk_getN C Z in_X3 2 rfl rfl 0 (by decide) q60 rfl (v := .int (nI n)) rfl dX4_value_52 ?_
      refine nr_irem hx hb (by omega) (by omega) (by omega) dX4_value_55 ?_
      refine zk_iald C Z 3 rfl (by decide) (Nat.lt_of_lt_of_le (Nat.mod_lt _ (by omega)) (by omega)) dX4_value_56 ?_
      refine nr_ixor hx hb dX4_value_57 ?_
      refine lv_istore_n (lv' := [(3, .int (nI (sum ^^^ (P.getD (((L.getD (c.getD i 0) 0) + (i * x)) % n) 0)))), (0, .ref ha), (1, .ref h0), (2, .int (nI x)), (4, .int (nI i))]) hx hb dX4_value_58 rfl hl (by decide) rfl (fun ls hl => ?_)
      refine nr_iinc (n := 1) (lv' := [(4, .int (nI (i + 1))), (3, .int (nI (sum ^^^ (P.getD (((L.getD (c.getD i 0) 0) + (i * x)) % n) 0)))), (0, .ref ha), (1, .ref h0), (2, .int (nI x))]) hx hb (by decide) dX4_value_59 hl (k := 4) rfl (by decide) rfl (fun ls hl => ?_)
      refine lv_goto (tgt := 5) hx hb dX4_value_62 (by decide) ?_
      exact ih (i + 1) (sum ^^^ (P.getD (((L.getD (c.getD i 0) 0) + (i * x)) % n) 0)) H locs ls (by omega) ((congrArg (zk_it (vaF p n x c) k (i + 1)) (vaF_1 F (by omega) hcb c_1)).trans hfin) Z (lv_sub hl [2, 3, 4, 1, 0] rfl)
    · refine lv_iconst (v := nI 0) hx hb dX4_value_26 (by decide) ?_
      refine lv_goto (tgt := 57) hx hb dX4_value_27 (by decide) ?_
      refine nr_ixor hx hb dX4_value_57 ?_
      refine lv_istore_n (lv' := [(3, .int (nI (sum ^^^ 0))), (0, .ref ha), (1, .ref h0), (2, .int (nI x)), (4, .int (nI i))]) hx hb dX4_value_58 rfl hl (by decide) rfl (fun ls hl => ?_)
      refine nr_iinc (n := 1) (lv' := [(4, .int (nI (i + 1))), (3, .int (nI (sum ^^^ 0))), (0, .ref ha), (1, .ref h0), (2, .int (nI x))]) hx hb (by decide) dX4_value_59 hl (k := 4) rfl (by decide) rfl (fun ls hl => ?_)
      refine lv_goto (tgt := 5) hx hb dX4_value_62 (by decide) ?_
      exact ih (i + 1) (sum ^^^ 0) H locs ls (by omega) ((congrArg (zk_it (vaF p n x c) k (i + 1)) (vaF_0 c_1)).trans hfin) Z (lv_sub hl [2, 3, 4, 1, 0] rfl)

set_option maxHeartbeats 4000000 in
/-- Poly.value -/
theorem m4_value (l : Launch) (D : va_G) (g : G4) (ha hb1 x : Nat) (h0 hp hq p n : Nat) (P L : List Nat) (c : List Nat) (F : zk_F p n P L) (hcb : zk_bd n c) (hx6 : x < 64) : zk_M l yX4_value (ws_ yX4_value cX4_value 5 (some .int)) (zk_R 0 0 0) D g [.ref ha, .ref h0, .int (nI x)] [(ha, .inr (3, [.ref hb1])), (hb1, .inl (g.1, 8, .inl (zk_ia c))), (h0, .inr (2, [.int (nI n), .ref hp, .ref hq])), (hp, .inl (g.1, 62, .inl (zk_ia P))), (hq, .inl (g.1, 32, .inl (zk_ia L)))] (zk_D (some (.int (nI (pval p n x c)))) [(ha, .inr (3, [.ref hb1])), (hb1, .inl (g.1, 8, .inl (zk_ia c))), (h0, .inr (2, [.int (nI n), .ref hp, .ref hq])), (hp, .inl (g.1, 62, .inl (zk_ia P))), (hq, .inl (g.1, 32, .inl (zk_ia L)))]) := by
  refine zk_ofW (by decide) (Nat.le_of_ble_eq_true rfl) ?_
  intro pg ev s mm below meth cd A C hr hlocks hname Z ls hl
  have hx := C.1.1
  have hb := C.1.2.1
  have hml := C.1.2.2.1
  have hown := C.1.2.2.2.1
  have hts := C.1.2.2.2.2
  have hl : lv_has ls 5 [(0, .ref ha), (1, .ref h0), (2, .int (nI x))] := hl
  obtain ⟨H, hH⟩ : ∃ H, H = s.heap := ⟨_, rfl⟩
  obtain ⟨locs, hlocs⟩ : ∃ q : List Loc, q = [] := ⟨_, rfl⟩
  rw [← hH, ← hlocs] at Z ⊢
  refine lv_iconst (v := nI 0) hx hb dX4_value_0 (by decide) ?_
  refine lv_istore_n (lv' := [(3, .int (nI 0)), (0, .ref ha), (1, .ref h0), (2, .int (nI x))]) hx hb dX4_value_1 rfl hl (by decide) rfl (fun ls hl => ?_)
  refine lv_iconst (v := nI 0) hx hb dX4_value_2 (by decide) ?_
  refine lv_istore (lv' := [(4, .int (nI 0)), (3, .int (nI 0)), (0, .ref ha), (1, .ref h0), (2, .int (nI x))]) hx hb dX4_value_3 hl (by decide) rfl (fun ls hl => ?_)
  refine lp4_value C ha hb1 x h0 hp hq p n P L c F hcb hx6 _ (fun H locs ls Z hl => ?_) 8 0 0 H locs ls rfl rfl Z (lv_sub hl [2, 3, 4, 1, 0] rfl)
  refine lv_iload_n hx hb dX4_value_65 rfl (lv_at hl 1 rfl) ?_
  exact zk_iret C hr hlocks Z ⟨rfl, rfl⟩ (Nat.le_of_ble_eq_true rfl) (Nat.le_of_ble_eq_true rfl) dX4_value_66

