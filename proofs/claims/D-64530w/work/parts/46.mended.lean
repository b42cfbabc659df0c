/-! ===== Code.mended ===== -/
set_option maxRecDepth 100000
theorem rgt_lt {p n t wd : Nat} : rgt p n t wd < 2 := zk_it_inv (f := rtF p n wd) (fun _ r => r < 2) (2 * t) 1 1 (by decide) (fun j r _ _ h => rtF_lt h)
theorem pval_le {p n x : Nat} {P L c : List Nat} (F : zk_F p n P L) : pval p n x c ≤ n := vaF_le F 8 0 0 (Nat.zero_le _)
theorem mdd_1 {w p n t wd r : Nat} (h : mdd w p n t wd = some r) (h0 : rgt p n t wd ≠ 0) : wd = r := by
  unfold mdd at h
  rw [if_pos h0] at h
  exact Option.some.inj h
theorem mdd_2 {w p n t wd r : Nat} (h : mdd w p n t wd = some r) (h0 : rgt p n t wd = 0) : ¬ t < bct (ers p n (loc w p n t wd)) ∧ rgt p n t (wd ^^^ ers p n (loc w p n t wd)) ≠ 0 ∧ wd ^^^ ers p n (loc w p n t wd) = r := by
  unfold mdd at h
  rw [if_neg (fun q => q h0)] at h
  by_cases h1 : t < bct (ers p n (loc w p n t wd))
  · rw [if_pos h1] at h; cases h
  · rw [if_neg h1] at h
    by_cases h2 : rgt p n t (wd ^^^ ers p n (loc w p n t wd)) = 0
    · rw [if_pos h2] at h; cases h
    · rw [if_neg h2] at h; exact ⟨h1, h2, Option.some.inj h⟩
theorem mdd_3 {w p n t wd : Nat} (h : mdd w p n t wd = none) : rgt p n t wd = 0 ∧ (¬ t < bct (ers p n (loc w p n t wd)) → rgt p n t (wd ^^^ ers p n (loc w p n t wd)) = 0) := by
  unfold mdd at h
  by_cases h0 : rgt p n t wd ≠ 0
  · rw [if_pos h0] at h; cases h
  · rw [if_neg h0] at h
    refine ⟨Decidable.not_not.mp h0, fun h1 => ?_⟩
    rw [if_neg h1] at h
    by_cases h2 : rgt p n t (wd ^^^ ers p n (loc w p n t wd)) = 0
    · exact h2
    · rw [if_neg h2] at h; cases h
set_option maxHeartbeats 4000000 in
theorem lp2_mdEr {pg : Program} {l : Launch} {ev : Env} {s : State} {mm : MethodId} {args : Array Value} {below : List Frame} {meth : Method} {cd : Code} {Q : State → Prop} {D : va_G} {g : G4} {A : Nat → Prop} (C : zk_C pg s mm cd args cX2_mended 5 RX2 D g A) (co h0 hs pl plc t gn kd : Nat) (hp hq p n : Nat) (P L : List Nat) (F : zk_F p n P L) (t1 : 1 ≤ t) (t3 : t ≤ 3) (he hrw r0 r1 r2 : Nat) (M : List (List Nat)) (wd : Nat) (S c : List Nat) (bc : zk_bd n c) (fin : Nat) (kk : ∀ (H : Heap) (locs : List Loc) (ls : Array Slot), zk_Z D A s H locs [(co, .inr (1, [.ref h0, .int (nI t), .int (nI gn), .int (nI kd), .ref hs, .ref pl])), (h0, .inr (2, [.int (nI n), .ref hp, .ref hq])), (hp, .inl (g.1, 62, .inl (zk_ia P))), (hq, .inl (g.1, 32, .inl (zk_ia L))), (hs, .inl (g.1, 7, .inl (zk_ia S))), (pl, .inr (3, [.ref plc])), (plc, .inl (g.1, 8, .inl (zk_ia c))), (he, .inr (4, [.ref hrw])), (hrw, .inl (g.2.2.1, 3, .inr (.inr (.inr (.inr (zk_ra [r0, r1, r2])))))), (r0, .inl (g.1, 4, .inl (zk_ia (M.getD 0 [])))), (r1, .inl (g.1, 4, .inl (zk_ia (M.getD 1 [])))), (r2, .inl (g.1, 4, .inl (zk_ia (M.getD 2 []))))] → lv_has ls 5 [(0, .ref co), (1, .int (nI wd)), (2, .ref he), (3, .int (nI fin))] → W pg l ev (zk_R 6 0 0) s mm args below meth cd H locs 0 0 Q (F0 mm 98 ls [])) :
    ∀ (k : Nat) (i e : Nat) (H : Heap) (locs : List Loc) (ls : Array Slot), (i + k = n) → (zk_it (erF p n c) k i e = fin) → zk_Z D A s H locs [(co, .inr (1, [.ref h0, .int (nI t), .int (nI gn), .int (nI kd), .ref hs, .ref pl])), (h0, .inr (2, [.int (nI n), .ref hp, .ref hq])), (hp, .inl (g.1, 62, .inl (zk_ia P))), (hq, .inl (g.1, 32, .inl (zk_ia L))), (hs, .inl (g.1, 7, .inl (zk_ia S))), (pl, .inr (3, [.ref plc])), (plc, .inl (g.1, 8, .inl (zk_ia c))), (he, .inr (4, [.ref hrw])), (hrw, .inl (g.2.2.1, 3, .inr (.inr (.inr (.inr (zk_ra [r0, r1, r2])))))), (r0, .inl (g.1, 4, .inl (zk_ia (M.getD 0 [])))), (r1, .inl (g.1, 4, .inl (zk_ia (M.getD 1 [])))), (r2, .inl (g.1, 4, .inl (zk_ia (M.getD 2 []))))] → lv_has ls 5 [(0, .ref co), (1, .int (nI wd)), (2, .ref he), (3, .int (nI e)), (4, .int (nI i))] → W pg l ev (zk_R 6 0 0) s mm args below meth cd H locs 0 0 Q (F0 mm 37 ls []) := by
  have hx := C.1.1
  have hb := C.1.2.1
  have hml := C.1.2.2.1
  have hown := C.1.2.2.2.1
  have hts := C.1.2.2.2.2
  have hn := F.n31
  intro k
  induction k with
  | zero =>
    intro i e H locs ls hik hfin Z hl
    have hfin : e = fin := hfin
    subst hfin
    refine lv_iload hx hb dX2_mended_37 (lv_at hl 4 rfl) ?_
    refine lv_aload_n hx hb dX2_mended_39 rfl (lv_at hl 0 rfl) ?_
    refine zk_get C Z in_X2 0 rfl rfl 0 (by decide) q91 rfl (v := .ref h0) rfl dX2_mended_40 ?_
    refine zk_getN C Z in_X3 1 rfl rfl 0 (by decide) q59 rfl (v := .int (nI n)) rfl dX2_mended_43 ?_
    refine nr_ge (tgt := 98) hx hb (by omega) (by omega) dX2_mended_46 (by decide) (fun c_1 => ?_) (fun c_1 => absurd c_1 (by omega))
    exact kk  H locs ls  Z (lv_sub hl [0, 1, 2, 3] rfl)
  | succ k ih =>
    intro i e H locs ls hik hfin Z hl
    refine lv_iload hx hb dX2_mended_37 (lv_at hl 4 rfl) ?_
    refine lv_aload_n hx hb dX2_mended_39 rfl (lv_at hl 0 rfl) ?_
    refine zk_get C Z in_X2 0 rfl rfl 0 (by decide) q91 rfl (v := .ref h0) rfl dX2_mended_40 ?_
    refine zk_getN C Z in_X3 1 rfl rfl 0 (by decide) q59 rfl (v := .int (nI n)) rfl dX2_mended_43 ?_
    refine nr_ge (tgt := 98) hx hb (by omega) (by omega) dX2_mended_46 (by decide) (fun c_1 => absurd c_1 (by omega)) (fun c_1 => ?_)
    refine lv_iload_n hx hb dX2_mended_49 rfl (lv_at hl 3 rfl) ?_
    refine lv_aload_n hx hb dX2_mended_50 rfl (lv_at hl 0 rfl) ?_
    refine zk_get C Z in_X2 0 rfl rfl 5 (by decide) q100 rfl (v := .ref pl) rfl dX2_mended_51 ?_
    refine lv_aload_n hx hb dX2_mended_54 rfl (lv_at hl 0 rfl) ?_
    refine zk_get C Z in_X2 0 rfl rfl 0 (by decide) q91 rfl (v := .ref h0) rfl dX2_mended_55 ?_
    refine lv_aload_n hx hb dX2_mended_58 rfl (lv_at hl 0 rfl) ?_
    refine zk_get C Z in_X2 0 rfl rfl 0 (by decide) q91 rfl (v := .ref h0) rfl dX2_mended_59 ?_
    refine zk_getN C Z in_X3 1 rfl rfl 0 (by decide) q59 rfl (v := .int (nI n)) rfl dX2_mended_62 ?_
    refine lv_iload hx hb dX2_mended_65 (lv_at hl 4 rfl) ?_
    refine nr_isub hx hb (by omega) dX2_mended_67 ?_
    refine lv_aload_n hx hb dX2_mended_68 rfl (lv_at hl 0 rfl) ?_
    refine zk_get C Z in_X2 0 rfl rfl 0 (by decide) q91 rfl (v := .ref h0) rfl dX2_mended_69 ?_
    refine zk_getN C Z in_X3 1 rfl rfl 0 (by decide) q59 rfl (v := .int (nI n)) rfl dX2_mended_72 ?_
    refine nr_irem hx hb (by omega) (by omega) (by omega) dX2_mended_75 ?_
    refine zk_callV (cells' := 0) (slots' := 0) (rest := [.int (nI e)]) (n := 2) (wr := [(co, .inr (1, [.ref h0, .int (nI t), .int (nI gn), .int (nI kd), .ref hs, .ref pl])), (hs, .inl (g.1, 7, .inl (zk_ia S))), (he, .inr (4, [.ref hrw])), (hrw, .inl (g.2.2.1, 3, .inr (.inr (.inr (.inr (zk_ra [r0, r1, r2])))))), (r0, .inl (g.1, 4, .inl (zk_ia (M.getD 0 [])))), (r1, .inl (g.1, 4, .inl (zk_ia (M.getD 1 [])))), (r2, .inl (g.1, 4, .inl (zk_ia (M.getD 2 []))))]) C Z (m4_value l D g pl plc ((n - i) % n) h0 hp hq p n P L c F bc (by have := Nat.mod_lt (n - i) (show 0 < n by omega); omega)) [5, 6, 1, 2, 3] [0, 4, 7, 8, 9, 10, 11] rfl rfl (by decide) (by decide) (by decide) 5 3 rfl rfl rfl q568 q569 q570 q22 q571 (by decide +kernel) rfl (Nat.le_of_ble_eq_true rfl) (Nat.le_of_ble_eq_true rfl) (Nat.le_of_ble_eq_true rfl) (Nat.le_of_ble_eq_true rfl) rfl rfl hl.1 rfl (Nat.le_of_ble_eq_true rfl) dX2_mended_76 (fun v w1 H locs hq Z => ?_)
    obtain ⟨rfl, rfl⟩ := hq
    have Z : zk_Z D A s H locs [(co, .inr (1, [.ref h0, .int (nI t), .int (nI gn), .int (nI kd), .ref hs, .ref pl])), (h0, .inr (2, [.int (nI n), .ref hp, .ref hq])), (hp, .inl (g.1, 62, .inl (zk_ia P))), (hq, .inl (g.1, 32, .inl (zk_ia L))), (hs, .inl (g.1, 7, .inl (zk_ia S))), (pl, .inr (3, [.ref plc])), (plc, .inl (g.1, 8, .inl (zk_ia c))), (he, .inr (4, [.ref hrw])), (hrw, .inl (g.2.2.1, 3, .inr (.inr (.inr (.inr (zk_ra [r0, r1, r2])))))), (r0, .inl (g.1, 4, .inl (zk_ia (M.getD 0 [])))), (r1, .inl (g.1, 4, .inl (zk_ia (M.getD 1 [])))), (r2, .inl (g.1, 4, .inl (zk_ia (M.getD 2 []))))] := Z.sub [0, 9, 10, 11, 1, 7, 8, 2, 3, 4, 5, 6] (by decide) rfl
    refine W.eq (g2 := F0 mm 79 ls [.int (nI (pval p n ((n - i) % n) c)), .int (nI e)]) rfl ?_
    refine nr_ne0 (tgt := 89) hx hb (by have := pval_le (x := (n - i) % n) (c := c) F; omega) dX2_mended_79 (by decide) (fun c_1 => ?_) (fun c_1 => ?_)
    · refine lv_iconst (v := nI 0) hx hb dX2_mended_89 (by decide) ?_
      refine nr_ior hx hb dX2_mended_90 ?_
      refine lv_istore_n (lv' := [(3, .int (nI (e ||| 0))), (0, .ref co), (1, .int (nI wd)), (2, .ref he), (4, .int (nI i))]) hx hb dX2_mended_91 rfl hl (by decide) rfl (fun ls hl => ?_)
      refine nr_iinc (n := 1) (lv' := [(4, .int (nI (i + 1))), (3, .int (nI (e ||| 0))), (0, .ref co), (1, .int (nI wd)), (2, .ref he)]) hx hb (by decide) dX2_mended_92 hl (k := 4) rfl (by decide) rfl (fun ls hl => ?_)
      refine lv_goto (tgt := 37) hx hb dX2_mended_95 (by decide) ?_
      exact ih (i + 1) (e ||| 0) H locs ls (by omega) ((congrArg (zk_it (erF p n c) k (i + 1)) (erF_0 c_1)).trans hfin) Z (lv_sub hl [2, 3, 4, 1, 0] rfl)
    · refine lv_iconst (v := nI 1) hx hb dX2_mended_82 (by decide) ?_
      refine lv_iload hx hb dX2_mended_83 (lv_at hl 4 rfl) ?_
      refine nr_ishl hx hb (by omega) dX2_mended_85 ?_
      refine lv_goto (tgt := 90) hx hb dX2_mended_86 (by decide) ?_
      refine nr_ior hx hb dX2_mended_90 ?_
      refine lv_istore_n (lv' := [(3, .int (nI (e ||| (1 <<< i)))), (0, .ref co), (1, .int (nI wd)), (2, .ref he), (4, .int (nI i))]) hx hb dX2_mended_91 rfl hl (by decide) rfl (fun ls hl => ?_)
      refine nr_iinc (n := 1) (lv' := [(4, .int (nI (i + 1))), (3, .int (nI (e ||| (1 <<< i)))), (0, .ref co), (1, .int (nI wd)), (2, .ref he)]) hx hb (by decide) dX2_mended_92 hl (k := 4) rfl (by decide) rfl (fun ls hl => ?_)
      refine lv_goto (tgt := 37) hx hb dX2_mended_95 (by decide) ?_
      exact ih (i + 1) (e ||| (1 <<< i)) H locs ls (by omega) ((congrArg (zk_it (erF p n c) k (i + 1)) (erF_1 c_1)).trans hfin) Z (lv_sub hl [2, 3, 4, 1, 0] rfl)

set_option maxHeartbeats 4000000 in
theorem lp2_mdEt {pg : Program} {l : Launch} {ev : Env} {s : State} {mm : MethodId} {args : Array Value} {below : List Frame} {meth : Method} {cd : Code} {Q : State → Prop} {D : va_G} {g : G4} {A : Nat → Prop} (C : zk_C pg s mm cd args cX2_mended 5 RX2 D g A) (co h0 hs pl plc t gn kd : Nat) (hp hq p n : Nat) (P L : List Nat) (F : zk_F p n P L) (t1 : 1 ≤ t) (t3 : t ≤ 3) (he hrw r0 r1 r2 : Nat) (M : List (List Nat)) (wd : Nat) (S c : List Nat) (bc : zk_bd n c) (fin : Nat) (kk : ∀ (H : Heap) (locs : List Loc) (ls : Array Slot), zk_Z D A s H locs [(co, .inr (1, [.ref h0, .int (nI t), .int (nI gn), .int (nI kd), .ref hs, .ref pl])), (h0, .inr (2, [.int (nI n), .ref hp, .ref hq])), (hp, .inl (g.1, 62, .inl (zk_ia P))), (hq, .inl (g.1, 32, .inl (zk_ia L))), (hs, .inl (g.1, 7, .inl (zk_ia S))), (pl, .inr (3, [.ref plc])), (plc, .inl (g.1, 8, .inl (zk_ia c))), (he, .inr (4, [.ref hrw])), (hrw, .inl (g.2.2.1, 3, .inr (.inr (.inr (.inr (zk_ra [r0, r1, r2])))))), (r0, .inl (g.1, 4, .inl (zk_ia (M.getD 0 [])))), (r1, .inl (g.1, 4, .inl (zk_ia (M.getD 1 [])))), (r2, .inl (g.1, 4, .inl (zk_ia (M.getD 2 []))))] → lv_has ls 5 [(0, .ref co), (1, .int (nI wd)), (2, .ref he), (3, .int (nI fin))] → W pg l ev (zk_R 6 1 6) s mm args below meth cd H locs 0 0 Q (F0 mm 98 ls [])) :
    ∀ (k : Nat) (i e : Nat) (H : Heap) (locs : List Loc) (ls : Array Slot), (i + k = n) → (zk_it (erF p n c) k i e = fin) → zk_Z D A s H locs [(co, .inr (1, [.ref h0, .int (nI t), .int (nI gn), .int (nI kd), .ref hs, .ref pl])), (h0, .inr (2, [.int (nI n), .ref hp, .ref hq])), (hp, .inl (g.1, 62, .inl (zk_ia P))), (hq, .inl (g.1, 32, .inl (zk_ia L))), (hs, .inl (g.1, 7, .inl (zk_ia S))), (pl, .inr (3, [.ref plc])), (plc, .inl (g.1, 8, .inl (zk_ia c))), (he, .inr (4, [.ref hrw])), (hrw, .inl (g.2.2.1, 3, .inr (.inr (.inr (.inr (zk_ra [r0, r1, r2])))))), (r0, .inl (g.1, 4, .inl (zk_ia (M.getD 0 [])))), (r1, .inl (g.1, 4, .inl (zk_ia (M.getD 1 [])))), (r2, .inl (g.1, 4, .inl (zk_ia (M.getD 2 []))))] → lv_has ls 5 [(0, .ref co), (1, .int (nI wd)), (2, .ref he), (3, .int (nI e)), (4, .int (nI i))] → W pg l ev (zk_R 6 1 6) s mm args below meth cd H locs 0 0 Q (F0 mm 37 ls []) := by
  have hx := C.1.1
  have hb := C.1.2.1
  have hml := C.1.2.2.1
  have hown := C.1.2.2.2.1
  have hts := C.1.2.2.2.2
  have hn := F.n31
  intro k
  induction k with
  | zero =>
    intro i e H locs ls hik hfin Z hl
    have hfin : e = fin := hfin
    subst hfin
    refine lv_iload hx hb dX2_mended_37 (lv_at hl 4 rfl) ?_
    refine lv_aload_n hx hb dX2_mended_39 rfl (lv_at hl 0 rfl) ?_
    refine zk_get C Z in_X2 0 rfl rfl 0 (by decide) q91 rfl (v := .ref h0) rfl dX2_mended_40 ?_
    refine zk_getN C Z in_X3 1 rfl rfl 0 (by decide) q59 rfl (v := .int (nI n)) rfl dX2_mended_43 ?_
    refine nr_ge (tgt := 98) hx hb (by omega) (by omega) dX2_mended_46 (by decide) (fun c_1 => ?_) (fun c_1 => absurd c_1 (by omega))
    exact kk  H locs ls  Z (lv_sub hl [0, 1, 2, 3] rfl)
  | succ k ih =>
    intro i e H locs ls hik hfin Z hl
    refine lv_iload hx hb dX2_mended_37 (lv_at hl 4 rfl) ?_
    refine lv_aload_n hx hb dX2_mended_39 rfl (lv_at hl 0 rfl) ?_
    refine zk_get C Z in_X2 0 rfl rfl 0 (by decide) q91 rfl (v := .ref h0) rfl dX2_mended_40 ?_
    refine zk_getN C Z in_X3 1 rfl rfl 0 (by decide) q59 rfl (v := .int (nI n)) rfl dX2_mended_43 ?_
    refine nr_ge (tgt := 98) hx hb (by omega) (by omega) dX2_mended_46 (by decide) (fun c_1 => absurd c_1 (by omega)) (fun c_1 => ?_)
    refine lv_iload_n hx hb dX2_mended_49 rfl (lv_at hl 3 rfl) ?_
    refine lv_aload_n hx hb dX2_mended_50 rfl (lv_at hl 0 rfl) ?_
    refine zk_get C Z in_X2 0 rfl rfl 5 (by decide) q100 rfl (v := .ref pl) rfl dX2_mended_51 ?_
    refine lv_aload_n hx hb dX2_mended_54 rfl (lv_at hl 0 rfl) ?_
    refine zk_get C Z in_X2 0 rfl rfl 0 (by decide) q91 rfl (v := .ref h0) rfl dX2_mended_55 ?_
    refine lv_aload_n hx hb dX2_mended_58 rfl (lv_at hl 0 rfl) ?_
    refine zk_get C Z in_X2 0 rfl rfl 0 (by decide) q91 rfl (v := .ref h0) rfl dX2_mended_59 ?_
    refine zk_getN C Z in_X3 1 rfl rfl 0 (by decide) q59 rfl (v := .int (nI n)) rfl dX2_mended_62 ?_
    refine lv_iload hx hb dX2_mended_65 (lv_at hl 4 rfl) ?_
    refine nr_isub hx hb (by omega) dX2_mended_67 ?_
    refine lv_aload_n hx hb dX2_mended_68 rfl (lv_at hl 0 rfl) ?_
    refine zk_get C Z in_X2 0 rfl rfl 0 (by decide) q91 rfl (v := .ref h0) rfl dX2_mended_69 ?_
    refine zk_getN C Z in_X3 1 rfl rfl 0 (by decide) q59 rfl (v := .int (nI n)) rfl dX2_mended_72 ?_
    refine nr_irem hx hb (by omega) (by omega) (by omega) dX2_mended_75 ?_
    refine zk_callV (cells' := 0) (slots' := 0) (rest := [.int (nI e)]) (n := 2) (wr := [(co, .inr (1, [.ref h0, .int (nI t), .int (nI gn), .int (nI kd), .ref hs, .ref pl])), (hs, .inl (g.1, 7, .inl (zk_ia S))), (he, .inr (4, [.ref hrw])), (hrw, .inl (g.2.2.1, 3, .inr (.inr (.inr (.inr (zk_ra [r0, r1, r2])))))), (r0, .inl (g.1, 4, .inl (zk_ia (M.getD 0 [])))), (r1, .inl (g.1, 4, .inl (zk_ia (M.getD 1 [])))), (r2, .inl (g.1, 4, .inl (zk_ia (M.getD 2 []))))]) C Z (m4_value l D g pl plc ((n - i) % n) h0 hp hq p n P L c F bc (by have := Nat.mod_lt (n - i) (show 0 < n by omega); omega)) [5, 6, 1, 2, 3] [0, 4, 7, 8, 9, 10, 11] rfl rfl (by decide) (by decide) (by decide) 5 3 rfl rfl rfl q568 q569 q570 q22 q571 (by decide +kernel) rfl (Nat.le_of_ble_eq_true rfl) (Nat.le_of_ble_eq_true rfl) (Nat.le_of_ble_eq_true rfl) (Nat.le_of_ble_eq_true rfl) rfl rfl hl.1 rfl (Nat.le_of_ble_eq_true rfl) dX2_mended_76 (fun v w1 H locs hq Z => ?_)
    obtain ⟨rfl, rfl⟩ := hq
    have Z : zk_Z D A s H locs [(co, .inr (1, [.ref h0, .int (nI t), .int (nI gn), .int (nI kd), .ref hs, .ref pl])), (h0, .inr (2, [.int (nI n), .ref hp, .ref hq])), (hp, .inl (g.1, 62, .inl (zk_ia P))), (hq, .inl (g.1, 32, .inl (zk_ia L))), (hs, .inl (g.1, 7, .inl (zk_ia S))), (pl, .inr (3, [.ref plc])), (plc, .inl (g.1, 8, .inl (zk_ia c))), (he, .inr (4, [.ref hrw])), (hrw, .inl (g.2.2.1, 3, .inr (.inr (.inr (.inr (zk_ra [r0, r1, r2])))))), (r0, .inl (g.1, 4, .inl (zk_ia (M.getD 0 [])))), (r1, .inl (g.1, 4, .inl (zk_ia (M.getD 1 [])))), (r2, .inl (g.1, 4, .inl (zk_ia (M.getD 2 []))))] := Z.sub [0, 9, 10, 11, 1, 7, 8, 2, 3, 4, 5, 6] (by decide) rfl
    refine W.eq (g2 := F0 mm 79 ls [.int (nI (pval p n ((n - i) % n) c)), .int (nI e)]) rfl ?_
    refine nr_ne0 (tgt := 89) hx hb (by have := pval_le (x := (n - i) % n) (c := c) F; omega) dX2_mended_79 (by decide) (fun c_1 => ?_) (fun c_1 => ?_)
    · refine lv_iconst (v := nI 0) hx hb dX2_mended_89 (by decide) ?_
      refine nr_ior hx hb dX2_mended_90 ?_
      refine lv_istore_n (lv' := [(3, .int (nI (e ||| 0))), (0, .ref co), (1, .int (nI wd)), (2, .ref he), (4, .int (nI i))]) hx hb dX2_mended_91 rfl hl (by decide) rfl (fun ls hl => ?_)
      refine nr_iinc (n := 1) (lv' := [(4, .int (nI (i + 1))), (3, .int (nI (e ||| 0))), (0, .ref co), (1, .int (nI wd)), (2, .ref he)]) hx hb (by decide) dX2_mended_92 hl (k := 4) rfl (by decide) rfl (fun ls hl => ?_)
      refine lv_goto (tgt := 37) hx hb dX2_mended_95 (by decide) ?_
      exact ih (i + 1) (e ||| 0) H locs ls (by omega) ((congrArg (zk_it (erF p n c) k (i + 1)) (erF_0 c_1)).trans hfin) Z (lv_sub hl [2, 3, 4, 1, 0] rfl)
    · refine lv_iconst (v := nI 1) hx hb dX2_mended_82 (by decide) ?_
      refine lv_iload hx hb dX2_mended_83 (lv_at hl 4 rfl) ?_
      refine nr_ishl hx hb (by omega) dX2_mended_85 ?_
      refine lv_goto (tgt := 90) hx hb dX2_mended_86 (by decide) ?_
      refine nr_ior hx hb dX2_mended_90 ?_
      refine lv_istore_n (lv' := [(3, .int (nI (e ||| (1 <<< i)))), (0, .ref co), (1, .int (nI wd)), (2, .ref he), (4, .int (nI i))]) hx hb dX2_mended_91 rfl hl (by decide) rfl (fun ls hl => ?_)
      refine nr_iinc (n := 1) (lv' := [(4, .int (nI (i + 1))), (3, .int (nI (e ||| (1 <<< i)))), (0, .ref co), (1, .int (nI wd)), (2, .ref he)]) hx hb (by decide) dX2_mended_92 hl (k := 4) rfl (by decide) rfl (fun ls hl => ?_)
      refine lv_goto (tgt := 37) hx hb dX2_mended_95 (by decide) ?_
      exact ih (i + 1) (e ||| (1 <<< i)) H locs ls (by omega) ((congrArg (zk_it (erF p n c) k (i + 1)) (erF_1 c_1)).trans hfin) Z (lv_sub hl [2, 3, 4, 1, 0] rfl)

set_option maxHeartbeats 4000000 in
/-- Code.mended, E -/
theorem m2_mdE (l : Launch) (D : va_G) (g : G4) (co h0 hs pl plc t gn kd : Nat) (hp hq p n : Nat) (P L : List Nat) (F : zk_F p n P L) (t1 : 1 ≤ t) (t3 : t ≤ 3) (he hrw r0 r1 r2 : Nat) (M : List (List Nat)) (hM : zk_ml M) (wd : Nat) (hwd : wd < 2 ^ 31) (S c : List Nat) (hS : S.length = 7) (hS0 : S.getD 0 0 = 0) (hl8 : c.length = 8) (r : Nat) (hm : mdd 0 p n t wd = some r) : zk_M l yX2_mended (ws_ yX2_mended cX2_mended 5 (some .int)) (zk_R 6 0 0) D g [.ref co, .int (nI wd), .ref he] [(co, .inr (1, [.ref h0, .int (nI t), .int (nI gn), .int (nI kd), .ref hs, .ref pl])), (h0, .inr (2, [.int (nI n), .ref hp, .ref hq])), (hp, .inl (g.1, 62, .inl (zk_ia P))), (hq, .inl (g.1, 32, .inl (zk_ia L))), (hs, .inl (g.1, 7, .inl (zk_ia S))), (pl, .inr (3, [.ref plc])), (plc, .inl (g.1, 8, .inl (zk_ia c))), (he, .inr (4, [.ref hrw])), (hrw, .inl (g.2.2.1, 3, .inr (.inr (.inr (.inr (zk_ra [r0, r1, r2])))))), (r0, .inl (g.1, 4, .inl (zk_ia (M.getD 0 [])))), (r1, .inl (g.1, 4, .inl (zk_ia (M.getD 1 [])))), (r2, .inl (g.1, 4, .inl (zk_ia (M.getD 2 []))))] (fun v w => v = some (.int (nI r)) ∧ ∃ (S1 c1 : List Nat) (s0 s1 s2 : Nat) (M1 : List (List Nat)), S1.length = 7 ∧ S1.getD 0 0 = 0 ∧ c1.length = 8 ∧ zk_ml M1 ∧ w = [(co, .inr (1, [.ref h0, .int (nI t), .int (nI gn), .int (nI kd), .ref hs, .ref pl])), (h0, .inr (2, [.int (nI n), .ref hp, .ref hq])), (hp, .inl (g.1, 62, .inl (zk_ia P))), (hq, .inl (g.1, 32, .inl (zk_ia L))), (hs, .inl (g.1, 7, .inl (zk_ia S1))), (pl, .inr (3, [.ref plc])), (plc, .inl (g.1, 8, .inl (zk_ia c1))), (he, .inr (4, [.ref hrw])), (hrw, .inl (g.2.2.1, 3, .inr (.inr (.inr (.inr (zk_ra [s0, s1, s2])))))), (s0, .inl (g.1, 4, .inl (zk_ia (M1.getD 0 [])))), (s1, .inl (g.1, 4, .inl (zk_ia (M1.getD 1 [])))), (s2, .inl (g.1, 4, .inl (zk_ia (M1.getD 2 []))))]) := by
  refine zk_ofW (by decide) (Nat.le_of_ble_eq_true rfl) ?_
  intro pg ev s mm below meth cd A C hr hlocks hname Z ls hl
  have hx := C.1.1
  have hb := C.1.2.1
  have hml := C.1.2.2.1
  have hown := C.1.2.2.2.1
  have hts := C.1.2.2.2.2
  have hl : lv_has ls 5 [(0, .ref co), (1, .int (nI wd)), (2, .ref he)] := hl
  have hn := F.n31
  obtain ⟨H, hH⟩ : ∃ H, H = s.heap := ⟨_, rfl⟩
  obtain ⟨locs, hlocs⟩ : ∃ q : List Loc, q = [] := ⟨_, rfl⟩
  rw [← hH, ← hlocs] at Z ⊢
  refine lv_aload_n hx hb dX2_mended_0 rfl (lv_at hl 0 rfl) ?_
  refine lv_iload_n hx hb dX2_mended_1 rfl (lv_at hl 1 rfl) ?_
  have hlen_1 : (syn p n t wd S).length = 7 := by rw [syn_len]; exact hS
  refine zk_callV (cells' := 0) (slots' := 0) (rest := []) (n := 1) (wr := [(pl, .inr (3, [.ref plc])), (plc, .inl (g.1, 8, .inl (zk_ia c))), (he, .inr (4, [.ref hrw])), (hrw, .inl (g.2.2.1, 3, .inr (.inr (.inr (.inr (zk_ra [r0, r1, r2])))))), (r0, .inl (g.1, 4, .inl (zk_ia (M.getD 0 [])))), (r1, .inl (g.1, 4, .inl (zk_ia (M.getD 1 [])))), (r2, .inl (g.1, 4, .inl (zk_ia (M.getD 2 []))))]) C Z (m2_right l D g co hs pl t gn kd h0 hp hq p n P L wd F hwd t3 S hS) [0, 1, 2, 3, 4] [5, 6, 7, 8, 9, 10, 11] rfl rfl (by decide) (by decide) (by decide) 0 1 rfl rfl rfl q502 q503 q504 q20 q505 (by decide +kernel) rfl (Nat.le_of_ble_eq_true rfl) (Nat.le_of_ble_eq_true rfl) (Nat.le_of_ble_eq_true rfl) (Nat.le_of_ble_eq_true rfl) rfl rfl hl.1 rfl (Nat.le_of_ble_eq_true rfl) dX2_mended_2 (fun v w1 H locs hq Z => ?_)
  obtain ⟨rfl, rfl⟩ := hq
  have Z : zk_Z D A s H locs [(co, .inr (1, [.ref h0, .int (nI t), .int (nI gn), .int (nI kd), .ref hs, .ref pl])), (h0, .inr (2, [.int (nI n), .ref hp, .ref hq])), (hp, .inl (g.1, 62, .inl (zk_ia P))), (hq, .inl (g.1, 32, .inl (zk_ia L))), (hs, .inl (g.1, 7, .inl (zk_ia (syn p n t wd S)))), (pl, .inr (3, [.ref plc])), (plc, .inl (g.1, 8, .inl (zk_ia c))), (he, .inr (4, [.ref hrw])), (hrw, .inl (g.2.2.1, 3, .inr (.inr (.inr (.inr (zk_ra [r0, r1, r2])))))), (r0, .inl (g.1, 4, .inl (zk_ia (M.getD 0 [])))), (r1, .inl (g.1, 4, .inl (zk_ia (M.getD 1 [])))), (r2, .inl (g.1, 4, .inl (zk_ia (M.getD 2 []))))] := Z.sub [7, 8, 9, 10, 11, 0, 1, 2, 3, 4, 5, 6] (by decide) rfl
  refine W.eq (g2 := F0 mm 5 ls [.int (nI (rgt p n t wd))]) rfl ?_
  refine nr_eq0 (tgt := 10) hx hb (by have := rgt_lt (p := p) (n := n) (t := t) (wd := wd); omega) dX2_mended_5 (by decide) (fun c_1 => ?_) (fun c_1 => ?_)
  · refine lv_aload_n hx hb dX2_mended_10 rfl (lv_at hl 2 rfl) ?_
    refine lv_aload_n hx hb dX2_mended_11 rfl (lv_at hl 0 rfl) ?_
    refine zk_get C Z in_X2 0 rfl rfl 0 (by decide) q91 rfl (v := .ref h0) rfl dX2_mended_12 ?_
    refine lv_aload_n hx hb dX2_mended_15 rfl (lv_at hl 0 rfl) ?_
    refine zk_get C Z in_X2 0 rfl rfl 4 (by decide) q99 rfl (v := .ref hs) rfl dX2_mended_16 ?_
    refine lv_aload_n hx hb dX2_mended_19 rfl (lv_at hl 0 rfl) ?_
    refine zk_get C Z in_X2 0 rfl rfl 1 (by decide) q93 rfl (v := .int (nI t)) rfl dX2_mended_20 ?_
    refine lv_aload_n hx hb dX2_mended_23 rfl (lv_at hl 0 rfl) ?_
    refine zk_get C Z in_X2 0 rfl rfl 5 (by decide) q100 rfl (v := .ref pl) rfl dX2_mended_24 ?_
    have bS : zk_bs n t (syn p n t wd S) := syn_bs F hS t3 hS0
    refine zk_callF (x := zk_find) (cells' := 0) (slots' := 0) (rest := []) (n := 4) (wr := [(co, .inr (1, [.ref h0, .int (nI t), .int (nI gn), .int (nI kd), .ref hs, .ref pl]))]) C Z (m5_find l D g he hrw hs pl plc t h0 hp hq p n P L (syn p n t wd S) F bS t3 r0 r1 r2 M c hM hl8) [7, 8, 9, 10, 11, 1, 2, 3, 4, 5, 6] [0] rfl rfl (by decide) (by decide) (by decide) 7 4 rfl rfl C.2.2.2.2.1.1 q507 q535 q537 q23 q539 (by decide +kernel) rfl (Nat.le_of_ble_eq_true rfl) (Nat.le_of_ble_eq_true rfl) (Nat.le_of_ble_eq_true rfl) (Nat.le_of_ble_eq_true rfl) rfl rfl hl.1 rfl (Nat.le_of_ble_eq_true rfl) dX2_mended_27 (fun v w1 H locs hq Z => ?_)
    obtain ⟨rfl, s0, s1, s2, M1, hM1, rfl⟩ := hq
    have Z : zk_Z D A s H locs [(co, .inr (1, [.ref h0, .int (nI t), .int (nI gn), .int (nI kd), .ref hs, .ref pl])), (h0, .inr (2, [.int (nI n), .ref hp, .ref hq])), (hp, .inl (g.1, 62, .inl (zk_ia P))), (hq, .inl (g.1, 32, .inl (zk_ia L))), (hs, .inl (g.1, 7, .inl (zk_ia (syn p n t wd S)))), (pl, .inr (3, [.ref plc])), (plc, .inl (g.1, 8, .inl (zk_ia (equa p t (syn p n t wd S) M)))), (he, .inr (4, [.ref hrw])), (hrw, .inl (g.2.2.1, 3, .inr (.inr (.inr (.inr (zk_ra [s0, s1, s2])))))), (s0, .inl (g.1, 4, .inl (zk_ia (M1.getD 0 [])))), (s1, .inl (g.1, 4, .inl (zk_ia (M1.getD 1 [])))), (s2, .inl (g.1, 4, .inl (zk_ia (M1.getD 2 []))))] := Z.sub [0, 6, 7, 8, 9, 10, 11, 1, 2, 3, 4, 5] (by decide) rfl
    rw [loc_0 hS t3 hM] at Z
    have hloc := loc_ok (w := 0) (wd := wd) F t3
    refine W.eq (g2 := F0 mm 32 ls []) rfl ?_
    refine lv_iconst (v := nI 0) hx hb dX2_mended_32 (by decide) ?_
    refine lv_istore_n (lv' := [(3, .int (nI 0)), (0, .ref co), (1, .int (nI wd)), (2, .ref he)]) hx hb dX2_mended_33 rfl hl (by decide) rfl (fun ls hl => ?_)
    refine lv_iconst (v := nI 0) hx hb dX2_mended_34 (by decide) ?_
    refine lv_istore (lv' := [(4, .int (nI 0)), (3, .int (nI 0)), (0, .ref co), (1, .int (nI wd)), (2, .ref he)]) hx hb dX2_mended_35 hl (by decide) rfl (fun ls hl => ?_)
    refine lp2_mdEr C co h0 hs pl plc t gn kd hp hq p n P L F t1 t3 he hrw s0 s1 s2 M1 wd (syn p n t wd S) (loc 0 p n t wd) hloc.2 _ (fun H locs ls Z hl => ?_) n 0 0 H locs ls (by omega) rfl Z (lv_sub hl [2, 3, 4, 1, 0] rfl)
    rw [show zk_it (erF p n (loc 0 p n t wd)) n 0 0 = ers p n (loc 0 p n t wd) from rfl] at hl
    have he9 := ers_lt p n (loc 0 p n t wd)
    have hp9 := Nat.pow_le_pow_right (n := 2) (by decide) (show n ≤ 31 by omega)
    have hx9 : wd ^^^ ers p n (loc 0 p n t wd) < 2 ^ 31 := Nat.xor_lt_two_pow hwd (by omega)
    refine lv_iload_n hx hb dX2_mended_98 rfl (lv_at hl 3 rfl) ?_
    refine zk_callS (cells' := 0) (slots' := 0) (rest := []) (n := 1) (wr := [(co, .inr (1, [.ref h0, .int (nI t), .int (nI gn), .int (nI kd), .ref hs, .ref pl])), (h0, .inr (2, [.int (nI n), .ref hp, .ref hq])), (hp, .inl (g.1, 62, .inl (zk_ia P))), (hq, .inl (g.1, 32, .inl (zk_ia L))), (hs, .inl (g.1, 7, .inl (zk_ia (syn p n t wd S)))), (pl, .inr (3, [.ref plc])), (plc, .inl (g.1, 8, .inl (zk_ia (loc 0 p n t wd)))), (he, .inr (4, [.ref hrw])), (hrw, .inl (g.2.2.1, 3, .inr (.inr (.inr (.inr (zk_ra [s0, s1, s2])))))), (s0, .inl (g.1, 4, .inl (zk_ia (M1.getD 0 [])))), (s1, .inl (g.1, 4, .inl (zk_ia (M1.getD 1 [])))), (s2, .inl (g.1, 4, .inl (zk_ia (M1.getD 2 []))))]) C Z (mJ_bc l D g (ers p n (loc 0 p n t wd)) (by omega)) [] [0, 1, 2, 3, 4, 5, 6, 7, 8, 9, 10, 11] rfl rfl (by decide) (by decide) (by decide) q572 q448 q36 q449 (by decide +kernel) rfl (Nat.le_of_ble_eq_true rfl) (Nat.le_of_ble_eq_true rfl) (Nat.le_of_ble_eq_true rfl) (Nat.le_of_ble_eq_true rfl) rfl rfl hl.1 rfl (Nat.le_of_ble_eq_true rfl) dX2_mended_99 (fun v w1 H locs hq Z => ?_)
    obtain ⟨rfl, rfl⟩ := hq
    have Z : zk_Z D A s H locs [(co, .inr (1, [.ref h0, .int (nI t), .int (nI gn), .int (nI kd), .ref hs, .ref pl])), (h0, .inr (2, [.int (nI n), .ref hp, .ref hq])), (hp, .inl (g.1, 62, .inl (zk_ia P))), (hq, .inl (g.1, 32, .inl (zk_ia L))), (hs, .inl (g.1, 7, .inl (zk_ia (syn p n t wd S)))), (pl, .inr (3, [.ref plc])), (plc, .inl (g.1, 8, .inl (zk_ia (loc 0 p n t wd)))), (he, .inr (4, [.ref hrw])), (hrw, .inl (g.2.2.1, 3, .inr (.inr (.inr (.inr (zk_ra [s0, s1, s2])))))), (s0, .inl (g.1, 4, .inl (zk_ia (M1.getD 0 [])))), (s1, .inl (g.1, 4, .inl (zk_ia (M1.getD 1 [])))), (s2, .inl (g.1, 4, .inl (zk_ia (M1.getD 2 []))))] := Z.sub [0, 1, 2, 3, 4, 5, 6, 7, 8, 9, 10, 11] (by decide) rfl
    refine W.eq (g2 := F0 mm 102 ls [.int (nI (bct (ers p n (loc 0 p n t wd))))]) rfl ?_
    refine lv_aload_n hx hb dX2_mended_102 rfl (lv_at hl 0 rfl) ?_
    refine zk_get C Z in_X2 0 rfl rfl 1 (by decide) q93 rfl (v := .int (nI t)) rfl dX2_mended_103 ?_
    refine nr_gt (tgt := 119) hx hb (by have : bct (ers p n (loc 0 p n t wd)) ≤ 63 := Nat.and_le_right; omega) (by omega) dX2_mended_106 (by decide) (fun c_2 => absurd c_2 (mdd_2 hm c_1).1) (fun c_2 => ?_)
    refine lv_aload_n hx hb dX2_mended_109 rfl (lv_at hl 0 rfl) ?_
    refine lv_iload_n hx hb dX2_mended_110 rfl (lv_at hl 1 rfl) ?_
    refine lv_iload_n hx hb dX2_mended_111 rfl (lv_at hl 3 rfl) ?_
    refine nr_ixor hx hb dX2_mended_112 ?_
    have hlen_3 : (syn p n t (wd ^^^ (ers p n (loc 0 p n t wd))) (syn p n t wd S)).length = 7 := by rw [syn_len]; exact hlen_1
    refine zk_callV (cells' := 0) (slots' := 0) (rest := []) (n := 1) (wr := [(pl, .inr (3, [.ref plc])), (plc, .inl (g.1, 8, .inl (zk_ia (loc 0 p n t wd)))), (he, .inr (4, [.ref hrw])), (hrw, .inl (g.2.2.1, 3, .inr (.inr (.inr (.inr (zk_ra [s0, s1, s2])))))), (s0, .inl (g.1, 4, .inl (zk_ia (M1.getD 0 [])))), (s1, .inl (g.1, 4, .inl (zk_ia (M1.getD 1 [])))), (s2, .inl (g.1, 4, .inl (zk_ia (M1.getD 2 []))))]) C Z (m2_right l D g co hs pl t gn kd h0 hp hq p n P L (wd ^^^ (ers p n (loc 0 p n t wd))) F hx9 t3 (syn p n t wd S) hlen_1) [0, 1, 2, 3, 4] [5, 6, 7, 8, 9, 10, 11] rfl rfl (by decide) (by decide) (by decide) 0 1 rfl rfl rfl q502 q503 q504 q20 q505 (by decide +kernel) rfl (Nat.le_of_ble_eq_true rfl) (Nat.le_of_ble_eq_true rfl) (Nat.le_of_ble_eq_true rfl) (Nat.le_of_ble_eq_true rfl) rfl rfl hl.1 rfl (Nat.le_of_ble_eq_true rfl) dX2_mended_113 (fun v w1 H locs hq Z => ?_)
    obtain ⟨rfl, rfl⟩ := hq
    have Z : zk_Z D A s H locs [(co, .inr (1, [.ref h0, .int (nI t), .int (nI gn), .int (nI kd), .ref hs, .ref pl])), (h0, .inr (2, [.int (nI n), .ref hp, .ref hq])), (hp, .inl (g.1, 62, .inl (zk_ia P))), (hq, .inl (g.1, 32, .inl (zk_ia L))), (hs, .inl (g.1, 7, .inl (zk_ia (syn p n t (wd ^^^ (ers p n (loc 0 p n t wd))) (syn p n t wd S))))), (pl, .inr (3, [.ref plc])), (plc, .inl (g.1, 8, .inl (zk_ia (loc 0 p n t wd)))), (he, .inr (4, [.ref hrw])), (hrw, .inl (g.2.2.1, 3, .inr (.inr (.inr (.inr (zk_ra [s0, s1, s2])))))), (s0, .inl (g.1, 4, .inl (zk_ia (M1.getD 0 [])))), (s1, .inl (g.1, 4, .inl (zk_ia (M1.getD 1 [])))), (s2, .inl (g.1, 4, .inl (zk_ia (M1.getD 2 []))))] := Z.sub [7, 8, 9, 10, 11, 0, 1, 2, 3, 4, 5, 6] (by decide) rfl
    refine W.eq (g2 := F0 mm 116 ls [.int (nI (rgt p n t (wd ^^^ (ers p n (loc 0 p n t wd)))))]) rfl ?_
    refine nr_ne0 (tgt := 129) hx hb (by have := rgt_lt (p := p) (n := n) (t := t) (wd := wd ^^^ ers p n (loc 0 p n t wd)); omega) dX2_mended_116 (by decide) (fun c_4 => ?_) (fun c_4 => absurd c_4 (mdd_2 hm c_1).2.1)
    refine lv_iload_n hx hb dX2_mended_129 rfl (lv_at hl 1 rfl) ?_
    refine lv_iload_n hx hb dX2_mended_130 rfl (lv_at hl 3 rfl) ?_
    refine nr_ixor hx hb dX2_mended_131 ?_
    exact zk_iret C hr hlocks Z ⟨by rw [(mdd_2 hm c_1).2.2], ⟨_, _, s0, s1, s2, M1, hlen_3, syn_0 (by rw [syn_len]; exact hS) t3 (syn_0 hS t3 hS0), hloc.1, hM1, rfl⟩⟩ (Nat.le_of_ble_eq_true rfl) (Nat.le_of_ble_eq_true rfl) dX2_mended_132
  · refine lv_iload_n hx hb dX2_mended_8 rfl (lv_at hl 1 rfl) ?_
    exact zk_iret C hr hlocks Z ⟨by rw [mdd_1 hm c_1], ⟨_, _, r0, r1, r2, M, hlen_1, syn_0 hS t3 hS0, hl8, hM, rfl⟩⟩ (Nat.le_of_ble_eq_true rfl) (Nat.le_of_ble_eq_true rfl) dX2_mended_9

set_option maxHeartbeats 4000000 in
/-- Code.mended, E, which throws -/
theorem t2_mdE (l : Launch) (hfl : l.flags = flags0) (D : va_G) (g : G4) (co h0 hs pl plc t gn kd : Nat) (hp hq p n : Nat) (P L : List Nat) (F : zk_F p n P L) (t1 : 1 ≤ t) (t3 : t ≤ 3) (he hrw r0 r1 r2 : Nat) (M : List (List Nat)) (hM : zk_ml M) (wd : Nat) (hwd : wd < 2 ^ 31) (S c : List Nat) (hS : S.length = 7) (hS0 : S.getD 0 0 = 0) (hl8 : c.length = 8) (hm : mdd 0 p n t wd = none) : zk_MT l yX2_mended (ws_ yX2_mended cX2_mended 5 (some .int)) (zk_R 6 1 6) D g [.ref co, .int (nI wd), .ref he] [(co, .inr (1, [.ref h0, .int (nI t), .int (nI gn), .int (nI kd), .ref hs, .ref pl])), (h0, .inr (2, [.int (nI n), .ref hp, .ref hq])), (hp, .inl (g.1, 62, .inl (zk_ia P))), (hq, .inl (g.1, 32, .inl (zk_ia L))), (hs, .inl (g.1, 7, .inl (zk_ia S))), (pl, .inr (3, [.ref plc])), (plc, .inl (g.1, 8, .inl (zk_ia c))), (he, .inr (4, [.ref hrw])), (hrw, .inl (g.2.2.1, 3, .inr (.inr (.inr (.inr (zk_ra [r0, r1, r2])))))), (r0, .inl (g.1, 4, .inl (zk_ia (M.getD 0 [])))), (r1, .inl (g.1, 4, .inl (zk_ia (M.getD 1 [])))), (r2, .inl (g.1, 4, .inl (zk_ia (M.getD 2 []))))] zk_ARE (fun w => ∃ (S1 c1 : List Nat) (s0 s1 s2 : Nat) (M1 : List (List Nat)), S1.length = 7 ∧ S1.getD 0 0 = 0 ∧ c1.length = 8 ∧ zk_ml M1 ∧ w = [(co, .inr (1, [.ref h0, .int (nI t), .int (nI gn), .int (nI kd), .ref hs, .ref pl])), (h0, .inr (2, [.int (nI n), .ref hp, .ref hq])), (hp, .inl (g.1, 62, .inl (zk_ia P))), (hq, .inl (g.1, 32, .inl (zk_ia L))), (hs, .inl (g.1, 7, .inl (zk_ia S1))), (pl, .inr (3, [.ref plc])), (plc, .inl (g.1, 8, .inl (zk_ia c1))), (he, .inr (4, [.ref hrw])), (hrw, .inl (g.2.2.1, 3, .inr (.inr (.inr (.inr (zk_ra [s0, s1, s2])))))), (s0, .inl (g.1, 4, .inl (zk_ia (M1.getD 0 [])))), (s1, .inl (g.1, 4, .inl (zk_ia (M1.getD 1 [])))), (s2, .inl (g.1, 4, .inl (zk_ia (M1.getD 2 []))))]) := by
  refine zk_ofWT (by decide) (Nat.le_of_ble_eq_true rfl) ?_
  intro pg ev s mm below meth cd A C hlocks hno Z ls hl
  have hx := C.1.1
  have hb := C.1.2.1
  have hml := C.1.2.2.1
  have hown := C.1.2.2.2.1
  have hts := C.1.2.2.2.2
  have hl : lv_has ls 5 [(0, .ref co), (1, .int (nI wd)), (2, .ref he)] := hl
  have hn := F.n31
  obtain ⟨H, hH⟩ : ∃ H, H = s.heap := ⟨_, rfl⟩
  obtain ⟨locs, hlocs⟩ : ∃ q : List Loc, q = [] := ⟨_, rfl⟩
  rw [← hH, ← hlocs] at Z ⊢
  refine lv_aload_n hx hb dX2_mended_0 rfl (lv_at hl 0 rfl) ?_
  refine lv_iload_n hx hb dX2_mended_1 rfl (lv_at hl 1 rfl) ?_
  have hlen_1 : (syn p n t wd S).length = 7 := by rw [syn_len]; exact hS
  refine zk_callV (cells' := 0) (slots' := 0) (rest := []) (n := 1) (wr := [(pl, .inr (3, [.ref plc])), (plc, .inl (g.1, 8, .inl (zk_ia c))), (he, .inr (4, [.ref hrw])), (hrw, .inl (g.2.2.1, 3, .inr (.inr (.inr (.inr (zk_ra [r0, r1, r2])))))), (r0, .inl (g.1, 4, .inl (zk_ia (M.getD 0 [])))), (r1, .inl (g.1, 4, .inl (zk_ia (M.getD 1 [])))), (r2, .inl (g.1, 4, .inl (zk_ia (M.getD 2 []))))]) C Z (m2_right l D g co hs pl t gn kd h0 hp hq p n P L wd F hwd t3 S hS) [0, 1, 2, 3, 4] [5, 6, 7, 8, 9, 10, 11] rfl rfl (by decide) (by decide) (by decide) 0 1 rfl rfl rfl q502 q503 q504 q20 q505 (by decide +kernel) rfl (Nat.le_of_ble_eq_true rfl) (Nat.le_of_ble_eq_true rfl) (Nat.le_of_ble_eq_true rfl) (Nat.le_of_ble_eq_true rfl) rfl rfl hl.1 rfl (Nat.le_of_ble_eq_true rfl) dX2_mended_2 (fun v w1 H locs hq Z => ?_)
  obtain ⟨rfl, rfl⟩ := hq
  have Z : zk_Z D A s H locs [(co, .inr (1, [.ref h0, .int (nI t), .int (nI gn), .int (nI kd), .ref hs, .ref pl])), (h0, .inr (2, [.int (nI n), .ref hp, .ref hq])), (hp, .inl (g.1, 62, .inl (zk_ia P))), (hq, .inl (g.1, 32, .inl (zk_ia L))), (hs, .inl (g.1, 7, .inl (zk_ia (syn p n t wd S)))), (pl, .inr (3, [.ref plc])), (plc, .inl (g.1, 8, .inl (zk_ia c))), (he, .inr (4, [.ref hrw])), (hrw, .inl (g.2.2.1, 3, .inr (.inr (.inr (.inr (zk_ra [r0, r1, r2])))))), (r0, .inl (g.1, 4, .inl (zk_ia (M.getD 0 [])))), (r1, .inl (g.1, 4, .inl (zk_ia (M.getD 1 [])))), (r2, .inl (g.1, 4, .inl (zk_ia (M.getD 2 []))))] := Z.sub [7, 8, 9, 10, 11, 0, 1, 2, 3, 4, 5, 6] (by decide) rfl
  refine W.eq (g2 := F0 mm 5 ls [.int (nI (rgt p n t wd))]) rfl ?_
  refine nr_eq0 (tgt := 10) hx hb (by have := rgt_lt (p := p) (n := n) (t := t) (wd := wd); omega) dX2_mended_5 (by decide) (fun c_1 => ?_) (fun c_1 => absurd c_1 (fun q => q (mdd_3 hm).1))
  refine lv_aload_n hx hb dX2_mended_10 rfl (lv_at hl 2 rfl) ?_
  refine lv_aload_n hx hb dX2_mended_11 rfl (lv_at hl 0 rfl) ?_
  refine zk_get C Z in_X2 0 rfl rfl 0 (by decide) q91 rfl (v := .ref h0) rfl dX2_mended_12 ?_
  refine lv_aload_n hx hb dX2_mended_15 rfl (lv_at hl 0 rfl) ?_
  refine zk_get C Z in_X2 0 rfl rfl 4 (by decide) q99 rfl (v := .ref hs) rfl dX2_mended_16 ?_
  refine lv_aload_n hx hb dX2_mended_19 rfl (lv_at hl 0 rfl) ?_
  refine zk_get C Z in_X2 0 rfl rfl 1 (by decide) q93 rfl (v := .int (nI t)) rfl dX2_mended_20 ?_
  refine lv_aload_n hx hb dX2_mended_23 rfl (lv_at hl 0 rfl) ?_
  refine zk_get C Z in_X2 0 rfl rfl 5 (by decide) q100 rfl (v := .ref pl) rfl dX2_mended_24 ?_
  have bS : zk_bs n t (syn p n t wd S) := syn_bs F hS t3 hS0
  refine zk_callF (x := zk_find) (cells' := 0) (slots' := 0) (rest := []) (n := 4) (wr := [(co, .inr (1, [.ref h0, .int (nI t), .int (nI gn), .int (nI kd), .ref hs, .ref pl]))]) C Z (m5_find l D g he hrw hs pl plc t h0 hp hq p n P L (syn p n t wd S) F bS t3 r0 r1 r2 M c hM hl8) [7, 8, 9, 10, 11, 1, 2, 3, 4, 5, 6] [0] rfl rfl (by decide) (by decide) (by decide) 7 4 rfl rfl C.2.2.2.2.1.1 q507 q535 q537 q23 q539 (by decide +kernel) rfl (Nat.le_of_ble_eq_true rfl) (Nat.le_of_ble_eq_true rfl) (Nat.le_of_ble_eq_true rfl) (Nat.le_of_ble_eq_true rfl) rfl rfl hl.1 rfl (Nat.le_of_ble_eq_true rfl) dX2_mended_27 (fun v w1 H locs hq Z => ?_)
  obtain ⟨rfl, s0, s1, s2, M1, hM1, rfl⟩ := hq
  have Z : zk_Z D A s H locs [(co, .inr (1, [.ref h0, .int (nI t), .int (nI gn), .int (nI kd), .ref hs, .ref pl])), (h0, .inr (2, [.int (nI n), .ref hp, .ref hq])), (hp, .inl (g.1, 62, .inl (zk_ia P))), (hq, .inl (g.1, 32, .inl (zk_ia L))), (hs, .inl (g.1, 7, .inl (zk_ia (syn p n t wd S)))), (pl, .inr (3, [.ref plc])), (plc, .inl (g.1, 8, .inl (zk_ia (equa p t (syn p n t wd S) M)))), (he, .inr (4, [.ref hrw])), (hrw, .inl (g.2.2.1, 3, .inr (.inr (.inr (.inr (zk_ra [s0, s1, s2])))))), (s0, .inl (g.1, 4, .inl (zk_ia (M1.getD 0 [])))), (s1, .inl (g.1, 4, .inl (zk_ia (M1.getD 1 [])))), (s2, .inl (g.1, 4, .inl (zk_ia (M1.getD 2 []))))] := Z.sub [0, 6, 7, 8, 9, 10, 11, 1, 2, 3, 4, 5] (by decide) rfl
  rw [loc_0 hS t3 hM] at Z
  have hloc := loc_ok (w := 0) (wd := wd) F t3
  refine W.eq (g2 := F0 mm 32 ls []) rfl ?_
  refine lv_iconst (v := nI 0) hx hb dX2_mended_32 (by decide) ?_
  refine lv_istore_n (lv' := [(3, .int (nI 0)), (0, .ref co), (1, .int (nI wd)), (2, .ref he)]) hx hb dX2_mended_33 rfl hl (by decide) rfl (fun ls hl => ?_)
  refine lv_iconst (v := nI 0) hx hb dX2_mended_34 (by decide) ?_
  refine lv_istore (lv' := [(4, .int (nI 0)), (3, .int (nI 0)), (0, .ref co), (1, .int (nI wd)), (2, .ref he)]) hx hb dX2_mended_35 hl (by decide) rfl (fun ls hl => ?_)
  refine lp2_mdEt C co h0 hs pl plc t gn kd hp hq p n P L F t1 t3 he hrw s0 s1 s2 M1 wd (syn p n t wd S) (loc 0 p n t wd) hloc.2 _ (fun H locs ls Z hl => ?_) n 0 0 H locs ls (by omega) rfl Z (lv_sub hl [2, 3, 4, 1, 0] rfl)
  rw [show zk_it (erF p n (loc 0 p n t wd)) n 0 0 = ers p n (loc 0 p n t wd) from rfl] at hl
  have he9 := ers_lt p n (loc 0 p n t wd)
  have hp9 := Nat.pow_le_pow_right (n := 2) (by decide) (show n ≤ 31 by omega)
  have hx9 : wd ^^^ ers p n (loc 0 p n t wd) < 2 ^ 31 := Nat.xor_lt_two_pow hwd (by omega)
  refine lv_iload_n hx hb dX2_mended_98 rfl (lv_at hl 3 rfl) ?_
  refine zk_callS (cells' := 0) (slots' := 0) (rest := []) (n := 1) (wr := [(co, .inr (1, [.ref h0, .int (nI t), .int (nI gn), .int (nI kd), .ref hs, .ref pl])), (h0, .inr (2, [.int (nI n), .ref hp, .ref hq])), (hp, .inl (g.1, 62, .inl (zk_ia P))), (hq, .inl (g.1, 32, .inl (zk_ia L))), (hs, .inl (g.1, 7, .inl (zk_ia (syn p n t wd S)))), (pl, .inr (3, [.ref plc])), (plc, .inl (g.1, 8, .inl (zk_ia (loc 0 p n t wd)))), (he, .inr (4, [.ref hrw])), (hrw, .inl (g.2.2.1, 3, .inr (.inr (.inr (.inr (zk_ra [s0, s1, s2])))))), (s0, .inl (g.1, 4, .inl (zk_ia (M1.getD 0 [])))), (s1, .inl (g.1, 4, .inl (zk_ia (M1.getD 1 [])))), (s2, .inl (g.1, 4, .inl (zk_ia (M1.getD 2 []))))]) C Z (mJ_bc l D g (ers p n (loc 0 p n t wd)) (by omega)) [] [0, 1, 2, 3, 4, 5, 6, 7, 8, 9, 10, 11] rfl rfl (by decide) (by decide) (by decide) q572 q448 q36 q449 (by decide +kernel) rfl (Nat.le_of_ble_eq_true rfl) (Nat.le_of_ble_eq_true rfl) (Nat.le_of_ble_eq_true rfl) (Nat.le_of_ble_eq_true rfl) rfl rfl hl.1 rfl (Nat.le_of_ble_eq_true rfl) dX2_mended_99 (fun v w1 H locs hq Z => ?_)
  obtain ⟨rfl, rfl⟩ := hq
  have Z : zk_Z D A s H locs [(co, .inr (1, [.ref h0, .int (nI t), .int (nI gn), .int (nI kd), .ref hs, .ref pl])), (h0, .inr (2, [.int (nI n), .ref hp, .ref hq])), (hp, .inl (g.1, 62, .inl (zk_ia P))), (hq, .inl (g.1, 32, .inl (zk_ia L))), (hs, .inl (g.1, 7, .inl (zk_ia (syn p n t wd S)))), (pl, .inr (3, [.ref plc])), (plc, .inl (g.1, 8, .inl (zk_ia (loc 0 p n t wd)))), (he, .inr (4, [.ref hrw])), (hrw, .inl (g.2.2.1, 3, .inr (.inr (.inr (.inr (zk_ra [s0, s1, s2])))))), (s0, .inl (g.1, 4, .inl (zk_ia (M1.getD 0 [])))), (s1, .inl (g.1, 4, .inl (zk_ia (M1.getD 1 [])))), (s2, .inl (g.1, 4, .inl (zk_ia (M1.getD 2 []))))] := Z.sub [0, 1, 2, 3, 4, 5, 6, 7, 8, 9, 10, 11] (by decide) rfl
  refine W.eq (g2 := F0 mm 102 ls [.int (nI (bct (ers p n (loc 0 p n t wd))))]) rfl ?_
  refine lv_aload_n hx hb dX2_mended_102 rfl (lv_at hl 0 rfl) ?_
  refine zk_get C Z in_X2 0 rfl rfl 1 (by decide) q93 rfl (v := .int (nI t)) rfl dX2_mended_103 ?_
  refine nr_gt (tgt := 119) hx hb (by have : bct (ers p n (loc 0 p n t wd)) ≤ 63 := Nat.and_le_right; omega) (by omega) dX2_mended_106 (by decide) (fun c_2 => ?_) (fun c_2 => ?_)
  · exact zk_throw hfl C Z hlocks hno (by decide +kernel) (zk_ownARE q575) q573 q30 q574 ⟨_, _, s0, s1, s2, M1, hlen_1, syn_0 hS t3 hS0, hloc.1, hM1, rfl⟩ (Nat.le_of_ble_eq_true rfl) (Nat.le_of_ble_eq_true rfl) (Nat.le_of_ble_eq_true rfl) (Nat.le_of_ble_eq_true rfl) (Nat.le_of_ble_eq_true rfl) (Nat.le_of_ble_eq_true rfl) hl.1 dX2_mended_119 dX2_mended_122 dX2_mended_123 dX2_mended_125 dX2_mended_128
  · refine lv_aload_n hx hb dX2_mended_109 rfl (lv_at hl 0 rfl) ?_
    refine lv_iload_n hx hb dX2_mended_110 rfl (lv_at hl 1 rfl) ?_
    refine lv_iload_n hx hb dX2_mended_111 rfl (lv_at hl 3 rfl) ?_
    refine nr_ixor hx hb dX2_mended_112 ?_
    have hlen_3 : (syn p n t (wd ^^^ (ers p n (loc 0 p n t wd))) (syn p n t wd S)).length = 7 := by rw [syn_len]; exact hlen_1
    refine zk_callV (cells' := 0) (slots' := 0) (rest := []) (n := 1) (wr := [(pl, .inr (3, [.ref plc])), (plc, .inl (g.1, 8, .inl (zk_ia (loc 0 p n t wd)))), (he, .inr (4, [.ref hrw])), (hrw, .inl (g.2.2.1, 3, .inr (.inr (.inr (.inr (zk_ra [s0, s1, s2])))))), (s0, .inl (g.1, 4, .inl (zk_ia (M1.getD 0 [])))), (s1, .inl (g.1, 4, .inl (zk_ia (M1.getD 1 [])))), (s2, .inl (g.1, 4, .inl (zk_ia (M1.getD 2 []))))]) C Z (m2_right l D g co hs pl t gn kd h0 hp hq p n P L (wd ^^^ (ers p n (loc 0 p n t wd))) F hx9 t3 (syn p n t wd S) hlen_1) [0, 1, 2, 3, 4] [5, 6, 7, 8, 9, 10, 11] rfl rfl (by decide) (by decide) (by decide) 0 1 rfl rfl rfl q502 q503 q504 q20 q505 (by decide +kernel) rfl (Nat.le_of_ble_eq_true rfl) (Nat.le_of_ble_eq_true rfl) (Nat.le_of_ble_eq_true rfl) (Nat.le_of_ble_eq_true rfl) rfl rfl hl.1 rfl (Nat.le_of_ble_eq_true rfl) dX2_mended_113 (fun v w1 H locs hq Z => ?_)
    obtain ⟨rfl, rfl⟩ := hq
    have Z : zk_Z D A s H locs [(co, .inr (1, [.ref h0, .int (nI t), .int (nI gn), .int (nI kd), .ref hs, .ref pl])), (h0, .inr (2, [.int (nI n), .ref hp, .ref hq])), (hp, .inl (g.1, 62, .inl (zk_ia P))), (hq, .inl (g.1, 32, .inl (zk_ia L))), (hs, .inl (g.1, 7, .inl (zk_ia (syn p n t (wd ^^^ (ers p n (loc 0 p n t wd))) (syn p n t wd S))))), (pl, .inr (3, [.ref plc])), (plc, .inl (g.1, 8, .inl (zk_ia (loc 0 p n t wd)))), (he, .inr (4, [.ref hrw])), (hrw, .inl (g.2.2.1, 3, .inr (.inr (.inr (.inr (zk_ra [s0, s1, s2])))))), (s0, .inl (g.1, 4, .inl (zk_ia (M1.getD 0 [])))), (s1, .inl (g.1, 4, .inl (zk_ia (M1.getD 1 [])))), (s2, .inl (g.1, 4, .inl (zk_ia (M1.getD 2 []))))] := Z.sub [7, 8, 9, 10, 11, 0, 1, 2, 3, 4, 5, 6] (by decide) rfl
    refine W.eq (g2 := F0 mm 116 ls [.int (nI (rgt p n t (wd ^^^ (ers p n (loc 0 p n t wd)))))]) rfl ?_
    refine nr_ne0 (tgt := 129) hx hb (by have := rgt_lt (p := p) (n := n) (t := t) (wd := wd ^^^ ers p n (loc 0 p n t wd)); omega) dX2_mended_116 (by decide) (fun c_4 => absurd c_4 (fun q => q ((mdd_3 hm).2 (by omega)))) (fun c_4 => ?_)
    exact zk_throw hfl C Z hlocks hno (by decide +kernel) (zk_ownARE q575) q573 q30 q574 ⟨_, _, s0, s1, s2, M1, hlen_3, syn_0 (by rw [syn_len]; exact hS) t3 (syn_0 hS t3 hS0), hloc.1, hM1, rfl⟩ (Nat.le_of_ble_eq_true rfl) (Nat.le_of_ble_eq_true rfl) (Nat.le_of_ble_eq_true rfl) (Nat.le_of_ble_eq_true rfl) (Nat.le_of_ble_eq_true rfl) (Nat.le_of_ble_eq_true rfl) hl.1 dX2_mended_119 dX2_mended_122 dX2_mended_123 dX2_mended_125 dX2_mended_128

set_option maxHeartbeats 4000000 in
theorem lp2_mdDr {pg : Program} {l : Launch} {ev : Env} {s : State} {mm : MethodId} {args : Array Value} {below : List Frame} {meth : Method} {cd : Code} {Q : State → Prop} {D : va_G} {g : G4} {A : Nat → Prop} (C : zk_C pg s mm cd args cX2_mended 5 RX2 D g A) (co h0 hs pl plc t gn kd : Nat) (hp hq p n : Nat) (P L : List Nat) (F : zk_F p n P L) (t1 : 1 ≤ t) (t3 : t ≤ 3) (hv a1 b1 a2 b2 a3 b3 a4 b4 : Nat) (xh xl xb xn : List Nat) (wd : Nat) (S c : List Nat) (bc : zk_bd n c) (fin : Nat) (kk : ∀ (H : Heap) (locs : List Loc) (ls : Array Slot), zk_Z D A s H locs [(co, .inr (1, [.ref h0, .int (nI t), .int (nI gn), .int (nI kd), .ref hs, .ref pl])), (h0, .inr (2, [.int (nI n), .ref hp, .ref hq])), (hp, .inl (g.1, 62, .inl (zk_ia P))), (hq, .inl (g.1, 32, .inl (zk_ia L))), (hs, .inl (g.1, 7, .inl (zk_ia S))), (pl, .inr (3, [.ref plc])), (plc, .inl (g.1, 8, .inl (zk_ia c))), (hv, .inr (5, [.ref a1, .ref a2, .ref a3, .ref a4])), (a1, .inr (3, [.ref b1])), (b1, .inl (g.1, 8, .inl (zk_ia xh))), (a2, .inr (3, [.ref b2])), (b2, .inl (g.1, 8, .inl (zk_ia xl))), (a3, .inr (3, [.ref b3])), (b3, .inl (g.1, 8, .inl (zk_ia xb))), (a4, .inr (3, [.ref b4])), (b4, .inl (g.1, 8, .inl (zk_ia xn)))] → lv_has ls 5 [(0, .ref co), (1, .int (nI wd)), (2, .ref hv), (3, .int (nI fin))] → W pg l ev (zk_R 6 0 0) s mm args below meth cd H locs 0 0 Q (F0 mm 98 ls [])) :
    ∀ (k : Nat) (i e : Nat) (H : Heap) (locs : List Loc) (ls : Array Slot), (i + k = n) → (zk_it (erF p n c) k i e = fin) → zk_Z D A s H locs [(co, .inr (1, [.ref h0, .int (nI t), .int (nI gn), .int (nI kd), .ref hs, .ref pl])), (h0, .inr (2, [.int (nI n), .ref hp, .ref hq])), (hp, .inl (g.1, 62, .inl (zk_ia P))), (hq, .inl (g.1, 32, .inl (zk_ia L))), (hs, .inl (g.1, 7, .inl (zk_ia S))), (pl, .inr (3, [.ref plc])), (plc, .inl (g.1, 8, .inl (zk_ia c))), (hv, .inr (5, [.ref a1, .ref a2, .ref a3, .ref a4])), (a1, .inr (3, [.ref b1])), (b1, .inl (g.1, 8, .inl (zk_ia xh))), (a2, .inr (3, [.ref b2])), (b2, .inl (g.1, 8, .inl (zk_ia xl))), (a3, .inr (3, [.ref b3])), (b3, .inl (g.1, 8, .inl (zk_ia xb))), (a4, .inr (3, [.ref b4])), (b4, .inl (g.1, 8, .inl (zk_ia xn)))] → lv_has ls 5 [(0, .ref co), (1, .int (nI wd)), (2, .ref hv), (3, .int (nI e)), (4, .int (nI i))] → W pg l ev (zk_R 6 0 0) s mm args below meth cd H locs 0 0 Q (F0 mm 37 ls []) := by
  have hx := C.1.1
  have hb := C.1.2.1
  have hml := C.1.2.2.1
  have hown := C.1.2.2.2.1
  have hts := C.1.2.2.2.2
  have hn := F.n31
  intro k
  induction k with
  | zero =>
    intro i e H locs ls hik hfin Z hl
    have hfin : e = fin := hfin
    subst hfin
    refine lv_iload hx hb dX2_mended_37 (lv_at hl 4 rfl) ?_
    refine lv_aload_n hx hb dX2_mended_39 rfl (lv_at hl 0 rfl) ?_
    refine zk_get C Z in_X2 0 rfl rfl 0 (by decide) q91 rfl (v := .ref h0) rfl dX2_mended_40 ?_
    refine zk_getN C Z in_X3 1 rfl rfl 0 (by decide) q59 rfl (v := .int (nI n)) rfl dX2_mended_43 ?_
    refine nr_ge (tgt := 98) hx hb (by omega) (by omega) dX2_mended_46 (by decide) (fun c_1 => ?_) (fun c_1 => absurd c_1 (by omega))
    exact kk  H locs ls  Z (lv_sub hl [0, 1, 2, 3] rfl)
  | succ k ih =>
    intro i e H locs ls hik hfin Z hl
    refine lv_iload hx hb dX2_mended_37 (lv_at hl 4 rfl) ?_
    refine lv_aload_n hx hb dX2_mended_39 rfl (lv_at hl 0 rfl) ?_
    refine zk_get C Z in_X2 0 rfl rfl 0 (by decide) q91 rfl (v := .ref h0) rfl dX2_mended_40 ?_
    refine zk_getN C Z in_X3 1 rfl rfl 0 (by decide) q59 rfl (v := .int (nI n)) rfl dX2_mended_43 ?_
    refine nr_ge (tgt := 98) hx hb (by omega) (by omega) dX2_mended_46 (by decide) (fun c_1 => absurd c_1 (by omega)) (fun c_1 => ?_)
    refine lv_iload_n hx hb dX2_mended_49 rfl (lv_at hl 3 rfl) ?_
    refine lv_aload_n hx hb dX2_mended_50 rfl (lv_at hl 0 rfl) ?_
    refine zk_get C Z in_X2 0 rfl rfl 5 (by decide) q100 rfl (v := .ref pl) rfl dX2_mended_51 ?_
    refine lv_aload_n hx hb dX2_mended_54 rfl (lv_at hl 0 rfl) ?_
    refine zk_get C Z in_X2 0 rfl rfl 0 (by decide) q91 rfl (v := .ref h0) rfl dX2_mended_55 ?_
    refine lv_aload_n hx hb dX2_mended_58 rfl (lv_at hl 0 rfl) ?_
    refine zk_get C Z in_X2 0 rfl rfl 0 (by decide) q91 rfl (v := .ref h0) rfl dX2_mended_59 ?_
    refine zk_getN C Z in_X3 1 rfl rfl 0 (by decide) q59 rfl (v := .int (nI n)) rfl dX2_mended_62 ?_
    refine lv_iload hx hb dX2_mended_65 (lv_at hl 4 rfl) ?_
    refine nr_isub hx hb (by omega) dX2_mended_67 ?_
    refine lv_aload_n hx hb dX2_mended_68 rfl (lv_at hl 0 rfl) ?_
    refine zk_get C Z in_X2 0 rfl rfl 0 (by decide) q91 rfl (v := .ref h0) rfl dX2_mended_69 ?_
    refine zk_getN C Z in_X3 1 rfl rfl 0 (by decide) q59 rfl (v := .int (nI n)) rfl dX2_mended_72 ?_
    refine nr_irem hx hb (by omega) (by omega) (by omega) dX2_mended_75 ?_
    refine zk_callV (cells' := 0) (slots' := 0) (rest := [.int (nI e)]) (n := 2) (wr := [(co, .inr (1, [.ref h0, .int (nI t), .int (nI gn), .int (nI kd), .ref hs, .ref pl])), (hs, .inl (g.1, 7, .inl (zk_ia S))), (hv, .inr (5, [.ref a1, .ref a2, .ref a3, .ref a4])), (a1, .inr (3, [.ref b1])), (b1, .inl (g.1, 8, .inl (zk_ia xh))), (a2, .inr (3, [.ref b2])), (b2, .inl (g.1, 8, .inl (zk_ia xl))), (a3, .inr (3, [.ref b3])), (b3, .inl (g.1, 8, .inl (zk_ia xb))), (a4, .inr (3, [.ref b4])), (b4, .inl (g.1, 8, .inl (zk_ia xn)))]) C Z (m4_value l D g pl plc ((n - i) % n) h0 hp hq p n P L c F bc (by have := Nat.mod_lt (n - i) (show 0 < n by omega); omega)) [5, 6, 1, 2, 3] [0, 4, 7, 8, 9, 10, 11, 12, 13, 14, 15] rfl rfl (by decide) (by decide) (by decide) 5 3 rfl rfl rfl q568 q569 q570 q22 q571 (by decide +kernel) rfl (Nat.le_of_ble_eq_true rfl) (Nat.le_of_ble_eq_true rfl) (Nat.le_of_ble_eq_true rfl) (Nat.le_of_ble_eq_true rfl) rfl rfl hl.1 rfl (Nat.le_of_ble_eq_true rfl) dX2_mended_76 (fun v w1 H locs hq Z => ?_)
    obtain ⟨rfl, rfl⟩ := hq
    have Z : zk_Z D A s H locs [(co, .inr (1, [.ref h0, .int (nI t), .int (nI gn), .int (nI kd), .ref hs, .ref pl])), (h0, .inr (2, [.int (nI n), .ref hp, .ref hq])), (hp, .inl (g.1, 62, .inl (zk_ia P))), (hq, .inl (g.1, 32, .inl (zk_ia L))), (hs, .inl (g.1, 7, .inl (zk_ia S))), (pl, .inr (3, [.ref plc])), (plc, .inl (g.1, 8, .inl (zk_ia c))), (hv, .inr (5, [.ref a1, .ref a2, .ref a3, .ref a4])), (a1, .inr (3, [.ref b1])), (b1, .inl (g.1, 8, .inl (zk_ia xh))), (a2, .inr (3, [.ref b2])), (b2, .inl (g.1, 8, .inl (zk_ia xl))), (a3, .inr (3, [.ref b3])), (b3, .inl (g.1, 8, .inl (zk_ia xb))), (a4, .inr (3, [.ref b4])), (b4, .inl (g.1, 8, .inl (zk_ia xn)))] := Z.sub [0, 13, 14, 15, 1, 11, 12, 2, 3, 4, 5, 6, 7, 8, 9, 10] (by decide) rfl
    refine W.eq (g2 := F0 mm 79 ls [.int (nI (pval p n ((n - i) % n) c)), .int (nI e)]) rfl ?_
    refine nr_ne0 (tgt := 89) hx hb (by have := pval_le (x := (n - i) % n) (c := c) F; omega) dX2_mended_79 (by decide) (fun c_1 => ?_) (fun c_1 => ?_)
    · refine lv_iconst (v := nI 0) hx hb dX2_mended_89 (by decide) ?_
      refine nr_ior hx hb dX2_mended_90 ?_
      refine lv_istore_n (lv' := [(3, .int (nI (e ||| 0))), (0, .ref co), (1, .int (nI wd)), (2, .ref hv), (4, .int (nI i))]) hx hb dX2_mended_91 rfl hl (by decide) rfl (fun ls hl => ?_)
      refine nr_iinc (n := 1) (lv' := [(4, .int (nI (i + 1))), (3, .int (nI (e ||| 0))), (0, .ref co), (1, .int (nI wd)), (2, .ref hv)]) hx hb (by decide) dX2_mended_92 hl (k := 4) rfl (by decide) rfl (fun ls hl => ?_)
      refine lv_goto (tgt := 37) hx hb dX2_mended_95 (by decide) ?_
      exact ih (i + 1) (e ||| 0) H locs ls (by omega) ((congrArg (zk_it (erF p n c) k (i + 1)) (erF_0 c_1)).trans hfin) Z (lv_sub hl [2, 3, 4, 1, 0] rfl)
    · refine lv_iconst (v := nI 1) hx hb dX2_mended_82 (by decide) ?_
      refine lv_iload hx hb dX2_mended_83 (lv_at hl 4 rfl) ?_
      refine nr_ishl hx hb (by omega) dX2_mended_85 ?_
      refine lv_goto (tgt := 90) hx hb dX2_mended_86 (by decide) ?_
      refine nr_ior hx hb dX2_mended_90 ?_
      refine lv_istore_n (lv' := [(3, .int (nI (e ||| (1 <<< i)))), (0, .ref co), (1, .int (nI wd)), (2, .ref hv), (4, .int (nI i))]) hx hb dX2_mended_91 rfl hl (by decide) rfl (fun ls hl => ?_)
      refine nr_iinc (n := 1) (lv' := [(4, .int (nI (i + 1))), (3, .int (nI (e ||| (1 <<< i)))), (0, .ref co), (1, .int (nI wd)), (2, .ref hv)]) hx hb (by decide) dX2_mended_92 hl (k := 4) rfl (by decide) rfl (fun ls hl => ?_)
      refine lv_goto (tgt := 37) hx hb dX2_mended_95 (by decide) ?_
      exact ih (i + 1) (e ||| (1 <<< i)) H locs ls (by omega) ((congrArg (zk_it (erF p n c) k (i + 1)) (erF_1 c_1)).trans hfin) Z (lv_sub hl [2, 3, 4, 1, 0] rfl)

set_option maxHeartbeats 4000000 in
theorem lp2_mdDt {pg : Program} {l : Launch} {ev : Env} {s : State} {mm : MethodId} {args : Array Value} {below : List Frame} {meth : Method} {cd : Code} {Q : State → Prop} {D : va_G} {g : G4} {A : Nat → Prop} (C : zk_C pg s mm cd args cX2_mended 5 RX2 D g A) (co h0 hs pl plc t gn kd : Nat) (hp hq p n : Nat) (P L : List Nat) (F : zk_F p n P L) (t1 : 1 ≤ t) (t3 : t ≤ 3) (hv a1 b1 a2 b2 a3 b3 a4 b4 : Nat) (xh xl xb xn : List Nat) (wd : Nat) (S c : List Nat) (bc : zk_bd n c) (fin : Nat) (kk : ∀ (H : Heap) (locs : List Loc) (ls : Array Slot), zk_Z D A s H locs [(co, .inr (1, [.ref h0, .int (nI t), .int (nI gn), .int (nI kd), .ref hs, .ref pl])), (h0, .inr (2, [.int (nI n), .ref hp, .ref hq])), (hp, .inl (g.1, 62, .inl (zk_ia P))), (hq, .inl (g.1, 32, .inl (zk_ia L))), (hs, .inl (g.1, 7, .inl (zk_ia S))), (pl, .inr (3, [.ref plc])), (plc, .inl (g.1, 8, .inl (zk_ia c))), (hv, .inr (5, [.ref a1, .ref a2, .ref a3, .ref a4])), (a1, .inr (3, [.ref b1])), (b1, .inl (g.1, 8, .inl (zk_ia xh))), (a2, .inr (3, [.ref b2])), (b2, .inl (g.1, 8, .inl (zk_ia xl))), (a3, .inr (3, [.ref b3])), (b3, .inl (g.1, 8, .inl (zk_ia xb))), (a4, .inr (3, [.ref b4])), (b4, .inl (g.1, 8, .inl (zk_ia xn)))] → lv_has ls 5 [(0, .ref co), (1, .int (nI wd)), (2, .ref hv), (3, .int (nI fin))] → W pg l ev (zk_R 6 1 6) s mm args below meth cd H locs 0 0 Q (F0 mm 98 ls [])) :
    ∀ (k : Nat) (i e : Nat) (H : Heap) (locs : List Loc) (ls : Array Slot), (i + k = n) → (zk_it (erF p n c) k i e = fin) → zk_Z D A s H locs [(co, .inr (1, [.ref h0, .int (nI t), .int (nI gn), .int (nI kd), .ref hs, .ref pl])), (h0, .inr (2, [.int (nI n), .ref hp, .ref hq])), (hp, .inl (g.1, 62, .inl (zk_ia P))), (hq, .inl (g.1, 32, .inl (zk_ia L))), (hs, .inl (g.1, 7, .inl (zk_ia S))), (pl, .inr (3, [.ref plc])), (plc, .inl (g.1, 8, .inl (zk_ia c))), (hv, .inr (5, [.ref a1, .ref a2, .ref a3, .ref a4])), (a1, .inr (3, [.ref b1])), (b1, .inl (g.1, 8, .inl (zk_ia xh))), (a2, .inr (3, [.ref b2])), (b2, .inl (g.1, 8, .inl (zk_ia xl))), (a3, .inr (3, [.ref b3])), (b3, .inl (g.1, 8, .inl (zk_ia xb))), (a4, .inr (3, [.ref b4])), (b4, .inl (g.1, 8, .inl (zk_ia xn)))] → lv_has ls 5 [(0, .ref co), (1, .int (nI wd)), (2, .ref hv), (3, .int (nI e)), (4, .int (nI i))] → W pg l ev (zk_R 6 1 6) s mm args below meth cd H locs 0 0 Q (F0 mm 37 ls []) := by
  have hx := C.1.1
  have hb := C.1.2.1
  have hml := C.1.2.2.1
  have hown := C.1.2.2.2.1
  have hts := C.1.2.2.2.2
  have hn := F.n31
  intro k
  induction k with
  | zero =>
    intro i e H locs ls hik hfin Z hl
    have hfin : e = fin := hfin
    subst hfin
    refine lv_iload hx hb dX2_mended_37 (lv_at hl 4 rfl) ?_
    refine lv_aload_n hx hb dX2_mended_39 rfl (lv_at hl 0 rfl) ?_
    refine zk_get C Z in_X2 0 rfl rfl 0 (by decide) q91 rfl (v := .ref h0) rfl dX2_mended_40 ?_
    refine zk_getN C Z in_X3 1 rfl rfl 0 (by decide) q59 rfl (v := .int (nI n)) rfl dX2_mended_43 ?_
    refine nr_ge (tgt := 98) hx hb (by omega) (by omega) dX2_mended_46 (by decide) (fun c_1 => ?_) (fun c_1 => absurd c_1 (by omega))
    exact kk  H locs ls  Z (lv_sub hl [0, 1, 2, 3] rfl)
  | succ k ih =>
    intro i e H locs ls hik hfin Z hl
    refine lv_iload hx hb dX2_mended_37 (lv_at hl 4 rfl) ?_
    refine lv_aload_n hx hb dX2_mended_39 rfl (lv_at hl 0 rfl) ?_
    refine zk_get C Z in_X2 0 rfl rfl 0 (by decide) q91 rfl (v := .ref h0) rfl dX2_mended_40 ?_
    refine zk_getN C Z in_X3 1 rfl rfl 0 (by decide) q59 rfl (v := .int (nI n)) rfl dX2_mended_43 ?_
    refine nr_ge (tgt := 98) hx hb (by omega) (by omega) dX2_mended_46 (by decide) (fun c_1 => absurd c_1 (by omega)) (fun c_1 => ?_)
    refine lv_iload_n hx hb dX2_mended_49 rfl (lv_at hl 3 rfl) ?_
    refine lv_aload_n hx hb dX2_mended_50 rfl (lv_at hl 0 rfl) ?_
    refine zk_get C Z in_X2 0 rfl rfl 5 (by decide) q100 rfl (v := .ref pl) rfl dX2_mended_51 ?_
    refine lv_aload_n hx hb dX2_mended_54 rfl (lv_at hl 0 rfl) ?_
    refine zk_get C Z in_X2 0 rfl rfl 0 (by decide) q91 rfl (v := .ref h0) rfl dX2_mended_55 ?_
    refine lv_aload_n hx hb dX2_mended_58 rfl (lv_at hl 0 rfl) ?_
    refine zk_get C Z in_X2 0 rfl rfl 0 (by decide) q91 rfl (v := .ref h0) rfl dX2_mended_59 ?_
    refine zk_getN C Z in_X3 1 rfl rfl 0 (by decide) q59 rfl (v := .int (nI n)) rfl dX2_mended_62 ?_
    refine lv_iload hx hb dX2_mended_65 (lv_at hl 4 rfl) ?_
    refine nr_isub hx hb (by omega) dX2_mended_67 ?_
    refine lv_aload_n hx hb dX2_mended_68 rfl (lv_at hl 0 rfl) ?_
    refine zk_get C Z in_X2 0 rfl rfl 0 (by decide) q91 rfl (v := .ref h0) rfl dX2_mended_69 ?_
    refine zk_getN C Z in_X3 1 rfl rfl 0 (by decide) q59 rfl (v := .int (nI n)) rfl dX2_mended_72 ?_
    refine nr_irem hx hb (by omega) (by omega) (by omega) dX2_mended_75 ?_
    refine zk_callV (cells' := 0) (slots' := 0) (rest := [.int (nI e)]) (n := 2) (wr := [(co, .inr (1, [.ref h0, .int (nI t), .int (nI gn), .int (nI kd), .ref hs, .ref pl])), (hs, .inl (g.1, 7, .inl (zk_ia S))), (hv, .inr (5, [.ref a1, .ref a2, .ref a3, .ref a4])), (a1, .inr (3, [.ref b1])), (b1, .inl (g.1, 8, .inl (zk_ia xh))), (a2, .inr (3, [.ref b2])), (b2, .inl (g.1, 8, .inl (zk_ia xl))), (a3, .inr (3, [.ref b3])), (b3, .inl (g.1, 8, .inl (zk_ia xb))), (a4, .inr (3, [.ref b4])), (b4, .inl (g.1, 8, .inl (zk_ia xn)))]) C Z (m4_value l D g pl plc ((n - i) % n) h0 hp hq p n P L c F bc (by have := Nat.mod_lt (n - i) (show 0 < n by omega); omega)) [5, 6, 1, 2, 3] [0, 4, 7, 8, 9, 10, 11, 12, 13, 14, 15] rfl rfl (by decide) (by decide) (by decide) 5 3 rfl rfl rfl q568 q569 q570 q22 q571 (by decide +kernel) rfl (Nat.le_of_ble_eq_true rfl) (Nat.le_of_ble_eq_true rfl) (Nat.le_of_ble_eq_true rfl) (Nat.le_of_ble_eq_true rfl) rfl rfl hl.1 rfl (Nat.le_of_ble_eq_true rfl) dX2_mended_76 (fun v w1 H locs hq Z => ?_)
    obtain ⟨rfl, rfl⟩ := hq
    have Z : zk_Z D A s H locs [(co, .inr (1, [.ref h0, .int (nI t), .int (nI gn), .int (nI kd), .ref hs, .ref pl])), (h0, .inr (2, [.int (nI n), .ref hp, .ref hq])), (hp, .inl (g.1, 62, .inl (zk_ia P))), (hq, .inl (g.1, 32, .inl (zk_ia L))), (hs, .inl (g.1, 7, .inl (zk_ia S))), (pl, .inr (3, [.ref plc])), (plc, .inl (g.1, 8, .inl (zk_ia c))), (hv, .inr (5, [.ref a1, .ref a2, .ref a3, .ref a4])), (a1, .inr (3, [.ref b1])), (b1, .inl (g.1, 8, .inl (zk_ia xh))), (a2, .inr (3, [.ref b2])), (b2, .inl (g.1, 8, .inl (zk_ia xl))), (a3, .inr (3, [.ref b3])), (b3, .inl (g.1, 8, .inl (zk_ia xb))), (a4, .inr (3, [.ref b4])), (b4, .inl (g.1, 8, .inl (zk_ia xn)))] := Z.sub [0, 13, 14, 15, 1, 11, 12, 2, 3, 4, 5, 6, 7, 8, 9, 10] (by decide) rfl
    refine W.eq (g2 := F0 mm 79 ls [.int (nI (pval p n ((n - i) % n) c)), .int (nI e)]) rfl ?_
    refine nr_ne0 (tgt := 89) hx hb (by have := pval_le (x := (n - i) % n) (c := c) F; omega) dX2_mended_79 (by decide) (fun c_1 => ?_) (fun c_1 => ?_)
    · refine lv_iconst (v := nI 0) hx hb dX2_mended_89 (by decide) ?_
      refine nr_ior hx hb dX2_mended_90 ?_
      refine lv_istore_n (lv' := [(3, .int (nI (e ||| 0))), (0, .ref co), (1, .int (nI wd)), (2, .ref hv), (4, .int (nI i))]) hx hb dX2_mended_91 rfl hl (by decide) rfl (fun ls hl => ?_)
      refine nr_iinc (n := 1) (lv' := [(4, .int (nI (i + 1))), (3, .int (nI (e ||| 0))), (0, .ref co), (1, .int (nI wd)), (2, .ref hv)]) hx hb (by decide) dX2_mended_92 hl (k := 4) rfl (by decide) rfl (fun ls hl => ?_)
      refine lv_goto (tgt := 37) hx hb dX2_mended_95 (by decide) ?_
      exact ih (i + 1) (e ||| 0) H locs ls (by omega) ((congrArg (zk_it (erF p n c) k (i + 1)) (erF_0 c_1)).trans hfin) Z (lv_sub hl [2, 3, 4, 1, 0] rfl)
    · refine lv_iconst (v := nI 1) hx hb dX2_mended_82 (by decide) ?_
      refine lv_iload hx hb dX2_mended_83 (lv_at hl 4 rfl) ?_
      refine nr_ishl hx hb (by omega) dX2_mended_85 ?_
      refine lv_goto (tgt := 90) hx hb dX2_mended_86 (by decide) ?_
      refine nr_ior hx hb dX2_mended_90 ?_
      refine lv_istore_n (lv' := [(3, .int (nI (e ||| (1 <<< i)))), (0, .ref co), (1, .int (nI wd)), (2, .ref hv), (4, .int (nI i))]) hx hb dX2_mended_91 rfl hl (by decide) rfl (fun ls hl => ?_)
      refine nr_iinc (n := 1) (lv' := [(4, .int (nI (i + 1))), (3, .int (nI (e ||| (1 <<< i)))), (0, .ref co), (1, .int (nI wd)), (2, .ref hv)]) hx hb (by decide) dX2_mended_92 hl (k := 4) rfl (by decide) rfl (fun ls hl => ?_)
      refine lv_goto (tgt := 37) hx hb dX2_mended_95 (by decide) ?_
      exact ih (i + 1) (e ||| (1 <<< i)) H locs ls (by omega) ((congrArg (zk_it (erF p n c) k (i + 1)) (erF_1 c_1)).trans hfin) Z (lv_sub hl [2, 3, 4, 1, 0] rfl)

set_option maxHeartbeats 4000000 in
/-- Code.mended, D -/
theorem m2_mdD (l : Launch) (D : va_G) (g : G4) (co h0 hs pl plc t gn kd : Nat) (hp hq p n : Nat) (P L : List Nat) (F : zk_F p n P L) (t1 : 1 ≤ t) (t3 : t ≤ 3) (hv a1 b1 a2 b2 a3 b3 a4 b4 : Nat) (xh xl xb xn : List Nat) (lh : xh.length = 8) (ll : xl.length = 8) (lb : xb.length = 8) (ln : xn.length = 8) (wd : Nat) (hwd : wd < 2 ^ 31) (S c : List Nat) (hS : S.length = 7) (hS0 : S.getD 0 0 = 0) (hl8 : c.length = 8) (r : Nat) (hm : mdd 1 p n t wd = some r) : zk_M l yX2_mended (ws_ yX2_mended cX2_mended 5 (some .int)) (zk_R 6 0 0) D g [.ref co, .int (nI wd), .ref hv] [(co, .inr (1, [.ref h0, .int (nI t), .int (nI gn), .int (nI kd), .ref hs, .ref pl])), (h0, .inr (2, [.int (nI n), .ref hp, .ref hq])), (hp, .inl (g.1, 62, .inl (zk_ia P))), (hq, .inl (g.1, 32, .inl (zk_ia L))), (hs, .inl (g.1, 7, .inl (zk_ia S))), (pl, .inr (3, [.ref plc])), (plc, .inl (g.1, 8, .inl (zk_ia c))), (hv, .inr (5, [.ref a1, .ref a2, .ref a3, .ref a4])), (a1, .inr (3, [.ref b1])), (b1, .inl (g.1, 8, .inl (zk_ia xh))), (a2, .inr (3, [.ref b2])), (b2, .inl (g.1, 8, .inl (zk_ia xl))), (a3, .inr (3, [.ref b3])), (b3, .inl (g.1, 8, .inl (zk_ia xb))), (a4, .inr (3, [.ref b4])), (b4, .inl (g.1, 8, .inl (zk_ia xn)))] (fun v w => v = some (.int (nI r)) ∧ ∃ (S1 c1 : List Nat) (c1_ d1_ c2_ d2_ c3_ d3_ c4_ d4_ : Nat) (y1 y2 y3 y4 : List Nat), S1.length = 7 ∧ S1.getD 0 0 = 0 ∧ c1.length = 8 ∧ y1.length = 8 ∧ y2.length = 8 ∧ y3.length = 8 ∧ y4.length = 8 ∧ w = [(co, .inr (1, [.ref h0, .int (nI t), .int (nI gn), .int (nI kd), .ref hs, .ref pl])), (h0, .inr (2, [.int (nI n), .ref hp, .ref hq])), (hp, .inl (g.1, 62, .inl (zk_ia P))), (hq, .inl (g.1, 32, .inl (zk_ia L))), (hs, .inl (g.1, 7, .inl (zk_ia S1))), (pl, .inr (3, [.ref plc])), (plc, .inl (g.1, 8, .inl (zk_ia c1))), (hv, .inr (5, [.ref c1_, .ref c2_, .ref c3_, .ref c4_])), (c1_, .inr (3, [.ref d1_])), (d1_, .inl (g.1, 8, .inl (zk_ia y1))), (c2_, .inr (3, [.ref d2_])), (d2_, .inl (g.1, 8, .inl (zk_ia y2))), (c3_, .inr (3, [.ref d3_])), (d3_, .inl (g.1, 8, .inl (zk_ia y3))), (c4_, .inr (3, [.ref d4_])), (d4_, .inl (g.1, 8, .inl (zk_ia y4)))]) := by
  refine zk_ofW (by decide) (Nat.le_of_ble_eq_true rfl) ?_
  intro pg ev s mm below meth cd A C hr hlocks hname Z ls hl
  have hx := C.1.1
  have hb := C.1.2.1
  have hml := C.1.2.2.1
  have hown := C.1.2.2.2.1
  have hts := C.1.2.2.2.2
  have hl : lv_has ls 5 [(0, .ref co), (1, .int (nI wd)), (2, .ref hv)] := hl
  have hn := F.n31
  obtain ⟨H, hH⟩ : ∃ H, H = s.heap := ⟨_, rfl⟩
  obtain ⟨locs, hlocs⟩ : ∃ q : List Loc, q = [] := ⟨_, rfl⟩
  rw [← hH, ← hlocs] at Z ⊢
  refine lv_aload_n hx hb dX2_mended_0 rfl (lv_at hl 0 rfl) ?_
  refine lv_iload_n hx hb dX2_mended_1 rfl (lv_at hl 1 rfl) ?_
  have hlen_1 : (syn p n t wd S).length = 7 := by rw [syn_len]; exact hS
  refine zk_callV (cells' := 0) (slots' := 0) (rest := []) (n := 1) (wr := [(pl, .inr (3, [.ref plc])), (plc, .inl (g.1, 8, .inl (zk_ia c))), (hv, .inr (5, [.ref a1, .ref a2, .ref a3, .ref a4])), (a1, .inr (3, [.ref b1])), (b1, .inl (g.1, 8, .inl (zk_ia xh))), (a2, .inr (3, [.ref b2])), (b2, .inl (g.1, 8, .inl (zk_ia xl))), (a3, .inr (3, [.ref b3])), (b3, .inl (g.1, 8, .inl (zk_ia xb))), (a4, .inr (3, [.ref b4])), (b4, .inl (g.1, 8, .inl (zk_ia xn)))]) C Z (m2_right l D g co hs pl t gn kd h0 hp hq p n P L wd F hwd t3 S hS) [0, 1, 2, 3, 4] [5, 6, 7, 8, 9, 10, 11, 12, 13, 14, 15] rfl rfl (by decide) (by decide) (by decide) 0 1 rfl rfl rfl q502 q503 q504 q20 q505 (by decide +kernel) rfl (Nat.le_of_ble_eq_true rfl) (Nat.le_of_ble_eq_true rfl) (Nat.le_of_ble_eq_true rfl) (Nat.le_of_ble_eq_true rfl) rfl rfl hl.1 rfl (Nat.le_of_ble_eq_true rfl) dX2_mended_2 (fun v w1 H locs hq Z => ?_)
  obtain ⟨rfl, rfl⟩ := hq
  have Z : zk_Z D A s H locs [(co, .inr (1, [.ref h0, .int (nI t), .int (nI gn), .int (nI kd), .ref hs, .ref pl])), (h0, .inr (2, [.int (nI n), .ref hp, .ref hq])), (hp, .inl (g.1, 62, .inl (zk_ia P))), (hq, .inl (g.1, 32, .inl (zk_ia L))), (hs, .inl (g.1, 7, .inl (zk_ia (syn p n t wd S)))), (pl, .inr (3, [.ref plc])), (plc, .inl (g.1, 8, .inl (zk_ia c))), (hv, .inr (5, [.ref a1, .ref a2, .ref a3, .ref a4])), (a1, .inr (3, [.ref b1])), (b1, .inl (g.1, 8, .inl (zk_ia xh))), (a2, .inr (3, [.ref b2])), (b2, .inl (g.1, 8, .inl (zk_ia xl))), (a3, .inr (3, [.ref b3])), (b3, .inl (g.1, 8, .inl (zk_ia xb))), (a4, .inr (3, [.ref b4])), (b4, .inl (g.1, 8, .inl (zk_ia xn)))] := Z.sub [11, 12, 13, 14, 15, 0, 1, 2, 3, 4, 5, 6, 7, 8, 9, 10] (by decide) rfl
  refine W.eq (g2 := F0 mm 5 ls [.int (nI (rgt p n t wd))]) rfl ?_
  refine nr_eq0 (tgt := 10) hx hb (by have := rgt_lt (p := p) (n := n) (t := t) (wd := wd); omega) dX2_mended_5 (by decide) (fun c_1 => ?_) (fun c_1 => ?_)
  · refine lv_aload_n hx hb dX2_mended_10 rfl (lv_at hl 2 rfl) ?_
    refine lv_aload_n hx hb dX2_mended_11 rfl (lv_at hl 0 rfl) ?_
    refine zk_get C Z in_X2 0 rfl rfl 0 (by decide) q91 rfl (v := .ref h0) rfl dX2_mended_12 ?_
    refine lv_aload_n hx hb dX2_mended_15 rfl (lv_at hl 0 rfl) ?_
    refine zk_get C Z in_X2 0 rfl rfl 4 (by decide) q99 rfl (v := .ref hs) rfl dX2_mended_16 ?_
    refine lv_aload_n hx hb dX2_mended_19 rfl (lv_at hl 0 rfl) ?_
    refine zk_get C Z in_X2 0 rfl rfl 1 (by decide) q93 rfl (v := .int (nI t)) rfl dX2_mended_20 ?_
    refine lv_aload_n hx hb dX2_mended_23 rfl (lv_at hl 0 rfl) ?_
    refine zk_get C Z in_X2 0 rfl rfl 5 (by decide) q100 rfl (v := .ref pl) rfl dX2_mended_24 ?_
    have bS : zk_bs n t (syn p n t wd S) := syn_bs F hS t3 hS0
    refine zk_callF (x := zk_find) (cells' := 0) (slots' := 0) (rest := []) (n := 4) (wr := [(co, .inr (1, [.ref h0, .int (nI t), .int (nI gn), .int (nI kd), .ref hs, .ref pl]))]) C Z (m6_find l D g hv hs pl plc t h0 hp hq p n P L (syn p n t wd S) F bS t1 t3 a1 b1 a2 b2 a3 b3 a4 b4 xh xl xb xn c lh ll lb ln hl8) [7, 8, 9, 10, 11, 12, 13, 14, 15, 1, 2, 3, 4, 5, 6] [0] rfl rfl (by decide) (by decide) (by decide) 7 5 rfl rfl C.2.2.2.2.1.2.1 q507 q511 q513 q24 q515 (by decide +kernel) rfl (Nat.le_of_ble_eq_true rfl) (Nat.le_of_ble_eq_true rfl) (Nat.le_of_ble_eq_true rfl) (Nat.le_of_ble_eq_true rfl) rfl rfl hl.1 rfl (Nat.le_of_ble_eq_true rfl) dX2_mended_27 (fun v w1 H locs hq Z => ?_)
    obtain ⟨rfl, c1_, d1_, c2_, d2_, c3_, d3_, c4_, d4_, y1, y2, y3, y4, hy1, hy2, hy3, hy4, rfl⟩ := hq
    have Z : zk_Z D A s H locs [(co, .inr (1, [.ref h0, .int (nI t), .int (nI gn), .int (nI kd), .ref hs, .ref pl])), (h0, .inr (2, [.int (nI n), .ref hp, .ref hq])), (hp, .inl (g.1, 62, .inl (zk_ia P))), (hq, .inl (g.1, 32, .inl (zk_ia L))), (hs, .inl (g.1, 7, .inl (zk_ia (syn p n t wd S)))), (pl, .inr (3, [.ref plc])), (plc, .inl (g.1, 8, .inl (zk_ia (divi p t (syn p n t wd S))))), (hv, .inr (5, [.ref c1_, .ref c2_, .ref c3_, .ref c4_])), (c1_, .inr (3, [.ref d1_])), (d1_, .inl (g.1, 8, .inl (zk_ia y1))), (c2_, .inr (3, [.ref d2_])), (d2_, .inl (g.1, 8, .inl (zk_ia y2))), (c3_, .inr (3, [.ref d3_])), (d3_, .inl (g.1, 8, .inl (zk_ia y3))), (c4_, .inr (3, [.ref d4_])), (d4_, .inl (g.1, 8, .inl (zk_ia y4)))] := Z.sub [0, 10, 11, 12, 13, 14, 15, 1, 2, 3, 4, 5, 6, 7, 8, 9] (by decide) rfl
    rw [loc_1 hS t3] at Z
    have hloc := loc_ok (w := 1) (wd := wd) F t3
    refine W.eq (g2 := F0 mm 32 ls []) rfl ?_
    refine lv_iconst (v := nI 0) hx hb dX2_mended_32 (by decide) ?_
    refine lv_istore_n (lv' := [(3, .int (nI 0)), (0, .ref co), (1, .int (nI wd)), (2, .ref hv)]) hx hb dX2_mended_33 rfl hl (by decide) rfl (fun ls hl => ?_)
    refine lv_iconst (v := nI 0) hx hb dX2_mended_34 (by decide) ?_
    refine lv_istore (lv' := [(4, .int (nI 0)), (3, .int (nI 0)), (0, .ref co), (1, .int (nI wd)), (2, .ref hv)]) hx hb dX2_mended_35 hl (by decide) rfl (fun ls hl => ?_)
    refine lp2_mdDr C co h0 hs pl plc t gn kd hp hq p n P L F t1 t3 hv c1_ d1_ c2_ d2_ c3_ d3_ c4_ d4_ y1 y2 y3 y4 wd (syn p n t wd S) (loc 1 p n t wd) hloc.2 _ (fun H locs ls Z hl => ?_) n 0 0 H locs ls (by omega) rfl Z (lv_sub hl [2, 3, 4, 1, 0] rfl)
    rw [show zk_it (erF p n (loc 1 p n t wd)) n 0 0 = ers p n (loc 1 p n t wd) from rfl] at hl
    have he9 := ers_lt p n (loc 1 p n t wd)
    have hp9 := Nat.pow_le_pow_right (n := 2) (by decide) (show n ≤ 31 by omega)
    have hx9 : wd ^^^ ers p n (loc 1 p n t wd) < 2 ^ 31 := Nat.xor_lt_two_pow hwd (by omega)
    refine lv_iload_n hx hb dX2_mended_98 rfl (lv_at hl 3 rfl) ?_
    refine zk_callS (cells' := 0) (slots' := 0) (rest := []) (n := 1) (wr := [(co, .inr (1, [.ref h0, .int (nI t), .int (nI gn), .int (nI kd), .ref hs, .ref pl])), (h0, .inr (2, [.int (nI n), .ref hp, .ref hq])), (hp, .inl (g.1, 62, .inl (zk_ia P))), (hq, .inl (g.1, 32, .inl (zk_ia L))), (hs, .inl (g.1, 7, .inl (zk_ia (syn p n t wd S)))), (pl, .inr (3, [.ref plc])), (plc, .inl (g.1, 8, .inl (zk_ia (loc 1 p n t wd)))), (hv, .inr (5, [.ref c1_, .ref c2_, .ref c3_, .ref c4_])), (c1_, .inr (3, [.ref d1_])), (d1_, .inl (g.1, 8, .inl (zk_ia y1))), (c2_, .inr (3, [.ref d2_])), (d2_, .inl (g.1, 8, .inl (zk_ia y2))), (c3_, .inr (3, [.ref d3_])), (d3_, .inl (g.1, 8, .inl (zk_ia y3))), (c4_, .inr (3, [.ref d4_])), (d4_, .inl (g.1, 8, .inl (zk_ia y4)))]) C Z (mJ_bc l D g (ers p n (loc 1 p n t wd)) (by omega)) [] [0, 1, 2, 3, 4, 5, 6, 7, 8, 9, 10, 11, 12, 13, 14, 15] rfl rfl (by decide) (by decide) (by decide) q572 q448 q36 q449 (by decide +kernel) rfl (Nat.le_of_ble_eq_true rfl) (Nat.le_of_ble_eq_true rfl) (Nat.le_of_ble_eq_true rfl) (Nat.le_of_ble_eq_true rfl) rfl rfl hl.1 rfl (Nat.le_of_ble_eq_true rfl) dX2_mended_99 (fun v w1 H locs hq Z => ?_)
    obtain ⟨rfl, rfl⟩ := hq
    have Z : zk_Z D A s H locs [(co, .inr (1, [.ref h0, .int (nI t), .int (nI gn), .int (nI kd), .ref hs, .ref pl])), (h0, .inr (2, [.int (nI n), .ref hp, .ref hq])), (hp, .inl (g.1, 62, .inl (zk_ia P))), (hq, .inl (g.1, 32, .inl (zk_ia L))), (hs, .inl (g.1, 7, .inl (zk_ia (syn p n t wd S)))), (pl, .inr (3, [.ref plc])), (plc, .inl (g.1, 8, .inl (zk_ia (loc 1 p n t wd)))), (hv, .inr (5, [.ref c1_, .ref c2_, .ref c3_, .ref c4_])), (c1_, .inr (3, [.ref d1_])), (d1_, .inl (g.1, 8, .inl (zk_ia y1))), (c2_, .inr (3, [.ref d2_])), (d2_, .inl (g.1, 8, .inl (zk_ia y2))), (c3_, .inr (3, [.ref d3_])), (d3_, .inl (g.1, 8, .inl (zk_ia y3))), (c4_, .inr (3, [.ref d4_])), (d4_, .inl (g.1, 8, .inl (zk_ia y4)))] := Z.sub [0, 1, 2, 3, 4, 5, 6, 7, 8, 9, 10, 11, 12, 13, 14, 15] (by decide) rfl
    refine W.eq (g2 := F0 mm 102 ls [.int (nI (bct (ers p n (loc 1 p n t wd))))]) rfl ?_
    refine lv_aload_n hx hb dX2_mended_102 rfl (lv_at hl 0 rfl) ?_
    refine zk_get C Z in_X2 0 rfl rfl 1 (by decide) q93 rfl (v := .int (nI t)) rfl dX2_mended_103 ?_
    refine nr_gt (tgt := 119) hx hb (by have : bct (ers p n (loc 1 p n t wd)) ≤ 63 := Nat.and_le_right; omega) (by omega) dX2_mended_106 (by decide) (fun c_2 => absurd c_2 (mdd_2 hm c_1).1) (fun c_2 => ?_)
    refine lv_aload_n hx hb dX2_mended_109 rfl (lv_at hl 0 rfl) ?_
    refine lv_iload_n hx hb dX2_mended_110 rfl (lv_at hl 1 rfl) ?_
    refine lv_iload_n hx hb dX2_mended_111 rfl (lv_at hl 3 rfl) ?_
    refine nr_ixor hx hb dX2_mended_112 ?_
    have hlen_3 : (syn p n t (wd ^^^ (ers p n (loc 1 p n t wd))) (syn p n t wd S)).length = 7 := by rw [syn_len]; exact hlen_1
    refine zk_callV (cells' := 0) (slots' := 0) (rest := []) (n := 1) (wr := [(pl, .inr (3, [.ref plc])), (plc, .inl (g.1, 8, .inl (zk_ia (loc 1 p n t wd)))), (hv, .inr (5, [.ref c1_, .ref c2_, .ref c3_, .ref c4_])), (c1_, .inr (3, [.ref d1_])), (d1_, .inl (g.1, 8, .inl (zk_ia y1))), (c2_, .inr (3, [.ref d2_])), (d2_, .inl (g.1, 8, .inl (zk_ia y2))), (c3_, .inr (3, [.ref d3_])), (d3_, .inl (g.1, 8, .inl (zk_ia y3))), (c4_, .inr (3, [.ref d4_])), (d4_, .inl (g.1, 8, .inl (zk_ia y4)))]) C Z (m2_right l D g co hs pl t gn kd h0 hp hq p n P L (wd ^^^ (ers p n (loc 1 p n t wd))) F hx9 t3 (syn p n t wd S) hlen_1) [0, 1, 2, 3, 4] [5, 6, 7, 8, 9, 10, 11, 12, 13, 14, 15] rfl rfl (by decide) (by decide) (by decide) 0 1 rfl rfl rfl q502 q503 q504 q20 q505 (by decide +kernel) rfl (Nat.le_of_ble_eq_true rfl) (Nat.le_of_ble_eq_true rfl) (Nat.le_of_ble_eq_true rfl) (Nat.le_of_ble_eq_true rfl) rfl rfl hl.1 rfl (Nat.le_of_ble_eq_true rfl) dX2_mended_113 (fun v w1 H locs hq Z => ?_)
    obtain ⟨rfl, rfl⟩ := hq
    have Z : zk_Z D A s H locs [(co, .inr (1, [.ref h0, .int (nI t), .int (nI gn), .int (nI kd), .ref hs, .ref pl])), (h0, .inr (2, [.int (nI n), .ref hp, .ref hq])), (hp, .inl (g.1, 62, .inl (zk_ia P))), (hq, .inl (g.1, 32, .inl (zk_ia L))), (hs, .inl (g.1, 7, .inl (zk_ia (syn p n t (wd ^^^ (ers p n (loc 1 p n t wd))) (syn p n t wd S))))), (pl, .inr (3, [.ref plc])), (plc, .inl (g.1, 8, .inl (zk_ia (loc 1 p n t wd)))), (hv, .inr (5, [.ref c1_, .ref c2_, .ref c3_, .ref c4_])), (c1_, .inr (3, [.ref d1_])), (d1_, .inl (g.1, 8, .inl (zk_ia y1))), (c2_, .inr (3, [.ref d2_])), (d2_, .inl (g.1, 8, .inl (zk_ia y2))), (c3_, .inr (3, [.ref d3_])), (d3_, .inl (g.1, 8, .inl (zk_ia y3))), (c4_, .inr (3, [.ref d4_])), (d4_, .inl (g.1, 8, .inl (zk_ia y4)))] := Z.sub [11, 12, 13, 14, 15, 0, 1, 2, 3, 4, 5, 6, 7, 8, 9, 10] (by decide) rfl
    refine W.eq (g2 := F0 mm 116 ls [.int (nI (rgt p n t (wd ^^^ (ers p n (loc 1 p n t wd)))))]) rfl ?_
    refine nr_ne0 (tgt := 129) hx hb (by have := rgt_lt (p := p) (n := n) (t := t) (wd := wd ^^^ ers p n (loc 1 p n t wd)); omega) dX2_mended_116 (by decide) (fun c_4 => ?_) (fun c_4 => absurd c_4 (mdd_2 hm c_1).2.1)
    refine lv_iload_n hx hb dX2_mended_129 rfl (lv_at hl 1 rfl) ?_
    refine lv_iload_n hx hb dX2_mended_130 rfl (lv_at hl 3 rfl) ?_
    refine nr_ixor hx hb dX2_mended_131 ?_
    exact zk_iret C hr hlocks Z ⟨by rw [(mdd_2 hm c_1).2.2], ⟨_, _, c1_, d1_, c2_, d2_, c3_, d3_, c4_, d4_, y1, y2, y3, y4, hlen_3, syn_0 (by rw [syn_len]; exact hS) t3 (syn_0 hS t3 hS0), hloc.1, hy1, hy2, hy3, hy4, rfl⟩⟩ (Nat.le_of_ble_eq_true rfl) (Nat.le_of_ble_eq_true rfl) dX2_mended_132
  · refine lv_iload_n hx hb dX2_mended_8 rfl (lv_at hl 1 rfl) ?_
    exact zk_iret C hr hlocks Z ⟨by rw [mdd_1 hm c_1], ⟨_, _, a1, b1, a2, b2, a3, b3, a4, b4, xh, xl, xb, xn, hlen_1, syn_0 hS t3 hS0, hl8, lh, ll, lb, ln, rfl⟩⟩ (Nat.le_of_ble_eq_true rfl) (Nat.le_of_ble_eq_true rfl) dX2_mended_9

set_option maxHeartbeats 4000000 in
/-- Code.mended, D, which throws -/
theorem t2_mdD (l : Launch) (hfl : l.flags = flags0) (D : va_G) (g : G4) (co h0 hs pl plc t gn kd : Nat) (hp hq p n : Nat) (P L : List Nat) (F : zk_F p n P L) (t1 : 1 ≤ t) (t3 : t ≤ 3) (hv a1 b1 a2 b2 a3 b3 a4 b4 : Nat) (xh xl xb xn : List Nat) (lh : xh.length = 8) (ll : xl.length = 8) (lb : xb.length = 8) (ln : xn.length = 8) (wd : Nat) (hwd : wd < 2 ^ 31) (S c : List Nat) (hS : S.length = 7) (hS0 : S.getD 0 0 = 0) (hl8 : c.length = 8) (hm : mdd 1 p n t wd = none) : zk_MT l yX2_mended (ws_ yX2_mended cX2_mended 5 (some .int)) (zk_R 6 1 6) D g [.ref co, .int (nI wd), .ref hv] [(co, .inr (1, [.ref h0, .int (nI t), .int (nI gn), .int (nI kd), .ref hs, .ref pl])), (h0, .inr (2, [.int (nI n), .ref hp, .ref hq])), (hp, .inl (g.1, 62, .inl (zk_ia P))), (hq, .inl (g.1, 32, .inl (zk_ia L))), (hs, .inl (g.1, 7, .inl (zk_ia S))), (pl, .inr (3, [.ref plc])), (plc, .inl (g.1, 8, .inl (zk_ia c))), (hv, .inr (5, [.ref a1, .ref a2, .ref a3, .ref a4])), (a1, .inr (3, [.ref b1])), (b1, .inl (g.1, 8, .inl (zk_ia xh))), (a2, .inr (3, [.ref b2])), (b2, .inl (g.1, 8, .inl (zk_ia xl))), (a3, .inr (3, [.ref b3])), (b3, .inl (g.1, 8, .inl (zk_ia xb))), (a4, .inr (3, [.ref b4])), (b4, .inl (g.1, 8, .inl (zk_ia xn)))] zk_ARE (fun w => ∃ (S1 c1 : List Nat) (c1_ d1_ c2_ d2_ c3_ d3_ c4_ d4_ : Nat) (y1 y2 y3 y4 : List Nat), S1.length = 7 ∧ S1.getD 0 0 = 0 ∧ c1.length = 8 ∧ y1.length = 8 ∧ y2.length = 8 ∧ y3.length = 8 ∧ y4.length = 8 ∧ w = [(co, .inr (1, [.ref h0, .int (nI t), .int (nI gn), .int (nI kd), .ref hs, .ref pl])), (h0, .inr (2, [.int (nI n), .ref hp, .ref hq])), (hp, .inl (g.1, 62, .inl (zk_ia P))), (hq, .inl (g.1, 32, .inl (zk_ia L))), (hs, .inl (g.1, 7, .inl (zk_ia S1))), (pl, .inr (3, [.ref plc])), (plc, .inl (g.1, 8, .inl (zk_ia c1))), (hv, .inr (5, [.ref c1_, .ref c2_, .ref c3_, .ref c4_])), (c1_, .inr (3, [.ref d1_])), (d1_, .inl (g.1, 8, .inl (zk_ia y1))), (c2_, .inr (3, [.ref d2_])), (d2_, .inl (g.1, 8, .inl (zk_ia y2))), (c3_, .inr (3, [.ref d3_])), (d3_, .inl (g.1, 8, .inl (zk_ia y3))), (c4_, .inr (3, [.ref d4_])), (d4_, .inl (g.1, 8, .inl (zk_ia y4)))]) := by
  refine zk_ofWT (by decide) (Nat.le_of_ble_eq_true rfl) ?_
  intro pg ev s mm below meth cd A C hlocks hno Z ls hl
  have hx := C.1.1
  have hb := C.1.2.1
  have hml := C.1.2.2.1
  have hown := C.1.2.2.2.1
  have hts := C.1.2.2.2.2
  have hl : lv_has ls 5 [(0, .ref co), (1, .int (nI wd)), (2, .ref hv)] := hl
  have hn := F.n31
  obtain ⟨H, hH⟩ : ∃ H, H = s.heap := ⟨_, rfl⟩
  obtain ⟨locs, hlocs⟩ : ∃ q : List Loc, q = [] := ⟨_, rfl⟩
  rw [← hH, ← hlocs] at Z ⊢
  refine lv_aload_n hx hb dX2_mended_0 rfl (lv_at hl 0 rfl) ?_
  refine lv_iload_n hx hb dX2_mended_1 rfl (lv_at hl 1 rfl) ?_
  have hlen_1 : (syn p n t wd S).length = 7 := by rw [syn_len]; exact hS
  refine zk_callV (cells' := 0) (slots' := 0) (rest := []) (n := 1) (wr := [(pl, .inr (3, [.ref plc])), (plc, .inl (g.1, 8, .inl (zk_ia c))), (hv, .inr (5, [.ref a1, .ref a2, .ref a3, .ref a4])), (a1, .inr (3, [.ref b1])), (b1, .inl (g.1, 8, .inl (zk_ia xh))), (a2, .inr (3, [.ref b2])), (b2, .inl (g.1, 8, .inl (zk_ia xl))), (a3, .inr (3, [.ref b3])), (b3, .inl (g.1, 8, .inl (zk_ia xb))), (a4, .inr (3, [.ref b4])), (b4, .inl (g.1, 8, .inl (zk_ia xn)))]) C Z (m2_right l D g co hs pl t gn kd h0 hp hq p n P L wd F hwd t3 S hS) [0, 1, 2, 3, 4] [5, 6, 7, 8, 9, 10, 11, 12, 13, 14, 15] rfl rfl (by decide) (by decide) (by decide) 0 1 rfl rfl rfl q502 q503 q504 q20 q505 (by decide +kernel) rfl (Nat.le_of_ble_eq_true rfl) (Nat.le_of_ble_eq_true rfl) (Nat.le_of_ble_eq_true rfl) (Nat.le_of_ble_eq_true rfl) rfl rfl hl.1 rfl (Nat.le_of_ble_eq_true rfl) dX2_mended_2 (fun v w1 H locs hq Z => ?_)
  obtain ⟨rfl, rfl⟩ := hq
  have Z : zk_Z D A s H locs [(co, .inr (1, [.ref h0, .int (nI t), .int (nI gn), .int (nI kd), .ref hs, .ref pl])), (h0, .inr (2, [.int (nI n), .ref hp, .ref hq])), (hp, .inl (g.1, 62, .inl (zk_ia P))), (hq, .inl (g.1, 32, .inl (zk_ia L))), (hs, .inl (g.1, 7, .inl (zk_ia (syn p n t wd S)))), (pl, .inr (3, [.ref plc])), (plc, .inl (g.1, 8, .inl (zk_ia c))), (hv, .inr (5, [.ref a1, .ref a2, .ref a3, .ref a4])), (a1, .inr (3, [.ref b1])), (b1, .inl (g.1, 8, .inl (zk_ia xh))), (a2, .inr (3, [.ref b2])), (b2, .inl (g.1, 8, .inl (zk_ia xl))), (a3, .inr (3, [.ref b3])), (b3, .inl (g.1, 8, .inl (zk_ia xb))), (a4, .inr (3, [.ref b4])), (b4, .inl (g.1, 8, .inl (zk_ia xn)))] := Z.sub [11, 12, 13, 14, 15, 0, 1, 2, 3, 4, 5, 6, 7, 8, 9, 10] (by decide) rfl
  refine W.eq (g2 := F0 mm 5 ls [.int (nI (rgt p n t wd))]) rfl ?_
  refine nr_eq0 (tgt := 10) hx hb (by have := rgt_lt (p := p) (n := n) (t := t) (wd := wd); omega) dX2_mended_5 (by decide) (fun c_1 => ?_) (fun c_1 => absurd c_1 (fun q => q (mdd_3 hm).1))
  refine lv_aload_n hx hb dX2_mended_10 rfl (lv_at hl 2 rfl) ?_
  refine lv_aload_n hx hb dX2_mended_11 rfl (lv_at hl 0 rfl) ?_
  refine zk_get C Z in_X2 0 rfl rfl 0 (by decide) q91 rfl (v := .ref h0) rfl dX2_mended_12 ?_
  refine lv_aload_n hx hb dX2_mended_15 rfl (lv_at hl 0 rfl) ?_
  refine zk_get C Z in_X2 0 rfl rfl 4 (by decide) q99 rfl (v := .ref hs) rfl dX2_mended_16 ?_
  refine lv_aload_n hx hb dX2_mended_19 rfl (lv_at hl 0 rfl) ?_
  refine zk_get C Z in_X2 0 rfl rfl 1 (by decide) q93 rfl (v := .int (nI t)) rfl dX2_mended_20 ?_
  refine lv_aload_n hx hb dX2_mended_23 rfl (lv_at hl 0 rfl) ?_
  refine zk_get C Z in_X2 0 rfl rfl 5 (by decide) q100 rfl (v := .ref pl) rfl dX2_mended_24 ?_
  have bS : zk_bs n t (syn p n t wd S) := syn_bs F hS t3 hS0
  refine zk_callF (x := zk_find) (cells' := 0) (slots' := 0) (rest := []) (n := 4) (wr := [(co, .inr (1, [.ref h0, .int (nI t), .int (nI gn), .int (nI kd), .ref hs, .ref pl]))]) C Z (m6_find l D g hv hs pl plc t h0 hp hq p n P L (syn p n t wd S) F bS t1 t3 a1 b1 a2 b2 a3 b3 a4 b4 xh xl xb xn c lh ll lb ln hl8) [7, 8, 9, 10, 11, 12, 13, 14, 15, 1, 2, 3, 4, 5, 6] [0] rfl rfl (by decide) (by decide) (by decide) 7 5 rfl rfl C.2.2.2.2.1.2.1 q507 q511 q513 q24 q515 (by decide +kernel) rfl (Nat.le_of_ble_eq_true rfl) (Nat.le_of_ble_eq_true rfl) (Nat.le_of_ble_eq_true rfl) (Nat.le_of_ble_eq_true rfl) rfl rfl hl.1 rfl (Nat.le_of_ble_eq_true rfl) dX2_mended_27 (fun v w1 H locs hq Z => ?_)
  obtain ⟨rfl, c1_, d1_, c2_, d2_, c3_, d3_, c4_, d4_, y1, y2, y3, y4, hy1, hy2, hy3, hy4, rfl⟩ := hq
  have Z : zk_Z D A s H locs [(co, .inr (1, [.ref h0, .int (nI t), .int (nI gn), .int (nI kd), .ref hs, .ref pl])), (h0, .inr (2, [.int (nI n), .ref hp, .ref hq])), (hp, .inl (g.1, 62, .inl (zk_ia P))), (hq, .inl (g.1, 32, .inl (zk_ia L))), (hs, .inl (g.1, 7, .inl (zk_ia (syn p n t wd S)))), (pl, .inr (3, [.ref plc])), (plc, .inl (g.1, 8, .inl (zk_ia (divi p t (syn p n t wd S))))), (hv, .inr (5, [.ref c1_, .ref c2_, .ref c3_, .ref c4_])), (c1_, .inr (3, [.ref d1_])), (d1_, .inl (g.1, 8, .inl (zk_ia y1))), (c2_, .inr (3, [.ref d2_])), (d2_, .inl (g.1, 8, .inl (zk_ia y2))), (c3_, .inr (3, [.ref d3_])), (d3_, .inl (g.1, 8, .inl (zk_ia y3))), (c4_, .inr (3, [.ref d4_])), (d4_, .inl (g.1, 8, .inl (zk_ia y4)))] := Z.sub [0, 10, 11, 12, 13, 14, 15, 1, 2, 3, 4, 5, 6, 7, 8, 9] (by decide) rfl
  rw [loc_1 hS t3] at Z
  have hloc := loc_ok (w := 1) (wd := wd) F t3
  refine W.eq (g2 := F0 mm 32 ls []) rfl ?_
  refine lv_iconst (v := nI 0) hx hb dX2_mended_32 (by decide) ?_
  refine lv_istore_n (lv' := [(3, .int (nI 0)), (0, .ref co), (1, .int (nI wd)), (2, .ref hv)]) hx hb dX2_mended_33 rfl hl (by decide) rfl (fun ls hl => ?_)
  refine lv_iconst (v := nI 0) hx hb dX2_mended_34 (by decide) ?_
  refine lv_istore (lv' := [(4, .int (nI 0)), (3, .int (nI 0)), (0, .ref co), (1, .int (nI wd)), (2, .ref hv)]) hx hb dX2_mended_35 hl (by decide) rfl (fun ls hl => ?_)
  refine lp2_mdDt C co h0 hs pl plc t gn kd hp hq p n P L F t1 t3 hv c1_ d1_ c2_ d2_ c3_ d3_ c4_ d4_ y1 y2 y3 y4 wd (syn p n t wd S) (loc 1 p n t wd) hloc.2 _ (fun H locs ls Z hl => ?_) n 0 0 H locs ls (by omega) rfl Z (lv_sub hl [2, 3, 4, 1, 0] rfl)
  rw [show zk_it (erF p n (loc 1 p n t wd)) n 0 0 = ers p n (loc 1 p n t wd) from rfl] at hl
  have he9 := ers_lt p n (loc 1 p n t wd)
  have hp9 := Nat.pow_le_pow_right (n := 2) (by decide) (show n ≤ 31 by omega)
  have hx9 : wd ^^^ ers p n (loc 1 p n t wd) < 2 ^ 31 := Nat.xor_lt_two_pow hwd (by omega)
  refine lv_iload_n hx hb dX2_mended_98 rfl (lv_at hl 3 rfl) ?_
  refine zk_callS (cells' := 0) (slots' := 0) (rest := []) (n := 1) (wr := [(co, .inr (1, [.ref h0, .int (nI t), .int (nI gn), .int (nI kd), .ref hs, .ref pl])), (h0, .inr (2, [.int (nI n), .ref hp, .ref hq])), (hp, .inl (g.1, 62, .inl (zk_ia P))), (hq, .inl (g.1, 32, .inl (zk_ia L))), (hs, .inl (g.1, 7, .inl (zk_ia (syn p n t wd S)))), (pl, .inr (3, [.ref plc])), (plc, .inl (g.1, 8, .inl (zk_ia (loc 1 p n t wd)))), (hv, .inr (5, [.ref c1_, .ref c2_, .ref c3_, .ref c4_])), (c1_, .inr (3, [.ref d1_])), (d1_, .inl (g.1, 8, .inl (zk_ia y1))), (c2_, .inr (3, [.ref d2_])), (d2_, .inl (g.1, 8, .inl (zk_ia y2))), (c3_, .inr (3, [.ref d3_])), (d3_, .inl (g.1, 8, .inl (zk_ia y3))), (c4_, .inr (3, [.ref d4_])), (d4_, .inl (g.1, 8, .inl (zk_ia y4)))]) C Z (mJ_bc l D g (ers p n (loc 1 p n t wd)) (by omega)) [] [0, 1, 2, 3, 4, 5, 6, 7, 8, 9, 10, 11, 12, 13, 14, 15] rfl rfl (by decide) (by decide) (by decide) q572 q448 q36 q449 (by decide +kernel) rfl (Nat.le_of_ble_eq_true rfl) (Nat.le_of_ble_eq_true rfl) (Nat.le_of_ble_eq_true rfl) (Nat.le_of_ble_eq_true rfl) rfl rfl hl.1 rfl (Nat.le_of_ble_eq_true rfl) dX2_mended_99 (fun v w1 H locs hq Z => ?_)
  obtain ⟨rfl, rfl⟩ := hq
  have Z : zk_Z D A s H locs [(co, .inr (1, [.ref h0, .int (nI t), .int (nI gn), .int (nI kd), .ref hs, .ref pl])), (h0, .inr (2, [.int (nI n), .ref hp, .ref hq])), (hp, .inl (g.1, 62, .inl (zk_ia P))), (hq, .inl (g.1, 32, .inl (zk_ia L))), (hs, .inl (g.1, 7, .inl (zk_ia (syn p n t wd S)))), (pl, .inr (3, [.ref plc])), (plc, .inl (g.1, 8, .inl (zk_ia (loc 1 p n t wd)))), (hv, .inr (5, [.ref c1_, .ref c2_, .ref c3_, .ref c4_])), (c1_, .inr (3, [.ref d1_])), (d1_, .inl (g.1, 8, .inl (zk_ia y1))), (c2_, .inr (3, [.ref d2_])), (d2_, .inl (g.1, 8, .inl (zk_ia y2))), (c3_, .inr (3, [.ref d3_])), (d3_, .inl (g.1, 8, .inl (zk_ia y3))), (c4_, .inr (3, [.ref d4_])), (d4_, .inl (g.1, 8, .inl (zk_ia y4)))] := Z.sub [0, 1, 2, 3, 4, 5, 6, 7, 8, 9, 10, 11, 12, 13, 14, 15] (by decide) rfl
  refine W.eq (g2 := F0 mm 102 ls [.int (nI (bct (ers p n (loc 1 p n t wd))))]) rfl ?_
  refine lv_aload_n hx hb dX2_mended_102 rfl (lv_at hl 0 rfl) ?_
  refine zk_get C Z in_X2 0 rfl rfl 1 (by decide) q93 rfl (v := .int (nI t)) rfl dX2_mended_103 ?_
  refine nr_gt (tgt := 119) hx hb (by have : bct (ers p n (loc 1 p n t wd)) ≤ 63 := Nat.and_le_right; omega) (by omega) dX2_mended_106 (by decide) (fun c_2 => ?_) (fun c_2 => ?_)
  · exact zk_throw hfl C Z hlocks hno (by decide +kernel) (zk_ownARE q575) q573 q30 q574 ⟨_, _, c1_, d1_, c2_, d2_, c3_, d3_, c4_, d4_, y1, y2, y3, y4, hlen_1, syn_0 hS t3 hS0, hloc.1, hy1, hy2, hy3, hy4, rfl⟩ (Nat.le_of_ble_eq_true rfl) (Nat.le_of_ble_eq_true rfl) (Nat.le_of_ble_eq_true rfl) (Nat.le_of_ble_eq_true rfl) (Nat.le_of_ble_eq_true rfl) (Nat.le_of_ble_eq_true rfl) hl.1 dX2_mended_119 dX2_mended_122 dX2_mended_123 dX2_mended_125 dX2_mended_128
  · refine lv_aload_n hx hb dX2_mended_109 rfl (lv_at hl 0 rfl) ?_
    refine lv_iload_n hx hb dX2_mended_110 rfl (lv_at hl 1 rfl) ?_
    refine lv_iload_n hx hb dX2_mended_111 rfl (lv_at hl 3 rfl) ?_
    refine nr_ixor hx hb dX2_mended_112 ?_
    have hlen_3 : (syn p n t (wd ^^^ (ers p n (loc 1 p n t wd))) (syn p n t wd S)).length = 7 := by rw [syn_len]; exact hlen_1
    refine zk_callV (cells' := 0) (slots' := 0) (rest := []) (n := 1) (wr := [(pl, .inr (3, [.ref plc])), (plc, .inl (g.1, 8, .inl (zk_ia (loc 1 p n t wd)))), (hv, .inr (5, [.ref c1_, .ref c2_, .ref c3_, .ref c4_])), (c1_, .inr (3, [.ref d1_])), (d1_, .inl (g.1, 8, .inl (zk_ia y1))), (c2_, .inr (3, [.ref d2_])), (d2_, .inl (g.1, 8, .inl (zk_ia y2))), (c3_, .inr (3, [.ref d3_])), (d3_, .inl (g.1, 8, .inl (zk_ia y3))), (c4_, .inr (3, [.ref d4_])), (d4_, .inl (g.1, 8, .inl (zk_ia y4)))]) C Z (m2_right l D g co hs pl t gn kd h0 hp hq p n P L (wd ^^^ (ers p n (loc 1 p n t wd))) F hx9 t3 (syn p n t wd S) hlen_1) [0, 1, 2, 3, 4] [5, 6, 7, 8, 9, 10, 11, 12, 13, 14, 15] rfl rfl (by decide) (by decide) (by decide) 0 1 rfl rfl rfl q502 q503 q504 q20 q505 (by decide +kernel) rfl (Nat.le_of_ble_eq_true rfl) (Nat.le_of_ble_eq_true rfl) (Nat.le_of_ble_eq_true rfl) (Nat.le_of_ble_eq_true rfl) rfl rfl hl.1 rfl (Nat.le_of_ble_eq_true rfl) dX2_mended_113 (fun v w1 H locs hq Z => ?_)
    obtain ⟨rfl, rfl⟩ := hq
    have Z : zk_Z D A s H locs [(co, .inr (1, [.ref h0, .int (nI t), .int (nI gn), .int (nI kd), .ref hs, .ref pl])), (h0, .inr (2, [.int (nI n), .ref hp, .ref hq])), (hp, .inl (g.1, 62, .inl (zk_ia P))), (hq, .inl (g.1, 32, .inl (zk_ia L))), (hs, .inl (g.1, 7, .inl (zk_ia (syn p n t (wd ^^^ (ers p n (loc 1 p n t wd))) (syn p n t wd S))))), (pl, .inr (3, [.ref plc])), (plc, .inl (g.1, 8, .inl (zk_ia (loc 1 p n t wd)))), (hv, .inr (5, [.ref c1_, .ref c2_, .ref c3_, .ref c4_])), (c1_, .inr (3, [.ref d1_])), (d1_, .inl (g.1, 8, .inl (zk_ia y1))), (c2_, .inr (3, [.ref d2_])), (d2_, .inl (g.1, 8, .inl (zk_ia y2))), (c3_, .inr (3, [.ref d3_])), (d3_, .inl (g.1, 8, .inl (zk_ia y3))), (c4_, .inr (3, [.ref d4_])), (d4_, .inl (g.1, 8, .inl (zk_ia y4)))] := Z.sub [11, 12, 13, 14, 15, 0, 1, 2, 3, 4, 5, 6, 7, 8, 9, 10] (by decide) rfl
    refine W.eq (g2 := F0 mm 116 ls [.int (nI (rgt p n t (wd ^^^ (ers p n (loc 1 p n t wd)))))]) rfl ?_
    refine nr_ne0 (tgt := 129) hx hb (by have := rgt_lt (p := p) (n := n) (t := t) (wd := wd ^^^ ers p n (loc 1 p n t wd)); omega) dX2_mended_116 (by decide) (fun c_4 => absurd c_4 (fun q => q ((mdd_3 hm).2 (by omega)))) (fun c_4 => ?_)
    exact zk_throw hfl C Z hlocks hno (by decide +kernel) (zk_ownARE q575) q573 q30 q574 ⟨_, _, c1_, d1_, c2_, d2_, c3_, d3_, c4_, d4_, y1, y2, y3, y4, hlen_3, syn_0 (by rw [syn_len]; exact hS) t3 (syn_0 hS t3 hS0), hloc.1, hy1, hy2, hy3, hy4, rfl⟩ (Nat.le_of_ble_eq_true rfl) (Nat.le_of_ble_eq_true rfl) (Nat.le_of_ble_eq_true rfl) (Nat.le_of_ble_eq_true rfl) (Nat.le_of_ble_eq_true rfl) (Nat.le_of_ble_eq_true rfl) hl.1 dX2_mended_119 dX2_mended_122 dX2_mended_123 dX2_mended_125 dX2_mended_128

set_option maxHeartbeats 4000000 in
theorem lp2_mdGr {pg : Program} {l : Launch} {ev : Env} {s : State} {mm : MethodId} {args : Array Value} {below : List Frame} {meth : Method} {cd : Code} {Q : State → Prop} {D : va_G} {g : G4} {A : Nat → Prop} (C : zk_C pg s mm cd args cX2_mended 5 RX2 D g A) (co h0 hs pl plc t gn kd : Nat) (hp hq p n : Nat) (P L : List Nat) (F : zk_F p n P L) (t1 : 1 ≤ t) (t3 : t ≤ 3) (hg go goc gt gtc : Nat) (o gr : List Nat) (wd : Nat) (S c : List Nat) (bc : zk_bd n c) (fin : Nat) (kk : ∀ (H : Heap) (locs : List Loc) (ls : Array Slot), zk_Z D A s H locs [(co, .inr (1, [.ref h0, .int (nI t), .int (nI gn), .int (nI kd), .ref hs, .ref pl])), (h0, .inr (2, [.int (nI n), .ref hp, .ref hq])), (hp, .inl (g.1, 62, .inl (zk_ia P))), (hq, .inl (g.1, 32, .inl (zk_ia L))), (hs, .inl (g.1, 7, .inl (zk_ia S))), (pl, .inr (3, [.ref plc])), (plc, .inl (g.1, 8, .inl (zk_ia c))), (hg, .inr (6, [.ref go, .ref gt])), (go, .inr (3, [.ref goc])), (goc, .inl (g.1, 8, .inl (zk_ia o))), (gt, .inr (3, [.ref gtc])), (gtc, .inl (g.1, 8, .inl (zk_ia gr)))] → lv_has ls 5 [(0, .ref co), (1, .int (nI wd)), (2, .ref hg), (3, .int (nI fin))] → W pg l ev (zk_R 6 0 0) s mm args below meth cd H locs 0 0 Q (F0 mm 98 ls [])) :
    ∀ (k : Nat) (i e : Nat) (H : Heap) (locs : List Loc) (ls : Array Slot), (i + k = n) → (zk_it (erF p n c) k i e = fin) → zk_Z D A s H locs [(co, .inr (1, [.ref h0, .int (nI t), .int (nI gn), .int (nI kd), .ref hs, .ref pl])), (h0, .inr (2, [.int (nI n), .ref hp, .ref hq])), (hp, .inl (g.1, 62, .inl (zk_ia P))), (hq, .inl (g.1, 32, .inl (zk_ia L))), (hs, .inl (g.1, 7, .inl (zk_ia S))), (pl, .inr (3, [.ref plc])), (plc, .inl (g.1, 8, .inl (zk_ia c))), (hg, .inr (6, [.ref go, .ref gt])), (go, .inr (3, [.ref goc])), (goc, .inl (g.1, 8, .inl (zk_ia o))), (gt, .inr (3, [.ref gtc])), (gtc, .inl (g.1, 8, .inl (zk_ia gr)))] → lv_has ls 5 [(0, .ref co), (1, .int (nI wd)), (2, .ref hg), (3, .int (nI e)), (4, .int (nI i))] → W pg l ev (zk_R 6 0 0) s mm args below meth cd H locs 0 0 Q (F0 mm 37 ls []) := by
  have hx := C.1.1
  have hb := C.1.2.1
  have hml := C.1.2.2.1
  have hown := C.1.2.2.2.1
  have hts := C.1.2.2.2.2
  have hn := F.n31
  intro k
  induction k with
  | zero =>
    intro i e H locs ls hik hfin Z hl
    have hfin : e = fin := hfin
    subst hfin
    refine lv_iload hx hb dX2_mended_37 (lv_at hl 4 rfl) ?_
    refine lv_aload_n hx hb dX2_mended_39 rfl (lv_at hl 0 rfl) ?_
    refine zk_get C Z in_X2 0 rfl rfl 0 (by decide) q91 rfl (v := .ref h0) rfl dX2_mended_40 ?_
    refine zk_getN C Z in_X3 1 rfl rfl 0 (by decide) q59 rfl (v := .int (nI n)) rfl dX2_mended_43 ?_
    refine nr_ge (tgt := 98) hx hb (by omega) (by omega) dX2_mended_46 (by decide) (fun c_1 => ?_) (fun c_1 => absurd c_1 (by omega))
    exact kk  H locs ls  Z (lv_sub hl [0, 1, 2, 3] rfl)
  | succ k ih =>
    intro i e H locs ls hik hfin Z hl
    refine lv_iload hx hb dX2_mended_37 (lv_at hl 4 rfl) ?_
    refine lv_aload_n hx hb dX2_mended_39 rfl (lv_at hl 0 rfl) ?_
    refine zk_get C Z in_X2 0 rfl rfl 0 (by decide) q91 rfl (v := .ref h0) rfl dX2_mended_40 ?_
    refine zk_getN C Z in_X3 1 rfl rfl 0 (by decide) q59 rfl (v := .int (nI n)) rfl dX2_mended_43 ?_
    refine nr_ge (tgt := 98) hx hb (by omega) (by omega) dX2_mended_46 (by decide) (fun c_1 => absurd c_1 (by omega)) (fun c_1 => ?_)
    refine lv_iload_n hx hb dX2_mended_49 rfl (lv_at hl 3 rfl) ?_
    refine lv_aload_n hx hb dX2_mended_50 rfl (lv_at hl 0 rfl) ?_
    refine zk_get C Z in_X2 0 rfl rfl 5 (by decide) q100 rfl (v := .ref pl) rfl dX2_mended_51 ?_
    refine lv_aload_n hx hb dX2_mended_54 rfl (lv_at hl 0 rfl) ?_
    refine zk_get C Z in_X2 0 rfl rfl 0 (by decide) q91 rfl (v := .ref h0) rfl dX2_mended_55 ?_
    refine lv_aload_n hx hb dX2_mended_58 rfl (lv_at hl 0 rfl) ?_
    refine zk_get C Z in_X2 0 rfl rfl 0 (by decide) q91 rfl (v := .ref h0) rfl dX2_mended_59 ?_
    refine zk_getN C Z in_X3 1 rfl rfl 0 (by decide) q59 rfl (v := .int (nI n)) rfl dX2_mended_62 ?_
    refine lv_iload hx hb dX2_mended_65 (lv_at hl 4 rfl) ?_
    refine nr_isub hx hb (by omega) dX2_mended_67 ?_
    refine lv_aload_n hx hb dX2_mended_68 rfl (lv_at hl 0 rfl) ?_
    refine zk_get C Z in_X2 0 rfl rfl 0 (by decide) q91 rfl (v := .ref h0) rfl dX2_mended_69 ?_
    refine zk_getN C Z in_X3 1 rfl rfl 0 (by decide) q59 rfl (v := .int (nI n)) rfl dX2_mended_72 ?_
    refine nr_irem hx hb (by omega) (by omega) (by omega) dX2_mended_75 ?_
    refine zk_callV (cells' := 0) (slots' := 0) (rest := [.int (nI e)]) (n := 2) (wr := [(co, .inr (1, [.ref h0, .int (nI t), .int (nI gn), .int (nI kd), .ref hs, .ref pl])), (hs, .inl (g.1, 7, .inl (zk_ia S))), (hg, .inr (6, [.ref go, .ref gt])), (go, .inr (3, [.ref goc])), (goc, .inl (g.1, 8, .inl (zk_ia o))), (gt, .inr (3, [.ref gtc])), (gtc, .inl (g.1, 8, .inl (zk_ia gr)))]) C Z (m4_value l D g pl plc ((n - i) % n) h0 hp hq p n P L c F bc (by have := Nat.mod_lt (n - i) (show 0 < n by omega); omega)) [5, 6, 1, 2, 3] [0, 4, 7, 8, 9, 10, 11] rfl rfl (by decide) (by decide) (by decide) 5 3 rfl rfl rfl q568 q569 q570 q22 q571 (by decide +kernel) rfl (Nat.le_of_ble_eq_true rfl) (Nat.le_of_ble_eq_true rfl) (Nat.le_of_ble_eq_true rfl) (Nat.le_of_ble_eq_true rfl) rfl rfl hl.1 rfl (Nat.le_of_ble_eq_true rfl) dX2_mended_76 (fun v w1 H locs hq Z => ?_)
    obtain ⟨rfl, rfl⟩ := hq
    have Z : zk_Z D A s H locs [(co, .inr (1, [.ref h0, .int (nI t), .int (nI gn), .int (nI kd), .ref hs, .ref pl])), (h0, .inr (2, [.int (nI n), .ref hp, .ref hq])), (hp, .inl (g.1, 62, .inl (zk_ia P))), (hq, .inl (g.1, 32, .inl (zk_ia L))), (hs, .inl (g.1, 7, .inl (zk_ia S))), (pl, .inr (3, [.ref plc])), (plc, .inl (g.1, 8, .inl (zk_ia c))), (hg, .inr (6, [.ref go, .ref gt])), (go, .inr (3, [.ref goc])), (goc, .inl (g.1, 8, .inl (zk_ia o))), (gt, .inr (3, [.ref gtc])), (gtc, .inl (g.1, 8, .inl (zk_ia gr)))] := Z.sub [0, 9, 10, 11, 1, 7, 8, 2, 3, 4, 5, 6] (by decide) rfl
    refine W.eq (g2 := F0 mm 79 ls [.int (nI (pval p n ((n - i) % n) c)), .int (nI e)]) rfl ?_
    refine nr_ne0 (tgt := 89) hx hb (by have := pval_le (x := (n - i) % n) (c := c) F; omega) dX2_mended_79 (by decide) (fun c_1 => ?_) (fun c_1 => ?_)
    · refine lv_iconst (v := nI 0) hx hb dX2_mended_89 (by decide) ?_
      refine nr_ior hx hb dX2_mended_90 ?_
      refine lv_istore_n (lv' := [(3, .int (nI (e ||| 0))), (0, .ref co), (1, .int (nI wd)), (2, .ref hg), (4, .int (nI i))]) hx hb dX2_mended_91 rfl hl (by decide) rfl (fun ls hl => ?_)
      refine nr_iinc (n := 1) (lv' := [(4, .int (nI (i + 1))), (3, .int (nI (e ||| 0))), (0, .ref co), (1, .int (nI wd)), (2, .ref hg)]) hx hb (by decide) dX2_mended_92 hl (k := 4) rfl (by decide) rfl (fun ls hl => ?_)
      refine lv_goto (tgt := 37) hx hb dX2_mended_95 (by decide) ?_
      exact ih (i + 1) (e ||| 0) H locs ls (by omega) ((congrArg (zk_it (erF p n c) k (i + 1)) (erF_0 c_1)).trans hfin) Z (lv_sub hl [2, 3, 4, 1, 0] rfl)
    · refine lv_iconst (v := nI 1) hx hb dX2_mended_82 (by decide) ?_
      refine lv_iload hx hb dX2_mended_83 (lv_at hl 4 rfl) ?_
      refine nr_ishl hx hb (by omega) dX2_mended_85 ?_
      refine lv_goto (tgt := 90) hx hb dX2_mended_86 (by decide) ?_
      refine nr_ior hx hb dX2_mended_90 ?_
      refine lv_istore_n (lv' := [(3, .int (nI (e ||| (1 <<< i)))), (0, .ref co), (1, .int (nI wd)), (2, .ref hg), (4, .int (nI i))]) hx hb dX2_mended_91 rfl hl (by decide) rfl (fun ls hl => ?_)
      refine nr_iinc (n := 1) (lv' := [(4, .int (nI (i + 1))), (3, .int (nI (e ||| (1 <<< i)))), (0, .ref co), (1, .int (nI wd)), (2, .ref hg)]) hx hb (by decide) dX2_mended_92 hl (k := 4) rfl (by decide) rfl (fun ls hl => ?_)
      refine lv_goto (tgt := 37) hx hb dX2_mended_95 (by decide) ?_
      exact ih (i + 1) (e ||| (1 <<< i)) H locs ls (by omega) ((congrArg (zk_it (erF p n c) k (i + 1)) (erF_1 c_1)).trans hfin) Z (lv_sub hl [2, 3, 4, 1, 0] rfl)

set_option maxHeartbeats 4000000 in
theorem lp2_mdGt {pg : Program} {l : Launch} {ev : Env} {s : State} {mm : MethodId} {args : Array Value} {below : List Frame} {meth : Method} {cd : Code} {Q : State → Prop} {D : va_G} {g : G4} {A : Nat → Prop} (C : zk_C pg s mm cd args cX2_mended 5 RX2 D g A) (co h0 hs pl plc t gn kd : Nat) (hp hq p n : Nat) (P L : List Nat) (F : zk_F p n P L) (t1 : 1 ≤ t) (t3 : t ≤ 3) (hg go goc gt gtc : Nat) (o gr : List Nat) (wd : Nat) (S c : List Nat) (bc : zk_bd n c) (fin : Nat) (kk : ∀ (H : Heap) (locs : List Loc) (ls : Array Slot), zk_Z D A s H locs [(co, .inr (1, [.ref h0, .int (nI t), .int (nI gn), .int (nI kd), .ref hs, .ref pl])), (h0, .inr (2, [.int (nI n), .ref hp, .ref hq])), (hp, .inl (g.1, 62, .inl (zk_ia P))), (hq, .inl (g.1, 32, .inl (zk_ia L))), (hs, .inl (g.1, 7, .inl (zk_ia S))), (pl, .inr (3, [.ref plc])), (plc, .inl (g.1, 8, .inl (zk_ia c))), (hg, .inr (6, [.ref go, .ref gt])), (go, .inr (3, [.ref goc])), (goc, .inl (g.1, 8, .inl (zk_ia o))), (gt, .inr (3, [.ref gtc])), (gtc, .inl (g.1, 8, .inl (zk_ia gr)))] → lv_has ls 5 [(0, .ref co), (1, .int (nI wd)), (2, .ref hg), (3, .int (nI fin))] → W pg l ev (zk_R 6 1 6) s mm args below meth cd H locs 0 0 Q (F0 mm 98 ls [])) :
    ∀ (k : Nat) (i e : Nat) (H : Heap) (locs : List Loc) (ls : Array Slot), (i + k = n) → (zk_it (erF p n c) k i e = fin) → zk_Z D A s H locs [(co, .inr (1, [.ref h0, .int (nI t), .int (nI gn), .int (nI kd), .ref hs, .ref pl])), (h0, .inr (2, [.int (nI n), .ref hp, .ref hq])), (hp, .inl (g.1, 62, .inl (zk_ia P))), (hq, .inl (g.1, 32, .inl (zk_ia L))), (hs, .inl (g.1, 7, .inl (zk_ia S))), (pl, .inr (3, [.ref plc])), (plc, .inl (g.1, 8, .inl (zk_ia c))), (hg, .inr (6, [.ref go, .ref gt])), (go, .inr (3, [.ref goc])), (goc, .inl (g.1, 8, .inl (zk_ia o))), (gt, .inr (3, [.ref gtc])), (gtc, .inl (g.1, 8, .inl (zk_ia gr)))] → lv_has ls 5 [(0, .ref co), (1, .int (nI wd)), (2, .ref hg), (3, .int (nI e)), (4, .int (nI i))] → W pg l ev (zk_R 6 1 6) s mm args below meth cd H locs 0 0 Q (F0 mm 37 ls []) := by
  have hx := C.1.1
  have hb := C.1.2.1
  have hml := C.1.2.2.1
  have hown := C.1.2.2.2.1
  have hts := C.1.2.2.2.2
  have hn := F.n31
  intro k
  induction k with
  | zero =>
    intro i e H locs ls hik hfin Z hl
    have hfin : e = fin := hfin
    subst hfin
    refine lv_iload hx hb dX2_mended_37 (lv_at hl 4 rfl) ?_
    refine lv_aload_n hx hb dX2_mended_39 rfl (lv_at hl 0 rfl) ?_
    refine zk_get C Z in_X2 0 rfl rfl 0 (by decide) q91 rfl (v := .ref h0) rfl dX2_mended_40 ?_
    refine zk_getN C Z in_X3 1 rfl rfl 0 (by decide) q59 rfl (v := .int (nI n)) rfl dX2_mended_43 ?_
    refine nr_ge (tgt := 98) hx hb (by omega) (by omega) dX2_mended_46 (by decide) (fun c_1 => ?_) (fun c_1 => absurd c_1 (by omega))
    exact kk  H locs ls  Z (lv_sub hl [0, 1, 2, 3] rfl)
  | succ k ih =>
    intro i e H locs ls hik hfin Z hl
    refine lv_iload hx hb dX2_mended_37 (lv_at hl 4 rfl) ?_
    refine lv_aload_n hx hb dX2_mended_39 rfl (lv_at hl 0 rfl) ?_
    refine zk_get C Z in_X2 0 rfl rfl 0 (by decide) q91 rfl (v := .ref h0) rfl dX2_mended_40 ?_
    refine zk_getN C Z in_X3 1 rfl rfl 0 (by decide) q59 rfl (v := .int (nI n)) rfl dX2_mended_43 ?_
    refine nr_ge (tgt := 98) hx hb (by omega) (by omega) dX2_mended_46 (by decide) (fun c_1 => absurd c_1 (by omega)) (fun c_1 => ?_)
    refine lv_iload_n hx hb dX2_mended_49 rfl (lv_at hl 3 rfl) ?_
    refine lv_aload_n hx hb dX2_mended_50 rfl (lv_at hl 0 rfl) ?_
    refine zk_get C Z in_X2 0 rfl rfl 5 (by decide) q100 rfl (v := .ref pl) rfl dX2_mended_51 ?_
    refine lv_aload_n hx hb dX2_mended_54 rfl (lv_at hl 0 rfl) ?_
    refine zk_get C Z in_X2 0 rfl rfl 0 (by decide) q91 rfl (v := .ref h0) rfl dX2_mended_55 ?_
    refine lv_aload_n hx hb dX2_mended_58 rfl (lv_at hl 0 rfl) ?_
    refine zk_get C Z in_X2 0 rfl rfl 0 (by decide) q91 rfl (v := .ref h0) rfl dX2_mended_59 ?_
    refine zk_getN C Z in_X3 1 rfl rfl 0 (by decide) q59 rfl (v := .int (nI n)) rfl dX2_mended_62 ?_
    refine lv_iload hx hb dX2_mended_65 (lv_at hl 4 rfl) ?_
    refine nr_isub hx hb (by omega) dX2_mended_67 ?_
    refine lv_aload_n hx hb dX2_mended_68 rfl (lv_at hl 0 rfl) ?_
    refine zk_get C Z in_X2 0 rfl rfl 0 (by decide) q91 rfl (v := .ref h0) rfl dX2_mended_69 ?_
    refine zk_getN C Z in_X3 1 rfl rfl 0 (by decide) q59 rfl (v := .int (nI n)) rfl dX2_mended_72 ?_
    refine nr_irem hx hb (by omega) (by omega) (by omega) dX2_mended_75 ?_
    refine zk_callV (cells' := 0) (slots' := 0) (rest := [.int (nI e)]) (n := 2) (wr := [(co, .inr (1, [.ref h0, .int (nI t), .int (nI gn), .int (nI kd), .ref hs, .ref pl])), (hs, .inl (g.1, 7, .inl (zk_ia S))), (hg, .inr (6, [.ref go, .ref gt])), (go, .inr (3, [.ref goc])), (goc, .inl (g.1, 8, .inl (zk_ia o))), (gt, .inr (3, [.ref gtc])), (gtc, .inl (g.1, 8, .inl (zk_ia gr)))]) C Z (m4_value l D g pl plc ((n - i) % n) h0 hp hq p n P L c F bc (by have := Nat.mod_lt (n - i) (show 0 < n by omega); omega)) [5, 6, 1, 2, 3] [0, 4, 7, 8, 9, 10, 11] rfl rfl (by decide) (by decide) (by decide) 5 3 rfl rfl rfl q568 q569 q570 q22 q571 (by decide +kernel) rfl (Nat.le_of_ble_eq_true rfl) (Nat.le_of_ble_eq_true rfl) (Nat.le_of_ble_eq_true rfl) (Nat.le_of_ble_eq_true rfl) rfl rfl hl.1 rfl (Nat.le_of_ble_eq_true rfl) dX2_mended_76 (fun v w1 H locs hq Z => ?_)
    obtain ⟨rfl, rfl⟩ := hq
    have Z : zk_Z D A s H locs [(co, .inr (1, [.ref h0, .int (nI t), .int (nI gn), .int (nI kd), .ref hs, .ref pl])), (h0, .inr (2, [.int (nI n), .ref hp, .ref hq])), (hp, .inl (g.1, 62, .inl (zk_ia P))), (hq, .inl (g.1, 32, .inl (zk_ia L))), (hs, .inl (g.1, 7, .inl (zk_ia S))), (pl, .inr (3, [.ref plc])), (plc, .inl (g.1, 8, .inl (zk_ia c))), (hg, .inr (6, [.ref go, .ref gt])), (go, .inr (3, [.ref goc])), (goc, .inl (g.1, 8, .inl (zk_ia o))), (gt, .inr (3, [.ref gtc])), (gtc, .inl (g.1, 8, .inl (zk_ia gr)))] := Z.sub [0, 9, 10, 11, 1, 7, 8, 2, 3, 4, 5, 6] (by decide) rfl
    refine W.eq (g2 := F0 mm 79 ls [.int (nI (pval p n ((n - i) % n) c)), .int (nI e)]) rfl ?_
    refine nr_ne0 (tgt := 89) hx hb (by have := pval_le (x := (n - i) % n) (c := c) F; omega) dX2_mended_79 (by decide) (fun c_1 => ?_) (fun c_1 => ?_)
    · refine lv_iconst (v := nI 0) hx hb dX2_mended_89 (by decide) ?_
      refine nr_ior hx hb dX2_mended_90 ?_
      refine lv_istore_n (lv' := [(3, .int (nI (e ||| 0))), (0, .ref co), (1, .int (nI wd)), (2, .ref hg), (4, .int (nI i))]) hx hb dX2_mended_91 rfl hl (by decide) rfl (fun ls hl => ?_)
      refine nr_iinc (n := 1) (lv' := [(4, .int (nI (i + 1))), (3, .int (nI (e ||| 0))), (0, .ref co), (1, .int (nI wd)), (2, .ref hg)]) hx hb (by decide) dX2_mended_92 hl (k := 4) rfl (by decide) rfl (fun ls hl => ?_)
      refine lv_goto (tgt := 37) hx hb dX2_mended_95 (by decide) ?_
      exact ih (i + 1) (e ||| 0) H locs ls (by omega) ((congrArg (zk_it (erF p n c) k (i + 1)) (erF_0 c_1)).trans hfin) Z (lv_sub hl [2, 3, 4, 1, 0] rfl)
    · refine lv_iconst (v := nI 1) hx hb dX2_mended_82 (by decide) ?_
      refine lv_iload hx hb dX2_mended_83 (lv_at hl 4 rfl) ?_
      refine nr_ishl hx hb (by omega) dX2_mended_85 ?_
      refine lv_goto (tgt := 90) hx hb dX2_mended_86 (by decide) ?_
      refine nr_ior hx hb dX2_mended_90 ?_
      refine lv_istore_n (lv' := [(3, .int (nI (e ||| (1 <<< i)))), (0, .ref co), (1, .int (nI wd)), (2, .ref hg), (4, .int (nI i))]) hx hb dX2_mended_91 rfl hl (by decide) rfl (fun ls hl => ?_)
      refine nr_iinc (n := 1) (lv' := [(4, .int (nI (i + 1))), (3, .int (nI (e ||| (1 <<< i)))), (0, .ref co), (1, .int (nI wd)), (2, .ref hg)]) hx hb (by decide) dX2_mended_92 hl (k := 4) rfl (by decide) rfl (fun ls hl => ?_)
      refine lv_goto (tgt := 37) hx hb dX2_mended_95 (by decide) ?_
      exact ih (i + 1) (e ||| (1 <<< i)) H locs ls (by omega) ((congrArg (zk_it (erF p n c) k (i + 1)) (erF_1 c_1)).trans hfin) Z (lv_sub hl [2, 3, 4, 1, 0] rfl)

set_option maxHeartbeats 4000000 in
/-- Code.mended, G -/
theorem m2_mdG (l : Launch) (D : va_G) (g : G4) (co h0 hs pl plc t gn kd : Nat) (hp hq p n : Nat) (P L : List Nat) (F : zk_F p n P L) (t1 : 1 ≤ t) (t3 : t ≤ 3) (hg go goc gt gtc : Nat) (o gr : List Nat) (ho : o.length = 8) (ht : gr.length = 8) (wd : Nat) (hwd : wd < 2 ^ 31) (S c : List Nat) (hS : S.length = 7) (hS0 : S.getD 0 0 = 0) (hl8 : c.length = 8) (r : Nat) (hm : mdd 2 p n t wd = some r) : zk_M l yX2_mended (ws_ yX2_mended cX2_mended 5 (some .int)) (zk_R 6 0 0) D g [.ref co, .int (nI wd), .ref hg] [(co, .inr (1, [.ref h0, .int (nI t), .int (nI gn), .int (nI kd), .ref hs, .ref pl])), (h0, .inr (2, [.int (nI n), .ref hp, .ref hq])), (hp, .inl (g.1, 62, .inl (zk_ia P))), (hq, .inl (g.1, 32, .inl (zk_ia L))), (hs, .inl (g.1, 7, .inl (zk_ia S))), (pl, .inr (3, [.ref plc])), (plc, .inl (g.1, 8, .inl (zk_ia c))), (hg, .inr (6, [.ref go, .ref gt])), (go, .inr (3, [.ref goc])), (goc, .inl (g.1, 8, .inl (zk_ia o))), (gt, .inr (3, [.ref gtc])), (gtc, .inl (g.1, 8, .inl (zk_ia gr)))] (fun v w => v = some (.int (nI r)) ∧ ∃ (S1 c1 : List Nat) (o1 t1_ : List Nat), S1.length = 7 ∧ S1.getD 0 0 = 0 ∧ c1.length = 8 ∧ o1.length = 8 ∧ t1_.length = 8 ∧ w = [(co, .inr (1, [.ref h0, .int (nI t), .int (nI gn), .int (nI kd), .ref hs, .ref pl])), (h0, .inr (2, [.int (nI n), .ref hp, .ref hq])), (hp, .inl (g.1, 62, .inl (zk_ia P))), (hq, .inl (g.1, 32, .inl (zk_ia L))), (hs, .inl (g.1, 7, .inl (zk_ia S1))), (pl, .inr (3, [.ref plc])), (plc, .inl (g.1, 8, .inl (zk_ia c1))), (hg, .inr (6, [.ref go, .ref gt])), (go, .inr (3, [.ref goc])), (goc, .inl (g.1, 8, .inl (zk_ia o1))), (gt, .inr (3, [.ref gtc])), (gtc, .inl (g.1, 8, .inl (zk_ia t1_)))]) := by
  refine zk_ofW (by decide) (Nat.le_of_ble_eq_true rfl) ?_
  intro pg ev s mm below meth cd A C hr hlocks hname Z ls hl
  have hx := C.1.1
  have hb := C.1.2.1
  have hml := C.1.2.2.1
  have hown := C.1.2.2.2.1
  have hts := C.1.2.2.2.2
  have hl : lv_has ls 5 [(0, .ref co), (1, .int (nI wd)), (2, .ref hg)] := hl
  have hn := F.n31
  obtain ⟨H, hH⟩ : ∃ H, H = s.heap := ⟨_, rfl⟩
  obtain ⟨locs, hlocs⟩ : ∃ q : List Loc, q = [] := ⟨_, rfl⟩
  rw [← hH, ← hlocs] at Z ⊢
  refine lv_aload_n hx hb dX2_mended_0 rfl (lv_at hl 0 rfl) ?_
  refine lv_iload_n hx hb dX2_mended_1 rfl (lv_at hl 1 rfl) ?_
  have hlen_1 : (syn p n t wd S).length = 7 := by rw [syn_len]; exact hS
  refine zk_callV (cells' := 0) (slots' := 0) (rest := []) (n := 1) (wr := [(pl, .inr (3, [.ref plc])), (plc, .inl (g.1, 8, .inl (zk_ia c))), (hg, .inr (6, [.ref go, .ref gt])), (go, .inr (3, [.ref goc])), (goc, .inl (g.1, 8, .inl (zk_ia o))), (gt, .inr (3, [.ref gtc])), (gtc, .inl (g.1, 8, .inl (zk_ia gr)))]) C Z (m2_right l D g co hs pl t gn kd h0 hp hq p n P L wd F hwd t3 S hS) [0, 1, 2, 3, 4] [5, 6, 7, 8, 9, 10, 11] rfl rfl (by decide) (by decide) (by decide) 0 1 rfl rfl rfl q502 q503 q504 q20 q505 (by decide +kernel) rfl (Nat.le_of_ble_eq_true rfl) (Nat.le_of_ble_eq_true rfl) (Nat.le_of_ble_eq_true rfl) (Nat.le_of_ble_eq_true rfl) rfl rfl hl.1 rfl (Nat.le_of_ble_eq_true rfl) dX2_mended_2 (fun v w1 H locs hq Z => ?_)
  obtain ⟨rfl, rfl⟩ := hq
  have Z : zk_Z D A s H locs [(co, .inr (1, [.ref h0, .int (nI t), .int (nI gn), .int (nI kd), .ref hs, .ref pl])), (h0, .inr (2, [.int (nI n), .ref hp, .ref hq])), (hp, .inl (g.1, 62, .inl (zk_ia P))), (hq, .inl (g.1, 32, .inl (zk_ia L))), (hs, .inl (g.1, 7, .inl (zk_ia (syn p n t wd S)))), (pl, .inr (3, [.ref plc])), (plc, .inl (g.1, 8, .inl (zk_ia c))), (hg, .inr (6, [.ref go, .ref gt])), (go, .inr (3, [.ref goc])), (goc, .inl (g.1, 8, .inl (zk_ia o))), (gt, .inr (3, [.ref gtc])), (gtc, .inl (g.1, 8, .inl (zk_ia gr)))] := Z.sub [7, 8, 9, 10, 11, 0, 1, 2, 3, 4, 5, 6] (by decide) rfl
  refine W.eq (g2 := F0 mm 5 ls [.int (nI (rgt p n t wd))]) rfl ?_
  refine nr_eq0 (tgt := 10) hx hb (by have := rgt_lt (p := p) (n := n) (t := t) (wd := wd); omega) dX2_mended_5 (by decide) (fun c_1 => ?_) (fun c_1 => ?_)
  · refine lv_aload_n hx hb dX2_mended_10 rfl (lv_at hl 2 rfl) ?_
    refine lv_aload_n hx hb dX2_mended_11 rfl (lv_at hl 0 rfl) ?_
    refine zk_get C Z in_X2 0 rfl rfl 0 (by decide) q91 rfl (v := .ref h0) rfl dX2_mended_12 ?_
    refine lv_aload_n hx hb dX2_mended_15 rfl (lv_at hl 0 rfl) ?_
    refine zk_get C Z in_X2 0 rfl rfl 4 (by decide) q99 rfl (v := .ref hs) rfl dX2_mended_16 ?_
    refine lv_aload_n hx hb dX2_mended_19 rfl (lv_at hl 0 rfl) ?_
    refine zk_get C Z in_X2 0 rfl rfl 1 (by decide) q93 rfl (v := .int (nI t)) rfl dX2_mended_20 ?_
    refine lv_aload_n hx hb dX2_mended_23 rfl (lv_at hl 0 rfl) ?_
    refine zk_get C Z in_X2 0 rfl rfl 5 (by decide) q100 rfl (v := .ref pl) rfl dX2_mended_24 ?_
    have bS : zk_bs n t (syn p n t wd S) := syn_bs F hS t3 hS0
    refine zk_callF (x := zk_find) (cells' := 0) (slots' := 0) (rest := []) (n := 4) (wr := [(co, .inr (1, [.ref h0, .int (nI t), .int (nI gn), .int (nI kd), .ref hs, .ref pl]))]) C Z (m7_find l D g hg go goc gt gtc hs pl plc t h0 hp hq p n P L (syn p n t wd S) F bS t3 c o gr hl8 ho ht) [7, 8, 9, 10, 11, 1, 2, 3, 4, 5, 6] [0] rfl rfl (by decide) (by decide) (by decide) 7 6 rfl rfl C.2.2.2.2.1.2.2 q507 q552 q554 q25 q556 (by decide +kernel) rfl (Nat.le_of_ble_eq_true rfl) (Nat.le_of_ble_eq_true rfl) (Nat.le_of_ble_eq_true rfl) (Nat.le_of_ble_eq_true rfl) rfl rfl hl.1 rfl (Nat.le_of_ble_eq_true rfl) dX2_mended_27 (fun v w1 H locs hq Z => ?_)
    obtain ⟨rfl, o1, t1_, ho1, ht1, rfl⟩ := hq
    have Z : zk_Z D A s H locs [(co, .inr (1, [.ref h0, .int (nI t), .int (nI gn), .int (nI kd), .ref hs, .ref pl])), (h0, .inr (2, [.int (nI n), .ref hp, .ref hq])), (hp, .inl (g.1, 62, .inl (zk_ia P))), (hq, .inl (g.1, 32, .inl (zk_ia L))), (hs, .inl (g.1, 7, .inl (zk_ia (syn p n t wd S)))), (pl, .inr (3, [.ref plc])), (plc, .inl (g.1, 8, .inl (zk_ia (grow p t (syn p n t wd S))))), (hg, .inr (6, [.ref go, .ref gt])), (go, .inr (3, [.ref goc])), (goc, .inl (g.1, 8, .inl (zk_ia o1))), (gt, .inr (3, [.ref gtc])), (gtc, .inl (g.1, 8, .inl (zk_ia t1_)))] := Z.sub [0, 6, 7, 8, 9, 10, 11, 1, 2, 3, 4, 5] (by decide) rfl
    rw [loc_2 hS t3] at Z
    have hloc := loc_ok (w := 2) (wd := wd) F t3
    refine W.eq (g2 := F0 mm 32 ls []) rfl ?_
    refine lv_iconst (v := nI 0) hx hb dX2_mended_32 (by decide) ?_
    refine lv_istore_n (lv' := [(3, .int (nI 0)), (0, .ref co), (1, .int (nI wd)), (2, .ref hg)]) hx hb dX2_mended_33 rfl hl (by decide) rfl (fun ls hl => ?_)
    refine lv_iconst (v := nI 0) hx hb dX2_mended_34 (by decide) ?_
    refine lv_istore (lv' := [(4, .int (nI 0)), (3, .int (nI 0)), (0, .ref co), (1, .int (nI wd)), (2, .ref hg)]) hx hb dX2_mended_35 hl (by decide) rfl (fun ls hl => ?_)
    refine lp2_mdGr C co h0 hs pl plc t gn kd hp hq p n P L F t1 t3 hg go goc gt gtc o1 t1_ wd (syn p n t wd S) (loc 2 p n t wd) hloc.2 _ (fun H locs ls Z hl => ?_) n 0 0 H locs ls (by omega) rfl Z (lv_sub hl [2, 3, 4, 1, 0] rfl)
    rw [show zk_it (erF p n (loc 2 p n t wd)) n 0 0 = ers p n (loc 2 p n t wd) from rfl] at hl
    have he9 := ers_lt p n (loc 2 p n t wd)
    have hp9 := Nat.pow_le_pow_right (n := 2) (by decide) (show n ≤ 31 by omega)
    have hx9 : wd ^^^ ers p n (loc 2 p n t wd) < 2 ^ 31 := Nat.xor_lt_two_pow hwd (by omega)
    refine lv_iload_n hx hb dX2_mended_98 rfl (lv_at hl 3 rfl) ?_
    refine zk_callS (cells' := 0) (slots' := 0) (rest := []) (n := 1) (wr := [(co, .inr (1, [.ref h0, .int (nI t), .int (nI gn), .int (nI kd), .ref hs, .ref pl])), (h0, .inr (2, [.int (nI n), .ref hp, .ref hq])), (hp, .inl (g.1, 62, .inl (zk_ia P))), (hq, .inl (g.1, 32, .inl (zk_ia L))), (hs, .inl (g.1, 7, .inl (zk_ia (syn p n t wd S)))), (pl, .inr (3, [.ref plc])), (plc, .inl (g.1, 8, .inl (zk_ia (loc 2 p n t wd)))), (hg, .inr (6, [.ref go, .ref gt])), (go, .inr (3, [.ref goc])), (goc, .inl (g.1, 8, .inl (zk_ia o1))), (gt, .inr (3, [.ref gtc])), (gtc, .inl (g.1, 8, .inl (zk_ia t1_)))]) C Z (mJ_bc l D g (ers p n (loc 2 p n t wd)) (by omega)) [] [0, 1, 2, 3, 4, 5, 6, 7, 8, 9, 10, 11] rfl rfl (by decide) (by decide) (by decide) q572 q448 q36 q449 (by decide +kernel) rfl (Nat.le_of_ble_eq_true rfl) (Nat.le_of_ble_eq_true rfl) (Nat.le_of_ble_eq_true rfl) (Nat.le_of_ble_eq_true rfl) rfl rfl hl.1 rfl (Nat.le_of_ble_eq_true rfl) dX2_mended_99 (fun v w1 H locs hq Z => ?_)
    obtain ⟨rfl, rfl⟩ := hq
    have Z : zk_Z D A s H locs [(co, .inr (1, [.ref h0, .int (nI t), .int (nI gn), .int (nI kd), .ref hs, .ref pl])), (h0, .inr (2, [.int (nI n), .ref hp, .ref hq])), (hp, .inl (g.1, 62, .inl (zk_ia P))), (hq, .inl (g.1, 32, .inl (zk_ia L))), (hs, .inl (g.1, 7, .inl (zk_ia (syn p n t wd S)))), (pl, .inr (3, [.ref plc])), (plc, .inl (g.1, 8, .inl (zk_ia (loc 2 p n t wd)))), (hg, .inr (6, [.ref go, .ref gt])), (go, .inr (3, [.ref goc])), (goc, .inl (g.1, 8, .inl (zk_ia o1))), (gt, .inr (3, [.ref gtc])), (gtc, .inl (g.1, 8, .inl (zk_ia t1_)))] := Z.sub [0, 1, 2, 3, 4, 5, 6, 7, 8, 9, 10, 11] (by decide) rfl
    refine W.eq (g2 := F0 mm 102 ls [.int (nI (bct (ers p n (loc 2 p n t wd))))]) rfl ?_
    refine lv_aload_n hx hb dX2_mended_102 rfl (lv_at hl 0 rfl) ?_
    refine zk_get C Z in_X2 0 rfl rfl 1 (by decide) q93 rfl (v := .int (nI t)) rfl dX2_mended_103 ?_
    refine nr_gt (tgt := 119) hx hb (by have : bct (ers p n (loc 2 p n t wd)) ≤ 63 := Nat.and_le_right; omega) (by omega) dX2_mended_106 (by decide) (fun c_2 => absurd c_2 (mdd_2 hm c_1).1) (fun c_2 => ?_)
    refine lv_aload_n hx hb dX2_mended_109 rfl (lv_at hl 0 rfl) ?_
    refine lv_iload_n hx hb dX2_mended_110 rfl (lv_at hl 1 rfl) ?_
    refine lv_iload_n hx hb dX2_mended_111 rfl (lv_at hl 3 rfl) ?_
    refine nr_ixor hx hb dX2_mended_112 ?_
    have hlen_3 : (syn p n t (wd ^^^ (ers p n (loc 2 p n t wd))) (syn p n t wd S)).length = 7 := by rw [syn_len]; exact hlen_1
    refine zk_callV (cells' := 0) (slots' := 0) (rest := []) (n := 1) (wr := [(pl, .inr (3, [.ref plc])), (plc, .inl (g.1, 8, .inl (zk_ia (loc 2 p n t wd)))), (hg, .inr (6, [.ref go, .ref gt])), (go, .inr (3, [.ref goc])), (goc, .inl (g.1, 8, .inl (zk_ia o1))), (gt, .inr (3, [.ref gtc])), (gtc, .inl (g.1, 8, .inl (zk_ia t1_)))]) C Z (m2_right l D g co hs pl t gn kd h0 hp hq p n P L (wd ^^^ (ers p n (loc 2 p n t wd))) F hx9 t3 (syn p n t wd S) hlen_1) [0, 1, 2, 3, 4] [5, 6, 7, 8, 9, 10, 11] rfl rfl (by decide) (by decide) (by decide) 0 1 rfl rfl rfl q502 q503 q504 q20 q505 (by decide +kernel) rfl (Nat.le_of_ble_eq_true rfl) (Nat.le_of_ble_eq_true rfl) (Nat.le_of_ble_eq_true rfl) (Nat.le_of_ble_eq_true rfl) rfl rfl hl.1 rfl (Nat.le_of_ble_eq_true rfl) dX2_mended_113 (fun v w1 H locs hq Z => ?_)
    obtain ⟨rfl, rfl⟩ := hq
    have Z : zk_Z D A s H locs [(co, .inr (1, [.ref h0, .int (nI t), .int (nI gn), .int (nI kd), .ref hs, .ref pl])), (h0, .inr (2, [.int (nI n), .ref hp, .ref hq])), (hp, .inl (g.1, 62, .inl (zk_ia P))), (hq, .inl (g.1, 32, .inl (zk_ia L))), (hs, .inl (g.1, 7, .inl (zk_ia (syn p n t (wd ^^^ (ers p n (loc 2 p n t wd))) (syn p n t wd S))))), (pl, .inr (3, [.ref plc])), (plc, .inl (g.1, 8, .inl (zk_ia (loc 2 p n t wd)))), (hg, .inr (6, [.ref go, .ref gt])), (go, .inr (3, [.ref goc])), (goc, .inl (g.1, 8, .inl (zk_ia o1))), (gt, .inr (3, [.ref gtc])), (gtc, .inl (g.1, 8, .inl (zk_ia t1_)))] := Z.sub [7, 8, 9, 10, 11, 0, 1, 2, 3, 4, 5, 6] (by decide) rfl
    refine W.eq (g2 := F0 mm 116 ls [.int (nI (rgt p n t (wd ^^^ (ers p n (loc 2 p n t wd)))))]) rfl ?_
    refine nr_ne0 (tgt := 129) hx hb (by have := rgt_lt (p := p) (n := n) (t := t) (wd := wd ^^^ ers p n (loc 2 p n t wd)); omega) dX2_mended_116 (by decide) (fun c_4 => ?_) (fun c_4 => absurd c_4 (mdd_2 hm c_1).2.1)
    refine lv_iload_n hx hb dX2_mended_129 rfl (lv_at hl 1 rfl) ?_
    refine lv_iload_n hx hb dX2_mended_130 rfl (lv_at hl 3 rfl) ?_
    refine nr_ixor hx hb dX2_mended_131 ?_
    exact zk_iret C hr hlocks Z ⟨by rw [(mdd_2 hm c_1).2.2], ⟨_, _, o1, t1_, hlen_3, syn_0 (by rw [syn_len]; exact hS) t3 (syn_0 hS t3 hS0), hloc.1, ho1, ht1, rfl⟩⟩ (Nat.le_of_ble_eq_true rfl) (Nat.le_of_ble_eq_true rfl) dX2_mended_132
  · refine lv_iload_n hx hb dX2_mended_8 rfl (lv_at hl 1 rfl) ?_
    exact zk_iret C hr hlocks Z ⟨by rw [mdd_1 hm c_1], ⟨_, _, o, gr, hlen_1, syn_0 hS t3 hS0, hl8, ho, ht, rfl⟩⟩ (Nat.le_of_ble_eq_true rfl) (Nat.le_of_ble_eq_true rfl) dX2_mended_9

set_option maxHeartbeats 4000000 in
/-- Code.mended, G, which throws -/
theorem t2_mdG (l : Launch) (hfl : l.flags = flags0) (D : va_G) (g : G4) (co h0 hs pl plc t gn kd : Nat) (hp hq p n : Nat) (P L : List Nat) (F : zk_F p n P L) (t1 : 1 ≤ t) (t3 : t ≤ 3) (hg go goc gt gtc : Nat) (o gr : List Nat) (ho : o.length = 8) (ht : gr.length = 8) (wd : Nat) (hwd : wd < 2 ^ 31) (S c : List Nat) (hS : S.length = 7) (hS0 : S.getD 0 0 = 0) (hl8 : c.length = 8) (hm : mdd 2 p n t wd = none) : zk_MT l yX2_mended (ws_ yX2_mended cX2_mended 5 (some .int)) (zk_R 6 1 6) D g [.ref co, .int (nI wd), .ref hg] [(co, .inr (1, [.ref h0, .int (nI t), .int (nI gn), .int (nI kd), .ref hs, .ref pl])), (h0, .inr (2, [.int (nI n), .ref hp, .ref hq])), (hp, .inl (g.1, 62, .inl (zk_ia P))), (hq, .inl (g.1, 32, .inl (zk_ia L))), (hs, .inl (g.1, 7, .inl (zk_ia S))), (pl, .inr (3, [.ref plc])), (plc, .inl (g.1, 8, .inl (zk_ia c))), (hg, .inr (6, [.ref go, .ref gt])), (go, .inr (3, [.ref goc])), (goc, .inl (g.1, 8, .inl (zk_ia o))), (gt, .inr (3, [.ref gtc])), (gtc, .inl (g.1, 8, .inl (zk_ia gr)))] zk_ARE (fun w => ∃ (S1 c1 : List Nat) (o1 t1_ : List Nat), S1.length = 7 ∧ S1.getD 0 0 = 0 ∧ c1.length = 8 ∧ o1.length = 8 ∧ t1_.length = 8 ∧ w = [(co, .inr (1, [.ref h0, .int (nI t), .int (nI gn), .int (nI kd), .ref hs, .ref pl])), (h0, .inr (2, [.int (nI n), .ref hp, .ref hq])), (hp, .inl (g.1, 62, .inl (zk_ia P))), (hq, .inl (g.1, 32, .inl (zk_ia L))), (hs, .inl (g.1, 7, .inl (zk_ia S1))), (pl, .inr (3, [.ref plc])), (plc, .inl (g.1, 8, .inl (zk_ia c1))), (hg, .inr (6, [.ref go, .ref gt])), (go, .inr (3, [.ref goc])), (goc, .inl (g.1, 8, .inl (zk_ia o1))), (gt, .inr (3, [.ref gtc])), (gtc, .inl (g.1, 8, .inl (zk_ia t1_)))]) := by
  refine zk_ofWT (by decide) (Nat.le_of_ble_eq_true rfl) ?_
  intro pg ev s mm below meth cd A C hlocks hno Z ls hl
  have hx := C.1.1
  have hb := C.1.2.1
  have hml := C.1.2.2.1
  have hown := C.1.2.2.2.1
  have hts := C.1.2.2.2.2
  have hl : lv_has ls 5 [(0, .ref co), (1, .int (nI wd)), (2, .ref hg)] := hl
  have hn := F.n31
  obtain ⟨H, hH⟩ : ∃ H, H = s.heap := ⟨_, rfl⟩
  obtain ⟨locs, hlocs⟩ : ∃ q : List Loc, q = [] := ⟨_, rfl⟩
  rw [← hH, ← hlocs] at Z ⊢
  refine lv_aload_n hx hb dX2_mended_0 rfl (lv_at hl 0 rfl) ?_
  refine lv_iload_n hx hb dX2_mended_1 rfl (lv_at hl 1 rfl) ?_
  have hlen_1 : (syn p n t wd S).length = 7 := by rw [syn_len]; exact hS
  refine zk_callV (cells' := 0) (slots' := 0) (rest := []) (n := 1) (wr := [(pl, .inr (3, [.ref plc])), (plc, .inl (g.1, 8, .inl (zk_ia c))), (hg, .inr (6, [.ref go, .ref gt])), (go, .inr (3, [.ref goc])), (goc, .inl (g.1, 8, .inl (zk_ia o))), (gt, .inr (3, [.ref gtc])), (gtc, .inl (g.1, 8, .inl (zk_ia gr)))]) C Z (m2_right l D g co hs pl t gn kd h0 hp hq p n P L wd F hwd t3 S hS) [0, 1, 2, 3, 4] [5, 6, 7, 8, 9, 10, 11] rfl rfl (by decide) (by decide) (by decide) 0 1 rfl rfl rfl q502 q503 q504 q20 q505 (by decide +kernel) rfl (Nat.le_of_ble_eq_true rfl) (Nat.le_of_ble_eq_true rfl) (Nat.le_of_ble_eq_true rfl) (Nat.le_of_ble_eq_true rfl) rfl rfl hl.1 rfl (Nat.le_of_ble_eq_true rfl) dX2_mended_2 (fun v w1 H locs hq Z => ?_)
  obtain ⟨rfl, rfl⟩ := hq
  have Z : zk_Z D A s H locs [(co, .inr (1, [.ref h0, .int (nI t), .int (nI gn), .int (nI kd), .ref hs, .ref pl])), (h0, .inr (2, [.int (nI n), .ref hp, .ref hq])), (hp, .inl (g.1, 62, .inl (zk_ia P))), (hq, .inl (g.1, 32, .inl (zk_ia L))), (hs, .inl (g.1, 7, .inl (zk_ia (syn p n t wd S)))), (pl, .inr (3, [.ref plc])), (plc, .inl (g.1, 8, .inl (zk_ia c))), (hg, .inr (6, [.ref go, .ref gt])), (go, .inr (3, [.ref goc])), (goc, .inl (g.1, 8, .inl (zk_ia o))), (gt, .inr (3, [.ref gtc])), (gtc, .inl (g.1, 8, .inl (zk_ia gr)))] := Z.sub [7, 8, 9, 10, 11, 0, 1, 2, 3, 4, 5, 6] (by decide) rfl
  refine W.eq (g2 := F0 mm 5 ls [.int (nI (rgt p n t wd))]) rfl ?_
  refine nr_eq0 (tgt := 10) hx hb (by have := rgt_lt (p := p) (n := n) (t := t) (wd := wd); omega) dX2_mended_5 (by decide) (fun c_1 => ?_) (fun c_1 => absurd c_1 (fun q => q (mdd_3 hm).1))
  refine lv_aload_n hx hb dX2_mended_10 rfl (lv_at hl 2 rfl) ?_
  refine lv_aload_n hx hb dX2_mended_11 rfl (lv_at hl 0 rfl) ?_
  refine zk_get C Z in_X2 0 rfl rfl 0 (by decide) q91 rfl (v := .ref h0) rfl dX2_mended_12 ?_
  refine lv_aload_n hx hb dX2_mended_15 rfl (lv_at hl 0 rfl) ?_
  refine zk_get C Z in_X2 0 rfl rfl 4 (by decide) q99 rfl (v := .ref hs) rfl dX2_mended_16 ?_
  refine lv_aload_n hx hb dX2_mended_19 rfl (lv_at hl 0 rfl) ?_
  refine zk_get C Z in_X2 0 rfl rfl 1 (by decide) q93 rfl (v := .int (nI t)) rfl dX2_mended_20 ?_
  refine lv_aload_n hx hb dX2_mended_23 rfl (lv_at hl 0 rfl) ?_
  refine zk_get C Z in_X2 0 rfl rfl 5 (by decide) q100 rfl (v := .ref pl) rfl dX2_mended_24 ?_
  have bS : zk_bs n t (syn p n t wd S) := syn_bs F hS t3 hS0
  refine zk_callF (x := zk_find) (cells' := 0) (slots' := 0) (rest := []) (n := 4) (wr := [(co, .inr (1, [.ref h0, .int (nI t), .int (nI gn), .int (nI kd), .ref hs, .ref pl]))]) C Z (m7_find l D g hg go goc gt gtc hs pl plc t h0 hp hq p n P L (syn p n t wd S) F bS t3 c o gr hl8 ho ht) [7, 8, 9, 10, 11, 1, 2, 3, 4, 5, 6] [0] rfl rfl (by decide) (by decide) (by decide) 7 6 rfl rfl C.2.2.2.2.1.2.2 q507 q552 q554 q25 q556 (by decide +kernel) rfl (Nat.le_of_ble_eq_true rfl) (Nat.le_of_ble_eq_true rfl) (Nat.le_of_ble_eq_true rfl) (Nat.le_of_ble_eq_true rfl) rfl rfl hl.1 rfl (Nat.le_of_ble_eq_true rfl) dX2_mended_27 (fun v w1 H locs hq Z => ?_)
  obtain ⟨rfl, o1, t1_, ho1, ht1, rfl⟩ := hq
  have Z : zk_Z D A s H locs [(co, .inr (1, [.ref h0, .int (nI t), .int (nI gn), .int (nI kd), .ref hs, .ref pl])), (h0, .inr (2, [.int (nI n), .ref hp, .ref hq])), (hp, .inl (g.1, 62, .inl (zk_ia P))), (hq, .inl (g.1, 32, .inl (zk_ia L))), (hs, .inl (g.1, 7, .inl (zk_ia (syn p n t wd S)))), (pl, .inr (3, [.ref plc])), (plc, .inl (g.1, 8, .inl (zk_ia (grow p t (syn p n t wd S))))), (hg, .inr (6, [.ref go, .ref gt])), (go, .inr (3, [.ref goc])), (goc, .inl (g.1, 8, .inl (zk_ia o1))), (gt, .inr (3, [.ref gtc])), (gtc, .inl (g.1, 8, .inl (zk_ia t1_)))] := Z.sub [0, 6, 7, 8, 9, 10, 11, 1, 2, 3, 4, 5] (by decide) rfl
  rw [loc_2 hS t3] at Z
  have hloc := loc_ok (w := 2) (wd := wd) F t3
  refine W.eq (g2 := F0 mm 32 ls []) rfl ?_
  refine lv_iconst (v := nI 0) hx hb dX2_mended_32 (by decide) ?_
  refine lv_istore_n (lv' := [(3, .int (nI 0)), (0, .ref co), (1, .int (nI wd)), (2, .ref hg)]) hx hb dX2_mended_33 rfl hl (by decide) rfl (fun ls hl => ?_)
  refine lv_iconst (v := nI 0) hx hb dX2_mended_34 (by decide) ?_
  refine lv_istore (lv' := [(4, .int (nI 0)), (3, .int (nI 0)), (0, .ref co), (1, .int (nI wd)), (2, .ref hg)]) hx hb dX2_mended_35 hl (by decide) rfl (fun ls hl => ?_)
  refine lp2_mdGt C co h0 hs pl plc t gn kd hp hq p n P L F t1 t3 hg go goc gt gtc o1 t1_ wd (syn p n t wd S) (loc 2 p n t wd) hloc.2 _ (fun H locs ls Z hl => ?_) n 0 0 H locs ls (by omega) rfl Z (lv_sub hl [2, 3, 4, 1, 0] rfl)
  rw [show zk_it (erF p n (loc 2 p n t wd)) n 0 0 = ers p n (loc 2 p n t wd) from rfl] at hl
  have he9 := ers_lt p n (loc 2 p n t wd)
  have hp9 := Nat.pow_le_pow_right (n := 2) (by decide) (show n ≤ 31 by omega)
  have hx9 : wd ^^^ ers p n (loc 2 p n t wd) < 2 ^ 31 := Nat.xor_lt_two_pow hwd (by omega)
  refine lv_iload_n hx hb dX2_mended_98 rfl (lv_at hl 3 rfl) ?_
  refine zk_callS (cells' := 0) (slots' := 0) (rest := []) (n := 1) (wr := [(co, .inr (1, [.ref h0, .int (nI t), .int (nI gn), .int (nI kd), .ref hs, .ref pl])), (h0, .inr (2, [.int (nI n), .ref hp, .ref hq])), (hp, .inl (g.1, 62, .inl (zk_ia P))), (hq, .inl (g.1, 32, .inl (zk_ia L))), (hs, .inl (g.1, 7, .inl (zk_ia (syn p n t wd S)))), (pl, .inr (3, [.ref plc])), (plc, .inl (g.1, 8, .inl (zk_ia (loc 2 p n t wd)))), (hg, .inr (6, [.ref go, .ref gt])), (go, .inr (3, [.ref goc])), (goc, .inl (g.1, 8, .inl (zk_ia o1))), (gt, .inr (3, [.ref gtc])), (gtc, .inl (g.1, 8, .inl (zk_ia t1_)))]) C Z (mJ_bc l D g (ers p n (loc 2 p n t wd)) (by omega)) [] [0, 1, 2, 3, 4, 5, 6, 7, 8, 9, 10, 11] rfl rfl (by decide) (by decide) (by decide) q572 q448 q36 q449 (by decide +kernel) rfl (Nat.le_of_ble_eq_true rfl) (Nat.le_of_ble_eq_true rfl) (Nat.le_of_ble_eq_true rfl) (Nat.le_of_ble_eq_true rfl) rfl rfl hl.1 rfl (Nat.le_of_ble_eq_true rfl) dX2_mended_99 (fun v w1 H locs hq Z => ?_)
  obtain ⟨rfl, rfl⟩ := hq
  have Z : zk_Z D A s H locs [(co, .inr (1, [.ref h0, .int (nI t), .int (nI gn), .int (nI kd), .ref hs, .ref pl])), (h0, .inr (2, [.int (nI n), .ref hp, .ref hq])), (hp, .inl (g.1, 62, .inl (zk_ia P))), (hq, .inl (g.1, 32, .inl (zk_ia L))), (hs, .inl (g.1, 7, .inl (zk_ia (syn p n t wd S)))), (pl, .inr (3, [.ref plc])), (plc, .inl (g.1, 8, .inl (zk_ia (loc 2 p n t wd)))), (hg, .inr (6, [.ref go, .ref gt])), (go, .inr (3, [.ref goc])), (goc, .inl (g.1, 8, .inl (zk_ia o1))), (gt, .inr (3, [.ref gtc])), (gtc, .inl (g.1, 8, .inl (zk_ia t1_)))] := Z.sub [0, 1, 2, 3, 4, 5, 6, 7, 8, 9, 10, 11] (by decide) rfl
  refine W.eq (g2 := F0 mm 102 ls [.int (nI (bct (ers p n (loc 2 p n t wd))))]) rfl ?_
  refine lv_aload_n hx hb dX2_mended_102 rfl (lv_at hl 0 rfl) ?_
  refine zk_get C Z in_X2 0 rfl rfl 1 (by decide) q93 rfl (v := .int (nI t)) rfl dX2_mended_103 ?_
  refine nr_gt (tgt := 119) hx hb (by have : bct (ers p n (loc 2 p n t wd)) ≤ 63 := Nat.and_le_right; omega) (by omega) dX2_mended_106 (by decide) (fun c_2 => ?_) (fun c_2 => ?_)
  · exact zk_throw hfl C Z hlocks hno (by decide +kernel) (zk_ownARE q575) q573 q30 q574 ⟨_, _, o1, t1_, hlen_1, syn_0 hS t3 hS0, hloc.1, ho1, ht1, rfl⟩ (Nat.le_of_ble_eq_true rfl) (Nat.le_of_ble_eq_true rfl) (Nat.le_of_ble_eq_true rfl) (Nat.le_of_ble_eq_true rfl) (Nat.le_of_ble_eq_true rfl) (Nat.le_of_ble_eq_true rfl) hl.1 dX2_mended_119 dX2_mended_122 dX2_mended_123 dX2_mended_125 dX2_mended_128
  · refine lv_aload_n hx hb dX2_mended_109 rfl (lv_at hl 0 rfl) ?_
    refine lv_iload_n hx hb dX2_mended_110 rfl (lv_at hl 1 rfl) ?_
    refine lv_iload_n hx hb dX2_mended_111 rfl (lv_at hl 3 rfl) ?_
    refine nr_ixor hx hb dX2_mended_112 ?_
    have hlen_3 : (syn p n t (wd ^^^ (ers p n (loc 2 p n t wd))) (syn p n t wd S)).length = 7 := by rw [syn_len]; exact hlen_1
    refine zk_callV (cells' := 0) (slots' := 0) (rest := []) (n := 1) (wr := [(pl, .inr (3, [.ref plc])), (plc, .inl (g.1, 8, .inl (zk_ia (loc 2 p n t wd)))), (hg, .inr (6, [.ref go, .ref gt])), (go, .inr (3, [.ref goc])), (goc, .inl (g.1, 8, .inl (zk_ia o1))), (gt, .inr (3, [.ref gtc])), (gtc, .inl (g.1, 8, .inl (zk_ia t1_)))]) C Z (m2_right l D g co hs pl t gn kd h0 hp hq p n P L (wd ^^^ (ers p n (loc 2 p n t wd))) F hx9 t3 (syn p n t wd S) hlen_1) [0, 1, 2, 3, 4] [5, 6, 7, 8, 9, 10, 11] rfl rfl (by decide) (by decide) (by decide) 0 1 rfl rfl rfl q502 q503 q504 q20 q505 (by decide +kernel) rfl (Nat.le_of_ble_eq_true rfl) (Nat.le_of_ble_eq_true rfl) (Nat.le_of_ble_eq_true rfl) (Nat.le_of_ble_eq_true rfl) rfl rfl hl.1 rfl (Nat.le_of_ble_eq_true rfl) dX2_mended_113 (fun v w1 H locs hq Z => ?_)
    obtain ⟨rfl, rfl⟩ := hq
    have Z : zk_Z D A s H locs [(co, .inr (1, [.ref h0, .int (nI t), .int (nI gn), .int (nI kd), .ref hs, .ref pl])), (h0, .inr (2, [.int (nI n), .ref hp, .ref hq])), (hp, .inl (g.1, 62, .inl (zk_ia P))), (hq, .inl (g.1, 32, .inl (zk_ia L))), (hs, .inl (g.1, 7, .inl (zk_ia (syn p n t (wd ^^^ (ers p n (loc 2 p n t wd))) (syn p n t wd S))))), (pl, .inr (3, [.ref plc])), (plc, .inl (g.1, 8, .inl (zk_ia (loc 2 p n t wd)))), (hg, .inr (6, [.ref go, .ref gt])), (go, .inr (3, [.ref goc])), (goc, .inl (g.1, 8, .inl (zk_ia o1))), (gt, .inr (3, [.ref gtc])), (gtc, .inl (g.1, 8, .inl (zk_ia t1_)))] := Z.sub [7, 8, 9, 10, 11, 0, 1, 2, 3, 4, 5, 6] (by decide) rfl
    refine W.eq (g2 := F0 mm 116 ls [.int (nI (rgt p n t (wd ^^^ (ers p n (loc 2 p n t wd)))))]) rfl ?_
    refine nr_ne0 (tgt := 129) hx hb (by have := rgt_lt (p := p) (n := n) (t := t) (wd := wd ^^^ ers p n (loc 2 p n t wd)); omega) dX2_mended_116 (by decide) (fun c_4 => absurd c_4 (fun q => q ((mdd_3 hm).2 (by omega)))) (fun c_4 => ?_)
    exact zk_throw hfl C Z hlocks hno (by decide +kernel) (zk_ownARE q575) q573 q30 q574 ⟨_, _, o1, t1_, hlen_3, syn_0 (by rw [syn_len]; exact hS) t3 (syn_0 hS t3 hS0), hloc.1, ho1, ht1, rfl⟩ (Nat.le_of_ble_eq_true rfl) (Nat.le_of_ble_eq_true rfl) (Nat.le_of_ble_eq_true rfl) (Nat.le_of_ble_eq_true rfl) (Nat.le_of_ble_eq_true rfl) (Nat.le_of_ble_eq_true rfl) hl.1 dX2_mended_119 dX2_mended_122 dX2_mended_123 dX2_mended_125 dX2_mended_128

