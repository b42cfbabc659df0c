/-! ===== Growing ===== -/
set_option maxRecDepth 100000
set_option maxHeartbeats 4000000 in
theorem lp7_w {pg : Program} {l : Launch} {ev : Env} {s : State} {mm : MethodId} {args : Array Value} {below : List Frame} {meth : Method} {cd : Code} {Q : State → Prop} {D : va_G} {g : G4} {A : Nat → Prop} (C : zk_C pg s mm cd args cX7_find 11 RX7 D g A) (hg go goc gt gtc hs hw hwc t : Nat) (h0 hp hq p n : Nat) (P L : List Nat) (S : List Nat) (F : zk_F p n P L) (bS : zk_bs n t S) (t3 : t ≤ 3) (c o tr : List Nat) (bc : zk_bd n c) (len sh la kk_ fin : Nat) (hlen0 : len ≤ kk_) (hk6 : kk_ < 2 * t) (kk : ∀ (H : Heap) (locs : List Loc) (ls : Array Slot), zk_Z D A s H locs [(hg, .inr (6, [.ref go, .ref gt])), (go, .inr (3, [.ref goc])), (goc, .inl (g.1, 8, .inl (zk_ia o))), (gt, .inr (3, [.ref gtc])), (gtc, .inl (g.1, 8, .inl (zk_ia tr))), (h0, .inr (2, [.int (nI n), .ref hp, .ref hq])), (hp, .inl (g.1, 62, .inl (zk_ia P))), (hq, .inl (g.1, 32, .inl (zk_ia L))), (hs, .inl (g.1, 7, .inl (zk_ia S))), (hw, .inr (3, [.ref hwc])), (hwc, .inl (g.1, 8, .inl (zk_ia c)))] → lv_has ls 11 [(0, .ref hg), (1, .ref h0), (2, .ref hs), (3, .int (nI t)), (4, .ref hw), (5, .int (nI len)), (6, .int (nI sh)), (7, .int (nI la)), (8, .int (nI kk_)), (9, .int (nI fin))] → W pg l ev (zk_R 2 0 0) s mm args below meth cd H locs 0 0 Q (F0 mm 97 ls [])) :
    ∀ (k : Nat) (i w : Nat) (H : Heap) (locs : List Loc) (ls : Array Slot), (i + k = len + 1) → (zk_it (gwF p S c kk_) k i w = fin) → zk_Z D A s H locs [(hg, .inr (6, [.ref go, .ref gt])), (go, .inr (3, [.ref goc])), (goc, .inl (g.1, 8, .inl (zk_ia o))), (gt, .inr (3, [.ref gtc])), (gtc, .inl (g.1, 8, .inl (zk_ia tr))), (h0, .inr (2, [.int (nI n), .ref hp, .ref hq])), (hp, .inl (g.1, 62, .inl (zk_ia P))), (hq, .inl (g.1, 32, .inl (zk_ia L))), (hs, .inl (g.1, 7, .inl (zk_ia S))), (hw, .inr (3, [.ref hwc])), (hwc, .inl (g.1, 8, .inl (zk_ia c)))] → lv_has ls 11 [(0, .ref hg), (1, .ref h0), (2, .ref hs), (3, .int (nI t)), (4, .ref hw), (5, .int (nI len)), (6, .int (nI sh)), (7, .int (nI la)), (8, .int (nI kk_)), (9, .int (nI w)), (10, .int (nI i))] → W pg l ev (zk_R 2 0 0) s mm args below meth cd H locs 0 0 Q (F0 mm 58 ls []) := by
  have hx := C.1.1
  have hb := C.1.2.1
  have hml := C.1.2.2.1
  have hown := C.1.2.2.2.1
  have hts := C.1.2.2.2.2
  have hn := F.n31
  intro k
  induction k with
  | zero =>
    intro i w H locs ls hik hfin Z hl
    have hfin : w = fin := hfin
    subst hfin
    refine lv_iload hx hb dX7_find_58 (lv_at hl 10 rfl) ?_
    refine lv_iload hx hb dX7_find_60 (lv_at hl 5 rfl) ?_
    refine nr_gt (tgt := 97) hx hb (by omega) (by omega) dX7_find_62 (by decide) (fun c_1 => ?_) (fun c_1 => absurd c_1 (by omega))
    exact kk  H locs ls  Z (lv_sub hl [0, 1, 2, 3, 4, 5, 6, 7, 8, 9] rfl)
  | succ k ih =>
    intro i w H locs ls hik hfin Z hl
    refine lv_iload hx hb dX7_find_58 (lv_at hl 10 rfl) ?_
    refine lv_iload hx hb dX7_find_60 (lv_at hl 5 rfl) ?_
    refine nr_gt (tgt := 97) hx hb (by omega) (by omega) dX7_find_62 (by decide) (fun c_1 => absurd c_1 (by omega)) (fun c_1 => ?_)
    refine lv_iload hx hb dX7_find_65 (lv_at hl 9 rfl) ?_
    refine lv_aload_n hx hb dX7_find_67 rfl (lv_at hl 1 rfl) ?_
    refine lv_aload hx hb dX7_find_68 (lv_at hl 4 rfl) ?_
    refine zk_getN C Z in_X4 9 rfl rfl 0 (by decide) q84 rfl (v := .ref hwc) rfl dX7_find_70 ?_
    refine lv_iload hx hb dX7_find_73 (lv_at hl 10 rfl) ?_
    refine zk_iald C Z 10 rfl (by decide) (by omega) dX7_find_75 ?_
    refine lv_aload_n hx hb dX7_find_76 rfl (lv_at hl 2 rfl) ?_
    refine lv_iload hx hb dX7_find_77 (lv_at hl 8 rfl) ?_
    refine lv_iconst (v := nI 1) hx hb dX7_find_79 (by decide) ?_
    refine nr_iadd hx hb dX7_find_80 ?_
    refine lv_iload hx hb dX7_find_81 (lv_at hl 10 rfl) ?_
    refine nr_isub hx hb (by omega) dX7_find_83 ?_
    refine zk_iald C Z 8 rfl (by decide) (by omega) dX7_find_84 ?_
    refine zk_callV (cells' := 0) (slots' := 0) (rest := [.int (nI w)]) (n := 2) (wr := [(hg, .inr (6, [.ref go, .ref gt])), (go, .inr (3, [.ref goc])), (goc, .inl (g.1, 8, .inl (zk_ia o))), (gt, .inr (3, [.ref gtc])), (gtc, .inl (g.1, 8, .inl (zk_ia tr))), (hs, .inl (g.1, 7, .inl (zk_ia S))), (hw, .inr (3, [.ref hwc])), (hwc, .inl (g.1, 8, .inl (zk_ia c)))]) C Z (m3_times l D g h0 hp hq p n P L (c.getD i 0) (S.getD ((kk_ + 1) - i) 0) F (bc _) (bS _ (by omega))) [5, 6, 7] [0, 1, 2, 3, 4, 8, 9, 10] rfl rfl (by decide) (by decide) (by decide) 5 2 rfl rfl rfl q558 q320 q321 q21 q322 (by decide +kernel) rfl (Nat.le_of_ble_eq_true rfl) (Nat.le_of_ble_eq_true rfl) (Nat.le_of_ble_eq_true rfl) (Nat.le_of_ble_eq_true rfl) rfl rfl hl.1 rfl (Nat.le_of_ble_eq_true rfl) dX7_find_85 (fun v w1 H locs hq Z => ?_)
    obtain ⟨rfl, rfl⟩ := hq
    have Z : zk_Z D A s H locs [(hg, .inr (6, [.ref go, .ref gt])), (go, .inr (3, [.ref goc])), (goc, .inl (g.1, 8, .inl (zk_ia o))), (gt, .inr (3, [.ref gtc])), (gtc, .inl (g.1, 8, .inl (zk_ia tr))), (h0, .inr (2, [.int (nI n), .ref hp, .ref hq])), (hp, .inl (g.1, 62, .inl (zk_ia P))), (hq, .inl (g.1, 32, .inl (zk_ia L))), (hs, .inl (g.1, 7, .inl (zk_ia S))), (hw, .inr (3, [.ref hwc])), (hwc, .inl (g.1, 8, .inl (zk_ia c)))] := Z.sub [0, 1, 2, 3, 4, 8, 9, 10, 5, 6, 7] (by decide) rfl
    refine W.eq (g2 := F0 mm 88 ls [.int (nI (gm p (c.getD i 0) (S.getD ((kk_ + 1) - i) 0))), .int (nI w)]) rfl ?_
    refine nr_ixor hx hb dX7_find_88 ?_
    refine lv_istore (lv' := [(9, .int (nI (w ^^^ (gm p (c.getD i 0) (S.getD ((kk_ + 1) - i) 0))))), (0, .ref hg), (1, .ref h0), (2, .ref hs), (3, .int (nI t)), (4, .ref hw), (5, .int (nI len)), (6, .int (nI sh)), (7, .int (nI la)), (8, .int (nI kk_)), (10, .int (nI i))]) hx hb dX7_find_89 hl (by decide) rfl (fun ls hl => ?_)
    refine nr_iinc (n := 1) (lv' := [(10, .int (nI (i + 1))), (9, .int (nI (w ^^^ (gm p (c.getD i 0) (S.getD ((kk_ + 1) - i) 0))))), (0, .ref hg), (1, .ref h0), (2, .ref hs), (3, .int (nI t)), (4, .ref hw), (5, .int (nI len)), (6, .int (nI sh)), (7, .int (nI la)), (8, .int (nI kk_))]) hx hb (by decide) dX7_find_91 hl (k := 10) rfl (by decide) rfl (fun ls hl => ?_)
    refine lv_goto (tgt := 58) hx hb dX7_find_94 (by decide) ?_
    exact ih (i + 1) (w ^^^ (gm p (c.getD i 0) (S.getD ((kk_ + 1) - i) 0))) H locs ls (by omega) hfin Z (lv_sub hl [2, 3, 4, 5, 6, 7, 8, 9, 10, 1, 0] rfl)

set_option maxHeartbeats 4000000 in
theorem lp7_find {pg : Program} {l : Launch} {ev : Env} {s : State} {mm : MethodId} {args : Array Value} {below : List Frame} {meth : Method} {cd : Code} {Q : State → Prop} {D : va_G} {g : G4} {A : Nat → Prop} (C : zk_C pg s mm cd args cX7_find 11 RX7 D g A) (hg go goc gt gtc hs hw hwc t : Nat) (h0 hp hq p n : Nat) (P L : List Nat) (S : List Nat) (F : zk_F p n P L) (bS : zk_bs n t S) (t3 : t ≤ 3) (fin : GrS) (kk : ∀ (c1 o1 t1 : List Nat) (H : Heap) (locs : List Loc) (ls : Array Slot), c1 = fin.1 → c1.length = 8 → o1.length = 8 → t1.length = 8 → zk_Z D A s H locs [(hg, .inr (6, [.ref go, .ref gt])), (go, .inr (3, [.ref goc])), (goc, .inl (g.1, 8, .inl (zk_ia o1))), (gt, .inr (3, [.ref gtc])), (gtc, .inl (g.1, 8, .inl (zk_ia t1))), (h0, .inr (2, [.int (nI n), .ref hp, .ref hq])), (hp, .inl (g.1, 62, .inl (zk_ia P))), (hq, .inl (g.1, 32, .inl (zk_ia L))), (hs, .inl (g.1, 7, .inl (zk_ia S))), (hw, .inr (3, [.ref hwc])), (hwc, .inl (g.1, 8, .inl (zk_ia c1)))] → lv_has ls 11 [(0, .ref hg)] → W pg l ev (zk_R 2 0 0) s mm args below meth cd H locs 0 0 Q (F0 mm 203 ls [])) :
    ∀ (k : Nat) (i : Nat) (c o tr : List Nat) (len sh la : Nat) (H : Heap) (locs : List Loc) (ls : Array Slot), (i + k = 2 * t) → (len ≤ i) → (sh ≤ i + 1) → (la ≠ 0) → (la ≤ n) → (c.length = 8) → (o.length = 8) → (tr.length = 8) → (zk_bd n c) → (zk_bd n o) → (zk_it (grF p S) k i (c, o, len, sh, la) = fin) → zk_Z D A s H locs [(hg, .inr (6, [.ref go, .ref gt])), (go, .inr (3, [.ref goc])), (goc, .inl (g.1, 8, .inl (zk_ia o))), (gt, .inr (3, [.ref gtc])), (gtc, .inl (g.1, 8, .inl (zk_ia tr))), (h0, .inr (2, [.int (nI n), .ref hp, .ref hq])), (hp, .inl (g.1, 62, .inl (zk_ia P))), (hq, .inl (g.1, 32, .inl (zk_ia L))), (hs, .inl (g.1, 7, .inl (zk_ia S))), (hw, .inr (3, [.ref hwc])), (hwc, .inl (g.1, 8, .inl (zk_ia c)))] → lv_has ls 11 [(0, .ref hg), (1, .ref h0), (2, .ref hs), (3, .int (nI t)), (4, .ref hw), (5, .int (nI len)), (6, .int (nI sh)), (7, .int (nI la)), (8, .int (nI i))] → W pg l ev (zk_R 2 0 0) s mm args below meth cd H locs 0 0 Q (F0 mm 44 ls []) := by
  have hx := C.1.1
  have hb := C.1.2.1
  have hml := C.1.2.2.1
  have hown := C.1.2.2.2.1
  have hts := C.1.2.2.2.2
  have hn := F.n31
  intro k
  induction k with
  | zero =>
    intro i c o tr len sh la H locs ls hik hli hsi la0 lan hc ho ht bc bo hfin Z hl
    have hfin : (c, o, len, sh, la) = fin := hfin
    subst hfin
    refine lv_iload hx hb dX7_find_44 (lv_at hl 8 rfl) ?_
    refine lv_iconst (v := nI 2) hx hb dX7_find_46 (by decide) ?_
    refine lv_iload_n hx hb dX7_find_47 rfl (lv_at hl 3 rfl) ?_
    refine nr_imul hx hb dX7_find_48 ?_
    refine nr_ge (tgt := 203) hx hb (by omega) (by omega) dX7_find_49 (by decide) (fun c_1 => ?_) (fun c_1 => absurd c_1 (by omega))
    exact kk c o tr H locs ls rfl hc ho ht Z (lv_sub hl [0] rfl)
  | succ k ih =>
    intro i c o tr len sh la H locs ls hik hli hsi la0 lan hc ho ht bc bo hfin Z hl
    refine lv_iload hx hb dX7_find_44 (lv_at hl 8 rfl) ?_
    refine lv_iconst (v := nI 2) hx hb dX7_find_46 (by decide) ?_
    refine lv_iload_n hx hb dX7_find_47 rfl (lv_at hl 3 rfl) ?_
    refine nr_imul hx hb dX7_find_48 ?_
    refine nr_ge (tgt := 203) hx hb (by omega) (by omega) dX7_find_49 (by decide) (fun c_1 => absurd c_1 (by omega)) (fun c_1 => ?_)
    refine lv_iconst (v := nI 0) hx hb dX7_find_52 (by decide) ?_
    refine lv_istore (lv' := [(9, .int (nI 0)), (0, .ref hg), (1, .ref h0), (2, .ref hs), (3, .int (nI t)), (4, .ref hw), (5, .int (nI len)), (6, .int (nI sh)), (7, .int (nI la)), (8, .int (nI i))]) hx hb dX7_find_53 hl (by decide) rfl (fun ls hl => ?_)
    refine lv_iconst (v := nI 0) hx hb dX7_find_55 (by decide) ?_
    refine lv_istore (lv' := [(10, .int (nI 0)), (9, .int (nI 0)), (0, .ref hg), (1, .ref h0), (2, .ref hs), (3, .int (nI t)), (4, .ref hw), (5, .int (nI len)), (6, .int (nI sh)), (7, .int (nI la)), (8, .int (nI i))]) hx hb dX7_find_56 hl (by decide) rfl (fun ls hl => ?_)
    refine lp7_w C hg go goc gt gtc hs hw hwc t h0 hp hq p n P L S F bS t3 c o tr bc len sh la i (grw p S c i len) hli (by omega) (fun H locs ls Z hl => ?_) (len + 1) 0 0 H locs ls (by omega) rfl Z (lv_sub hl [2, 3, 4, 5, 6, 7, 8, 9, 10, 1, 0] rfl)
    have hw9 := gwF_le F bS bc i (by omega) (len + 1) 0 0 (Nat.zero_le n)
    change grw p S c i len ≤ n at hw9
    refine lv_iload hx hb dX7_find_97 (lv_at hl 9 rfl) ?_
    refine nr_ne0 (tgt := 108) hx hb (by omega) dX7_find_99 (by decide) (fun c_1 => ?_) (fun c_1 => ?_)
    · refine lv_aload_n hx hb dX7_find_108 rfl (lv_at hl 0 rfl) ?_
      refine zk_get C Z in_X7 0 rfl rfl 1 (by decide) q159 rfl (v := .ref gt) rfl dX7_find_109 ?_
      refine lv_aload hx hb dX7_find_112 (lv_at hl 4 rfl) ?_
      refine zk_callV (cells' := 0) (slots' := 0) (rest := []) (n := 1) (wr := [(hg, .inr (6, [.ref go, .ref gt])), (go, .inr (3, [.ref goc])), (goc, .inl (g.1, 8, .inl (zk_ia o))), (h0, .inr (2, [.int (nI n), .ref hp, .ref hq])), (hp, .inl (g.1, 62, .inl (zk_ia P))), (hq, .inl (g.1, 32, .inl (zk_ia L))), (hs, .inl (g.1, 7, .inl (zk_ia S)))]) C Z (m4_copy l D g gt gtc hw hwc tr c ht hc) [3, 4, 9, 10] [0, 1, 2, 5, 6, 7, 8] rfl rfl (by decide) (by decide) (by decide) 3 3 rfl rfl rfl q559 q560 q561 q22 q562 (by decide +kernel) rfl (Nat.le_of_ble_eq_true rfl) (Nat.le_of_ble_eq_true rfl) (Nat.le_of_ble_eq_true rfl) (Nat.le_of_ble_eq_true rfl) rfl rfl hl.1 rfl (Nat.le_of_ble_eq_true rfl) dX7_find_114 (fun v w1 H locs hq Z => ?_)
      obtain ⟨rfl, rfl⟩ := hq
      have Z : zk_Z D A s H locs [(hg, .inr (6, [.ref go, .ref gt])), (go, .inr (3, [.ref goc])), (goc, .inl (g.1, 8, .inl (zk_ia o))), (gt, .inr (3, [.ref gtc])), (gtc, .inl (g.1, 8, .inl (zk_ia c))), (h0, .inr (2, [.int (nI n), .ref hp, .ref hq])), (hp, .inl (g.1, 62, .inl (zk_ia P))), (hq, .inl (g.1, 32, .inl (zk_ia L))), (hs, .inl (g.1, 7, .inl (zk_ia S))), (hw, .inr (3, [.ref hwc])), (hwc, .inl (g.1, 8, .inl (zk_ia c)))] := Z.sub [0, 1, 2, 7, 8, 3, 4, 5, 6, 9, 10] (by decide) rfl
      refine W.eq (g2 := F0 mm 117 ls []) rfl ?_
      refine lv_aload hx hb dX7_find_117 (lv_at hl 4 rfl) ?_
      refine lv_aload_n hx hb dX7_find_119 rfl (lv_at hl 1 rfl) ?_
      refine lv_aload_n hx hb dX7_find_120 rfl (lv_at hl 0 rfl) ?_
      refine zk_get C Z in_X7 0 rfl rfl 0 (by decide) q158 rfl (v := .ref go) rfl dX7_find_121 ?_
      refine lv_aload_n hx hb dX7_find_124 rfl (lv_at hl 1 rfl) ?_
      refine lv_iload hx hb dX7_find_125 (lv_at hl 9 rfl) ?_
      refine lv_iload hx hb dX7_find_127 (lv_at hl 7 rfl) ?_
      refine zk_callV (cells' := 0) (slots' := 0) (rest := [.ref go, .ref h0, .ref hw]) (n := 2) (wr := [(hg, .inr (6, [.ref go, .ref gt])), (go, .inr (3, [.ref goc])), (goc, .inl (g.1, 8, .inl (zk_ia o))), (gt, .inr (3, [.ref gtc])), (gtc, .inl (g.1, 8, .inl (zk_ia c))), (hs, .inl (g.1, 7, .inl (zk_ia S))), (hw, .inr (3, [.ref hwc])), (hwc, .inl (g.1, 8, .inl (zk_ia c)))]) C Z (m3_over l D g h0 hp hq p n P L (grw p S c i len) la F hw9 lan la0) [5, 6, 7] [0, 1, 2, 3, 4, 8, 9, 10] rfl rfl (by decide) (by decide) (by decide) 5 2 rfl rfl rfl q566 q526 q527 q21 q528 (by decide +kernel) rfl (Nat.le_of_ble_eq_true rfl) (Nat.le_of_ble_eq_true rfl) (Nat.le_of_ble_eq_true rfl) (Nat.le_of_ble_eq_true rfl) rfl rfl hl.1 rfl (Nat.le_of_ble_eq_true rfl) dX7_find_129 (fun v w1 H locs hq Z => ?_)
      obtain ⟨rfl, rfl⟩ := hq
      have Z : zk_Z D A s H locs [(hg, .inr (6, [.ref go, .ref gt])), (go, .inr (3, [.ref goc])), (goc, .inl (g.1, 8, .inl (zk_ia o))), (gt, .inr (3, [.ref gtc])), (gtc, .inl (g.1, 8, .inl (zk_ia c))), (h0, .inr (2, [.int (nI n), .ref hp, .ref hq])), (hp, .inl (g.1, 62, .inl (zk_ia P))), (hq, .inl (g.1, 32, .inl (zk_ia L))), (hs, .inl (g.1, 7, .inl (zk_ia S))), (hw, .inr (3, [.ref hwc])), (hwc, .inl (g.1, 8, .inl (zk_ia c)))] := Z.sub [0, 1, 2, 3, 4, 8, 9, 10, 5, 6, 7] (by decide) rfl
      refine W.eq (g2 := F0 mm 132 ls [.int (nI (gd p (grw p S c i len) la)), .ref go, .ref h0, .ref hw]) rfl ?_
      refine lv_iload hx hb dX7_find_132 (lv_at hl 6 rfl) ?_
      have hlen_2 : (padd p (gd p (grw p S c i len) la) sh o c).length = 8 := by rw [padd_len]; exact hc
      have hbd_3 : zk_bd n (padd p (gd p (grw p S c i len) la) sh o c) := padd_bd F bo (F.gdl hw9 lan la0) bc
      refine zk_callV (cells' := 0) (slots' := 0) (rest := []) (n := 4) (wr := [(hg, .inr (6, [.ref go, .ref gt])), (gt, .inr (3, [.ref gtc])), (gtc, .inl (g.1, 8, .inl (zk_ia c))), (hs, .inl (g.1, 7, .inl (zk_ia S)))]) C Z (m4_add l D g hw hwc go goc (gd p (grw p S c i len) la) sh h0 hp hq p n P L o F bo (F.gdl hw9 lan la0) (by omega) c hc) [9, 10, 5, 6, 7, 1, 2] [0, 3, 4, 8] rfl rfl (by decide) (by decide) (by decide) 9 3 rfl rfl rfl q567 q530 q531 q22 q532 (by decide +kernel) rfl (Nat.le_of_ble_eq_true rfl) (Nat.le_of_ble_eq_true rfl) (Nat.le_of_ble_eq_true rfl) (Nat.le_of_ble_eq_true rfl) rfl rfl hl.1 rfl (Nat.le_of_ble_eq_true rfl) dX7_find_134 (fun v w1 H locs hq Z => ?_)
      obtain ⟨rfl, rfl⟩ := hq
      have Z : zk_Z D A s H locs [(hg, .inr (6, [.ref go, .ref gt])), (go, .inr (3, [.ref goc])), (goc, .inl (g.1, 8, .inl (zk_ia o))), (gt, .inr (3, [.ref gtc])), (gtc, .inl (g.1, 8, .inl (zk_ia c))), (h0, .inr (2, [.int (nI n), .ref hp, .ref hq])), (hp, .inl (g.1, 62, .inl (zk_ia P))), (hq, .inl (g.1, 32, .inl (zk_ia L))), (hs, .inl (g.1, 7, .inl (zk_ia S))), (hw, .inr (3, [.ref hwc])), (hwc, .inl (g.1, 8, .inl (zk_ia (padd p (gd p (grw p S c i len) la) sh o c))))] := Z.sub [0, 9, 10, 1, 2, 6, 7, 8, 3, 4, 5] (by decide) rfl
      refine W.eq (g2 := F0 mm 137 ls []) rfl ?_
      refine lv_iconst (v := nI 2) hx hb dX7_find_137 (by decide) ?_
      refine lv_iload hx hb dX7_find_138 (lv_at hl 5 rfl) ?_
      refine nr_imul hx hb dX7_find_140 ?_
      refine lv_iload hx hb dX7_find_141 (lv_at hl 8 rfl) ?_
      refine nr_gt (tgt := 150) hx hb (by omega) (by omega) dX7_find_143 (by decide) (fun c_2 => ?_) (fun c_2 => ?_)
      · refine lv_iconst (v := nI 0) hx hb dX7_find_150 (by decide) ?_
        refine lv_istore (lv' := [(10, .int (nI 0)), (0, .ref hg), (1, .ref h0), (2, .ref hs), (3, .int (nI t)), (4, .ref hw), (5, .int (nI len)), (6, .int (nI sh)), (7, .int (nI la)), (8, .int (nI i)), (9, .int (nI (grw p S c i len)))]) hx hb dX7_find_151 hl (by decide) rfl (fun ls hl => ?_)
        refine lv_iload hx hb dX7_find_153 (lv_at hl 0 rfl) ?_
        refine nr_eq0 (tgt := 182) hx hb (by omega) dX7_find_155 (by decide) (fun c_4 => ?_) (fun c_4 => absurd c_4 (fun q => q rfl))
        refine lv_iload hx hb dX7_find_182 (lv_at hl 0 rfl) ?_
        refine nr_eq0 (tgt := 191) hx hb (by omega) dX7_find_184 (by decide) (fun c_5 => ?_) (fun c_5 => absurd c_5 (fun q => q rfl))
        refine lv_iload hx hb dX7_find_191 (lv_at hl 7 rfl) ?_
        refine lv_iconst (v := nI 1) hx hb dX7_find_193 (by decide) ?_
        refine nr_iadd hx hb dX7_find_194 ?_
        refine lv_istore (lv' := [(6, .int (nI (sh + 1))), (10, .int (nI 0)), (0, .ref hg), (1, .ref h0), (2, .ref hs), (3, .int (nI t)), (4, .ref hw), (5, .int (nI len)), (7, .int (nI la)), (8, .int (nI i)), (9, .int (nI (grw p S c i len)))]) hx hb dX7_find_195 hl (by decide) rfl (fun ls hl => ?_)
        refine nr_iinc (n := 1) (lv' := [(8, .int (nI (i + 1))), (6, .int (nI (sh + 1))), (10, .int (nI 0)), (0, .ref hg), (1, .ref h0), (2, .ref hs), (3, .int (nI t)), (4, .ref hw), (5, .int (nI len)), (7, .int (nI la)), (9, .int (nI (grw p S c i len)))]) hx hb (by decide) dX7_find_197 hl (k := 9) rfl (by decide) rfl (fun ls hl => ?_)
        refine lv_goto (tgt := 44) hx hb dX7_find_200 (by decide) ?_
        exact ih (i + 1) (padd p (gd p (grw p S c i len) la) sh o c) o c len (sh + 1) la H locs ls (by omega) (by omega) (by omega) la0 lan hlen_2 ho hc hbd_3 bo ((congrArg (zk_it (grF p S) k (i + 1)) (grF_2 c_1 (by omega))).trans hfin) Z (lv_sub hl [3, 4, 5, 6, 7, 8, 1, 9, 0] rfl)
      · refine lv_iconst (v := nI 1) hx hb dX7_find_146 (by decide) ?_
        refine lv_goto (tgt := 151) hx hb dX7_find_147 (by decide) ?_
        refine lv_istore (lv' := [(10, .int (nI 1)), (0, .ref hg), (1, .ref h0), (2, .ref hs), (3, .int (nI t)), (4, .ref hw), (5, .int (nI len)), (6, .int (nI sh)), (7, .int (nI la)), (8, .int (nI i)), (9, .int (nI (grw p S c i len)))]) hx hb dX7_find_151 hl (by decide) rfl (fun ls hl => ?_)
        refine lv_iload hx hb dX7_find_153 (lv_at hl 0 rfl) ?_
        refine nr_eq0 (tgt := 182) hx hb (by omega) dX7_find_155 (by decide) (fun c_6 => absurd c_6 (by decide)) (fun c_6 => ?_)
        refine lv_iload hx hb dX7_find_158 (lv_at hl 9 rfl) ?_
        refine lv_iconst (v := nI 1) hx hb dX7_find_160 (by decide) ?_
        refine nr_iadd hx hb dX7_find_161 ?_
        refine lv_iload hx hb dX7_find_162 (lv_at hl 6 rfl) ?_
        refine nr_isub hx hb (by omega) dX7_find_164 ?_
        refine lv_istore (lv' := [(5, .int (nI ((i + 1) - len))), (10, .int (nI 1)), (0, .ref hg), (1, .ref h0), (2, .ref hs), (3, .int (nI t)), (4, .ref hw), (6, .int (nI sh)), (7, .int (nI la)), (8, .int (nI i)), (9, .int (nI (grw p S c i len)))]) hx hb dX7_find_165 hl (by decide) rfl (fun ls hl => ?_)
        refine lv_aload_n hx hb dX7_find_167 rfl (lv_at hl 2 rfl) ?_
        refine zk_get C Z in_X7 0 rfl rfl 0 (by decide) q158 rfl (v := .ref go) rfl dX7_find_168 ?_
        refine lv_aload_n hx hb dX7_find_171 rfl (lv_at hl 2 rfl) ?_
        refine zk_get C Z in_X7 0 rfl rfl 1 (by decide) q159 rfl (v := .ref gt) rfl dX7_find_172 ?_
        refine zk_callV (cells' := 0) (slots' := 0) (rest := []) (n := 1) (wr := [(hg, .inr (6, [.ref go, .ref gt])), (h0, .inr (2, [.int (nI n), .ref hp, .ref hq])), (hp, .inl (g.1, 62, .inl (zk_ia P))), (hq, .inl (g.1, 32, .inl (zk_ia L))), (hs, .inl (g.1, 7, .inl (zk_ia S))), (hw, .inr (3, [.ref hwc])), (hwc, .inl (g.1, 8, .inl (zk_ia (padd p (gd p (grw p S c i len) la) sh o c))))]) C Z (m4_copy l D g go goc gt gtc o c ho hc) [1, 2, 3, 4] [0, 5, 6, 7, 8, 9, 10] rfl rfl (by decide) (by decide) (by decide) 1 3 rfl rfl rfl q559 q560 q561 q22 q562 (by decide +kernel) rfl (Nat.le_of_ble_eq_true rfl) (Nat.le_of_ble_eq_true rfl) (Nat.le_of_ble_eq_true rfl) (Nat.le_of_ble_eq_true rfl) rfl rfl hl.1 rfl (Nat.le_of_ble_eq_true rfl) dX7_find_175 (fun v w1 H locs hq Z => ?_)
        obtain ⟨rfl, rfl⟩ := hq
        have Z : zk_Z D A s H locs [(hg, .inr (6, [.ref go, .ref gt])), (go, .inr (3, [.ref goc])), (goc, .inl (g.1, 8, .inl (zk_ia c))), (gt, .inr (3, [.ref gtc])), (gtc, .inl (g.1, 8, .inl (zk_ia c))), (h0, .inr (2, [.int (nI n), .ref hp, .ref hq])), (hp, .inl (g.1, 62, .inl (zk_ia P))), (hq, .inl (g.1, 32, .inl (zk_ia L))), (hs, .inl (g.1, 7, .inl (zk_ia S))), (hw, .inr (3, [.ref hwc])), (hwc, .inl (g.1, 8, .inl (zk_ia (padd p (gd p (grw p S c i len) la) sh o c))))] := Z.sub [0, 7, 8, 9, 10, 1, 2, 3, 4, 5, 6] (by decide) rfl
        refine W.eq (g2 := F0 mm 178 ls []) rfl ?_
        refine lv_iload hx hb dX7_find_178 (lv_at hl 10 rfl) ?_
        refine lv_istore (lv' := [(7, .int (nI (grw p S c i len))), (5, .int (nI ((i + 1) - len))), (10, .int (nI 1)), (0, .ref hg), (1, .ref h0), (2, .ref hs), (3, .int (nI t)), (4, .ref hw), (6, .int (nI sh)), (8, .int (nI i)), (9, .int (nI (grw p S c i len)))]) hx hb dX7_find_180 hl (by decide) rfl (fun ls hl => ?_)
        refine lv_iload hx hb dX7_find_182 (lv_at hl 2 rfl) ?_
        refine nr_eq0 (tgt := 191) hx hb (by omega) dX7_find_184 (by decide) (fun c_7 => absurd c_7 (by decide)) (fun c_7 => ?_)
        refine lv_iconst (v := nI 1) hx hb dX7_find_187 (by decide) ?_
        refine lv_goto (tgt := 195) hx hb dX7_find_188 (by decide) ?_
        refine lv_istore (lv' := [(6, .int (nI 1)), (7, .int (nI (grw p S c i len))), (5, .int (nI ((i + 1) - len))), (10, .int (nI 1)), (0, .ref hg), (1, .ref h0), (2, .ref hs), (3, .int (nI t)), (4, .ref hw), (8, .int (nI i)), (9, .int (nI (grw p S c i len)))]) hx hb dX7_find_195 hl (by decide) rfl (fun ls hl => ?_)
        refine nr_iinc (n := 1) (lv' := [(8, .int (nI (i + 1))), (6, .int (nI 1)), (7, .int (nI (grw p S c i len))), (5, .int (nI ((i + 1) - len))), (10, .int (nI 1)), (0, .ref hg), (1, .ref h0), (2, .ref hs), (3, .int (nI t)), (4, .ref hw), (9, .int (nI (grw p S c i len)))]) hx hb (by decide) dX7_find_197 hl (k := 9) rfl (by decide) rfl (fun ls hl => ?_)
        refine lv_goto (tgt := 44) hx hb dX7_find_200 (by decide) ?_
        exact ih (i + 1) (padd p (gd p (grw p S c i len) la) sh o c) c c ((i + 1) - len) 1 (grw p S c i len) H locs ls (by omega) (by omega) (by omega) c_1 hw9 hlen_2 hc hc hbd_3 bc ((congrArg (zk_it (grF p S) k (i + 1)) (grF_1 c_1 c_2)).trans hfin) Z (lv_sub hl [5, 6, 7, 8, 9, 3, 1, 2, 0] rfl)
    · refine nr_iinc (n := 1) (lv' := [(6, .int (nI (sh + 1))), (0, .ref hg), (1, .ref h0), (2, .ref hs), (3, .int (nI t)), (4, .ref hw), (5, .int (nI len)), (7, .int (nI la)), (8, .int (nI i)), (9, .int (nI (grw p S c i len)))]) hx hb (by decide) dX7_find_102 hl (k := 6) rfl (by decide) rfl (fun ls hl => ?_)
      refine lv_goto (tgt := 197) hx hb dX7_find_105 (by decide) ?_
      refine nr_iinc (n := 1) (lv' := [(8, .int (nI (i + 1))), (6, .int (nI (sh + 1))), (0, .ref hg), (1, .ref h0), (2, .ref hs), (3, .int (nI t)), (4, .ref hw), (5, .int (nI len)), (7, .int (nI la)), (9, .int (nI (grw p S c i len)))]) hx hb (by decide) dX7_find_197 hl (k := 8) rfl (by decide) rfl (fun ls hl => ?_)
      refine lv_goto (tgt := 44) hx hb dX7_find_200 (by decide) ?_
      exact ih (i + 1) c o tr len (sh + 1) la H locs ls (by omega) (by omega) (by omega) la0 lan hc ho ht bc bo ((congrArg (zk_it (grF p S) k (i + 1)) (grF_0 c_1)).trans hfin) Z (lv_sub hl [2, 3, 4, 5, 6, 7, 1, 8, 0] rfl)

set_option maxHeartbeats 4000000 in
/-- Growing.find -/
theorem m7_find (l : Launch) (D : va_G) (g : G4) (hg go goc gt gtc hs hw hwc t : Nat) (h0 hp hq p n : Nat) (P L : List Nat) (S : List Nat) (F : zk_F p n P L) (bS : zk_bs n t S) (t3 : t ≤ 3) (c o tr : List Nat) (hc : c.length = 8) (ho : o.length = 8) (ht : tr.length = 8) : zk_M l yX7_find (ws_ yX7_find cX7_find 11 none) (zk_R 2 0 0) D g [.ref hg, .ref h0, .ref hs, .int (nI t), .ref hw] [(hg, .inr (6, [.ref go, .ref gt])), (go, .inr (3, [.ref goc])), (goc, .inl (g.1, 8, .inl (zk_ia o))), (gt, .inr (3, [.ref gtc])), (gtc, .inl (g.1, 8, .inl (zk_ia tr))), (h0, .inr (2, [.int (nI n), .ref hp, .ref hq])), (hp, .inl (g.1, 62, .inl (zk_ia P))), (hq, .inl (g.1, 32, .inl (zk_ia L))), (hs, .inl (g.1, 7, .inl (zk_ia S))), (hw, .inr (3, [.ref hwc])), (hwc, .inl (g.1, 8, .inl (zk_ia c)))] (fun v w => v = none ∧ ∃ o1 t1 : List Nat, o1.length = 8 ∧ t1.length = 8 ∧ w = [(hg, .inr (6, [.ref go, .ref gt])), (go, .inr (3, [.ref goc])), (goc, .inl (g.1, 8, .inl (zk_ia o1))), (gt, .inr (3, [.ref gtc])), (gtc, .inl (g.1, 8, .inl (zk_ia t1))), (h0, .inr (2, [.int (nI n), .ref hp, .ref hq])), (hp, .inl (g.1, 62, .inl (zk_ia P))), (hq, .inl (g.1, 32, .inl (zk_ia L))), (hs, .inl (g.1, 7, .inl (zk_ia S))), (hw, .inr (3, [.ref hwc])), (hwc, .inl (g.1, 8, .inl (zk_ia (grow p t S))))]) := by
  refine zk_ofW (by decide) (Nat.le_of_ble_eq_true rfl) ?_
  intro pg ev s mm below meth cd A C hr hlocks hname Z ls hl
  have hx := C.1.1
  have hb := C.1.2.1
  have hml := C.1.2.2.1
  have hown := C.1.2.2.2.1
  have hts := C.1.2.2.2.2
  have hl : lv_has ls 11 [(0, .ref hg), (1, .ref h0), (2, .ref hs), (3, .int (nI t)), (4, .ref hw)] := hl
  have hn := F.n31
  obtain ⟨H, hH⟩ : ∃ H, H = s.heap := ⟨_, rfl⟩
  obtain ⟨locs, hlocs⟩ : ∃ q : List Loc, q = [] := ⟨_, rfl⟩
  rw [← hH, ← hlocs] at Z ⊢
  refine lv_aload hx hb dX7_find_0 (lv_at hl 4 rfl) ?_
  refine zk_callV (cells' := 0) (slots' := 0) (rest := []) (n := 0) (wr := [(hg, .inr (6, [.ref go, .ref gt])), (go, .inr (3, [.ref goc])), (goc, .inl (g.1, 8, .inl (zk_ia o))), (gt, .inr (3, [.ref gtc])), (gtc, .inl (g.1, 8, .inl (zk_ia tr))), (h0, .inr (2, [.int (nI n), .ref hp, .ref hq])), (hp, .inl (g.1, 62, .inl (zk_ia P))), (hq, .inl (g.1, 32, .inl (zk_ia L))), (hs, .inl (g.1, 7, .inl (zk_ia S)))]) C Z (m4_clear l D g hw hwc c hc) [9, 10] [0, 1, 2, 3, 4, 5, 6, 7, 8] rfl rfl (by decide) (by decide) (by decide) 9 3 rfl rfl rfl q557 q316 q317 q22 q318 (by decide +kernel) rfl (Nat.le_of_ble_eq_true rfl) (Nat.le_of_ble_eq_true rfl) (Nat.le_of_ble_eq_true rfl) (Nat.le_of_ble_eq_true rfl) rfl rfl hl.1 rfl (Nat.le_of_ble_eq_true rfl) dX7_find_2 (fun v w1 H locs hq Z => ?_)
  obtain ⟨rfl, rfl⟩ := hq
  have Z : zk_Z D A s H locs [(hg, .inr (6, [.ref go, .ref gt])), (go, .inr (3, [.ref goc])), (goc, .inl (g.1, 8, .inl (zk_ia o))), (gt, .inr (3, [.ref gtc])), (gtc, .inl (g.1, 8, .inl (zk_ia tr))), (h0, .inr (2, [.int (nI n), .ref hp, .ref hq])), (hp, .inl (g.1, 62, .inl (zk_ia P))), (hq, .inl (g.1, 32, .inl (zk_ia L))), (hs, .inl (g.1, 7, .inl (zk_ia S))), (hw, .inr (3, [.ref hwc])), (hwc, .inl (g.1, 8, .inl (zk_ia ([0, 0, 0, 0, 0, 0, 0, 0]))))] := Z.sub [0, 1, 2, 3, 4, 5, 6, 7, 8, 9, 10] (by decide) rfl
  refine W.eq (g2 := F0 mm 5 ls [.ref hw]) rfl ?_
  refine lv_pop hx hb dX7_find_5 rfl ?_
  refine lv_aload hx hb dX7_find_6 (lv_at hl 4 rfl) ?_
  refine zk_getN C Z in_X4 9 rfl rfl 0 (by decide) q84 rfl (v := .ref hwc) rfl dX7_find_8 ?_
  refine lv_iconst (v := nI 0) hx hb dX7_find_11 (by decide) ?_
  refine lv_iconst (v := nI 1) hx hb dX7_find_12 (by decide) ?_
  refine zk_iast C Z 10 rfl (by decide) (by decide) (show ([0, 0, 0, 0, 0, 0, 0, 0] : List Nat).length = 8 from rfl) dX7_find_13 (fun H locs Z => ?_)
  have hlen_1 : (([0, 0, 0, 0, 0, 0, 0, 0]).set 0 1).length = 8 := by rw [List.length_set]; exact (show ([0, 0, 0, 0, 0, 0, 0, 0] : List Nat).length = 8 from rfl)
  have hbd_2 : zk_bd n (([0, 0, 0, 0, 0, 0, 0, 0]).set 0 1) := zk_bd_set zk_bd_z8 (by omega)
  have Z : zk_Z D A s H locs [(hg, .inr (6, [.ref go, .ref gt])), (go, .inr (3, [.ref goc])), (goc, .inl (g.1, 8, .inl (zk_ia o))), (gt, .inr (3, [.ref gtc])), (gtc, .inl (g.1, 8, .inl (zk_ia tr))), (h0, .inr (2, [.int (nI n), .ref hp, .ref hq])), (hp, .inl (g.1, 62, .inl (zk_ia P))), (hq, .inl (g.1, 32, .inl (zk_ia L))), (hs, .inl (g.1, 7, .inl (zk_ia S))), (hw, .inr (3, [.ref hwc])), (hwc, .inl (g.1, 8, .inl (zk_ia (([0, 0, 0, 0, 0, 0, 0, 0]).set 0 1))))] := Z
  refine lv_aload_n hx hb dX7_find_14 rfl (lv_at hl 0 rfl) ?_
  refine zk_get C Z in_X7 0 rfl rfl 0 (by decide) q158 rfl (v := .ref go) rfl dX7_find_15 ?_
  refine zk_callV (cells' := 0) (slots' := 0) (rest := []) (n := 0) (wr := [(hg, .inr (6, [.ref go, .ref gt])), (gt, .inr (3, [.ref gtc])), (gtc, .inl (g.1, 8, .inl (zk_ia tr))), (h0, .inr (2, [.int (nI n), .ref hp, .ref hq])), (hp, .inl (g.1, 62, .inl (zk_ia P))), (hq, .inl (g.1, 32, .inl (zk_ia L))), (hs, .inl (g.1, 7, .inl (zk_ia S))), (hw, .inr (3, [.ref hwc])), (hwc, .inl (g.1, 8, .inl (zk_ia (([0, 0, 0, 0, 0, 0, 0, 0]).set 0 1))))]) C Z (m4_clear l D g go goc o ho) [1, 2] [0, 3, 4, 5, 6, 7, 8, 9, 10] rfl rfl (by decide) (by decide) (by decide) 1 3 rfl rfl rfl q557 q316 q317 q22 q318 (by decide +kernel) rfl (Nat.le_of_ble_eq_true rfl) (Nat.le_of_ble_eq_true rfl) (Nat.le_of_ble_eq_true rfl) (Nat.le_of_ble_eq_true rfl) rfl rfl hl.1 rfl (Nat.le_of_ble_eq_true rfl) dX7_find_18 (fun v w1 H locs hq Z => ?_)
  obtain ⟨rfl, rfl⟩ := hq
  have Z : zk_Z D A s H locs [(hg, .inr (6, [.ref go, .ref gt])), (go, .inr (3, [.ref goc])), (goc, .inl (g.1, 8, .inl (zk_ia ([0, 0, 0, 0, 0, 0, 0, 0])))), (gt, .inr (3, [.ref gtc])), (gtc, .inl (g.1, 8, .inl (zk_ia tr))), (h0, .inr (2, [.int (nI n), .ref hp, .ref hq])), (hp, .inl (g.1, 62, .inl (zk_ia P))), (hq, .inl (g.1, 32, .inl (zk_ia L))), (hs, .inl (g.1, 7, .inl (zk_ia S))), (hw, .inr (3, [.ref hwc])), (hwc, .inl (g.1, 8, .inl (zk_ia (([0, 0, 0, 0, 0, 0, 0, 0]).set 0 1))))] := Z.sub [0, 9, 10, 1, 2, 3, 4, 5, 6, 7, 8] (by decide) rfl
  refine W.eq (g2 := F0 mm 21 ls [.ref go]) rfl ?_
  refine lv_pop hx hb dX7_find_21 rfl ?_
  refine lv_aload_n hx hb dX7_find_22 rfl (lv_at hl 0 rfl) ?_
  refine zk_get C Z in_X7 0 rfl rfl 0 (by decide) q158 rfl (v := .ref go) rfl dX7_find_23 ?_
  refine zk_getN C Z in_X4 1 rfl rfl 0 (by decide) q84 rfl (v := .ref goc) rfl dX7_find_26 ?_
  refine lv_iconst (v := nI 0) hx hb dX7_find_29 (by decide) ?_
  refine lv_iconst (v := nI 1) hx hb dX7_find_30 (by decide) ?_
  refine zk_iast C Z 2 rfl (by decide) (by decide) (show ([0, 0, 0, 0, 0, 0, 0, 0] : List Nat).length = 8 from rfl) dX7_find_31 (fun H locs Z => ?_)
  have hlen_3 : (([0, 0, 0, 0, 0, 0, 0, 0]).set 0 1).length = 8 := by rw [List.length_set]; exact (show ([0, 0, 0, 0, 0, 0, 0, 0] : List Nat).length = 8 from rfl)
  have hbd_4 : zk_bd n (([0, 0, 0, 0, 0, 0, 0, 0]).set 0 1) := zk_bd_set zk_bd_z8 (by omega)
  have Z : zk_Z D A s H locs [(hg, .inr (6, [.ref go, .ref gt])), (go, .inr (3, [.ref goc])), (goc, .inl (g.1, 8, .inl (zk_ia (([0, 0, 0, 0, 0, 0, 0, 0]).set 0 1)))), (gt, .inr (3, [.ref gtc])), (gtc, .inl (g.1, 8, .inl (zk_ia tr))), (h0, .inr (2, [.int (nI n), .ref hp, .ref hq])), (hp, .inl (g.1, 62, .inl (zk_ia P))), (hq, .inl (g.1, 32, .inl (zk_ia L))), (hs, .inl (g.1, 7, .inl (zk_ia S))), (hw, .inr (3, [.ref hwc])), (hwc, .inl (g.1, 8, .inl (zk_ia (([0, 0, 0, 0, 0, 0, 0, 0]).set 0 1))))] := Z
  refine lv_iconst (v := nI 0) hx hb dX7_find_32 (by decide) ?_
  refine lv_istore (lv' := [(5, .int (nI 0)), (0, .ref hg), (1, .ref h0), (2, .ref hs), (3, .int (nI t)), (4, .ref hw)]) hx hb dX7_find_33 hl (by decide) rfl (fun ls hl => ?_)
  refine lv_iconst (v := nI 1) hx hb dX7_find_35 (by decide) ?_
  refine lv_istore (lv' := [(6, .int (nI 1)), (5, .int (nI 0)), (0, .ref hg), (1, .ref h0), (2, .ref hs), (3, .int (nI t)), (4, .ref hw)]) hx hb dX7_find_36 hl (by decide) rfl (fun ls hl => ?_)
  refine lv_iconst (v := nI 1) hx hb dX7_find_38 (by decide) ?_
  refine lv_istore (lv' := [(7, .int (nI 1)), (6, .int (nI 1)), (5, .int (nI 0)), (0, .ref hg), (1, .ref h0), (2, .ref hs), (3, .int (nI t)), (4, .ref hw)]) hx hb dX7_find_39 hl (by decide) rfl (fun ls hl => ?_)
  refine lv_iconst (v := nI 0) hx hb dX7_find_41 (by decide) ?_
  refine lv_istore (lv' := [(8, .int (nI 0)), (7, .int (nI 1)), (6, .int (nI 1)), (5, .int (nI 0)), (0, .ref hg), (1, .ref h0), (2, .ref hs), (3, .int (nI t)), (4, .ref hw)]) hx hb dX7_find_42 hl (by decide) rfl (fun ls hl => ?_)
  refine lp7_find C hg go goc gt gtc hs hw hwc t h0 hp hq p n P L S F bS t3 _ (fun c1 o1 t1 H locs ls e1 hc1 ho1 ht1 Z hl => ?_) (2 * t) 0 _ _ tr 0 1 1 H locs ls (by omega) (by omega) (by omega) (by decide) (by omega) hlen_1 hlen_3 ht hbd_2 hbd_4 rfl Z (lv_sub hl [4, 5, 6, 7, 8, 3, 2, 1, 0] rfl)
  exact zk_vret C hr hlocks Z ⟨rfl, o1, t1, ho1, ht1, by rw [e1]; rfl⟩ (Nat.le_of_ble_eq_true rfl) (Nat.le_of_ble_eq_true rfl) dX7_find_203

