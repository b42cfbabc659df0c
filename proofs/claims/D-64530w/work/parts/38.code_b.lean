/-! ===== Code: least, make ===== -/
set_option maxRecDepth 100000
set_option maxHeartbeats 4000000 in
theorem lp2_l1 {pg : Program} {l : Launch} {ev : Env} {s : State} {mm : MethodId} {args : Array Value} {below : List Frame} {meth : Method} {cd : Code} {Q : State → Prop} {D : va_G} {g : G4} {A : Nat → Prop} (C : zk_C pg s mm cd args cX2_least 6 RX2 D g A) (hc hs pl plc t gn kd : Nat) (h0 hp hq p n : Nat) (P L : List Nat) (e : Nat) (F : zk_F p n P L) (e7 : e < 7) (a : Nat) (han : a < n) (fin : List Nat) (kk : ∀ (c1 : List Nat) (H : Heap) (locs : List Loc) (ls : Array Slot), c1.length = 8 → zk_bd n c1 → c1 = fin → zk_Z D A s H locs [(hc, .inr (1, [.ref h0, .int (nI t), .int (nI gn), .int (nI kd), .ref hs, .ref pl])), (h0, .inr (2, [.int (nI n), .ref hp, .ref hq])), (hp, .inl (g.1, 62, .inl (zk_ia P))), (hq, .inl (g.1, 32, .inl (zk_ia L))), (pl, .inr (3, [.ref plc])), (plc, .inl (g.1, 8, .inl (zk_ia c1)))] → lv_has ls 6 [(0, .ref hc), (1, .int (nI e)), (2, .ref pl), (3, .int (nI a))] → W pg l ev (zk_R 1 0 0) s mm args below meth cd H locs 0 0 Q (F0 mm 94 ls [])) :
    ∀ (j : Nat) (c : List Nat) (H : Heap) (locs : List Loc) (ls : Array Slot), (j ≤ 8) → (c.length = 8) → (zk_bd n c) → (lsR p (pw p a) j c = fin) → zk_Z D A s H locs [(hc, .inr (1, [.ref h0, .int (nI t), .int (nI gn), .int (nI kd), .ref hs, .ref pl])), (h0, .inr (2, [.int (nI n), .ref hp, .ref hq])), (hp, .inl (g.1, 62, .inl (zk_ia P))), (hq, .inl (g.1, 32, .inl (zk_ia L))), (pl, .inr (3, [.ref plc])), (plc, .inl (g.1, 8, .inl (zk_ia c)))] → lv_has ls 6 [(0, .ref hc), (1, .int (nI e)), (2, .ref pl), (3, .int (nI a)), (4, .int (nI j + (-1)))] → W pg l ev (zk_R 1 0 0) s mm args below meth cd H locs 0 0 Q (F0 mm 34 ls []) := by
  have hx := C.1.1
  have hb := C.1.2.1
  have hml := C.1.2.2.1
  have hown := C.1.2.2.2.1
  have hts := C.1.2.2.2.2
  have hn := F.n31
  have hpa : pw p a ≤ n := (zk_pw_all _ F.1 a (by dsimp only; omega)).1.2
  intro j
  induction j with
  | zero =>
    intro c H locs ls hj hl8 bc hfin Z hl
    have hfin : c = fin := hfin
    refine lv_iload hx hb dX2_least_34 (lv_at hl 4 rfl) ?_
    refine lv_if_lt (tgt := 94) hx hb dX2_least_36 (by decide) (fun c_1 => ?_) (fun c_1 => absurd c_1 (fun q => q (by decide)))
    exact kk c H locs ls hl8 bc hfin Z (lv_sub hl [0, 1, 2, 3] rfl)
  | succ j ih =>
    intro c H locs ls hj hl8 bc hfin Z hl
    rw [pk_m1] at hl
    refine lv_iload hx hb dX2_least_34 (lv_at hl 4 rfl) ?_
    refine nr_lt0 (tgt := 94) hx hb (by omega) dX2_least_36 (by decide) ?_
    refine lv_aload_n hx hb dX2_least_39 rfl (lv_at hl 2 rfl) ?_
    refine zk_getN C Z in_X4 4 rfl rfl 0 (by decide) q87 rfl (v := .ref plc) rfl dX2_least_40 ?_
    refine lv_iload hx hb dX2_least_43 (lv_at hl 4 rfl) ?_
    refine lv_iload hx hb dX2_least_45 (lv_at hl 4 rfl) ?_
    refine nr_le0 (tgt := 62) hx hb (by omega) dX2_least_47 (by decide) (fun c_1 => ?_) (fun c_1 => ?_)
    · refine lv_iconst (v := nI 0) hx hb dX2_least_62 (by decide) ?_
      refine lv_aload_n hx hb dX2_least_63 rfl (lv_at hl 0 rfl) ?_
      refine zk_get C Z in_X2 0 rfl rfl 0 (by decide) q91 rfl (v := .ref h0) rfl dX2_least_64 ?_
      refine lv_aload_n hx hb dX2_least_67 rfl (lv_at hl 2 rfl) ?_
      refine zk_getN C Z in_X4 4 rfl rfl 0 (by decide) q87 rfl (v := .ref plc) rfl dX2_least_68 ?_
      refine lv_iload hx hb dX2_least_71 (lv_at hl 4 rfl) ?_
      refine zk_iald C Z 5 rfl (by decide) (by omega) dX2_least_73 ?_
      refine lv_aload_n hx hb dX2_least_74 rfl (lv_at hl 0 rfl) ?_
      refine zk_get C Z in_X2 0 rfl rfl 0 (by decide) q91 rfl (v := .ref h0) rfl dX2_least_75 ?_
      refine zk_getN C Z in_X3 1 rfl rfl 1 (by decide) q63 rfl (v := .ref hp) rfl dX2_least_78 ?_
      refine lv_iload_n hx hb dX2_least_81 rfl (lv_at hl 3 rfl) ?_
      refine zk_iald C Z 2 rfl (by decide) (by omega) dX2_least_82 ?_
      rw [show P.getD a 0 = pw p a from (F.P (by omega))]
      refine zk_callV (cells' := 0) (slots' := 0) (rest := [.int (nI 0), .int (nI j), .ref plc]) (n := 2) (wr := [(hc, .inr (1, [.ref h0, .int (nI t), .int (nI gn), .int (nI kd), .ref hs, .ref pl])), (pl, .inr (3, [.ref plc])), (plc, .inl (g.1, 8, .inl (zk_ia c)))]) C Z (m3_times l D g h0 hp hq p n P L (c.getD j 0) (pw p a) F (bc _) hpa) [1, 2, 3] [0, 4, 5] rfl rfl (by decide) (by decide) (by decide) 1 2 rfl rfl rfl q319 q320 q321 q21 q322 (by decide +kernel) rfl (Nat.le_of_ble_eq_true rfl) (Nat.le_of_ble_eq_true rfl) (Nat.le_of_ble_eq_true rfl) (Nat.le_of_ble_eq_true rfl) rfl rfl hl.1 rfl (Nat.le_of_ble_eq_true rfl) dX2_least_83 (fun v w1 H locs hq Z => ?_)
      obtain ⟨rfl, rfl⟩ := hq
      have Z : zk_Z D A s H locs [(hc, .inr (1, [.ref h0, .int (nI t), .int (nI gn), .int (nI kd), .ref hs, .ref pl])), (h0, .inr (2, [.int (nI n), .ref hp, .ref hq])), (hp, .inl (g.1, 62, .inl (zk_ia P))), (hq, .inl (g.1, 32, .inl (zk_ia L))), (pl, .inr (3, [.ref plc])), (plc, .inl (g.1, 8, .inl (zk_ia c)))] := Z.sub [0, 3, 4, 5, 1, 2] (by decide) rfl
      refine W.eq (g2 := F0 mm 86 ls [.int (nI (gm p (c.getD j 0) (pw p a))), .int (nI 0), .int (nI j), .ref plc]) rfl ?_
      refine nr_ixor hx hb dX2_least_86 ?_
      refine zk_iast C Z 5 rfl (by decide) (by omega) hl8 dX2_least_87 (fun H locs Z => ?_)
      have hlen_2 : (c.set j (0 ^^^ (gm p (c.getD j 0) (pw p a)))).length = 8 := by rw [List.length_set]; exact hl8
      have hbd_3 : zk_bd n (c.set j (0 ^^^ (gm p (c.getD j 0) (pw p a)))) := zk_bd_set bc (by first | exact F.xl (bc _) (F.gml (bc _) hpa) | exact F.xl (Nat.zero_le _) (F.gml (bc _) hpa))
      have Z : zk_Z D A s H locs [(hc, .inr (1, [.ref h0, .int (nI t), .int (nI gn), .int (nI kd), .ref hs, .ref pl])), (h0, .inr (2, [.int (nI n), .ref hp, .ref hq])), (hp, .inl (g.1, 62, .inl (zk_ia P))), (hq, .inl (g.1, 32, .inl (zk_ia L))), (pl, .inr (3, [.ref plc])), (plc, .inl (g.1, 8, .inl (zk_ia (c.set j (0 ^^^ (gm p (c.getD j 0) (pw p a)))))))] := Z
      refine lv_iinc (v := nI j + (-1)) (lv' := [(4, .int (nI j + (-1))), (0, .ref hc), (1, .int (nI e)), (2, .ref pl), (3, .int (nI a))]) hx hb dX2_least_88 hl (k := 4) rfl rfl (by decide) rfl (fun ls hl => ?_)
      refine lv_goto (tgt := 34) hx hb dX2_least_91 (by decide) ?_
      exact ih (c.set j (0 ^^^ (gm p (c.getD j 0) (pw p a)))) H locs ls (by omega) hlen_2 hbd_3 (by rw [lsR_s, if_neg (by omega)] at hfin; exact hfin) Z (lv_sub hl [1, 2, 3, 4, 0] rfl)
    · refine lv_aload_n hx hb dX2_least_50 rfl (lv_at hl 2 rfl) ?_
      refine zk_getN C Z in_X4 4 rfl rfl 0 (by decide) q87 rfl (v := .ref plc) rfl dX2_least_51 ?_
      refine lv_iload hx hb dX2_least_54 (lv_at hl 4 rfl) ?_
      refine lv_iconst (v := nI 1) hx hb dX2_least_56 (by decide) ?_
      refine nr_isub hx hb (by omega) dX2_least_57 ?_
      refine zk_iald C Z 5 rfl (by decide) (by omega) dX2_least_58 ?_
      refine lv_goto (tgt := 63) hx hb dX2_least_59 (by decide) ?_
      refine lv_aload_n hx hb dX2_least_63 rfl (lv_at hl 0 rfl) ?_
      refine zk_get C Z in_X2 0 rfl rfl 0 (by decide) q91 rfl (v := .ref h0) rfl dX2_least_64 ?_
      refine lv_aload_n hx hb dX2_least_67 rfl (lv_at hl 2 rfl) ?_
      refine zk_getN C Z in_X4 4 rfl rfl 0 (by decide) q87 rfl (v := .ref plc) rfl dX2_least_68 ?_
      refine lv_iload hx hb dX2_least_71 (lv_at hl 4 rfl) ?_
      refine zk_iald C Z 5 rfl (by decide) (by omega) dX2_least_73 ?_
      refine lv_aload_n hx hb dX2_least_74 rfl (lv_at hl 0 rfl) ?_
      refine zk_get C Z in_X2 0 rfl rfl 0 (by decide) q91 rfl (v := .ref h0) rfl dX2_least_75 ?_
      refine zk_getN C Z in_X3 1 rfl rfl 1 (by decide) q63 rfl (v := .ref hp) rfl dX2_least_78 ?_
      refine lv_iload_n hx hb dX2_least_81 rfl (lv_at hl 3 rfl) ?_
      refine zk_iald C Z 2 rfl (by decide) (by omega) dX2_least_82 ?_
      rw [show P.getD a 0 = pw p a from (F.P (by omega))]
      refine zk_callV (cells' := 0) (slots' := 0) (rest := [.int (nI (c.getD (j - 1) 0)), .int (nI j), .ref plc]) (n := 2) (wr := [(hc, .inr (1, [.ref h0, .int (nI t), .int (nI gn), .int (nI kd), .ref hs, .ref pl])), (pl, .inr (3, [.ref plc])), (plc, .inl (g.1, 8, .inl (zk_ia c)))]) C Z (m3_times l D g h0 hp hq p n P L (c.getD j 0) (pw p a) F (bc _) hpa) [1, 2, 3] [0, 4, 5] rfl rfl (by decide) (by decide) (by decide) 1 2 rfl rfl rfl q319 q320 q321 q21 q322 (by decide +kernel) rfl (Nat.le_of_ble_eq_true rfl) (Nat.le_of_ble_eq_true rfl) (Nat.le_of_ble_eq_true rfl) (Nat.le_of_ble_eq_true rfl) rfl rfl hl.1 rfl (Nat.le_of_ble_eq_true rfl) dX2_least_83 (fun v w1 H locs hq Z => ?_)
      obtain ⟨rfl, rfl⟩ := hq
      have Z : zk_Z D A s H locs [(hc, .inr (1, [.ref h0, .int (nI t), .int (nI gn), .int (nI kd), .ref hs, .ref pl])), (h0, .inr (2, [.int (nI n), .ref hp, .ref hq])), (hp, .inl (g.1, 62, .inl (zk_ia P))), (hq, .inl (g.1, 32, .inl (zk_ia L))), (pl, .inr (3, [.ref plc])), (plc, .inl (g.1, 8, .inl (zk_ia c)))] := Z.sub [0, 3, 4, 5, 1, 2] (by decide) rfl
      refine W.eq (g2 := F0 mm 86 ls [.int (nI (gm p (c.getD j 0) (pw p a))), .int (nI (c.getD (j - 1) 0)), .int (nI j), .ref plc]) rfl ?_
      refine nr_ixor hx hb dX2_least_86 ?_
      refine zk_iast C Z 5 rfl (by decide) (by omega) hl8 dX2_least_87 (fun H locs Z => ?_)
      have hlen_4 : (c.set j ((c.getD (j - 1) 0) ^^^ (gm p (c.getD j 0) (pw p a)))).length = 8 := by rw [List.length_set]; exact hl8
      have hbd_5 : zk_bd n (c.set j ((c.getD (j - 1) 0) ^^^ (gm p (c.getD j 0) (pw p a)))) := zk_bd_set bc (by first | exact F.xl (bc _) (F.gml (bc _) hpa) | exact F.xl (Nat.zero_le _) (F.gml (bc _) hpa))
      have Z : zk_Z D A s H locs [(hc, .inr (1, [.ref h0, .int (nI t), .int (nI gn), .int (nI kd), .ref hs, .ref pl])), (h0, .inr (2, [.int (nI n), .ref hp, .ref hq])), (hp, .inl (g.1, 62, .inl (zk_ia P))), (hq, .inl (g.1, 32, .inl (zk_ia L))), (pl, .inr (3, [.ref plc])), (plc, .inl (g.1, 8, .inl (zk_ia (c.set j ((c.getD (j - 1) 0) ^^^ (gm p (c.getD j 0) (pw p a)))))))] := Z
      refine lv_iinc (v := nI j + (-1)) (lv' := [(4, .int (nI j + (-1))), (0, .ref hc), (1, .int (nI e)), (2, .ref pl), (3, .int (nI a))]) hx hb dX2_least_88 hl (k := 4) rfl rfl (by decide) rfl (fun ls hl => ?_)
      refine lv_goto (tgt := 34) hx hb dX2_least_91 (by decide) ?_
      exact ih (c.set j ((c.getD (j - 1) 0) ^^^ (gm p (c.getD j 0) (pw p a)))) H locs ls (by omega) hlen_4 hbd_5 (by rw [lsR_s, if_pos c_1] at hfin; exact hfin) Z (lv_sub hl [1, 2, 3, 4, 0] rfl)

set_option maxHeartbeats 4000000 in
theorem lp2_l2 {pg : Program} {l : Launch} {ev : Env} {s : State} {mm : MethodId} {args : Array Value} {below : List Frame} {meth : Method} {cd : Code} {Q : State → Prop} {D : va_G} {g : G4} {A : Nat → Prop} (C : zk_C pg s mm cd args cX2_least 6 RX2 D g A) (hc hs pl plc t gn kd : Nat) (h0 hp hq p n : Nat) (P L : List Nat) (e : Nat) (F : zk_F p n P L) (e7 : e < 7) (fin : List Nat) (kk : ∀ (c1 : List Nat) (H : Heap) (locs : List Loc) (ls : Array Slot), c1.length = 8 → c1 = fin → zk_Z D A s H locs [(hc, .inr (1, [.ref h0, .int (nI t), .int (nI gn), .int (nI kd), .ref hs, .ref pl])), (h0, .inr (2, [.int (nI n), .ref hp, .ref hq])), (hp, .inl (g.1, 62, .inl (zk_ia P))), (hq, .inl (g.1, 32, .inl (zk_ia L))), (pl, .inr (3, [.ref plc])), (plc, .inl (g.1, 8, .inl (zk_ia c1)))] → lv_has ls 6 [(0, .ref hc), (2, .ref pl)] → W pg l ev (zk_R 1 0 0) s mm args below meth cd H locs 0 0 Q (F0 mm 119 ls [])) :
    ∀ (f : Nat) (a : Nat) (c : List Nat) (H : Heap) (locs : List Loc) (ls : Array Slot), (a < n) → (c.length = 8) → (zk_bd n c) → (lsT n (e % n) f a = true) → (lsW p n (e % n) f a c = fin) → zk_Z D A s H locs [(hc, .inr (1, [.ref h0, .int (nI t), .int (nI gn), .int (nI kd), .ref hs, .ref pl])), (h0, .inr (2, [.int (nI n), .ref hp, .ref hq])), (hp, .inl (g.1, 62, .inl (zk_ia P))), (hq, .inl (g.1, 32, .inl (zk_ia L))), (pl, .inr (3, [.ref plc])), (plc, .inl (g.1, 8, .inl (zk_ia c)))] → lv_has ls 6 [(0, .ref hc), (1, .int (nI e)), (2, .ref pl), (3, .int (nI a))] → W pg l ev (zk_R 1 0 0) s mm args below meth cd H locs 0 0 Q (F0 mm 25 ls []) := by
  have hx := C.1.1
  have hb := C.1.2.1
  have hml := C.1.2.2.1
  have hown := C.1.2.2.2.1
  have hts := C.1.2.2.2.2
  have hn := F.n31
  intro f
  induction f with
  | zero =>
    intro a c H locs ls han hl8 bc hT hfin Z hl
    exact absurd (show false = true from hT) (by decide)
  | succ f ih =>
    intro a c H locs ls han hl8 bc hT hfin Z hl
    refine lv_aload_n hx hb dX2_least_25 rfl (lv_at hl 2 rfl) ?_
    refine zk_getN C Z in_X4 4 rfl rfl 0 (by decide) q87 rfl (v := .ref plc) rfl dX2_least_26 ?_
    refine zk_alen C Z 5 rfl dX2_least_29 ?_
    refine lv_iconst (v := nI 1) hx hb dX2_least_30 (by decide) ?_
    refine nr_isub hx hb (by decide) dX2_least_31 ?_
    refine lv_istore (lv' := [(4, .int (nI (8 - 1))), (0, .ref hc), (1, .int (nI e)), (2, .ref pl), (3, .int (nI a))]) hx hb dX2_least_32 hl (by decide) rfl (fun ls hl => ?_)
    rw [show nI (8 - 1) = nI 8 + (-1) from rfl] at hl
    refine lp2_l1 C hc hs pl plc t gn kd h0 hp hq p n P L e F e7 a han _ (fun c1 H locs ls hl1 bc1 e1 Z hl => ?_) 8 c H locs ls (Nat.le_refl _) hl8 bc rfl Z (lv_sub hl [1, 2, 3, 4, 0] rfl)
    refine lv_iconst (v := nI 2) hx hb dX2_least_94 (by decide) ?_
    refine lv_iload_n hx hb dX2_least_95 rfl (lv_at hl 3 rfl) ?_
    refine nr_imul hx hb dX2_least_96 ?_
    refine lv_aload_n hx hb dX2_least_97 rfl (lv_at hl 0 rfl) ?_
    refine zk_get C Z in_X2 0 rfl rfl 0 (by decide) q91 rfl (v := .ref h0) rfl dX2_least_98 ?_
    refine zk_getN C Z in_X3 1 rfl rfl 0 (by decide) q59 rfl (v := .int (nI n)) rfl dX2_least_101 ?_
    refine nr_irem hx hb (by omega) (by omega) (by omega) dX2_least_104 ?_
    refine lv_istore_n (lv' := [(3, .int (nI ((2 * a) % n))), (0, .ref hc), (1, .int (nI e)), (2, .ref pl)]) hx hb dX2_least_105 rfl hl (by decide) rfl (fun ls hl => ?_)
    refine lv_iload_n hx hb dX2_least_106 rfl (lv_at hl 0 rfl) ?_
    refine lv_iload_n hx hb dX2_least_107 rfl (lv_at hl 2 rfl) ?_
    refine lv_aload_n hx hb dX2_least_108 rfl (lv_at hl 1 rfl) ?_
    refine zk_get C Z in_X2 0 rfl rfl 0 (by decide) q91 rfl (v := .ref h0) rfl dX2_least_109 ?_
    refine zk_getN C Z in_X3 1 rfl rfl 0 (by decide) q59 rfl (v := .int (nI n)) rfl dX2_least_112 ?_
    refine nr_irem hx hb (by omega) (by omega) (by omega) dX2_least_115 ?_
    refine nr_ne (tgt := 25) hx hb (by have := Nat.mod_lt (2 * a) (show 0 < n by omega); omega) (by have := Nat.mod_lt e (show 0 < n by omega); omega) dX2_least_116 (by decide) (fun c_1 => ?_) (fun c_1 => ?_)
    · exact ih (2 * a % n) c1 H locs ls (Nat.mod_lt _ (by omega)) hl1 bc1 (by rw [lsT_0 c_1] at hT; exact hT) (by rw [lsW_0 c_1] at hfin; rw [e1]; exact hfin) Z (lv_sub hl [1, 2, 3, 0] rfl)
    · exact kk c1 H locs ls hl1 (by rw [lsW_1 c_1] at hfin; rw [e1]; exact hfin) Z (lv_sub hl [1, 3] rfl)

set_option maxHeartbeats 4000000 in
theorem lp2_l3 {pg : Program} {l : Launch} {ev : Env} {s : State} {mm : MethodId} {args : Array Value} {below : List Frame} {meth : Method} {cd : Code} {Q : State → Prop} {D : va_G} {g : G4} {A : Nat → Prop} (C : zk_C pg s mm cd args cX2_least 6 RX2 D g A) (hc hs pl plc t gn kd : Nat) (h0 hp hq p n : Nat) (P L : List Nat) (e : Nat) (F : zk_F p n P L) (e7 : e < 7) (c : List Nat) (fin : Nat) (kk : ∀ (H : Heap) (locs : List Loc) (ls : Array Slot), zk_Z D A s H locs [(hc, .inr (1, [.ref h0, .int (nI t), .int (nI gn), .int (nI kd), .ref hs, .ref pl])), (h0, .inr (2, [.int (nI n), .ref hp, .ref hq])), (hp, .inl (g.1, 62, .inl (zk_ia P))), (hq, .inl (g.1, 32, .inl (zk_ia L))), (pl, .inr (3, [.ref plc])), (plc, .inl (g.1, 8, .inl (zk_ia c)))] → lv_has ls 6 [(0, .ref hc), (4, .int (nI fin))] → W pg l ev (zk_R 1 0 0) s mm args below meth cd H locs 0 0 Q (F0 mm 156 ls [])) :
    ∀ (k : Nat) (i b : Nat) (H : Heap) (locs : List Loc) (ls : Array Slot), (i + k = 8) → (zk_it (lbF c) k i b = fin) → zk_Z D A s H locs [(hc, .inr (1, [.ref h0, .int (nI t), .int (nI gn), .int (nI kd), .ref hs, .ref pl])), (h0, .inr (2, [.int (nI n), .ref hp, .ref hq])), (hp, .inl (g.1, 62, .inl (zk_ia P))), (hq, .inl (g.1, 32, .inl (zk_ia L))), (pl, .inr (3, [.ref plc])), (plc, .inl (g.1, 8, .inl (zk_ia c)))] → lv_has ls 6 [(0, .ref hc), (2, .ref pl), (4, .int (nI b)), (5, .int (nI i))] → W pg l ev (zk_R 1 0 0) s mm args below meth cd H locs 0 0 Q (F0 mm 125 ls []) := by
  have hx := C.1.1
  have hb := C.1.2.1
  have hml := C.1.2.2.1
  have hown := C.1.2.2.2.1
  have hts := C.1.2.2.2.2
  intro k
  induction k with
  | zero =>
    intro i b H locs ls hik hfin Z hl
    have hfin : b = fin := hfin
    subst hfin
    refine lv_iload hx hb dX2_least_125 (lv_at hl 3 rfl) ?_
    refine lv_aload_n hx hb dX2_least_127 rfl (lv_at hl 1 rfl) ?_
    refine zk_getN C Z in_X4 4 rfl rfl 0 (by decide) q87 rfl (v := .ref plc) rfl dX2_least_128 ?_
    refine zk_alen C Z 5 rfl dX2_least_131 ?_
    refine nr_ge (tgt := 156) hx hb (by omega) (by omega) dX2_least_132 (by decide) (fun c_1 => ?_) (fun c_1 => absurd c_1 (by omega))
    exact kk  H locs ls  Z (lv_sub hl [0, 2] rfl)
  | succ k ih =>
    intro i b H locs ls hik hfin Z hl
    refine lv_iload hx hb dX2_least_125 (lv_at hl 3 rfl) ?_
    refine lv_aload_n hx hb dX2_least_127 rfl (lv_at hl 1 rfl) ?_
    refine zk_getN C Z in_X4 4 rfl rfl 0 (by decide) q87 rfl (v := .ref plc) rfl dX2_least_128 ?_
    refine zk_alen C Z 5 rfl dX2_least_131 ?_
    refine nr_ge (tgt := 156) hx hb (by omega) (by omega) dX2_least_132 (by decide) (fun c_1 => absurd c_1 (by omega)) (fun c_1 => ?_)
    refine lv_iload hx hb dX2_least_135 (lv_at hl 2 rfl) ?_
    refine lv_aload_n hx hb dX2_least_137 rfl (lv_at hl 1 rfl) ?_
    refine zk_getN C Z in_X4 4 rfl rfl 0 (by decide) q87 rfl (v := .ref plc) rfl dX2_least_138 ?_
    refine lv_iload hx hb dX2_least_141 (lv_at hl 3 rfl) ?_
    refine zk_iald C Z 5 rfl (by decide) (by omega) dX2_least_143 ?_
    refine lv_iload hx hb dX2_least_144 (lv_at hl 3 rfl) ?_
    refine nr_ishl hx hb (by omega) dX2_least_146 ?_
    refine nr_ior hx hb dX2_least_147 ?_
    refine lv_istore (lv' := [(4, .int (nI (b ||| ((c.getD i 0) <<< i)))), (0, .ref hc), (2, .ref pl), (5, .int (nI i))]) hx hb dX2_least_148 hl (by decide) rfl (fun ls hl => ?_)
    refine nr_iinc (n := 1) (lv' := [(5, .int (nI (i + 1))), (4, .int (nI (b ||| ((c.getD i 0) <<< i)))), (0, .ref hc), (2, .ref pl)]) hx hb (by decide) dX2_least_150 hl (k := 3) rfl (by decide) rfl (fun ls hl => ?_)
    refine lv_goto (tgt := 125) hx hb dX2_least_153 (by decide) ?_
    exact ih (i + 1) (b ||| ((c.getD i 0) <<< i)) H locs ls (by omega) hfin Z (lv_sub hl [2, 3, 1, 0] rfl)

set_option maxHeartbeats 4000000 in
/-- Code.least -/
theorem m2_least (l : Launch) (D : va_G) (g : G4) (hc hs pl plc t gn kd : Nat) (h0 hp hq p n : Nat) (P L : List Nat) (e : Nat) (F : zk_F p n P L) (e7 : e < 7) (c : List Nat) (hl8 : c.length = 8) : zk_M l yX2_least (ws_ yX2_least cX2_least 6 (some .int)) (zk_R 1 0 0) D g [.ref hc, .int (nI e)] [(hc, .inr (1, [.ref h0, .int (nI t), .int (nI gn), .int (nI kd), .ref hs, .ref pl])), (h0, .inr (2, [.int (nI n), .ref hp, .ref hq])), (hp, .inl (g.1, 62, .inl (zk_ia P))), (hq, .inl (g.1, 32, .inl (zk_ia L))), (pl, .inr (3, [.ref plc])), (plc, .inl (g.1, 8, .inl (zk_ia c)))] (fun v w => v = some (.int (nI (lst p n e))) ∧ ∃ c1 : List Nat, c1.length = 8 ∧ w = [(hc, .inr (1, [.ref h0, .int (nI t), .int (nI gn), .int (nI kd), .ref hs, .ref pl])), (h0, .inr (2, [.int (nI n), .ref hp, .ref hq])), (hp, .inl (g.1, 62, .inl (zk_ia P))), (hq, .inl (g.1, 32, .inl (zk_ia L))), (pl, .inr (3, [.ref plc])), (plc, .inl (g.1, 8, .inl (zk_ia c1)))]) := by
  refine zk_ofW (by decide) (Nat.le_of_ble_eq_true rfl) ?_
  intro pg ev s mm below meth cd A C hr hlocks hname Z ls hl
  have hx := C.1.1
  have hb := C.1.2.1
  have hml := C.1.2.2.1
  have hown := C.1.2.2.2.1
  have hts := C.1.2.2.2.2
  have hl : lv_has ls 6 [(0, .ref hc), (1, .int (nI e))] := hl
  have hn := F.n31
  obtain ⟨H, hH⟩ : ∃ H, H = s.heap := ⟨_, rfl⟩
  obtain ⟨locs, hlocs⟩ : ∃ q : List Loc, q = [] := ⟨_, rfl⟩
  rw [← hH, ← hlocs] at Z ⊢
  refine lv_aload_n hx hb dX2_least_0 rfl (lv_at hl 0 rfl) ?_
  refine zk_get C Z in_X2 0 rfl rfl 5 (by decide) q100 rfl (v := .ref pl) rfl dX2_least_1 ?_
  refine zk_callV (cells' := 0) (slots' := 0) (rest := []) (n := 0) (wr := [(hc, .inr (1, [.ref h0, .int (nI t), .int (nI gn), .int (nI kd), .ref hs, .ref pl])), (h0, .inr (2, [.int (nI n), .ref hp, .ref hq])), (hp, .inl (g.1, 62, .inl (zk_ia P))), (hq, .inl (g.1, 32, .inl (zk_ia L)))]) C Z (m4_clear l D g pl plc c hl8) [4, 5] [0, 1, 2, 3] rfl rfl (by decide) (by decide) (by decide) 4 3 rfl rfl rfl q315 q316 q317 q22 q318 (by decide +kernel) rfl (Nat.le_of_ble_eq_true rfl) (Nat.le_of_ble_eq_true rfl) (Nat.le_of_ble_eq_true rfl) (Nat.le_of_ble_eq_true rfl) rfl rfl hl.1 rfl (Nat.le_of_ble_eq_true rfl) dX2_least_4 (fun v w1 H locs hq Z => ?_)
  obtain ⟨rfl, rfl⟩ := hq
  have Z : zk_Z D A s H locs [(hc, .inr (1, [.ref h0, .int (nI t), .int (nI gn), .int (nI kd), .ref hs, .ref pl])), (h0, .inr (2, [.int (nI n), .ref hp, .ref hq])), (hp, .inl (g.1, 62, .inl (zk_ia P))), (hq, .inl (g.1, 32, .inl (zk_ia L))), (pl, .inr (3, [.ref plc])), (plc, .inl (g.1, 8, .inl (zk_ia ([0, 0, 0, 0, 0, 0, 0, 0]))))] := Z.sub [0, 1, 2, 3, 4, 5] (by decide) rfl
  refine W.eq (g2 := F0 mm 7 ls [.ref pl]) rfl ?_
  refine lv_astore_n (lv' := [(2, .ref pl), (0, .ref hc), (1, .int (nI e))]) hx hb dX2_least_7 rfl hl (by decide) rfl (fun ls hl => ?_)
  refine lv_aload_n hx hb dX2_least_8 rfl (lv_at hl 0 rfl) ?_
  refine zk_getN C Z in_X4 4 rfl rfl 0 (by decide) q87 rfl (v := .ref plc) rfl dX2_least_9 ?_
  refine lv_iconst (v := nI 0) hx hb dX2_least_12 (by decide) ?_
  refine lv_iconst (v := nI 1) hx hb dX2_least_13 (by decide) ?_
  refine zk_iast C Z 5 rfl (by decide) (by decide) (show ([0, 0, 0, 0, 0, 0, 0, 0] : List Nat).length = 8 from rfl) dX2_least_14 (fun H locs Z => ?_)
  have hlen_1 : (([0, 0, 0, 0, 0, 0, 0, 0]).set 0 1).length = 8 := by rw [List.length_set]; exact (show ([0, 0, 0, 0, 0, 0, 0, 0] : List Nat).length = 8 from rfl)
  have hbd_2 : zk_bd n (([0, 0, 0, 0, 0, 0, 0, 0]).set 0 1) := zk_bd_set zk_bd_z8 (by omega)
  have Z : zk_Z D A s H locs [(hc, .inr (1, [.ref h0, .int (nI t), .int (nI gn), .int (nI kd), .ref hs, .ref pl])), (h0, .inr (2, [.int (nI n), .ref hp, .ref hq])), (hp, .inl (g.1, 62, .inl (zk_ia P))), (hq, .inl (g.1, 32, .inl (zk_ia L))), (pl, .inr (3, [.ref plc])), (plc, .inl (g.1, 8, .inl (zk_ia (([0, 0, 0, 0, 0, 0, 0, 0]).set 0 1))))] := Z
  refine lv_iload_n hx hb dX2_least_15 rfl (lv_at hl 2 rfl) ?_
  refine lv_aload_n hx hb dX2_least_16 rfl (lv_at hl 1 rfl) ?_
  refine zk_get C Z in_X2 0 rfl rfl 0 (by decide) q91 rfl (v := .ref h0) rfl dX2_least_17 ?_
  refine zk_getN C Z in_X3 1 rfl rfl 0 (by decide) q59 rfl (v := .int (nI n)) rfl dX2_least_20 ?_
  refine nr_irem hx hb (by omega) (by omega) (by omega) dX2_least_23 ?_
  refine lv_istore_n (lv' := [(3, .int (nI (e % n))), (2, .ref pl), (0, .ref hc), (1, .int (nI e))]) hx hb dX2_least_24 rfl hl (by decide) rfl (fun ls hl => ?_)
  refine lp2_l2 C hc hs pl plc t gn kd h0 hp hq p n P L e F e7 _ (fun c1 H locs ls hl1 e1 Z hl => ?_) 5 (e % n) _ H locs ls (Nat.mod_lt _ (by omega)) hlen_1 hbd_2 (lsT_ok _ F.1 e e7) rfl Z (lv_sub hl [2, 3, 1, 0] rfl)
  refine lv_iconst (v := nI 0) hx hb dX2_least_119 (by decide) ?_
  refine lv_istore (lv' := [(4, .int (nI 0)), (0, .ref hc), (2, .ref pl)]) hx hb dX2_least_120 hl (by decide) rfl (fun ls hl => ?_)
  refine lv_iconst (v := nI 0) hx hb dX2_least_122 (by decide) ?_
  refine lv_istore (lv' := [(5, .int (nI 0)), (4, .int (nI 0)), (0, .ref hc), (2, .ref pl)]) hx hb dX2_least_123 hl (by decide) rfl (fun ls hl => ?_)
  refine lp2_l3 C hc hs pl plc t gn kd h0 hp hq p n P L e F e7 c1 _ (fun H locs ls Z hl => ?_) 8 0 0 H locs ls rfl rfl Z (lv_sub hl [2, 3, 1, 0] rfl)
  refine lv_iload hx hb dX2_least_156 (lv_at hl 1 rfl) ?_
  exact zk_iret C hr hlocks Z ⟨by rw [e1]; rfl, c1, hl1, rfl⟩ (Nat.le_of_ble_eq_true rfl) (Nat.le_of_ble_eq_true rfl) dX2_least_158

set_option maxHeartbeats 4000000 in
theorem lp2_mk {pg : Program} {l : Launch} {ev : Env} {s : State} {mm : MethodId} {args : Array Value} {below : List Frame} {meth : Method} {cd : Code} {Q : State → Prop} {D : va_G} {g : G4} {A : Nat → Prop} (C : zk_C pg s mm cd args cX2_make 4 RX2 D g A) (hc hs pl plc t h0 hp hq x : Nat) (P L : List Nat) (kd : Nat) (F : zk_F x (zk_nn x) P L) (t3 : t ≤ 3) (kk : ∀ (gg : Nat) (c : List Nat) (H : Heap) (locs : List Loc) (ls : Array Slot), gg = gsq x (zk_nn x) (2 * t) → c.length = 8 → zk_Z D A s H locs [(hc, .inr (1, [.ref h0, .int (nI t), .int (nI gg), .int (nI kd), .ref hs, .ref pl])), (h0, .inr (2, [.int (nI (zk_nn x)), .ref hp, .ref hq])), (hp, .inl (g.1, 62, .inl (zk_ia P))), (hq, .inl (g.1, 32, .inl (zk_ia L))), (pl, .inr (3, [.ref plc])), (plc, .inl (g.1, 8, .inl (zk_ia c)))] → lv_has ls 4 [(0, .ref hc)] → W pg l ev (zk_R 2 0 0) s mm args below meth cd H locs 0 0 Q (F0 mm 72 ls [])) :
    ∀ (k : Nat) (e0 gg : Nat) (c : List Nat) (H : Heap) (locs : List Loc) (ls : Array Slot), (e0 + k = 2 * t) → (gg = gsq x (zk_nn x) e0) → (c.length = 8) → zk_Z D A s H locs [(hc, .inr (1, [.ref h0, .int (nI t), .int (nI gg), .int (nI kd), .ref hs, .ref pl])), (h0, .inr (2, [.int (nI (zk_nn x)), .ref hp, .ref hq])), (hp, .inl (g.1, 62, .inl (zk_ia P))), (hq, .inl (g.1, 32, .inl (zk_ia L))), (pl, .inr (3, [.ref plc])), (plc, .inl (g.1, 8, .inl (zk_ia c)))] → lv_has ls 4 [(0, .ref hc), (1, .int (nI x)), (2, .int (nI t)), (3, .int (nI (e0 + 1)))] → W pg l ev (zk_R 2 0 0) s mm args below meth cd H locs 0 0 Q (F0 mm 25 ls []) := by
  have hx := C.1.1
  have hb := C.1.2.1
  have hml := C.1.2.2.1
  have hown := C.1.2.2.2.1
  have hts := C.1.2.2.2.2
  have hn := F.n31
  intro k
  induction k with
  | zero =>
    intro e0 gg c H locs ls hik hg hl8 Z hl
    refine lv_iload_n hx hb dX2_make_25 rfl (lv_at hl 3 rfl) ?_
    refine lv_iconst (v := nI 2) hx hb dX2_make_26 (by decide) ?_
    refine lv_aload_n hx hb dX2_make_27 rfl (lv_at hl 0 rfl) ?_
    refine zk_get C Z in_X2 0 rfl rfl 1 (by decide) q93 rfl (v := .int (nI t)) rfl dX2_make_28 ?_
    refine nr_imul hx hb dX2_make_31 ?_
    refine nr_gt (tgt := 72) hx hb (by omega) (by omega) dX2_make_32 (by decide) (fun c_1 => ?_) (fun c_1 => absurd c_1 (by omega))
    exact kk gg c H locs ls (by rw [hg, show e0 = 2 * t by omega]) hl8 Z (lv_sub hl [0] rfl)
  | succ k ih =>
    intro e0 gg c H locs ls hik hg hl8 Z hl
    obtain ⟨hg1, hg2, hg3, -⟩ := gsq_ok _ F.1 e0 (by omega)
    have hls := (gsq_ok _ F.1 (e0 + 1) (by omega)).2.2.2
    dsimp only at hg1 hg2 hg3 hls
    rw [← hg] at hg1 hg2 hg3
    refine lv_iload_n hx hb dX2_make_25 rfl (lv_at hl 3 rfl) ?_
    refine lv_iconst (v := nI 2) hx hb dX2_make_26 (by decide) ?_
    refine lv_aload_n hx hb dX2_make_27 rfl (lv_at hl 0 rfl) ?_
    refine zk_get C Z in_X2 0 rfl rfl 1 (by decide) q93 rfl (v := .int (nI t)) rfl dX2_make_28 ?_
    refine nr_imul hx hb dX2_make_31 ?_
    refine nr_gt (tgt := 72) hx hb (by omega) (by omega) dX2_make_32 (by decide) (fun c_1 => absurd c_1 (by omega)) (fun c_1 => ?_)
    refine lv_aload_n hx hb dX2_make_35 rfl (lv_at hl 0 rfl) ?_
    refine zk_get C Z in_X2 0 rfl rfl 0 (by decide) q91 rfl (v := .ref h0) rfl dX2_make_36 ?_
    refine lv_aload_n hx hb dX2_make_39 rfl (lv_at hl 0 rfl) ?_
    refine zk_get C Z in_X2 0 rfl rfl 2 (by decide) q95 rfl (v := .int (nI gg)) rfl dX2_make_40 ?_
    refine lv_iload_n hx hb dX2_make_43 rfl (lv_at hl 3 rfl) ?_
    refine zk_callV (cells' := 0) (slots' := 0) (rest := []) (n := 2) (wr := [(hc, .inr (1, [.ref h0, .int (nI t), .int (nI gg), .int (nI kd), .ref hs, .ref pl])), (pl, .inr (3, [.ref plc])), (plc, .inl (g.1, 8, .inl (zk_ia c)))]) C Z (m3_at l D g h0 hp hq x (zk_nn x) P L gg (e0 + 1) F (by omega) (by omega)) [1, 2, 3] [0, 4, 5] rfl rfl (by decide) (by decide) (by decide) 1 2 rfl rfl rfl q307 q308 q309 q21 q310 (by decide +kernel) rfl (Nat.le_of_ble_eq_true rfl) (Nat.le_of_ble_eq_true rfl) (Nat.le_of_ble_eq_true rfl) (Nat.le_of_ble_eq_true rfl) rfl rfl hl.1 rfl (Nat.le_of_ble_eq_true rfl) dX2_make_44 (fun v w1 H locs hq Z => ?_)
    obtain ⟨rfl, rfl⟩ := hq
    have Z : zk_Z D A s H locs [(hc, .inr (1, [.ref h0, .int (nI t), .int (nI gg), .int (nI kd), .ref hs, .ref pl])), (h0, .inr (2, [.int (nI (zk_nn x)), .ref hp, .ref hq])), (hp, .inl (g.1, 62, .inl (zk_ia P))), (hq, .inl (g.1, 32, .inl (zk_ia L))), (pl, .inr (3, [.ref plc])), (plc, .inl (g.1, 8, .inl (zk_ia c)))] := Z.sub [0, 3, 4, 5, 1, 2] (by decide) rfl
    refine W.eq (g2 := F0 mm 47 ls [.int (nI (atv x (zk_nn x) gg (e0 + 1)))]) rfl ?_
    refine nr_eq0 (tgt := 66) hx hb (by have := atF_le F (wd := gg) (x := e0 + 1) (zk_nn x) 0 0 (Nat.zero_le _); have h9 : atv x (zk_nn x) gg (e0 + 1) ≤ zk_nn x := this; omega) dX2_make_47 (by decide) (fun c_1 => ?_) (fun c_1 => ?_)
    · refine nr_iinc (n := 1) (lv' := [(3, .int (nI (e0 + 1 + 1))), (0, .ref hc), (1, .int (nI x)), (2, .int (nI t))]) hx hb (by decide) dX2_make_66 hl (k := 3) rfl (by decide) rfl (fun ls hl => ?_)
      refine lv_goto (tgt := 25) hx hb dX2_make_69 (by decide) ?_
      exact ih (e0 + 1) gg c H locs ls (by omega) (by rw [gsq_s, mgF, ← hg, if_pos c_1]) hl8 Z (lv_sub hl [1, 2, 3, 0] rfl)
    · refine lv_aload_n hx hb dX2_make_50 rfl (lv_at hl 0 rfl) ?_
      refine lv_aload_n hx hb dX2_make_51 rfl (lv_at hl 0 rfl) ?_
      refine zk_get C Z in_X2 0 rfl rfl 2 (by decide) q95 rfl (v := .int (nI gg)) rfl dX2_make_52 ?_
      refine lv_aload_n hx hb dX2_make_55 rfl (lv_at hl 0 rfl) ?_
      refine lv_iload_n hx hb dX2_make_56 rfl (lv_at hl 3 rfl) ?_
      refine zk_callV (cells' := 0) (slots' := 0) (rest := [.int (nI gg), .ref hc]) (n := 1) (wr := []) C Z (m2_least l D g hc hs pl plc t gg kd h0 hp hq x (zk_nn x) P L (e0 + 1) F (by omega) c hl8) [0, 1, 2, 3, 4, 5] [] rfl rfl (by decide) (by decide) (by decide) 0 1 rfl rfl rfl q311 q313 qs1 q20 q314 (by decide +kernel) rfl (Nat.le_of_ble_eq_true rfl) (Nat.le_of_ble_eq_true rfl) (Nat.le_of_ble_eq_true rfl) (Nat.le_of_ble_eq_true rfl) rfl rfl hl.1 rfl (Nat.le_of_ble_eq_true rfl) dX2_make_57 (fun v w1 H locs hq Z => ?_)
      obtain ⟨rfl, c9, hl9, rfl⟩ := hq
      have Z : zk_Z D A s H locs [(hc, .inr (1, [.ref h0, .int (nI t), .int (nI gg), .int (nI kd), .ref hs, .ref pl])), (h0, .inr (2, [.int (nI (zk_nn x)), .ref hp, .ref hq])), (hp, .inl (g.1, 62, .inl (zk_ia P))), (hq, .inl (g.1, 32, .inl (zk_ia L))), (pl, .inr (3, [.ref plc])), (plc, .inl (g.1, 8, .inl (zk_ia c9)))] := Z.sub [0, 1, 2, 3, 4, 5] (by decide) rfl
      refine W.eq (g2 := F0 mm 60 ls [.int (nI (lst x (zk_nn x) (e0 + 1))), .int (nI gg), .ref hc]) rfl ?_
      refine zk_callS (cells' := 0) (slots' := 0) (rest := [.ref hc]) (n := 2) (wr := [(hc, .inr (1, [.ref h0, .int (nI t), .int (nI gg), .int (nI kd), .ref hs, .ref pl])), (h0, .inr (2, [.int (nI (zk_nn x)), .ref hp, .ref hq])), (hp, .inl (g.1, 62, .inl (zk_ia P))), (hq, .inl (g.1, 32, .inl (zk_ia L))), (pl, .inr (3, [.ref plc])), (plc, .inl (g.1, 8, .inl (zk_ia c9)))]) C Z (m2_prd l D g gg (lst x (zk_nn x) (e0 + 1)) (by omega) (by omega)) [] [0, 1, 2, 3, 4, 5] rfl rfl (by decide) (by decide) (by decide) q323 q324 q20 q325 (by decide +kernel) rfl (Nat.le_of_ble_eq_true rfl) (Nat.le_of_ble_eq_true rfl) (Nat.le_of_ble_eq_true rfl) (Nat.le_of_ble_eq_true rfl) rfl rfl hl.1 rfl (Nat.le_of_ble_eq_true rfl) dX2_make_60 (fun v w1 H locs hq Z => ?_)
      obtain ⟨rfl, rfl⟩ := hq
      have Z : zk_Z D A s H locs [(hc, .inr (1, [.ref h0, .int (nI t), .int (nI gg), .int (nI kd), .ref hs, .ref pl])), (h0, .inr (2, [.int (nI (zk_nn x)), .ref hp, .ref hq])), (hp, .inl (g.1, 62, .inl (zk_ia P))), (hq, .inl (g.1, 32, .inl (zk_ia L))), (pl, .inr (3, [.ref plc])), (plc, .inl (g.1, 8, .inl (zk_ia c9)))] := Z.sub [0, 1, 2, 3, 4, 5] (by decide) rfl
      refine W.eq (g2 := F0 mm 63 ls [.int (nI (prd gg (lst x (zk_nn x) (e0 + 1)))), .ref hc]) rfl ?_
      refine zk_put C Z in_X2 tyX2 tyX2_ok nmX2 0 rfl rfl 2 (by decide) q95 rfl rfl (v := .int (nI (prd gg (lst x (zk_nn x) (e0 + 1))))) rfl rfl (Nat.le_of_ble_eq_true rfl) dX2_make_63 (fun H locs Z => ?_)
      have Z : zk_Z D A s H locs [(hc, .inr (1, [.ref h0, .int (nI t), .int (nI (prd gg (lst x (zk_nn x) (e0 + 1)))), .int (nI kd), .ref hs, .ref pl])), (h0, .inr (2, [.int (nI (zk_nn x)), .ref hp, .ref hq])), (hp, .inl (g.1, 62, .inl (zk_ia P))), (hq, .inl (g.1, 32, .inl (zk_ia L))), (pl, .inr (3, [.ref plc])), (plc, .inl (g.1, 8, .inl (zk_ia c9)))] := Z
      refine nr_iinc (n := 1) (lv' := [(3, .int (nI (e0 + 1 + 1))), (0, .ref hc), (1, .int (nI x)), (2, .int (nI t))]) hx hb (by decide) dX2_make_66 hl (k := 3) rfl (by decide) rfl (fun ls hl => ?_)
      refine lv_goto (tgt := 25) hx hb dX2_make_69 (by decide) ?_
      exact ih (e0 + 1) (prd gg (lst x (zk_nn x) (e0 + 1))) c9 H locs ls (by omega) (by rw [gsq_s, mgF, ← hg, if_neg c_1]) hl9 Z (lv_sub hl [1, 2, 3, 0] rfl)

set_option maxHeartbeats 4000000 in
/-- Code.make, a primitive polynomial -/
theorem m2_make1 (l : Launch) (D : va_G) (g : G4) (hc hs pl plc t h0 hp hq x : Nat) (P L : List Nat) (g0 k0 t0 n0 : Nat) (c : List Nat) (hl8 : c.length = 8) (hP : P.length = 62) (hL : L.length = 32) (x8 : 8 ≤ x) (x64 : x < 64) (t3 : t ≤ 3) (hpr : (x, zk_nn x) ∈ zk_pr) : zk_M l yX2_make (ws_ yX2_make cX2_make 4 (some .boolean)) (zk_R 2 0 0) D g [.ref hc, .int (nI x), .int (nI t)] [(hc, .inr (1, [.ref h0, .int (nI t0), .int (nI g0), .int (nI k0), .ref hs, .ref pl])), (h0, .inr (2, [.int (nI n0), .ref hp, .ref hq])), (hp, .inl (g.1, 62, .inl (zk_ia P))), (hq, .inl (g.1, 32, .inl (zk_ia L))), (pl, .inr (3, [.ref plc])), (plc, .inl (g.1, 8, .inl (zk_ia c)))] (fun v w => v = some (.int (nI 1)) ∧ ∃ P1 L1 c1 : List Nat, zk_F x (zk_nn x) P1 L1 ∧ c1.length = 8 ∧ w = [(hc, .inr (1, [.ref h0, .int (nI t), .int (nI (gnr x (zk_nn x) t)), .int (nI (zk_nn x - Nat.log2 (gnr x (zk_nn x) t))), .ref hs, .ref pl])), (h0, .inr (2, [.int (nI (zk_nn x)), .ref hp, .ref hq])), (hp, .inl (g.1, 62, .inl (zk_ia P1))), (hq, .inl (g.1, 32, .inl (zk_ia L1))), (pl, .inr (3, [.ref plc])), (plc, .inl (g.1, 8, .inl (zk_ia c1)))]) := by
  refine zk_ofW (by decide) (Nat.le_of_ble_eq_true rfl) ?_
  intro pg ev s mm below meth cd A C hr hlocks hname Z ls hl
  have hx := C.1.1
  have hb := C.1.2.1
  have hml := C.1.2.2.1
  have hown := C.1.2.2.2.1
  have hts := C.1.2.2.2.2
  have hl : lv_has ls 4 [(0, .ref hc), (1, .int (nI x)), (2, .int (nI t))] := hl
  obtain ⟨H, hH⟩ : ∃ H, H = s.heap := ⟨_, rfl⟩
  obtain ⟨locs, hlocs⟩ : ∃ q : List Loc, q = [] := ⟨_, rfl⟩
  rw [← hH, ← hlocs] at Z ⊢
  refine lv_aload_n hx hb dX2_make_0 rfl (lv_at hl 0 rfl) ?_
  refine lv_iload_n hx hb dX2_make_1 rfl (lv_at hl 2 rfl) ?_
  refine zk_put C Z in_X2 tyX2 tyX2_ok nmX2 0 rfl rfl 1 (by decide) q93 rfl rfl (v := .int (nI t)) rfl rfl (Nat.le_of_ble_eq_true rfl) dX2_make_2 (fun H locs Z => ?_)
  have Z : zk_Z D A s H locs [(hc, .inr (1, [.ref h0, .int (nI t), .int (nI g0), .int (nI k0), .ref hs, .ref pl])), (h0, .inr (2, [.int (nI n0), .ref hp, .ref hq])), (hp, .inl (g.1, 62, .inl (zk_ia P))), (hq, .inl (g.1, 32, .inl (zk_ia L))), (pl, .inr (3, [.ref plc])), (plc, .inl (g.1, 8, .inl (zk_ia c)))] := Z
  refine lv_aload_n hx hb dX2_make_5 rfl (lv_at hl 0 rfl) ?_
  refine zk_get C Z in_X2 0 rfl rfl 0 (by decide) q91 rfl (v := .ref h0) rfl dX2_make_6 ?_
  refine lv_iload_n hx hb dX2_make_9 rfl (lv_at hl 1 rfl) ?_
  refine zk_callV (cells' := 0) (slots' := 0) (rest := []) (n := 1) (wr := [(hc, .inr (1, [.ref h0, .int (nI t), .int (nI g0), .int (nI k0), .ref hs, .ref pl])), (pl, .inr (3, [.ref plc])), (plc, .inl (g.1, 8, .inl (zk_ia c)))]) C Z (m3_make l D g h0 hp hq x n0 P L hP hL x8 x64) [1, 2, 3] [0, 4, 5] rfl rfl (by decide) (by decide) (by decide) 1 2 rfl rfl rfl q300 q301 q302 q21 q303 (by decide +kernel) rfl (Nat.le_of_ble_eq_true rfl) (Nat.le_of_ble_eq_true rfl) (Nat.le_of_ble_eq_true rfl) (Nat.le_of_ble_eq_true rfl) rfl rfl hl.1 rfl (Nat.le_of_ble_eq_true rfl) dX2_make_10 (fun v w1 H locs hq Z => ?_)
  obtain ⟨P1, L1, rfl, hP1, hL1, hy1, hy2⟩ := hq
  obtain ⟨rfl, F⟩ := hy1 hpr
  have Z : zk_Z D A s H locs [(hc, .inr (1, [.ref h0, .int (nI t), .int (nI g0), .int (nI k0), .ref hs, .ref pl])), (h0, .inr (2, [.int (nI (zk_nn x)), .ref hp, .ref hq])), (hp, .inl (g.1, 62, .inl (zk_ia P1))), (hq, .inl (g.1, 32, .inl (zk_ia L1))), (pl, .inr (3, [.ref plc])), (plc, .inl (g.1, 8, .inl (zk_ia c)))] := Z.sub [0, 3, 4, 5, 1, 2] (by decide) rfl
  refine W.eq (g2 := F0 mm 13 ls [.int (nI 1)]) rfl ?_
  refine nr_ne0 (tgt := 18) hx hb (by omega) dX2_make_13 (by decide) (fun c_1 => ?_) (fun c_1 => absurd c_1 (by decide))
  refine lv_aload_n hx hb dX2_make_18 rfl (lv_at hl 0 rfl) ?_
  refine lv_iconst (v := nI 1) hx hb dX2_make_19 (by decide) ?_
  refine zk_put C Z in_X2 tyX2 tyX2_ok nmX2 0 rfl rfl 2 (by decide) q95 rfl rfl (v := .int (nI 1)) rfl rfl (Nat.le_of_ble_eq_true rfl) dX2_make_20 (fun H locs Z => ?_)
  have Z : zk_Z D A s H locs [(hc, .inr (1, [.ref h0, .int (nI t), .int (nI 1), .int (nI k0), .ref hs, .ref pl])), (h0, .inr (2, [.int (nI (zk_nn x)), .ref hp, .ref hq])), (hp, .inl (g.1, 62, .inl (zk_ia P1))), (hq, .inl (g.1, 32, .inl (zk_ia L1))), (pl, .inr (3, [.ref plc])), (plc, .inl (g.1, 8, .inl (zk_ia c)))] := Z
  refine lv_iconst (v := nI 1) hx hb dX2_make_23 (by decide) ?_
  refine lv_istore_n (lv' := [(3, .int (nI 1)), (0, .ref hc), (1, .int (nI x)), (2, .int (nI t))]) hx hb dX2_make_24 rfl hl (by decide) rfl (fun ls hl => ?_)
  refine lp2_mk C hc hs pl plc t h0 hp hq x P1 L1 k0 F t3 (fun gg c H locs ls hg hl8 Z hl => ?_) (2 * t) 0 1 c H locs ls (by omega) rfl hl8 Z (lv_sub hl [1, 2, 3, 0] rfl)
  obtain ⟨hg1, hg2, hg3, -⟩ := gsq_ok _ F.1 (2 * t) (by omega)
  dsimp only at hg1 hg2 hg3
  rw [← hg] at hg1 hg2 hg3
  refine lv_aload_n hx hb dX2_make_72 rfl (lv_at hl 0 rfl) ?_
  refine lv_aload_n hx hb dX2_make_73 rfl (lv_at hl 0 rfl) ?_
  refine zk_get C Z in_X2 0 rfl rfl 0 (by decide) q91 rfl (v := .ref h0) rfl dX2_make_74 ?_
  refine zk_getN C Z in_X3 1 rfl rfl 0 (by decide) q59 rfl (v := .int (nI (zk_nn x))) rfl dX2_make_77 ?_
  refine lv_aload_n hx hb dX2_make_80 rfl (lv_at hl 0 rfl) ?_
  refine zk_get C Z in_X2 0 rfl rfl 2 (by decide) q95 rfl (v := .int (nI gg)) rfl dX2_make_81 ?_
  refine zk_callSN (cells' := 0) (slots' := 0) (rest := [.int (nI (zk_nn x)), .ref hc]) (n := 1) (wr := [(hc, .inr (1, [.ref h0, .int (nI t), .int (nI gg), .int (nI k0), .ref hs, .ref pl])), (h0, .inr (2, [.int (nI (zk_nn x)), .ref hp, .ref hq])), (hp, .inl (g.1, 62, .inl (zk_ia P1))), (hq, .inl (g.1, 32, .inl (zk_ia L1))), (pl, .inr (3, [.ref plc])), (plc, .inl (g.1, 8, .inl (zk_ia c)))]) C Z (m1_degreeOf l D g gg hg2 (by omega)) [] [0, 1, 2, 3, 4, 5] rfl rfl (by decide) (by decide) (by decide) q326 q305 q19 q306 (by decide +kernel) rfl (Nat.le_of_ble_eq_true rfl) (Nat.le_of_ble_eq_true rfl) (Nat.le_of_ble_eq_true rfl) (Nat.le_of_ble_eq_true rfl) rfl rfl hl.1 rfl (Nat.le_of_ble_eq_true rfl) dX2_make_84 (fun v w1 H locs hq Z => ?_)
  obtain ⟨rfl, rfl⟩ := hq
  have Z : zk_Z D A s H locs [(hc, .inr (1, [.ref h0, .int (nI t), .int (nI gg), .int (nI k0), .ref hs, .ref pl])), (h0, .inr (2, [.int (nI (zk_nn x)), .ref hp, .ref hq])), (hp, .inl (g.1, 62, .inl (zk_ia P1))), (hq, .inl (g.1, 32, .inl (zk_ia L1))), (pl, .inr (3, [.ref plc])), (plc, .inl (g.1, 8, .inl (zk_ia c)))] := Z.sub [0, 1, 2, 3, 4, 5] (by decide) rfl
  refine W.eq (g2 := F0 mm 87 ls [.int (nI (Nat.log2 gg)), .int (nI (zk_nn x)), .ref hc]) rfl ?_
  refine nr_isub hx hb (by omega) dX2_make_87 ?_
  refine zk_put C Z in_X2 tyX2 tyX2_ok nmX2 0 rfl rfl 3 (by decide) q97 rfl rfl (v := .int (nI ((zk_nn x) - (Nat.log2 gg)))) rfl rfl (Nat.le_of_ble_eq_true rfl) dX2_make_88 (fun H locs Z => ?_)
  have Z : zk_Z D A s H locs [(hc, .inr (1, [.ref h0, .int (nI t), .int (nI gg), .int (nI ((zk_nn x) - (Nat.log2 gg))), .ref hs, .ref pl])), (h0, .inr (2, [.int (nI (zk_nn x)), .ref hp, .ref hq])), (hp, .inl (g.1, 62, .inl (zk_ia P1))), (hq, .inl (g.1, 32, .inl (zk_ia L1))), (pl, .inr (3, [.ref plc])), (plc, .inl (g.1, 8, .inl (zk_ia c)))] := Z
  refine lv_iconst (v := nI 1) hx hb dX2_make_91 (by decide) ?_
  exact zk_zret C hr hlocks Z rfl ⟨rfl, P1, L1, c, F, hl8, by rw [hg]; rfl⟩ (Nat.le_of_ble_eq_true rfl) (Nat.le_of_ble_eq_true rfl) dX2_make_92

set_option maxHeartbeats 4000000 in
/-- Code.make, another polynomial -/
theorem m2_make0 (l : Launch) (D : va_G) (g : G4) (hc hs pl plc t h0 hp hq x : Nat) (P L : List Nat) (g0 k0 t0 n0 : Nat) (c : List Nat) (hl8 : c.length = 8) (hP : P.length = 62) (hL : L.length = 32) (x8 : 8 ≤ x) (x64 : x < 64) (hpr : (x, zk_nn x) ∉ zk_pr) : zk_M l yX2_make (ws_ yX2_make cX2_make 4 (some .boolean)) (zk_R 2 0 0) D g [.ref hc, .int (nI x), .int (nI t)] [(hc, .inr (1, [.ref h0, .int (nI t0), .int (nI g0), .int (nI k0), .ref hs, .ref pl])), (h0, .inr (2, [.int (nI n0), .ref hp, .ref hq])), (hp, .inl (g.1, 62, .inl (zk_ia P))), (hq, .inl (g.1, 32, .inl (zk_ia L))), (pl, .inr (3, [.ref plc])), (plc, .inl (g.1, 8, .inl (zk_ia c)))] (fun v w => v = some (.int (nI 0)) ∧ ∃ P1 L1 : List Nat, P1.length = 62 ∧ L1.length = 32 ∧ w = [(hc, .inr (1, [.ref h0, .int (nI t), .int (nI g0), .int (nI k0), .ref hs, .ref pl])), (h0, .inr (2, [.int (nI (zk_nn x)), .ref hp, .ref hq])), (hp, .inl (g.1, 62, .inl (zk_ia P1))), (hq, .inl (g.1, 32, .inl (zk_ia L1))), (pl, .inr (3, [.ref plc])), (plc, .inl (g.1, 8, .inl (zk_ia c)))]) := by
  refine zk_ofW (by decide) (Nat.le_of_ble_eq_true rfl) ?_
  intro pg ev s mm below meth cd A C hr hlocks hname Z ls hl
  have hx := C.1.1
  have hb := C.1.2.1
  have hml := C.1.2.2.1
  have hown := C.1.2.2.2.1
  have hts := C.1.2.2.2.2
  have hl : lv_has ls 4 [(0, .ref hc), (1, .int (nI x)), (2, .int (nI t))] := hl
  obtain ⟨H, hH⟩ : ∃ H, H = s.heap := ⟨_, rfl⟩
  obtain ⟨locs, hlocs⟩ : ∃ q : List Loc, q = [] := ⟨_, rfl⟩
  rw [← hH, ← hlocs] at Z ⊢
  refine lv_aload_n hx hb dX2_make_0 rfl (lv_at hl 0 rfl) ?_
  refine lv_iload_n hx hb dX2_make_1 rfl (lv_at hl 2 rfl) ?_
  refine zk_put C Z in_X2 tyX2 tyX2_ok nmX2 0 rfl rfl 1 (by decide) q93 rfl rfl (v := .int (nI t)) rfl rfl (Nat.le_of_ble_eq_true rfl) dX2_make_2 (fun H locs Z => ?_)
  have Z : zk_Z D A s H locs [(hc, .inr (1, [.ref h0, .int (nI t), .int (nI g0), .int (nI k0), .ref hs, .ref pl])), (h0, .inr (2, [.int (nI n0), .ref hp, .ref hq])), (hp, .inl (g.1, 62, .inl (zk_ia P))), (hq, .inl (g.1, 32, .inl (zk_ia L))), (pl, .inr (3, [.ref plc])), (plc, .inl (g.1, 8, .inl (zk_ia c)))] := Z
  refine lv_aload_n hx hb dX2_make_5 rfl (lv_at hl 0 rfl) ?_
  refine zk_get C Z in_X2 0 rfl rfl 0 (by decide) q91 rfl (v := .ref h0) rfl dX2_make_6 ?_
  refine lv_iload_n hx hb dX2_make_9 rfl (lv_at hl 1 rfl) ?_
  refine zk_callV (cells' := 0) (slots' := 0) (rest := []) (n := 1) (wr := [(hc, .inr (1, [.ref h0, .int (nI t), .int (nI g0), .int (nI k0), .ref hs, .ref pl])), (pl, .inr (3, [.ref plc])), (plc, .inl (g.1, 8, .inl (zk_ia c)))]) C Z (m3_make l D g h0 hp hq x n0 P L hP hL x8 x64) [1, 2, 3] [0, 4, 5] rfl rfl (by decide) (by decide) (by decide) 1 2 rfl rfl rfl q300 q301 q302 q21 q303 (by decide +kernel) rfl (Nat.le_of_ble_eq_true rfl) (Nat.le_of_ble_eq_true rfl) (Nat.le_of_ble_eq_true rfl) (Nat.le_of_ble_eq_true rfl) rfl rfl hl.1 rfl (Nat.le_of_ble_eq_true rfl) dX2_make_10 (fun v w1 H locs hq Z => ?_)
  obtain ⟨P1, L1, rfl, hP1, hL1, hy1, hy2⟩ := hq
  obtain rfl := hy2 hpr
  have Z : zk_Z D A s H locs [(hc, .inr (1, [.ref h0, .int (nI t), .int (nI g0), .int (nI k0), .ref hs, .ref pl])), (h0, .inr (2, [.int (nI (zk_nn x)), .ref hp, .ref hq])), (hp, .inl (g.1, 62, .inl (zk_ia P1))), (hq, .inl (g.1, 32, .inl (zk_ia L1))), (pl, .inr (3, [.ref plc])), (plc, .inl (g.1, 8, .inl (zk_ia c)))] := Z.sub [0, 3, 4, 5, 1, 2] (by decide) rfl
  refine W.eq (g2 := F0 mm 13 ls [.int (nI 0)]) rfl ?_
  refine nr_ne0 (tgt := 18) hx hb (by omega) dX2_make_13 (by decide) (fun c_1 => absurd c_1 (fun q => q rfl)) (fun c_1 => ?_)
  refine lv_iconst (v := nI 0) hx hb dX2_make_16 (by decide) ?_
  exact zk_zret C hr hlocks Z rfl ⟨rfl, P1, L1, hP1, hL1, rfl⟩ (Nat.le_of_ble_eq_true rfl) (Nat.le_of_ble_eq_true rfl) dX2_make_17

