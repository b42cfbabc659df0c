/-! ===== NoisyCodes: mend, decode, load, save, encode ===== -/
set_option maxRecDepth 100000
noncomputable def mdr (w p n t wd : Nat) : Nat := (mdd w p n t wd).getD 0
noncomputable def mdC (w p n t dep : Nat) (Ws Cs : List Nat) : List Nat := zk_it (fun j C => C.set j (mdr w p n t (Ws.getD j 0))) dep 0 Cs
noncomputable def mdM (w p n t dep sh : Nat) (Ws Ms : List Nat) : List Nat := zk_it (fun j M => M.set j (mdr w p n t (Ws.getD j 0) >>> sh)) dep 0 Ms
noncomputable def mdN (w p n t dep : Nat) (Ws : List Nat) : Nat := zk_it (fun j s => s + bct (mdr w p n t (Ws.getD j 0) ^^^ Ws.getD j 0)) dep 0 0
theorem mdr_lt {w p n t wd : Nat} (hn : n ≤ 31) (h : wd < 2 ^ 31) (hm : mdd w p n t wd = some (mdr w p n t wd)) : mdr w p n t wd < 2 ^ 31 := by
  by_cases h0 : rgt p n t wd = 0
  · rw [← (mdd_2 hm h0).2.2]
    refine Nat.xor_lt_two_pow h ?_
    exact Nat.lt_of_lt_of_le (ers_lt _ _ _) (Nat.pow_le_pow_right (by decide) hn)
  · rw [← mdd_1 hm h0]; exact h
theorem zk_upto {P : Nat → Prop} {D : List Nat} {w r : Nat} {f : Nat → Nat} (hw : w < D.length) (hr : r = f w) (h : ∀ j, j < w → D.getD j 0 = f j) : ∀ j, j < w + 1 → (D.set w r).getD j 0 = f j := by
  intro j hj
  by_cases e : w = j
  · subst e; rw [zk_sg hw]; exact hr
  · rw [zk_sgn e]; exact h j (by omega)
set_option maxHeartbeats 4000000 in
theorem lp1_mdEA {pg : Program} {l : Launch} {ev : Env} {s : State} {mm : MethodId} {args : Array Value} {below : List Frame} {meth : Method} {cd : Code} {Q : State → Prop} {D : va_G} {g : G4} {A : Nat → Prop} (C : zk_C pg s mm cd args cX1_mend 5 RX1 D g A) (hn co tr dep ms ch md kp wy : Nat) (h0 hs pl plc t gn kd : Nat) (hp hq p n : Nat) (P L : List Nat) (F : zk_F p n P L) (t1 : 1 ≤ t) (t3 : t ≤ 3) (d4 : dep ≤ 4) (kdn : kd ≤ n) (he hrw : Nat) (Ms Cs : List Nat) (hMs : Ms.length = 4) (hCs : Cs.length = 4) (up : Nat) (hup : up ≤ dep) (hW : ∀ j, Cs.getD j 0 < 2 ^ 31) (hall : ∀ j, j < up → mdd 0 p n t (Cs.getD j 0) = some (mdr 0 p n t (Cs.getD j 0))) (finN : Nat) (kk : ∀ (Ds S c : List Nat) (r0 r1 r2 : Nat) (M : List (List Nat)) (H : Heap) (locs : List Loc) (ls : Array Slot), Ds.length = 4 → S.length = 7 → S.getD 0 0 = 0 → c.length = 8 → zk_ml M → (∀ j, j < up → Ds.getD j 0 = mdr 0 p n t (Cs.getD j 0)) → zk_Z D A s H locs [(hn, .inr (0, [.ref co, .ref tr, .int (nI 1), .int (nI dep), .ref ms, .ref ch, .ref md, .ref kp, .ref wy])), (co, .inr (1, [.ref h0, .int (nI t), .int (nI gn), .int (nI kd), .ref hs, .ref pl])), (h0, .inr (2, [.int (nI n), .ref hp, .ref hq])), (hp, .inl (g.1, 62, .inl (zk_ia P))), (hq, .inl (g.1, 32, .inl (zk_ia L))), (hs, .inl (g.1, 7, .inl (zk_ia S))), (pl, .inr (3, [.ref plc])), (plc, .inl (g.1, 8, .inl (zk_ia c))), (he, .inr (4, [.ref hrw])), (hrw, .inl (g.2.2.1, 3, .inr (.inr (.inr (.inr (zk_ra [r0, r1, r2])))))), (r0, .inl (g.1, 4, .inl (zk_ia (M.getD 0 [])))), (r1, .inl (g.1, 4, .inl (zk_ia (M.getD 1 [])))), (r2, .inl (g.1, 4, .inl (zk_ia (M.getD 2 [])))), (ms, .inl (g.1, 4, .inl (zk_ia Ms))), (ch, .inl (g.1, 4, .inl (zk_ia Cs))), (md, .inl (g.1, 4, .inl (zk_ia Ds)))] → lv_has ls 5 [(0, .ref hn), (1, .ref ch), (2, .ref he), (3, .int (nI finN)), (4, .int (nI up))] → W pg l ev (zk_R 7 1 6) s mm args below meth cd H locs 0 0 Q (F0 mm 5 ls [])) :
    ∀ (k : Nat) (w : Nat) (Ds S c : List Nat) (nn : Nat) (r0 r1 r2 : Nat) (M : List (List Nat)) (H : Heap) (locs : List Loc) (ls : Array Slot), (w + k = up) → (Ds.length = 4) → (S.length = 7) → (S.getD 0 0 = 0) → (c.length = 8) → (zk_ml M) → (∀ j, j < w → Ds.getD j 0 = mdr 0 p n t (Cs.getD j 0)) → (zk_it (fun j s => s + bct (mdr 0 p n t (Cs.getD j 0) ^^^ Cs.getD j 0)) k w nn = finN) → zk_Z D A s H locs [(hn, .inr (0, [.ref co, .ref tr, .int (nI 1), .int (nI dep), .ref ms, .ref ch, .ref md, .ref kp, .ref wy])), (co, .inr (1, [.ref h0, .int (nI t), .int (nI gn), .int (nI kd), .ref hs, .ref pl])), (h0, .inr (2, [.int (nI n), .ref hp, .ref hq])), (hp, .inl (g.1, 62, .inl (zk_ia P))), (hq, .inl (g.1, 32, .inl (zk_ia L))), (hs, .inl (g.1, 7, .inl (zk_ia S))), (pl, .inr (3, [.ref plc])), (plc, .inl (g.1, 8, .inl (zk_ia c))), (he, .inr (4, [.ref hrw])), (hrw, .inl (g.2.2.1, 3, .inr (.inr (.inr (.inr (zk_ra [r0, r1, r2])))))), (r0, .inl (g.1, 4, .inl (zk_ia (M.getD 0 [])))), (r1, .inl (g.1, 4, .inl (zk_ia (M.getD 1 [])))), (r2, .inl (g.1, 4, .inl (zk_ia (M.getD 2 [])))), (ms, .inl (g.1, 4, .inl (zk_ia Ms))), (ch, .inl (g.1, 4, .inl (zk_ia Cs))), (md, .inl (g.1, 4, .inl (zk_ia Ds)))] → lv_has ls 5 [(0, .ref hn), (1, .ref ch), (2, .ref he), (3, .int (nI nn)), (4, .int (nI w))] → W pg l ev (zk_R 7 1 6) s mm args below meth cd H locs 0 0 Q (F0 mm 5 ls []) := by
  have hx := C.1.1
  have hb := C.1.2.1
  have hml := C.1.2.2.1
  have hown := C.1.2.2.2.1
  have hts := C.1.2.2.2.2
  have hn31 := F.n31
  intro k
  induction k with
  | zero =>
    intro w Ds S c nn r0 r1 r2 M H locs ls hik hD hS hS0 hl8 hM hDs hfin Z hl
    have hw : w = up := by omega
    subst hw
    have hfin : nn = finN := hfin
    subst hfin
    exact kk Ds S c r0 r1 r2 M H locs ls hD hS hS0 hl8 hM hDs Z hl
  | succ k ih =>
    intro w Ds S c nn r0 r1 r2 M H locs ls hik hD hS hS0 hl8 hM hDs hfin Z hl
    refine lv_iload hx hb dX1_mend_5 (lv_at hl 4 rfl) ?_
    refine lv_aload_n hx hb dX1_mend_7 rfl (lv_at hl 0 rfl) ?_
    refine zk_get C Z in_X1 0 rfl rfl 3 (by decide) q168 rfl (v := .int (nI dep)) rfl dX1_mend_8 ?_
    refine nr_ge (tgt := 57) hx hb (by omega) (by omega) dX1_mend_11 (by decide) (fun c_1 => absurd c_1 (by omega)) (fun c_1 => ?_)
    refine lv_aload_n hx hb dX1_mend_14 rfl (lv_at hl 0 rfl) ?_
    refine zk_get C Z in_X1 0 rfl rfl 6 (by decide) q171 rfl (v := .ref md) rfl dX1_mend_15 ?_
    refine lv_iload hx hb dX1_mend_18 (lv_at hl 4 rfl) ?_
    refine lv_aload_n hx hb dX1_mend_20 rfl (lv_at hl 0 rfl) ?_
    refine zk_get C Z in_X1 0 rfl rfl 0 (by decide) q165 rfl (v := .ref co) rfl dX1_mend_21 ?_
    refine lv_aload_n hx hb dX1_mend_24 rfl (lv_at hl 1 rfl) ?_
    refine lv_iload hx hb dX1_mend_25 (lv_at hl 4 rfl) ?_
    refine zk_iald C Z 14 rfl (by decide) (by omega) dX1_mend_27 ?_
    refine lv_aload_n hx hb dX1_mend_28 rfl (lv_at hl 2 rfl) ?_
    refine zk_callV (cells' := 0) (slots' := 0) (rest := [.int (nI w), .ref md]) (n := 2) (wr := [(hn, .inr (0, [.ref co, .ref tr, .int (nI 1), .int (nI dep), .ref ms, .ref ch, .ref md, .ref kp, .ref wy])), (ms, .inl (g.1, 4, .inl (zk_ia Ms))), (ch, .inl (g.1, 4, .inl (zk_ia Cs))), (md, .inl (g.1, 4, .inl (zk_ia Ds)))]) C Z (m2_mdE l D g co h0 hs pl plc t gn kd hp hq p n P L F t1 t3 he hrw r0 r1 r2 M hM (Cs.getD w 0) (hW _) S c hS hS0 hl8 (mdr 0 p n t (Cs.getD w 0)) (hall w (by omega))) [1, 2, 3, 4, 5, 6, 7, 8, 9, 10, 11, 12] [0, 13, 14, 15] rfl rfl (by decide) (by decide) (by decide) 1 1 rfl rfl rfl q498 q499 q500 q20 q501 (by decide +kernel) rfl (Nat.le_of_ble_eq_true rfl) (Nat.le_of_ble_eq_true rfl) (Nat.le_of_ble_eq_true rfl) (Nat.le_of_ble_eq_true rfl) rfl rfl hl.1 rfl (Nat.le_of_ble_eq_true rfl) dX1_mend_29 (fun v w1 H locs hq Z => ?_)
    obtain ⟨rfl, S1, c1, s0, s1, s2, M1, hS1, hS10, hc1, hM1, rfl⟩ := hq
    have Z : zk_Z D A s H locs [(hn, .inr (0, [.ref co, .ref tr, .int (nI 1), .int (nI dep), .ref ms, .ref ch, .ref md, .ref kp, .ref wy])), (co, .inr (1, [.ref h0, .int (nI t), .int (nI gn), .int (nI kd), .ref hs, .ref pl])), (h0, .inr (2, [.int (nI n), .ref hp, .ref hq])), (hp, .inl (g.1, 62, .inl (zk_ia P))), (hq, .inl (g.1, 32, .inl (zk_ia L))), (hs, .inl (g.1, 7, .inl (zk_ia S1))), (pl, .inr (3, [.ref plc])), (plc, .inl (g.1, 8, .inl (zk_ia c1))), (he, .inr (4, [.ref hrw])), (hrw, .inl (g.2.2.1, 3, .inr (.inr (.inr (.inr (zk_ra [s0, s1, s2])))))), (s0, .inl (g.1, 4, .inl (zk_ia (M1.getD 0 [])))), (s1, .inl (g.1, 4, .inl (zk_ia (M1.getD 1 [])))), (s2, .inl (g.1, 4, .inl (zk_ia (M1.getD 2 [])))), (ms, .inl (g.1, 4, .inl (zk_ia Ms))), (ch, .inl (g.1, 4, .inl (zk_ia Cs))), (md, .inl (g.1, 4, .inl (zk_ia Ds)))] := Z.sub [0, 4, 5, 6, 7, 8, 9, 10, 11, 12, 13, 14, 15, 1, 2, 3] (by decide) rfl
    refine W.eq (g2 := F0 mm 32 ls [.int (nI (mdr 0 p n t (Cs.getD w 0))), .int (nI w), .ref md]) rfl ?_
    refine zk_iast C Z 15 rfl (by decide) (by omega) hD dX1_mend_32 (fun H locs Z => ?_)
    have hlen_2 : (Ds.set w (mdr 0 p n t (Cs.getD w 0))).length = 4 := by rw [List.length_set]; exact hD
    have Z : zk_Z D A s H locs [(hn, .inr (0, [.ref co, .ref tr, .int (nI 1), .int (nI dep), .ref ms, .ref ch, .ref md, .ref kp, .ref wy])), (co, .inr (1, [.ref h0, .int (nI t), .int (nI gn), .int (nI kd), .ref hs, .ref pl])), (h0, .inr (2, [.int (nI n), .ref hp, .ref hq])), (hp, .inl (g.1, 62, .inl (zk_ia P))), (hq, .inl (g.1, 32, .inl (zk_ia L))), (hs, .inl (g.1, 7, .inl (zk_ia S1))), (pl, .inr (3, [.ref plc])), (plc, .inl (g.1, 8, .inl (zk_ia c1))), (he, .inr (4, [.ref hrw])), (hrw, .inl (g.2.2.1, 3, .inr (.inr (.inr (.inr (zk_ra [s0, s1, s2])))))), (s0, .inl (g.1, 4, .inl (zk_ia (M1.getD 0 [])))), (s1, .inl (g.1, 4, .inl (zk_ia (M1.getD 1 [])))), (s2, .inl (g.1, 4, .inl (zk_ia (M1.getD 2 [])))), (ms, .inl (g.1, 4, .inl (zk_ia Ms))), (ch, .inl (g.1, 4, .inl (zk_ia Cs))), (md, .inl (g.1, 4, .inl (zk_ia (Ds.set w (mdr 0 p n t (Cs.getD w 0))))))] := Z
    refine lv_iload_n hx hb dX1_mend_33 rfl (lv_at hl 3 rfl) ?_
    refine lv_aload_n hx hb dX1_mend_34 rfl (lv_at hl 0 rfl) ?_
    refine zk_get C Z in_X1 0 rfl rfl 6 (by decide) q171 rfl (v := .ref md) rfl dX1_mend_35 ?_
    refine lv_iload hx hb dX1_mend_38 (lv_at hl 4 rfl) ?_
    refine zk_iald C Z 15 rfl (by decide) (by omega) dX1_mend_40 ?_
    rw [show (Ds.set w (mdr 0 p n t (Cs.getD w 0))).getD w 0 = mdr 0 p n t (Cs.getD w 0) from zk_sg (by omega)]
    refine lv_aload_n hx hb dX1_mend_41 rfl (lv_at hl 1 rfl) ?_
    refine lv_iload hx hb dX1_mend_42 (lv_at hl 4 rfl) ?_
    refine zk_iald C Z 14 rfl (by decide) (by omega) dX1_mend_44 ?_
    refine nr_ixor hx hb dX1_mend_45 ?_
    refine zk_callS (cells' := 0) (slots' := 0) (rest := [.int (nI nn)]) (n := 1) (wr := [(hn, .inr (0, [.ref co, .ref tr, .int (nI 1), .int (nI dep), .ref ms, .ref ch, .ref md, .ref kp, .ref wy])), (co, .inr (1, [.ref h0, .int (nI t), .int (nI gn), .int (nI kd), .ref hs, .ref pl])), (h0, .inr (2, [.int (nI n), .ref hp, .ref hq])), (hp, .inl (g.1, 62, .inl (zk_ia P))), (hq, .inl (g.1, 32, .inl (zk_ia L))), (hs, .inl (g.1, 7, .inl (zk_ia S1))), (pl, .inr (3, [.ref plc])), (plc, .inl (g.1, 8, .inl (zk_ia c1))), (he, .inr (4, [.ref hrw])), (hrw, .inl (g.2.2.1, 3, .inr (.inr (.inr (.inr (zk_ra [s0, s1, s2])))))), (s0, .inl (g.1, 4, .inl (zk_ia (M1.getD 0 [])))), (s1, .inl (g.1, 4, .inl (zk_ia (M1.getD 1 [])))), (s2, .inl (g.1, 4, .inl (zk_ia (M1.getD 2 [])))), (ms, .inl (g.1, 4, .inl (zk_ia Ms))), (ch, .inl (g.1, 4, .inl (zk_ia Cs))), (md, .inl (g.1, 4, .inl (zk_ia (Ds.set w (mdr 0 p n t (Cs.getD w 0))))))]) C Z (mJ_bc l D g ((mdr 0 p n t (Cs.getD w 0)) ^^^ (Cs.getD w 0)) (Nat.xor_lt_two_pow (mdr_lt hn31.2 (hW _) (hall w (by omega))) (hW _))) [] [0, 1, 2, 3, 4, 5, 6, 7, 8, 9, 10, 11, 12, 13, 14, 15] rfl rfl (by decide) (by decide) (by decide) q447 q448 q36 q449 (by decide +kernel) rfl (Nat.le_of_ble_eq_true rfl) (Nat.le_of_ble_eq_true rfl) (Nat.le_of_ble_eq_true rfl) (Nat.le_of_ble_eq_true rfl) rfl rfl hl.1 rfl (Nat.le_of_ble_eq_true rfl) dX1_mend_46 (fun v w1 H locs hq Z => ?_)
    obtain ⟨rfl, rfl⟩ := hq
    have Z : zk_Z D A s H locs [(hn, .inr (0, [.ref co, .ref tr, .int (nI 1), .int (nI dep), .ref ms, .ref ch, .ref md, .ref kp, .ref wy])), (co, .inr (1, [.ref h0, .int (nI t), .int (nI gn), .int (nI kd), .ref hs, .ref pl])), (h0, .inr (2, [.int (nI n), .ref hp, .ref hq])), (hp, .inl (g.1, 62, .inl (zk_ia P))), (hq, .inl (g.1, 32, .inl (zk_ia L))), (hs, .inl (g.1, 7, .inl (zk_ia S1))), (pl, .inr (3, [.ref plc])), (plc, .inl (g.1, 8, .inl (zk_ia c1))), (he, .inr (4, [.ref hrw])), (hrw, .inl (g.2.2.1, 3, .inr (.inr (.inr (.inr (zk_ra [s0, s1, s2])))))), (s0, .inl (g.1, 4, .inl (zk_ia (M1.getD 0 [])))), (s1, .inl (g.1, 4, .inl (zk_ia (M1.getD 1 [])))), (s2, .inl (g.1, 4, .inl (zk_ia (M1.getD 2 [])))), (ms, .inl (g.1, 4, .inl (zk_ia Ms))), (ch, .inl (g.1, 4, .inl (zk_ia Cs))), (md, .inl (g.1, 4, .inl (zk_ia (Ds.set w (mdr 0 p n t (Cs.getD w 0))))))] := Z.sub [0, 1, 2, 3, 4, 5, 6, 7, 8, 9, 10, 11, 12, 13, 14, 15] (by decide) rfl
    refine W.eq (g2 := F0 mm 49 ls [.int (nI (bct ((mdr 0 p n t (Cs.getD w 0)) ^^^ (Cs.getD w 0)))), .int (nI nn)]) rfl ?_
    refine nr_iadd hx hb dX1_mend_49 ?_
    refine lv_istore_n (lv' := [(3, .int (nI (nn + (bct ((mdr 0 p n t (Cs.getD w 0)) ^^^ (Cs.getD w 0)))))), (0, .ref hn), (1, .ref ch), (2, .ref he), (4, .int (nI w))]) hx hb dX1_mend_50 rfl hl (by decide) rfl (fun ls hl => ?_)
    refine nr_iinc (n := 1) (lv' := [(4, .int (nI (w + 1))), (3, .int (nI (nn + (bct ((mdr 0 p n t (Cs.getD w 0)) ^^^ (Cs.getD w 0)))))), (0, .ref hn), (1, .ref ch), (2, .ref he)]) hx hb (by decide) dX1_mend_51 hl (k := 4) rfl (by decide) rfl (fun ls hl => ?_)
    refine lv_goto (tgt := 5) hx hb dX1_mend_54 (by decide) ?_
    exact ih (w + 1) (Ds.set w (mdr 0 p n t (Cs.getD w 0))) S1 c1 (nn + (bct ((mdr 0 p n t (Cs.getD w 0)) ^^^ (Cs.getD w 0)))) s0 s1 s2 M1 H locs ls (by omega) hlen_2 hS1 hS10 hc1 hM1 (zk_upto (P := fun _ => True) (by omega) rfl hDs) hfin Z (lv_sub hl [2, 3, 4, 1, 0] rfl)

set_option maxHeartbeats 4000000 in
theorem lp1_meEA {pg : Program} {l : Launch} {ev : Env} {s : State} {mm : MethodId} {args : Array Value} {below : List Frame} {meth : Method} {cd : Code} {Q : State → Prop} {D : va_G} {g : G4} {A : Nat → Prop} (C : zk_C pg s mm cd args cX1_mend 5 RX1 D g A) (hn co tr dep ms ch md kp wy : Nat) (h0 hs pl plc t gn kd : Nat) (hp hq p n : Nat) (P L : List Nat) (F : zk_F p n P L) (t1 : 1 ≤ t) (t3 : t ≤ 3) (d4 : dep ≤ 4) (kdn : kd ≤ n) (he hrw : Nat) (r0 r1 r2 : Nat) (M : List (List Nat)) (S c Ds Ws : List Nat) (hD31 : ∀ j, j < dep → mdr 0 p n t (Ws.getD j 0) < 2 ^ 31) (hDs : ∀ j, j < dep → Ds.getD j 0 = mdr 0 p n t (Ws.getD j 0)) (nn : Nat) (finC finM : List Nat) (kk : ∀ (H : Heap) (locs : List Loc) (ls : Array Slot), zk_Z D A s H locs [(hn, .inr (0, [.ref co, .ref tr, .int (nI 1), .int (nI dep), .ref ms, .ref ch, .ref md, .ref kp, .ref wy])), (co, .inr (1, [.ref h0, .int (nI t), .int (nI gn), .int (nI kd), .ref hs, .ref pl])), (h0, .inr (2, [.int (nI n), .ref hp, .ref hq])), (hp, .inl (g.1, 62, .inl (zk_ia P))), (hq, .inl (g.1, 32, .inl (zk_ia L))), (hs, .inl (g.1, 7, .inl (zk_ia S))), (pl, .inr (3, [.ref plc])), (plc, .inl (g.1, 8, .inl (zk_ia c))), (he, .inr (4, [.ref hrw])), (hrw, .inl (g.2.2.1, 3, .inr (.inr (.inr (.inr (zk_ra [r0, r1, r2])))))), (r0, .inl (g.1, 4, .inl (zk_ia (M.getD 0 [])))), (r1, .inl (g.1, 4, .inl (zk_ia (M.getD 1 [])))), (r2, .inl (g.1, 4, .inl (zk_ia (M.getD 2 [])))), (ms, .inl (g.1, 4, .inl (zk_ia finM))), (ch, .inl (g.1, 4, .inl (zk_ia finC))), (md, .inl (g.1, 4, .inl (zk_ia Ds)))] → lv_has ls 5 [(0, .ref hn), (3, .int (nI nn))] → W pg l ev (zk_R 7 1 6) s mm args below meth cd H locs 0 0 Q (F0 mm 122 ls [])) :
    ∀ (k : Nat) (w : Nat) (Cs Ms : List Nat) (H : Heap) (locs : List Loc) (ls : Array Slot), (w + k = dep) → (Cs.length = 4) → (Ms.length = 4) → (zk_it (fun j C => C.set j (mdr 0 p n t (Ws.getD j 0))) k w Cs = finC) → (zk_it (fun j M => M.set j (mdr 0 p n t (Ws.getD j 0) >>> (n - kd))) k w Ms = finM) → zk_Z D A s H locs [(hn, .inr (0, [.ref co, .ref tr, .int (nI 1), .int (nI dep), .ref ms, .ref ch, .ref md, .ref kp, .ref wy])), (co, .inr (1, [.ref h0, .int (nI t), .int (nI gn), .int (nI kd), .ref hs, .ref pl])), (h0, .inr (2, [.int (nI n), .ref hp, .ref hq])), (hp, .inl (g.1, 62, .inl (zk_ia P))), (hq, .inl (g.1, 32, .inl (zk_ia L))), (hs, .inl (g.1, 7, .inl (zk_ia S))), (pl, .inr (3, [.ref plc])), (plc, .inl (g.1, 8, .inl (zk_ia c))), (he, .inr (4, [.ref hrw])), (hrw, .inl (g.2.2.1, 3, .inr (.inr (.inr (.inr (zk_ra [r0, r1, r2])))))), (r0, .inl (g.1, 4, .inl (zk_ia (M.getD 0 [])))), (r1, .inl (g.1, 4, .inl (zk_ia (M.getD 1 [])))), (r2, .inl (g.1, 4, .inl (zk_ia (M.getD 2 [])))), (ms, .inl (g.1, 4, .inl (zk_ia Ms))), (ch, .inl (g.1, 4, .inl (zk_ia Cs))), (md, .inl (g.1, 4, .inl (zk_ia Ds)))] → lv_has ls 5 [(0, .ref hn), (1, .ref ch), (2, .ref he), (3, .int (nI nn)), (4, .int (nI w))] → W pg l ev (zk_R 7 1 6) s mm args below meth cd H locs 0 0 Q (F0 mm 60 ls []) := by
  have hx := C.1.1
  have hb := C.1.2.1
  have hml := C.1.2.2.1
  have hown := C.1.2.2.2.1
  have hts := C.1.2.2.2.2
  have hn31 := F.n31
  intro k
  induction k with
  | zero =>
    intro w Cs Ms H locs ls hik hCs hMs hf1 hf2 Z hl
    have hf1 : Cs = finC := hf1
    have hf2 : Ms = finM := hf2
    subst hf1
    subst hf2
    refine lv_iload hx hb dX1_mend_60 (lv_at hl 4 rfl) ?_
    refine lv_aload_n hx hb dX1_mend_62 rfl (lv_at hl 0 rfl) ?_
    refine zk_get C Z in_X1 0 rfl rfl 3 (by decide) q168 rfl (v := .int (nI dep)) rfl dX1_mend_63 ?_
    refine nr_ge (tgt := 122) hx hb (by omega) (by omega) dX1_mend_66 (by decide) (fun c_1 => ?_) (fun c_1 => absurd c_1 (by omega))
    exact kk  H locs ls  Z (lv_sub hl [0, 3] rfl)
  | succ k ih =>
    intro w Cs Ms H locs ls hik hCs hMs hf1 hf2 Z hl
    refine lv_iload hx hb dX1_mend_60 (lv_at hl 4 rfl) ?_
    refine lv_aload_n hx hb dX1_mend_62 rfl (lv_at hl 0 rfl) ?_
    refine zk_get C Z in_X1 0 rfl rfl 3 (by decide) q168 rfl (v := .int (nI dep)) rfl dX1_mend_63 ?_
    refine nr_ge (tgt := 122) hx hb (by omega) (by omega) dX1_mend_66 (by decide) (fun c_1 => absurd c_1 (by omega)) (fun c_1 => ?_)
    refine lv_aload_n hx hb dX1_mend_69 rfl (lv_at hl 0 rfl) ?_
    refine zk_get C Z in_X1 0 rfl rfl 5 (by decide) q170 rfl (v := .ref ch) rfl dX1_mend_70 ?_
    refine lv_iload hx hb dX1_mend_73 (lv_at hl 4 rfl) ?_
    refine lv_aload_n hx hb dX1_mend_75 rfl (lv_at hl 0 rfl) ?_
    refine zk_get C Z in_X1 0 rfl rfl 6 (by decide) q171 rfl (v := .ref md) rfl dX1_mend_76 ?_
    refine lv_iload hx hb dX1_mend_79 (lv_at hl 4 rfl) ?_
    refine zk_iald C Z 15 rfl (by decide) (by omega) dX1_mend_81 ?_
    rw [hDs w (by omega)]
    refine zk_iast C Z 14 rfl (by decide) (by omega) hCs dX1_mend_82 (fun H locs Z => ?_)
    have hlen_2 : (Cs.set w (mdr 0 p n t (Ws.getD w 0))).length = 4 := by rw [List.length_set]; exact hCs
    have Z : zk_Z D A s H locs [(hn, .inr (0, [.ref co, .ref tr, .int (nI 1), .int (nI dep), .ref ms, .ref ch, .ref md, .ref kp, .ref wy])), (co, .inr (1, [.ref h0, .int (nI t), .int (nI gn), .int (nI kd), .ref hs, .ref pl])), (h0, .inr (2, [.int (nI n), .ref hp, .ref hq])), (hp, .inl (g.1, 62, .inl (zk_ia P))), (hq, .inl (g.1, 32, .inl (zk_ia L))), (hs, .inl (g.1, 7, .inl (zk_ia S))), (pl, .inr (3, [.ref plc])), (plc, .inl (g.1, 8, .inl (zk_ia c))), (he, .inr (4, [.ref hrw])), (hrw, .inl (g.2.2.1, 3, .inr (.inr (.inr (.inr (zk_ra [r0, r1, r2])))))), (r0, .inl (g.1, 4, .inl (zk_ia (M.getD 0 [])))), (r1, .inl (g.1, 4, .inl (zk_ia (M.getD 1 [])))), (r2, .inl (g.1, 4, .inl (zk_ia (M.getD 2 [])))), (ms, .inl (g.1, 4, .inl (zk_ia Ms))), (ch, .inl (g.1, 4, .inl (zk_ia (Cs.set w (mdr 0 p n t (Ws.getD w 0)))))), (md, .inl (g.1, 4, .inl (zk_ia Ds)))] := Z
    refine lv_aload_n hx hb dX1_mend_83 rfl (lv_at hl 0 rfl) ?_
    refine zk_get C Z in_X1 0 rfl rfl 4 (by decide) q169 rfl (v := .ref ms) rfl dX1_mend_84 ?_
    refine lv_iload hx hb dX1_mend_87 (lv_at hl 4 rfl) ?_
    refine lv_aload_n hx hb dX1_mend_89 rfl (lv_at hl 0 rfl) ?_
    refine zk_get C Z in_X1 0 rfl rfl 6 (by decide) q171 rfl (v := .ref md) rfl dX1_mend_90 ?_
    refine lv_iload hx hb dX1_mend_93 (lv_at hl 4 rfl) ?_
    refine zk_iald C Z 15 rfl (by decide) (by omega) dX1_mend_95 ?_
    rw [hDs w (by omega)]
    refine lv_aload_n hx hb dX1_mend_96 rfl (lv_at hl 0 rfl) ?_
    refine zk_get C Z in_X1 0 rfl rfl 0 (by decide) q165 rfl (v := .ref co) rfl dX1_mend_97 ?_
    refine zk_getN C Z in_X2 1 rfl rfl 0 (by decide) q92 rfl (v := .ref h0) rfl dX1_mend_100 ?_
    refine zk_getN C Z in_X3 2 rfl rfl 0 (by decide) q61 rfl (v := .int (nI n)) rfl dX1_mend_103 ?_
    refine lv_aload_n hx hb dX1_mend_106 rfl (lv_at hl 0 rfl) ?_
    refine zk_get C Z in_X1 0 rfl rfl 0 (by decide) q165 rfl (v := .ref co) rfl dX1_mend_107 ?_
    refine zk_getN C Z in_X2 1 rfl rfl 3 (by decide) q98 rfl (v := .int (nI kd)) rfl dX1_mend_110 ?_
    refine nr_isub hx hb (by omega) dX1_mend_113 ?_
    refine nr_ishr hx hb (hD31 w (by omega)) (by omega) dX1_mend_114 ?_
    refine zk_iast C Z 13 rfl (by decide) (by omega) hMs dX1_mend_115 (fun H locs Z => ?_)
    have hlen_3 : (Ms.set w ((mdr 0 p n t (Ws.getD w 0)) >>> (n - kd))).length = 4 := by rw [List.length_set]; exact hMs
    have Z : zk_Z D A s H locs [(hn, .inr (0, [.ref co, .ref tr, .int (nI 1), .int (nI dep), .ref ms, .ref ch, .ref md, .ref kp, .ref wy])), (co, .inr (1, [.ref h0, .int (nI t), .int (nI gn), .int (nI kd), .ref hs, .ref pl])), (h0, .inr (2, [.int (nI n), .ref hp, .ref hq])), (hp, .inl (g.1, 62, .inl (zk_ia P))), (hq, .inl (g.1, 32, .inl (zk_ia L))), (hs, .inl (g.1, 7, .inl (zk_ia S))), (pl, .inr (3, [.ref plc])), (plc, .inl (g.1, 8, .inl (zk_ia c))), (he, .inr (4, [.ref hrw])), (hrw, .inl (g.2.2.1, 3, .inr (.inr (.inr (.inr (zk_ra [r0, r1, r2])))))), (r0, .inl (g.1, 4, .inl (zk_ia (M.getD 0 [])))), (r1, .inl (g.1, 4, .inl (zk_ia (M.getD 1 [])))), (r2, .inl (g.1, 4, .inl (zk_ia (M.getD 2 [])))), (ms, .inl (g.1, 4, .inl (zk_ia (Ms.set w ((mdr 0 p n t (Ws.getD w 0)) >>> (n - kd)))))), (ch, .inl (g.1, 4, .inl (zk_ia (Cs.set w (mdr 0 p n t (Ws.getD w 0)))))), (md, .inl (g.1, 4, .inl (zk_ia Ds)))] := Z
    refine nr_iinc (n := 1) (lv' := [(4, .int (nI (w + 1))), (0, .ref hn), (1, .ref ch), (2, .ref he), (3, .int (nI nn))]) hx hb (by decide) dX1_mend_116 hl (k := 4) rfl (by decide) rfl (fun ls hl => ?_)
    refine lv_goto (tgt := 60) hx hb dX1_mend_119 (by decide) ?_
    exact ih (w + 1) (Cs.set w (mdr 0 p n t (Ws.getD w 0))) (Ms.set w ((mdr 0 p n t (Ws.getD w 0)) >>> (n - kd))) H locs ls (by omega) hlen_2 hlen_3 hf1 hf2 Z (lv_sub hl [1, 2, 3, 4, 0] rfl)

set_option maxHeartbeats 4000000 in
/-- mend, EA -/
theorem m1_mdEA (l : Launch) (D : va_G) (g : G4) (hn co tr dep ms ch md kp wy : Nat) (h0 hs pl plc t gn kd : Nat) (hp hq p n : Nat) (P L : List Nat) (F : zk_F p n P L) (t1 : 1 ≤ t) (t3 : t ≤ 3) (d4 : dep ≤ 4) (kdn : kd ≤ n) (he hrw r0 r1 r2 : Nat) (M : List (List Nat)) (hM : zk_ml M) (Ms Cs : List Nat) (hMs : Ms.length = 4) (hCs : Cs.length = 4) (hW : ∀ j, Cs.getD j 0 < 2 ^ 31) (S c Ds : List Nat) (hS : S.length = 7) (hS0 : S.getD 0 0 = 0) (hl8 : c.length = 8) (hD : Ds.length = 4) (hall : ∀ j, j < dep → mdd 0 p n t (Cs.getD j 0) = some (mdr 0 p n t (Cs.getD j 0))) : zk_M l yX1_mend (ws_ yX1_mend cX1_mend 5 (some .int)) (zk_R 7 1 6) D g [.ref hn, .ref ch, .ref he] [(hn, .inr (0, [.ref co, .ref tr, .int (nI 1), .int (nI dep), .ref ms, .ref ch, .ref md, .ref kp, .ref wy])), (co, .inr (1, [.ref h0, .int (nI t), .int (nI gn), .int (nI kd), .ref hs, .ref pl])), (h0, .inr (2, [.int (nI n), .ref hp, .ref hq])), (hp, .inl (g.1, 62, .inl (zk_ia P))), (hq, .inl (g.1, 32, .inl (zk_ia L))), (hs, .inl (g.1, 7, .inl (zk_ia S))), (pl, .inr (3, [.ref plc])), (plc, .inl (g.1, 8, .inl (zk_ia c))), (he, .inr (4, [.ref hrw])), (hrw, .inl (g.2.2.1, 3, .inr (.inr (.inr (.inr (zk_ra [r0, r1, r2])))))), (r0, .inl (g.1, 4, .inl (zk_ia (M.getD 0 [])))), (r1, .inl (g.1, 4, .inl (zk_ia (M.getD 1 [])))), (r2, .inl (g.1, 4, .inl (zk_ia (M.getD 2 [])))), (ms, .inl (g.1, 4, .inl (zk_ia Ms))), (ch, .inl (g.1, 4, .inl (zk_ia Cs))), (md, .inl (g.1, 4, .inl (zk_ia Ds)))] (fun v w => v = some (.int (nI (mdN 0 p n t dep Cs))) ∧ ∃ (S1 c1 Ds1 : List Nat) (s0 s1 s2 : Nat) (M1 : List (List Nat)), S1.length = 7 ∧ S1.getD 0 0 = 0 ∧ c1.length = 8 ∧ Ds1.length = 4 ∧ zk_ml M1 ∧ w = [(hn, .inr (0, [.ref co, .ref tr, .int (nI 1), .int (nI dep), .ref ms, .ref ch, .ref md, .ref kp, .ref wy])), (co, .inr (1, [.ref h0, .int (nI t), .int (nI gn), .int (nI kd), .ref hs, .ref pl])), (h0, .inr (2, [.int (nI n), .ref hp, .ref hq])), (hp, .inl (g.1, 62, .inl (zk_ia P))), (hq, .inl (g.1, 32, .inl (zk_ia L))), (hs, .inl (g.1, 7, .inl (zk_ia S1))), (pl, .inr (3, [.ref plc])), (plc, .inl (g.1, 8, .inl (zk_ia c1))), (he, .inr (4, [.ref hrw])), (hrw, .inl (g.2.2.1, 3, .inr (.inr (.inr (.inr (zk_ra [s0, s1, s2])))))), (s0, .inl (g.1, 4, .inl (zk_ia (M1.getD 0 [])))), (s1, .inl (g.1, 4, .inl (zk_ia (M1.getD 1 [])))), (s2, .inl (g.1, 4, .inl (zk_ia (M1.getD 2 [])))), (ms, .inl (g.1, 4, .inl (zk_ia (mdM 0 p n t dep (n - kd) Cs Ms)))), (ch, .inl (g.1, 4, .inl (zk_ia (mdC 0 p n t dep Cs Cs)))), (md, .inl (g.1, 4, .inl (zk_ia Ds1)))]) := by
  refine zk_ofW (by decide) (Nat.le_of_ble_eq_true rfl) ?_
  intro pg ev s mm below meth cd A C hr hlocks hname Z ls hl
  have hx := C.1.1
  have hb := C.1.2.1
  have hml := C.1.2.2.1
  have hown := C.1.2.2.2.1
  have hts := C.1.2.2.2.2
  have hl : lv_has ls 5 [(0, .ref hn), (1, .ref ch), (2, .ref he)] := hl
  have hn31 := F.n31
  obtain ⟨H, hH⟩ : ∃ H, H = s.heap := ⟨_, rfl⟩
  obtain ⟨locs, hlocs⟩ : ∃ q : List Loc, q = [] := ⟨_, rfl⟩
  rw [← hH, ← hlocs] at Z ⊢
  refine lv_iconst (v := nI 0) hx hb dX1_mend_0 (by decide) ?_
  refine lv_istore_n (lv' := [(3, .int (nI 0)), (0, .ref hn), (1, .ref ch), (2, .ref he)]) hx hb dX1_mend_1 rfl hl (by decide) rfl (fun ls hl => ?_)
  refine lv_iconst (v := nI 0) hx hb dX1_mend_2 (by decide) ?_
  refine lv_istore (lv' := [(4, .int (nI 0)), (3, .int (nI 0)), (0, .ref hn), (1, .ref ch), (2, .ref he)]) hx hb dX1_mend_3 hl (by decide) rfl (fun ls hl => ?_)
  refine lp1_mdEA C hn co tr dep ms ch md kp wy h0 hs pl plc t gn kd hp hq p n P L F t1 t3 d4 kdn he hrw Ms Cs hMs hCs dep (by omega) hW hall _ (fun Ds S c r0 r1 r2 M H locs ls hD hS hS0 hl8 hM hDs Z hl => ?_) dep 0 Ds S c 0 r0 r1 r2 M H locs ls (by omega) hD hS hS0 hl8 hM (fun j hj => absurd hj (Nat.not_lt_zero _)) rfl Z (lv_sub hl [2, 3, 4, 1, 0] rfl)
  refine lv_iload hx hb dX1_mend_5 (lv_at hl 4 rfl) ?_
  refine lv_aload_n hx hb dX1_mend_7 rfl (lv_at hl 0 rfl) ?_
  refine zk_get C Z in_X1 0 rfl rfl 3 (by decide) q168 rfl (v := .int (nI dep)) rfl dX1_mend_8 ?_
  refine nr_ge (tgt := 57) hx hb (by omega) (by omega) dX1_mend_11 (by decide) (fun c_1 => ?_) (fun c_1 => absurd c_1 (by omega))
  refine lv_iconst (v := nI 0) hx hb dX1_mend_57 (by decide) ?_
  refine lv_istore (lv' := [(4, .int (nI 0)), (0, .ref hn), (1, .ref ch), (2, .ref he), (3, .int (nI (zk_it (fun j s => s + bct (mdr 0 p n t (Cs.getD j 0) ^^^ Cs.getD j 0)) dep 0 0)))]) hx hb dX1_mend_58 hl (by decide) rfl (fun ls hl => ?_)
  refine lp1_meEA C hn co tr dep ms ch md kp wy h0 hs pl plc t gn kd hp hq p n P L F t1 t3 d4 kdn he hrw r0 r1 r2 M S c Ds Cs (fun j hj => mdr_lt hn31.2 (hW _) (hall j hj)) hDs _ _ _ (fun H locs ls Z hl => ?_) dep 0 Cs Ms H locs ls (by omega) hCs hMs rfl rfl Z (lv_sub hl [1, 2, 3, 4, 0] rfl)
  have Z : zk_Z D A s H locs [(hn, .inr (0, [.ref co, .ref tr, .int (nI 1), .int (nI dep), .ref ms, .ref ch, .ref md, .ref kp, .ref wy])), (co, .inr (1, [.ref h0, .int (nI t), .int (nI gn), .int (nI kd), .ref hs, .ref pl])), (h0, .inr (2, [.int (nI n), .ref hp, .ref hq])), (hp, .inl (g.1, 62, .inl (zk_ia P))), (hq, .inl (g.1, 32, .inl (zk_ia L))), (hs, .inl (g.1, 7, .inl (zk_ia S))), (pl, .inr (3, [.ref plc])), (plc, .inl (g.1, 8, .inl (zk_ia c))), (he, .inr (4, [.ref hrw])), (hrw, .inl (g.2.2.1, 3, .inr (.inr (.inr (.inr (zk_ra [r0, r1, r2])))))), (r0, .inl (g.1, 4, .inl (zk_ia (M.getD 0 [])))), (r1, .inl (g.1, 4, .inl (zk_ia (M.getD 1 [])))), (r2, .inl (g.1, 4, .inl (zk_ia (M.getD 2 [])))), (ms, .inl (g.1, 4, .inl (zk_ia (mdM 0 p n t dep (n - kd) Cs Ms)))), (ch, .inl (g.1, 4, .inl (zk_ia (mdC 0 p n t dep Cs Cs)))), (md, .inl (g.1, 4, .inl (zk_ia Ds)))] := Z
  refine lv_iload_n hx hb dX1_mend_122 rfl (lv_at hl 1 rfl) ?_
  exact zk_iret C hr hlocks Z ⟨rfl, S, c, Ds, r0, r1, r2, M, hS, hS0, hl8, hD, hM, rfl⟩ (Nat.le_of_ble_eq_true rfl) (Nat.le_of_ble_eq_true rfl) dX1_mend_123

set_option maxHeartbeats 4000000 in
/-- mend, EA, which throws -/
theorem t1_mdEA (l : Launch) (hfl : l.flags = flags0) (D : va_G) (g : G4) (hn co tr dep ms ch md kp wy : Nat) (h0 hs pl plc t gn kd : Nat) (hp hq p n : Nat) (P L : List Nat) (F : zk_F p n P L) (t1 : 1 ≤ t) (t3 : t ≤ 3) (d4 : dep ≤ 4) (kdn : kd ≤ n) (he hrw r0 r1 r2 : Nat) (M : List (List Nat)) (hM : zk_ml M) (Ms Cs : List Nat) (hMs : Ms.length = 4) (hCs : Cs.length = 4) (hW : ∀ j, Cs.getD j 0 < 2 ^ 31) (S c Ds : List Nat) (hS : S.length = 7) (hS0 : S.getD 0 0 = 0) (hl8 : c.length = 8) (hD : Ds.length = 4) (up : Nat) (hup : up < dep) (hall : ∀ j, j < up → mdd 0 p n t (Cs.getD j 0) = some (mdr 0 p n t (Cs.getD j 0))) (hnone : mdd 0 p n t (Cs.getD up 0) = none) : zk_MT l yX1_mend (ws_ yX1_mend cX1_mend 5 (some .int)) (zk_R 7 1 6) D g [.ref hn, .ref ch, .ref he] [(hn, .inr (0, [.ref co, .ref tr, .int (nI 1), .int (nI dep), .ref ms, .ref ch, .ref md, .ref kp, .ref wy])), (co, .inr (1, [.ref h0, .int (nI t), .int (nI gn), .int (nI kd), .ref hs, .ref pl])), (h0, .inr (2, [.int (nI n), .ref hp, .ref hq])), (hp, .inl (g.1, 62, .inl (zk_ia P))), (hq, .inl (g.1, 32, .inl (zk_ia L))), (hs, .inl (g.1, 7, .inl (zk_ia S))), (pl, .inr (3, [.ref plc])), (plc, .inl (g.1, 8, .inl (zk_ia c))), (he, .inr (4, [.ref hrw])), (hrw, .inl (g.2.2.1, 3, .inr (.inr (.inr (.inr (zk_ra [r0, r1, r2])))))), (r0, .inl (g.1, 4, .inl (zk_ia (M.getD 0 [])))), (r1, .inl (g.1, 4, .inl (zk_ia (M.getD 1 [])))), (r2, .inl (g.1, 4, .inl (zk_ia (M.getD 2 [])))), (ms, .inl (g.1, 4, .inl (zk_ia Ms))), (ch, .inl (g.1, 4, .inl (zk_ia Cs))), (md, .inl (g.1, 4, .inl (zk_ia Ds)))] zk_ARE (fun w => ∃ (S1 c1 Ds1 : List Nat) (s0 s1 s2 : Nat) (M1 : List (List Nat)), S1.length = 7 ∧ S1.getD 0 0 = 0 ∧ c1.length = 8 ∧ Ds1.length = 4 ∧ zk_ml M1 ∧ w = [(hn, .inr (0, [.ref co, .ref tr, .int (nI 1), .int (nI dep), .ref ms, .ref ch, .ref md, .ref kp, .ref wy])), (ms, .inl (g.1, 4, .inl (zk_ia Ms))), (ch, .inl (g.1, 4, .inl (zk_ia Cs))), (md, .inl (g.1, 4, .inl (zk_ia Ds1))), (co, .inr (1, [.ref h0, .int (nI t), .int (nI gn), .int (nI kd), .ref hs, .ref pl])), (h0, .inr (2, [.int (nI n), .ref hp, .ref hq])), (hp, .inl (g.1, 62, .inl (zk_ia P))), (hq, .inl (g.1, 32, .inl (zk_ia L))), (hs, .inl (g.1, 7, .inl (zk_ia S1))), (pl, .inr (3, [.ref plc])), (plc, .inl (g.1, 8, .inl (zk_ia c1))), (he, .inr (4, [.ref hrw])), (hrw, .inl (g.2.2.1, 3, .inr (.inr (.inr (.inr (zk_ra [s0, s1, s2])))))), (s0, .inl (g.1, 4, .inl (zk_ia (M1.getD 0 [])))), (s1, .inl (g.1, 4, .inl (zk_ia (M1.getD 1 [])))), (s2, .inl (g.1, 4, .inl (zk_ia (M1.getD 2 []))))]) := by
  refine zk_ofWT (by decide) (Nat.le_of_ble_eq_true rfl) ?_
  intro pg ev s mm below meth cd A C hlocks hno Z ls hl
  have hx := C.1.1
  have hb := C.1.2.1
  have hml := C.1.2.2.1
  have hown := C.1.2.2.2.1
  have hts := C.1.2.2.2.2
  have hl : lv_has ls 5 [(0, .ref hn), (1, .ref ch), (2, .ref he)] := hl
  have hn31 := F.n31
  obtain ⟨H, hH⟩ : ∃ H, H = s.heap := ⟨_, rfl⟩
  obtain ⟨locs, hlocs⟩ : ∃ q : List Loc, q = [] := ⟨_, rfl⟩
  rw [← hH, ← hlocs] at Z ⊢
  refine lv_iconst (v := nI 0) hx hb dX1_mend_0 (by decide) ?_
  refine lv_istore_n (lv' := [(3, .int (nI 0)), (0, .ref hn), (1, .ref ch), (2, .ref he)]) hx hb dX1_mend_1 rfl hl (by decide) rfl (fun ls hl => ?_)
  refine lv_iconst (v := nI 0) hx hb dX1_mend_2 (by decide) ?_
  refine lv_istore (lv' := [(4, .int (nI 0)), (3, .int (nI 0)), (0, .ref hn), (1, .ref ch), (2, .ref he)]) hx hb dX1_mend_3 hl (by decide) rfl (fun ls hl => ?_)
  refine lp1_mdEA C hn co tr dep ms ch md kp wy h0 hs pl plc t gn kd hp hq p n P L F t1 t3 d4 kdn he hrw Ms Cs hMs hCs up (by omega) hW hall _ (fun Ds S c r0 r1 r2 M H locs ls hD hS hS0 hl8 hM hDs Z hl => ?_) up 0 Ds S c 0 r0 r1 r2 M H locs ls (by omega) hD hS hS0 hl8 hM (fun j hj => absurd hj (Nat.not_lt_zero _)) rfl Z (lv_sub hl [2, 3, 4, 1, 0] rfl)
  refine lv_iload hx hb dX1_mend_5 (lv_at hl 4 rfl) ?_
  refine lv_aload_n hx hb dX1_mend_7 rfl (lv_at hl 0 rfl) ?_
  refine zk_get C Z in_X1 0 rfl rfl 3 (by decide) q168 rfl (v := .int (nI dep)) rfl dX1_mend_8 ?_
  refine nr_ge (tgt := 57) hx hb (by omega) (by omega) dX1_mend_11 (by decide) (fun c_1 => absurd c_1 (by omega)) (fun c_1 => ?_)
  refine lv_aload_n hx hb dX1_mend_14 rfl (lv_at hl 0 rfl) ?_
  refine zk_get C Z in_X1 0 rfl rfl 6 (by decide) q171 rfl (v := .ref md) rfl dX1_mend_15 ?_
  refine lv_iload hx hb dX1_mend_18 (lv_at hl 4 rfl) ?_
  refine lv_aload_n hx hb dX1_mend_20 rfl (lv_at hl 0 rfl) ?_
  refine zk_get C Z in_X1 0 rfl rfl 0 (by decide) q165 rfl (v := .ref co) rfl dX1_mend_21 ?_
  refine lv_aload_n hx hb dX1_mend_24 rfl (lv_at hl 1 rfl) ?_
  refine lv_iload hx hb dX1_mend_25 (lv_at hl 4 rfl) ?_
  refine zk_iald C Z 14 rfl (by decide) (by omega) dX1_mend_27 ?_
  refine lv_aload_n hx hb dX1_mend_28 rfl (lv_at hl 2 rfl) ?_
  refine zk_callVT (cells' := 1) (slots' := 6) (rest := [.int (nI up), .ref md]) (n := 2) (wr := [(hn, .inr (0, [.ref co, .ref tr, .int (nI 1), .int (nI dep), .ref ms, .ref ch, .ref md, .ref kp, .ref wy])), (ms, .inl (g.1, 4, .inl (zk_ia Ms))), (ch, .inl (g.1, 4, .inl (zk_ia Cs))), (md, .inl (g.1, 4, .inl (zk_ia Ds)))]) C Z (t2_mdE l hfl D g co h0 hs pl plc t gn kd hp hq p n P L F t1 t3 he hrw r0 r1 r2 M hM (Cs.getD up 0) (hW _) S c hS hS0 hl8 hnone) [1, 2, 3, 4, 5, 6, 7, 8, 9, 10, 11, 12] [0, 13, 14, 15] rfl rfl (by decide) (by decide) (by decide) 1 1 rfl rfl rfl q498 q499 q500 q20 q501 (by decide +kernel) rfl (Nat.le_of_ble_eq_true rfl) (Nat.le_of_ble_eq_true rfl) (Nat.le_of_ble_eq_true rfl) (Nat.le_of_ble_eq_true rfl) rfl rfl hl.1 rfl (Nat.le_of_ble_eq_true rfl) dX1_mend_29 (fun w1 hq => ?_)
  obtain ⟨S1, c1, s0, s1, s2, M1, hS1, hS10, hc1, hM1, rfl⟩ := hq
  exact zk_leave hlocks hno (⟨S1, c1, Ds, s0, s1, s2, M1, hS1, hS10, hc1, hD, hM1, rfl⟩) (Nat.le_of_ble_eq_true rfl) (Nat.le_of_ble_eq_true rfl)

set_option maxHeartbeats 4000000 in
theorem lp1_mdEK {pg : Program} {l : Launch} {ev : Env} {s : State} {mm : MethodId} {args : Array Value} {below : List Frame} {meth : Method} {cd : Code} {Q : State → Prop} {D : va_G} {g : G4} {A : Nat → Prop} (C : zk_C pg s mm cd args cX1_mend 5 RX1 D g A) (hn co tr dep ms ch md kp wy : Nat) (h0 hs pl plc t gn kd : Nat) (hp hq p n : Nat) (P L : List Nat) (F : zk_F p n P L) (t1 : 1 ≤ t) (t3 : t ≤ 3) (d4 : dep ≤ 4) (kdn : kd ≤ n) (kr : Nat) (he hrw : Nat) (Ms Cs Ks : List Nat) (hMs : Ms.length = 4) (hCs : Cs.length = 4) (hKs : Ks.length = 4) (up : Nat) (hup : up ≤ dep) (hW : ∀ j, Ks.getD j 0 < 2 ^ 31) (hall : ∀ j, j < up → mdd 0 p n t (Ks.getD j 0) = some (mdr 0 p n t (Ks.getD j 0))) (finN : Nat) (kk : ∀ (Ds S c : List Nat) (r0 r1 r2 : Nat) (M : List (List Nat)) (H : Heap) (locs : List Loc) (ls : Array Slot), Ds.length = 4 → S.length = 7 → S.getD 0 0 = 0 → c.length = 8 → zk_ml M → (∀ j, j < up → Ds.getD j 0 = mdr 0 p n t (Ks.getD j 0)) → zk_Z D A s H locs [(hn, .inr (0, [.ref co, .ref tr, .int (nI 1), .int (nI dep), .ref ms, .ref ch, .ref md, .ref kp, .ref wy])), (co, .inr (1, [.ref h0, .int (nI t), .int (nI gn), .int (nI kd), .ref hs, .ref pl])), (h0, .inr (2, [.int (nI n), .ref hp, .ref hq])), (hp, .inl (g.1, 62, .inl (zk_ia P))), (hq, .inl (g.1, 32, .inl (zk_ia L))), (hs, .inl (g.1, 7, .inl (zk_ia S))), (pl, .inr (3, [.ref plc])), (plc, .inl (g.1, 8, .inl (zk_ia c))), (he, .inr (4, [.ref hrw])), (hrw, .inl (g.2.2.1, 3, .inr (.inr (.inr (.inr (zk_ra [r0, r1, r2])))))), (r0, .inl (g.1, 4, .inl (zk_ia (M.getD 0 [])))), (r1, .inl (g.1, 4, .inl (zk_ia (M.getD 1 [])))), (r2, .inl (g.1, 4, .inl (zk_ia (M.getD 2 [])))), (ms, .inl (g.1, 4, .inl (zk_ia Ms))), (ch, .inl (g.1, 4, .inl (zk_ia Cs))), (md, .inl (g.1, 4, .inl (zk_ia Ds))), (kr, .inl (g.1, 4, .inl (zk_ia Ks)))] → lv_has ls 5 [(0, .ref hn), (1, .ref kr), (2, .ref he), (3, .int (nI finN)), (4, .int (nI up))] → W pg l ev (zk_R 7 1 6) s mm args below meth cd H locs 0 0 Q (F0 mm 5 ls [])) :
    ∀ (k : Nat) (w : Nat) (Ds S c : List Nat) (nn : Nat) (r0 r1 r2 : Nat) (M : List (List Nat)) (H : Heap) (locs : List Loc) (ls : Array Slot), (w + k = up) → (Ds.length = 4) → (S.length = 7) → (S.getD 0 0 = 0) → (c.length = 8) → (zk_ml M) → (∀ j, j < w → Ds.getD j 0 = mdr 0 p n t (Ks.getD j 0)) → (zk_it (fun j s => s + bct (mdr 0 p n t (Ks.getD j 0) ^^^ Ks.getD j 0)) k w nn = finN) → zk_Z D A s H locs [(hn, .inr (0, [.ref co, .ref tr, .int (nI 1), .int (nI dep), .ref ms, .ref ch, .ref md, .ref kp, .ref wy])), (co, .inr (1, [.ref h0, .int (nI t), .int (nI gn), .int (nI kd), .ref hs, .ref pl])), (h0, .inr (2, [.int (nI n), .ref hp, .ref hq])), (hp, .inl (g.1, 62, .inl (zk_ia P))), (hq, .inl (g.1, 32, .inl (zk_ia L))), (hs, .inl (g.1, 7, .inl (zk_ia S))), (pl, .inr (3, [.ref plc])), (plc, .inl (g.1, 8, .inl (zk_ia c))), (he, .inr (4, [.ref hrw])), (hrw, .inl (g.2.2.1, 3, .inr (.inr (.inr (.inr (zk_ra [r0, r1, r2])))))), (r0, .inl (g.1, 4, .inl (zk_ia (M.getD 0 [])))), (r1, .inl (g.1, 4, .inl (zk_ia (M.getD 1 [])))), (r2, .inl (g.1, 4, .inl (zk_ia (M.getD 2 [])))), (ms, .inl (g.1, 4, .inl (zk_ia Ms))), (ch, .inl (g.1, 4, .inl (zk_ia Cs))), (md, .inl (g.1, 4, .inl (zk_ia Ds))), (kr, .inl (g.1, 4, .inl (zk_ia Ks)))] → lv_has ls 5 [(0, .ref hn), (1, .ref kr), (2, .ref he), (3, .int (nI nn)), (4, .int (nI w))] → W pg l ev (zk_R 7 1 6) s mm args below meth cd H locs 0 0 Q (F0 mm 5 ls []) := by
  have hx := C.1.1
  have hb := C.1.2.1
  have hml := C.1.2.2.1
  have hown := C.1.2.2.2.1
  have hts := C.1.2.2.2.2
  have hn31 := F.n31
  intro k
  induction k with
  | zero =>
    intro w Ds S c nn r0 r1 r2 M H locs ls hik hD hS hS0 hl8 hM hDs hfin Z hl
    have hw : w = up := by omega
    subst hw
    have hfin : nn = finN := hfin
    subst hfin
    exact kk Ds S c r0 r1 r2 M H locs ls hD hS hS0 hl8 hM hDs Z hl
  | succ k ih =>
    intro w Ds S c nn r0 r1 r2 M H locs ls hik hD hS hS0 hl8 hM hDs hfin Z hl
    refine lv_iload hx hb dX1_mend_5 (lv_at hl 4 rfl) ?_
    refine lv_aload_n hx hb dX1_mend_7 rfl (lv_at hl 0 rfl) ?_
    refine zk_get C Z in_X1 0 rfl rfl 3 (by decide) q168 rfl (v := .int (nI dep)) rfl dX1_mend_8 ?_
    refine nr_ge (tgt := 57) hx hb (by omega) (by omega) dX1_mend_11 (by decide) (fun c_1 => absurd c_1 (by omega)) (fun c_1 => ?_)
    refine lv_aload_n hx hb dX1_mend_14 rfl (lv_at hl 0 rfl) ?_
    refine zk_get C Z in_X1 0 rfl rfl 6 (by decide) q171 rfl (v := .ref md) rfl dX1_mend_15 ?_
    refine lv_iload hx hb dX1_mend_18 (lv_at hl 4 rfl) ?_
    refine lv_aload_n hx hb dX1_mend_20 rfl (lv_at hl 0 rfl) ?_
    refine zk_get C Z in_X1 0 rfl rfl 0 (by decide) q165 rfl (v := .ref co) rfl dX1_mend_21 ?_
    refine lv_aload_n hx hb dX1_mend_24 rfl (lv_at hl 1 rfl) ?_
    refine lv_iload hx hb dX1_mend_25 (lv_at hl 4 rfl) ?_
    refine zk_iald C Z 16 rfl (by decide) (by omega) dX1_mend_27 ?_
    refine lv_aload_n hx hb dX1_mend_28 rfl (lv_at hl 2 rfl) ?_
    refine zk_callV (cells' := 0) (slots' := 0) (rest := [.int (nI w), .ref md]) (n := 2) (wr := [(hn, .inr (0, [.ref co, .ref tr, .int (nI 1), .int (nI dep), .ref ms, .ref ch, .ref md, .ref kp, .ref wy])), (ms, .inl (g.1, 4, .inl (zk_ia Ms))), (ch, .inl (g.1, 4, .inl (zk_ia Cs))), (md, .inl (g.1, 4, .inl (zk_ia Ds))), (kr, .inl (g.1, 4, .inl (zk_ia Ks)))]) C Z (m2_mdE l D g co h0 hs pl plc t gn kd hp hq p n P L F t1 t3 he hrw r0 r1 r2 M hM (Ks.getD w 0) (hW _) S c hS hS0 hl8 (mdr 0 p n t (Ks.getD w 0)) (hall w (by omega))) [1, 2, 3, 4, 5, 6, 7, 8, 9, 10, 11, 12] [0, 13, 14, 15, 16] rfl rfl (by decide) (by decide) (by decide) 1 1 rfl rfl rfl q498 q499 q500 q20 q501 (by decide +kernel) rfl (Nat.le_of_ble_eq_true rfl) (Nat.le_of_ble_eq_true rfl) (Nat.le_of_ble_eq_true rfl) (Nat.le_of_ble_eq_true rfl) rfl rfl hl.1 rfl (Nat.le_of_ble_eq_true rfl) dX1_mend_29 (fun v w1 H locs hq Z => ?_)
    obtain ⟨rfl, S1, c1, s0, s1, s2, M1, hS1, hS10, hc1, hM1, rfl⟩ := hq
    have Z : zk_Z D A s H locs [(hn, .inr (0, [.ref co, .ref tr, .int (nI 1), .int (nI dep), .ref ms, .ref ch, .ref md, .ref kp, .ref wy])), (co, .inr (1, [.ref h0, .int (nI t), .int (nI gn), .int (nI kd), .ref hs, .ref pl])), (h0, .inr (2, [.int (nI n), .ref hp, .ref hq])), (hp, .inl (g.1, 62, .inl (zk_ia P))), (hq, .inl (g.1, 32, .inl (zk_ia L))), (hs, .inl (g.1, 7, .inl (zk_ia S1))), (pl, .inr (3, [.ref plc])), (plc, .inl (g.1, 8, .inl (zk_ia c1))), (he, .inr (4, [.ref hrw])), (hrw, .inl (g.2.2.1, 3, .inr (.inr (.inr (.inr (zk_ra [s0, s1, s2])))))), (s0, .inl (g.1, 4, .inl (zk_ia (M1.getD 0 [])))), (s1, .inl (g.1, 4, .inl (zk_ia (M1.getD 1 [])))), (s2, .inl (g.1, 4, .inl (zk_ia (M1.getD 2 [])))), (ms, .inl (g.1, 4, .inl (zk_ia Ms))), (ch, .inl (g.1, 4, .inl (zk_ia Cs))), (md, .inl (g.1, 4, .inl (zk_ia Ds))), (kr, .inl (g.1, 4, .inl (zk_ia Ks)))] := Z.sub [0, 5, 6, 7, 8, 9, 10, 11, 12, 13, 14, 15, 16, 1, 2, 3, 4] (by decide) rfl
    refine W.eq (g2 := F0 mm 32 ls [.int (nI (mdr 0 p n t (Ks.getD w 0))), .int (nI w), .ref md]) rfl ?_
    refine zk_iast C Z 15 rfl (by decide) (by omega) hD dX1_mend_32 (fun H locs Z => ?_)
    have hlen_2 : (Ds.set w (mdr 0 p n t (Ks.getD w 0))).length = 4 := by rw [List.length_set]; exact hD
    have Z : zk_Z D A s H locs [(hn, .inr (0, [.ref co, .ref tr, .int (nI 1), .int (nI dep), .ref ms, .ref ch, .ref md, .ref kp, .ref wy])), (co, .inr (1, [.ref h0, .int (nI t), .int (nI gn), .int (nI kd), .ref hs, .ref pl])), (h0, .inr (2, [.int (nI n), .ref hp, .ref hq])), (hp, .inl (g.1, 62, .inl (zk_ia P))), (hq, .inl (g.1, 32, .inl (zk_ia L))), (hs, .inl (g.1, 7, .inl (zk_ia S1))), (pl, .inr (3, [.ref plc])), (plc, .inl (g.1, 8, .inl (zk_ia c1))), (he, .inr (4, [.ref hrw])), (hrw, .inl (g.2.2.1, 3, .inr (.inr (.inr (.inr (zk_ra [s0, s1, s2])))))), (s0, .inl (g.1, 4, .inl (zk_ia (M1.getD 0 [])))), (s1, .inl (g.1, 4, .inl (zk_ia (M1.getD 1 [])))), (s2, .inl (g.1, 4, .inl (zk_ia (M1.getD 2 [])))), (ms, .inl (g.1, 4, .inl (zk_ia Ms))), (ch, .inl (g.1, 4, .inl (zk_ia Cs))), (md, .inl (g.1, 4, .inl (zk_ia (Ds.set w (mdr 0 p n t (Ks.getD w 0)))))), (kr, .inl (g.1, 4, .inl (zk_ia Ks)))] := Z
    refine lv_iload_n hx hb dX1_mend_33 rfl (lv_at hl 3 rfl) ?_
    refine lv_aload_n hx hb dX1_mend_34 rfl (lv_at hl 0 rfl) ?_
    refine zk_get C Z in_X1 0 rfl rfl 6 (by decide) q171 rfl (v := .ref md) rfl dX1_mend_35 ?_
    refine lv_iload hx hb dX1_mend_38 (lv_at hl 4 rfl) ?_
    refine zk_iald C Z 15 rfl (by decide) (by omega) dX1_mend_40 ?_
    rw [show (Ds.set w (mdr 0 p n t (Ks.getD w 0))).getD w 0 = mdr 0 p n t (Ks.getD w 0) from zk_sg (by omega)]
    refine lv_aload_n hx hb dX1_mend_41 rfl (lv_at hl 1 rfl) ?_
    refine lv_iload hx hb dX1_mend_42 (lv_at hl 4 rfl) ?_
    refine zk_iald C Z 16 rfl (by decide) (by omega) dX1_mend_44 ?_
    refine nr_ixor hx hb dX1_mend_45 ?_
    refine zk_callS (cells' := 0) (slots' := 0) (rest := [.int (nI nn)]) (n := 1) (wr := [(hn, .inr (0, [.ref co, .ref tr, .int (nI 1), .int (nI dep), .ref ms, .ref ch, .ref md, .ref kp, .ref wy])), (co, .inr (1, [.ref h0, .int (nI t), .int (nI gn), .int (nI kd), .ref hs, .ref pl])), (h0, .inr (2, [.int (nI n), .ref hp, .ref hq])), (hp, .inl (g.1, 62, .inl (zk_ia P))), (hq, .inl (g.1, 32, .inl (zk_ia L))), (hs, .inl (g.1, 7, .inl (zk_ia S1))), (pl, .inr (3, [.ref plc])), (plc, .inl (g.1, 8, .inl (zk_ia c1))), (he, .inr (4, [.ref hrw])), (hrw, .inl (g.2.2.1, 3, .inr (.inr (.inr (.inr (zk_ra [s0, s1, s2])))))), (s0, .inl (g.1, 4, .inl (zk_ia (M1.getD 0 [])))), (s1, .inl (g.1, 4, .inl (zk_ia (M1.getD 1 [])))), (s2, .inl (g.1, 4, .inl (zk_ia (M1.getD 2 [])))), (ms, .inl (g.1, 4, .inl (zk_ia Ms))), (ch, .inl (g.1, 4, .inl (zk_ia Cs))), (md, .inl (g.1, 4, .inl (zk_ia (Ds.set w (mdr 0 p n t (Ks.getD w 0)))))), (kr, .inl (g.1, 4, .inl (zk_ia Ks)))]) C Z (mJ_bc l D g ((mdr 0 p n t (Ks.getD w 0)) ^^^ (Ks.getD w 0)) (Nat.xor_lt_two_pow (mdr_lt hn31.2 (hW _) (hall w (by omega))) (hW _))) [] [0, 1, 2, 3, 4, 5, 6, 7, 8, 9, 10, 11, 12, 13, 14, 15, 16] rfl rfl (by decide) (by decide) (by decide) q447 q448 q36 q449 (by decide +kernel) rfl (Nat.le_of_ble_eq_true rfl) (Nat.le_of_ble_eq_true rfl) (Nat.le_of_ble_eq_true rfl) (Nat.le_of_ble_eq_true rfl) rfl rfl hl.1 rfl (Nat.le_of_ble_eq_true rfl) dX1_mend_46 (fun v w1 H locs hq Z => ?_)
    obtain ⟨rfl, rfl⟩ := hq
    have Z : zk_Z D A s H locs [(hn, .inr (0, [.ref co, .ref tr, .int (nI 1), .int (nI dep), .ref ms, .ref ch, .ref md, .ref kp, .ref wy])), (co, .inr (1, [.ref h0, .int (nI t), .int (nI gn), .int (nI kd), .ref hs, .ref pl])), (h0, .inr (2, [.int (nI n), .ref hp, .ref hq])), (hp, .inl (g.1, 62, .inl (zk_ia P))), (hq, .inl (g.1, 32, .inl (zk_ia L))), (hs, .inl (g.1, 7, .inl (zk_ia S1))), (pl, .inr (3, [.ref plc])), (plc, .inl (g.1, 8, .inl (zk_ia c1))), (he, .inr (4, [.ref hrw])), (hrw, .inl (g.2.2.1, 3, .inr (.inr (.inr (.inr (zk_ra [s0, s1, s2])))))), (s0, .inl (g.1, 4, .inl (zk_ia (M1.getD 0 [])))), (s1, .inl (g.1, 4, .inl (zk_ia (M1.getD 1 [])))), (s2, .inl (g.1, 4, .inl (zk_ia (M1.getD 2 [])))), (ms, .inl (g.1, 4, .inl (zk_ia Ms))), (ch, .inl (g.1, 4, .inl (zk_ia Cs))), (md, .inl (g.1, 4, .inl (zk_ia (Ds.set w (mdr 0 p n t (Ks.getD w 0)))))), (kr, .inl (g.1, 4, .inl (zk_ia Ks)))] := Z.sub [0, 1, 2, 3, 4, 5, 6, 7, 8, 9, 10, 11, 12, 13, 14, 15, 16] (by decide) rfl
    refine W.eq (g2 := F0 mm 49 ls [.int (nI (bct ((mdr 0 p n t (Ks.getD w 0)) ^^^ (Ks.getD w 0)))), .int (nI nn)]) rfl ?_
    refine nr_iadd hx hb dX1_mend_49 ?_
    refine lv_istore_n (lv' := [(3, .int (nI (nn + (bct ((mdr 0 p n t (Ks.getD w 0)) ^^^ (Ks.getD w 0)))))), (0, .ref hn), (1, .ref kr), (2, .ref he), (4, .int (nI w))]) hx hb dX1_mend_50 rfl hl (by decide) rfl (fun ls hl => ?_)
    refine nr_iinc (n := 1) (lv' := [(4, .int (nI (w + 1))), (3, .int (nI (nn + (bct ((mdr 0 p n t (Ks.getD w 0)) ^^^ (Ks.getD w 0)))))), (0, .ref hn), (1, .ref kr), (2, .ref he)]) hx hb (by decide) dX1_mend_51 hl (k := 4) rfl (by decide) rfl (fun ls hl => ?_)
    refine lv_goto (tgt := 5) hx hb dX1_mend_54 (by decide) ?_
    exact ih (w + 1) (Ds.set w (mdr 0 p n t (Ks.getD w 0))) S1 c1 (nn + (bct ((mdr 0 p n t (Ks.getD w 0)) ^^^ (Ks.getD w 0)))) s0 s1 s2 M1 H locs ls (by omega) hlen_2 hS1 hS10 hc1 hM1 (zk_upto (P := fun _ => True) (by omega) rfl hDs) hfin Z (lv_sub hl [2, 3, 4, 1, 0] rfl)

set_option maxHeartbeats 4000000 in
theorem lp1_meEK {pg : Program} {l : Launch} {ev : Env} {s : State} {mm : MethodId} {args : Array Value} {below : List Frame} {meth : Method} {cd : Code} {Q : State → Prop} {D : va_G} {g : G4} {A : Nat → Prop} (C : zk_C pg s mm cd args cX1_mend 5 RX1 D g A) (hn co tr dep ms ch md kp wy : Nat) (h0 hs pl plc t gn kd : Nat) (hp hq p n : Nat) (P L : List Nat) (F : zk_F p n P L) (t1 : 1 ≤ t) (t3 : t ≤ 3) (d4 : dep ≤ 4) (kdn : kd ≤ n) (kr : Nat) (he hrw : Nat) (r0 r1 r2 : Nat) (M : List (List Nat)) (S c Ds Ws Ks : List Nat) (hD31 : ∀ j, j < dep → mdr 0 p n t (Ws.getD j 0) < 2 ^ 31) (hDs : ∀ j, j < dep → Ds.getD j 0 = mdr 0 p n t (Ws.getD j 0)) (nn : Nat) (finC finM : List Nat) (kk : ∀ (H : Heap) (locs : List Loc) (ls : Array Slot), zk_Z D A s H locs [(hn, .inr (0, [.ref co, .ref tr, .int (nI 1), .int (nI dep), .ref ms, .ref ch, .ref md, .ref kp, .ref wy])), (co, .inr (1, [.ref h0, .int (nI t), .int (nI gn), .int (nI kd), .ref hs, .ref pl])), (h0, .inr (2, [.int (nI n), .ref hp, .ref hq])), (hp, .inl (g.1, 62, .inl (zk_ia P))), (hq, .inl (g.1, 32, .inl (zk_ia L))), (hs, .inl (g.1, 7, .inl (zk_ia S))), (pl, .inr (3, [.ref plc])), (plc, .inl (g.1, 8, .inl (zk_ia c))), (he, .inr (4, [.ref hrw])), (hrw, .inl (g.2.2.1, 3, .inr (.inr (.inr (.inr (zk_ra [r0, r1, r2])))))), (r0, .inl (g.1, 4, .inl (zk_ia (M.getD 0 [])))), (r1, .inl (g.1, 4, .inl (zk_ia (M.getD 1 [])))), (r2, .inl (g.1, 4, .inl (zk_ia (M.getD 2 [])))), (ms, .inl (g.1, 4, .inl (zk_ia finM))), (ch, .inl (g.1, 4, .inl (zk_ia finC))), (md, .inl (g.1, 4, .inl (zk_ia Ds))), (kr, .inl (g.1, 4, .inl (zk_ia Ks)))] → lv_has ls 5 [(0, .ref hn), (3, .int (nI nn))] → W pg l ev (zk_R 7 1 6) s mm args below meth cd H locs 0 0 Q (F0 mm 122 ls [])) :
    ∀ (k : Nat) (w : Nat) (Cs Ms : List Nat) (H : Heap) (locs : List Loc) (ls : Array Slot), (w + k = dep) → (Cs.length = 4) → (Ms.length = 4) → (zk_it (fun j C => C.set j (mdr 0 p n t (Ws.getD j 0))) k w Cs = finC) → (zk_it (fun j M => M.set j (mdr 0 p n t (Ws.getD j 0) >>> (n - kd))) k w Ms = finM) → zk_Z D A s H locs [(hn, .inr (0, [.ref co, .ref tr, .int (nI 1), .int (nI dep), .ref ms, .ref ch, .ref md, .ref kp, .ref wy])), (co, .inr (1, [.ref h0, .int (nI t), .int (nI gn), .int (nI kd), .ref hs, .ref pl])), (h0, .inr (2, [.int (nI n), .ref hp, .ref hq])), (hp, .inl (g.1, 62, .inl (zk_ia P))), (hq, .inl (g.1, 32, .inl (zk_ia L))), (hs, .inl (g.1, 7, .inl (zk_ia S))), (pl, .inr (3, [.ref plc])), (plc, .inl (g.1, 8, .inl (zk_ia c))), (he, .inr (4, [.ref hrw])), (hrw, .inl (g.2.2.1, 3, .inr (.inr (.inr (.inr (zk_ra [r0, r1, r2])))))), (r0, .inl (g.1, 4, .inl (zk_ia (M.getD 0 [])))), (r1, .inl (g.1, 4, .inl (zk_ia (M.getD 1 [])))), (r2, .inl (g.1, 4, .inl (zk_ia (M.getD 2 [])))), (ms, .inl (g.1, 4, .inl (zk_ia Ms))), (ch, .inl (g.1, 4, .inl (zk_ia Cs))), (md, .inl (g.1, 4, .inl (zk_ia Ds))), (kr, .inl (g.1, 4, .inl (zk_ia Ks)))] → lv_has ls 5 [(0, .ref hn), (1, .ref kr), (2, .ref he), (3, .int (nI nn)), (4, .int (nI w))] → W pg l ev (zk_R 7 1 6) s mm args below meth cd H locs 0 0 Q (F0 mm 60 ls []) := by
  have hx := C.1.1
  have hb := C.1.2.1
  have hml := C.1.2.2.1
  have hown := C.1.2.2.2.1
  have hts := C.1.2.2.2.2
  have hn31 := F.n31
  intro k
  induction k with
  | zero =>
    intro w Cs Ms H locs ls hik hCs hMs hf1 hf2 Z hl
    have hf1 : Cs = finC := hf1
    have hf2 : Ms = finM := hf2
    subst hf1
    subst hf2
    refine lv_iload hx hb dX1_mend_60 (lv_at hl 4 rfl) ?_
    refine lv_aload_n hx hb dX1_mend_62 rfl (lv_at hl 0 rfl) ?_
    refine zk_get C Z in_X1 0 rfl rfl 3 (by decide) q168 rfl (v := .int (nI dep)) rfl dX1_mend_63 ?_
    refine nr_ge (tgt := 122) hx hb (by omega) (by omega) dX1_mend_66 (by decide) (fun c_1 => ?_) (fun c_1 => absurd c_1 (by omega))
    exact kk  H locs ls  Z (lv_sub hl [0, 3] rfl)
  | succ k ih =>
    intro w Cs Ms H locs ls hik hCs hMs hf1 hf2 Z hl
    refine lv_iload hx hb dX1_mend_60 (lv_at hl 4 rfl) ?_
    refine lv_aload_n hx hb dX1_mend_62 rfl (lv_at hl 0 rfl) ?_
    refine zk_get C Z in_X1 0 rfl rfl 3 (by decide) q168 rfl (v := .int (nI dep)) rfl dX1_mend_63 ?_
    refine nr_ge (tgt := 122) hx hb (by omega) (by omega) dX1_mend_66 (by decide) (fun c_1 => absurd c_1 (by omega)) (fun c_1 => ?_)
    refine lv_aload_n hx hb dX1_mend_69 rfl (lv_at hl 0 rfl) ?_
    refine zk_get C Z in_X1 0 rfl rfl 5 (by decide) q170 rfl (v := .ref ch) rfl dX1_mend_70 ?_
    refine lv_iload hx hb dX1_mend_73 (lv_at hl 4 rfl) ?_
    refine lv_aload_n hx hb dX1_mend_75 rfl (lv_at hl 0 rfl) ?_
    refine zk_get C Z in_X1 0 rfl rfl 6 (by decide) q171 rfl (v := .ref md) rfl dX1_mend_76 ?_
    refine lv_iload hx hb dX1_mend_79 (lv_at hl 4 rfl) ?_
    refine zk_iald C Z 15 rfl (by decide) (by omega) dX1_mend_81 ?_
    rw [hDs w (by omega)]
    refine zk_iast C Z 14 rfl (by decide) (by omega) hCs dX1_mend_82 (fun H locs Z => ?_)
    have hlen_2 : (Cs.set w (mdr 0 p n t (Ws.getD w 0))).length = 4 := by rw [List.length_set]; exact hCs
    have Z : zk_Z D A s H locs [(hn, .inr (0, [.ref co, .ref tr, .int (nI 1), .int (nI dep), .ref ms, .ref ch, .ref md, .ref kp, .ref wy])), (co, .inr (1, [.ref h0, .int (nI t), .int (nI gn), .int (nI kd), .ref hs, .ref pl])), (h0, .inr (2, [.int (nI n), .ref hp, .ref hq])), (hp, .inl (g.1, 62, .inl (zk_ia P))), (hq, .inl (g.1, 32, .inl (zk_ia L))), (hs, .inl (g.1, 7, .inl (zk_ia S))), (pl, .inr (3, [.ref plc])), (plc, .inl (g.1, 8, .inl (zk_ia c))), (he, .inr (4, [.ref hrw])), (hrw, .inl (g.2.2.1, 3, .inr (.inr (.inr (.inr (zk_ra [r0, r1, r2])))))), (r0, .inl (g.1, 4, .inl (zk_ia (M.getD 0 [])))), (r1, .inl (g.1, 4, .inl (zk_ia (M.getD 1 [])))), (r2, .inl (g.1, 4, .inl (zk_ia (M.getD 2 [])))), (ms, .inl (g.1, 4, .inl (zk_ia Ms))), (ch, .inl (g.1, 4, .inl (zk_ia (Cs.set w (mdr 0 p n t (Ws.getD w 0)))))), (md, .inl (g.1, 4, .inl (zk_ia Ds))), (kr, .inl (g.1, 4, .inl (zk_ia Ks)))] := Z
    refine lv_aload_n hx hb dX1_mend_83 rfl (lv_at hl 0 rfl) ?_
    refine zk_get C Z in_X1 0 rfl rfl 4 (by decide) q169 rfl (v := .ref ms) rfl dX1_mend_84 ?_
    refine lv_iload hx hb dX1_mend_87 (lv_at hl 4 rfl) ?_
    refine lv_aload_n hx hb dX1_mend_89 rfl (lv_at hl 0 rfl) ?_
    refine zk_get C Z in_X1 0 rfl rfl 6 (by decide) q171 rfl (v := .ref md) rfl dX1_mend_90 ?_
    refine lv_iload hx hb dX1_mend_93 (lv_at hl 4 rfl) ?_
    refine zk_iald C Z 15 rfl (by decide) (by omega) dX1_mend_95 ?_
    rw [hDs w (by omega)]
    refine lv_aload_n hx hb dX1_mend_96 rfl (lv_at hl 0 rfl) ?_
    refine zk_get C Z in_X1 0 rfl rfl 0 (by decide) q165 rfl (v := .ref co) rfl dX1_mend_97 ?_
    refine zk_getN C Z in_X2 1 rfl rfl 0 (by decide) q92 rfl (v := .ref h0) rfl dX1_mend_100 ?_
    refine zk_getN C Z in_X3 2 rfl rfl 0 (by decide) q61 rfl (v := .int (nI n)) rfl dX1_mend_103 ?_
    refine lv_aload_n hx hb dX1_mend_106 rfl (lv_at hl 0 rfl) ?_
    refine zk_get C Z in_X1 0 rfl rfl 0 (by decide) q165 rfl (v := .ref co) rfl dX1_mend_107 ?_
    refine zk_getN C Z in_X2 1 rfl rfl 3 (by decide) q98 rfl (v := .int (nI kd)) rfl dX1_mend_110 ?_
    refine nr_isub hx hb (by omega) dX1_mend_113 ?_
    refine nr_ishr hx hb (hD31 w (by omega)) (by omega) dX1_mend_114 ?_
    refine zk_iast C Z 13 rfl (by decide) (by omega) hMs dX1_mend_115 (fun H locs Z => ?_)
    have hlen_3 : (Ms.set w ((mdr 0 p n t (Ws.getD w 0)) >>> (n - kd))).length = 4 := by rw [List.length_set]; exact hMs
    have Z : zk_Z D A s H locs [(hn, .inr (0, [.ref co, .ref tr, .int (nI 1), .int (nI dep), .ref ms, .ref ch, .ref md, .ref kp, .ref wy])), (co, .inr (1, [.ref h0, .int (nI t), .int (nI gn), .int (nI kd), .ref hs, .ref pl])), (h0, .inr (2, [.int (nI n), .ref hp, .ref hq])), (hp, .inl (g.1, 62, .inl (zk_ia P))), (hq, .inl (g.1, 32, .inl (zk_ia L))), (hs, .inl (g.1, 7, .inl (zk_ia S))), (pl, .inr (3, [.ref plc])), (plc, .inl (g.1, 8, .inl (zk_ia c))), (he, .inr (4, [.ref hrw])), (hrw, .inl (g.2.2.1, 3, .inr (.inr (.inr (.inr (zk_ra [r0, r1, r2])))))), (r0, .inl (g.1, 4, .inl (zk_ia (M.getD 0 [])))), (r1, .inl (g.1, 4, .inl (zk_ia (M.getD 1 [])))), (r2, .inl (g.1, 4, .inl (zk_ia (M.getD 2 [])))), (ms, .inl (g.1, 4, .inl (zk_ia (Ms.set w ((mdr 0 p n t (Ws.getD w 0)) >>> (n - kd)))))), (ch, .inl (g.1, 4, .inl (zk_ia (Cs.set w (mdr 0 p n t (Ws.getD w 0)))))), (md, .inl (g.1, 4, .inl (zk_ia Ds))), (kr, .inl (g.1, 4, .inl (zk_ia Ks)))] := Z
    refine nr_iinc (n := 1) (lv' := [(4, .int (nI (w + 1))), (0, .ref hn), (1, .ref kr), (2, .ref he), (3, .int (nI nn))]) hx hb (by decide) dX1_mend_116 hl (k := 4) rfl (by decide) rfl (fun ls hl => ?_)
    refine lv_goto (tgt := 60) hx hb dX1_mend_119 (by decide) ?_
    exact ih (w + 1) (Cs.set w (mdr 0 p n t (Ws.getD w 0))) (Ms.set w ((mdr 0 p n t (Ws.getD w 0)) >>> (n - kd))) H locs ls (by omega) hlen_2 hlen_3 hf1 hf2 Z (lv_sub hl [1, 2, 3, 4, 0] rfl)

set_option maxHeartbeats 4000000 in
/-- mend, EK -/
theorem m1_mdEK (l : Launch) (D : va_G) (g : G4) (hn co tr dep ms ch md kp wy : Nat) (h0 hs pl plc t gn kd : Nat) (hp hq p n : Nat) (P L : List Nat) (F : zk_F p n P L) (t1 : 1 ≤ t) (t3 : t ≤ 3) (d4 : dep ≤ 4) (kdn : kd ≤ n) (kr : Nat) (he hrw r0 r1 r2 : Nat) (M : List (List Nat)) (hM : zk_ml M) (Ms Cs Ks : List Nat) (hMs : Ms.length = 4) (hCs : Cs.length = 4) (hKs : Ks.length = 4) (hW : ∀ j, Ks.getD j 0 < 2 ^ 31) (S c Ds : List Nat) (hS : S.length = 7) (hS0 : S.getD 0 0 = 0) (hl8 : c.length = 8) (hD : Ds.length = 4) (hall : ∀ j, j < dep → mdd 0 p n t (Ks.getD j 0) = some (mdr 0 p n t (Ks.getD j 0))) : zk_M l yX1_mend (ws_ yX1_mend cX1_mend 5 (some .int)) (zk_R 7 1 6) D g [.ref hn, .ref kr, .ref he] [(hn, .inr (0, [.ref co, .ref tr, .int (nI 1), .int (nI dep), .ref ms, .ref ch, .ref md, .ref kp, .ref wy])), (co, .inr (1, [.ref h0, .int (nI t), .int (nI gn), .int (nI kd), .ref hs, .ref pl])), (h0, .inr (2, [.int (nI n), .ref hp, .ref hq])), (hp, .inl (g.1, 62, .inl (zk_ia P))), (hq, .inl (g.1, 32, .inl (zk_ia L))), (hs, .inl (g.1, 7, .inl (zk_ia S))), (pl, .inr (3, [.ref plc])), (plc, .inl (g.1, 8, .inl (zk_ia c))), (he, .inr (4, [.ref hrw])), (hrw, .inl (g.2.2.1, 3, .inr (.inr (.inr (.inr (zk_ra [r0, r1, r2])))))), (r0, .inl (g.1, 4, .inl (zk_ia (M.getD 0 [])))), (r1, .inl (g.1, 4, .inl (zk_ia (M.getD 1 [])))), (r2, .inl (g.1, 4, .inl (zk_ia (M.getD 2 [])))), (ms, .inl (g.1, 4, .inl (zk_ia Ms))), (ch, .inl (g.1, 4, .inl (zk_ia Cs))), (md, .inl (g.1, 4, .inl (zk_ia Ds))), (kr, .inl (g.1, 4, .inl (zk_ia Ks)))] (fun v w => v = some (.int (nI (mdN 0 p n t dep Ks))) ∧ ∃ (S1 c1 Ds1 : List Nat) (s0 s1 s2 : Nat) (M1 : List (List Nat)), S1.length = 7 ∧ S1.getD 0 0 = 0 ∧ c1.length = 8 ∧ Ds1.length = 4 ∧ zk_ml M1 ∧ w = [(hn, .inr (0, [.ref co, .ref tr, .int (nI 1), .int (nI dep), .ref ms, .ref ch, .ref md, .ref kp, .ref wy])), (co, .inr (1, [.ref h0, .int (nI t), .int (nI gn), .int (nI kd), .ref hs, .ref pl])), (h0, .inr (2, [.int (nI n), .ref hp, .ref hq])), (hp, .inl (g.1, 62, .inl (zk_ia P))), (hq, .inl (g.1, 32, .inl (zk_ia L))), (hs, .inl (g.1, 7, .inl (zk_ia S1))), (pl, .inr (3, [.ref plc])), (plc, .inl (g.1, 8, .inl (zk_ia c1))), (he, .inr (4, [.ref hrw])), (hrw, .inl (g.2.2.1, 3, .inr (.inr (.inr (.inr (zk_ra [s0, s1, s2])))))), (s0, .inl (g.1, 4, .inl (zk_ia (M1.getD 0 [])))), (s1, .inl (g.1, 4, .inl (zk_ia (M1.getD 1 [])))), (s2, .inl (g.1, 4, .inl (zk_ia (M1.getD 2 [])))), (ms, .inl (g.1, 4, .inl (zk_ia (mdM 0 p n t dep (n - kd) Ks Ms)))), (ch, .inl (g.1, 4, .inl (zk_ia (mdC 0 p n t dep Ks Cs)))), (md, .inl (g.1, 4, .inl (zk_ia Ds1))), (kr, .inl (g.1, 4, .inl (zk_ia Ks)))]) := by
  refine zk_ofW (by decide) (Nat.le_of_ble_eq_true rfl) ?_
  intro pg ev s mm below meth cd A C hr hlocks hname Z ls hl
  have hx := C.1.1
  have hb := C.1.2.1
  have hml := C.1.2.2.1
  have hown := C.1.2.2.2.1
  have hts := C.1.2.2.2.2
  have hl : lv_has ls 5 [(0, .ref hn), (1, .ref kr), (2, .ref he)] := hl
  have hn31 := F.n31
  obtain ⟨H, hH⟩ : ∃ H, H = s.heap := ⟨_, rfl⟩
  obtain ⟨locs, hlocs⟩ : ∃ q : List Loc, q = [] := ⟨_, rfl⟩
  rw [← hH, ← hlocs] at Z ⊢
  refine lv_iconst (v := nI 0) hx hb dX1_mend_0 (by decide) ?_
  refine lv_istore_n (lv' := [(3, .int (nI 0)), (0, .ref hn), (1, .ref kr), (2, .ref he)]) hx hb dX1_mend_1 rfl hl (by decide) rfl (fun ls hl => ?_)
  refine lv_iconst (v := nI 0) hx hb dX1_mend_2 (by decide) ?_
  refine lv_istore (lv' := [(4, .int (nI 0)), (3, .int (nI 0)), (0, .ref hn), (1, .ref kr), (2, .ref he)]) hx hb dX1_mend_3 hl (by decide) rfl (fun ls hl => ?_)
  refine lp1_mdEK C hn co tr dep ms ch md kp wy h0 hs pl plc t gn kd hp hq p n P L F t1 t3 d4 kdn kr he hrw Ms Cs Ks hMs hCs hKs dep (by omega) hW hall _ (fun Ds S c r0 r1 r2 M H locs ls hD hS hS0 hl8 hM hDs Z hl => ?_) dep 0 Ds S c 0 r0 r1 r2 M H locs ls (by omega) hD hS hS0 hl8 hM (fun j hj => absurd hj (Nat.not_lt_zero _)) rfl Z (lv_sub hl [2, 3, 4, 1, 0] rfl)
  refine lv_iload hx hb dX1_mend_5 (lv_at hl 4 rfl) ?_
  refine lv_aload_n hx hb dX1_mend_7 rfl (lv_at hl 0 rfl) ?_
  refine zk_get C Z in_X1 0 rfl rfl 3 (by decide) q168 rfl (v := .int (nI dep)) rfl dX1_mend_8 ?_
  refine nr_ge (tgt := 57) hx hb (by omega) (by omega) dX1_mend_11 (by decide) (fun c_1 => ?_) (fun c_1 => absurd c_1 (by omega))
  refine lv_iconst (v := nI 0) hx hb dX1_mend_57 (by decide) ?_
  refine lv_istore (lv' := [(4, .int (nI 0)), (0, .ref hn), (1, .ref kr), (2, .ref he), (3, .int (nI (zk_it (fun j s => s + bct (mdr 0 p n t (Ks.getD j 0) ^^^ Ks.getD j 0)) dep 0 0)))]) hx hb dX1_mend_58 hl (by decide) rfl (fun ls hl => ?_)
  refine lp1_meEK C hn co tr dep ms ch md kp wy h0 hs pl plc t gn kd hp hq p n P L F t1 t3 d4 kdn kr he hrw r0 r1 r2 M S c Ds Ks Ks (fun j hj => mdr_lt hn31.2 (hW _) (hall j hj)) hDs _ _ _ (fun H locs ls Z hl => ?_) dep 0 Cs Ms H locs ls (by omega) hCs hMs rfl rfl Z (lv_sub hl [1, 2, 3, 4, 0] rfl)
  have Z : zk_Z D A s H locs [(hn, .inr (0, [.ref co, .ref tr, .int (nI 1), .int (nI dep), .ref ms, .ref ch, .ref md, .ref kp, .ref wy])), (co, .inr (1, [.ref h0, .int (nI t), .int (nI gn), .int (nI kd), .ref hs, .ref pl])), (h0, .inr (2, [.int (nI n), .ref hp, .ref hq])), (hp, .inl (g.1, 62, .inl (zk_ia P))), (hq, .inl (g.1, 32, .inl (zk_ia L))), (hs, .inl (g.1, 7, .inl (zk_ia S))), (pl, .inr (3, [.ref plc])), (plc, .inl (g.1, 8, .inl (zk_ia c))), (he, .inr (4, [.ref hrw])), (hrw, .inl (g.2.2.1, 3, .inr (.inr (.inr (.inr (zk_ra [r0, r1, r2])))))), (r0, .inl (g.1, 4, .inl (zk_ia (M.getD 0 [])))), (r1, .inl (g.1, 4, .inl (zk_ia (M.getD 1 [])))), (r2, .inl (g.1, 4, .inl (zk_ia (M.getD 2 [])))), (ms, .inl (g.1, 4, .inl (zk_ia (mdM 0 p n t dep (n - kd) Ks Ms)))), (ch, .inl (g.1, 4, .inl (zk_ia (mdC 0 p n t dep Ks Cs)))), (md, .inl (g.1, 4, .inl (zk_ia Ds))), (kr, .inl (g.1, 4, .inl (zk_ia Ks)))] := Z
  refine lv_iload_n hx hb dX1_mend_122 rfl (lv_at hl 1 rfl) ?_
  exact zk_iret C hr hlocks Z ⟨rfl, S, c, Ds, r0, r1, r2, M, hS, hS0, hl8, hD, hM, rfl⟩ (Nat.le_of_ble_eq_true rfl) (Nat.le_of_ble_eq_true rfl) dX1_mend_123

set_option maxHeartbeats 4000000 in
/-- mend, EK, which throws -/
theorem t1_mdEK (l : Launch) (hfl : l.flags = flags0) (D : va_G) (g : G4) (hn co tr dep ms ch md kp wy : Nat) (h0 hs pl plc t gn kd : Nat) (hp hq p n : Nat) (P L : List Nat) (F : zk_F p n P L) (t1 : 1 ≤ t) (t3 : t ≤ 3) (d4 : dep ≤ 4) (kdn : kd ≤ n) (kr : Nat) (he hrw r0 r1 r2 : Nat) (M : List (List Nat)) (hM : zk_ml M) (Ms Cs Ks : List Nat) (hMs : Ms.length = 4) (hCs : Cs.length = 4) (hKs : Ks.length = 4) (hW : ∀ j, Ks.getD j 0 < 2 ^ 31) (S c Ds : List Nat) (hS : S.length = 7) (hS0 : S.getD 0 0 = 0) (hl8 : c.length = 8) (hD : Ds.length = 4) (up : Nat) (hup : up < dep) (hall : ∀ j, j < up → mdd 0 p n t (Ks.getD j 0) = some (mdr 0 p n t (Ks.getD j 0))) (hnone : mdd 0 p n t (Ks.getD up 0) = none) : zk_MT l yX1_mend (ws_ yX1_mend cX1_mend 5 (some .int)) (zk_R 7 1 6) D g [.ref hn, .ref kr, .ref he] [(hn, .inr (0, [.ref co, .ref tr, .int (nI 1), .int (nI dep), .ref ms, .ref ch, .ref md, .ref kp, .ref wy])), (co, .inr (1, [.ref h0, .int (nI t), .int (nI gn), .int (nI kd), .ref hs, .ref pl])), (h0, .inr (2, [.int (nI n), .ref hp, .ref hq])), (hp, .inl (g.1, 62, .inl (zk_ia P))), (hq, .inl (g.1, 32, .inl (zk_ia L))), (hs, .inl (g.1, 7, .inl (zk_ia S))), (pl, .inr (3, [.ref plc])), (plc, .inl (g.1, 8, .inl (zk_ia c))), (he, .inr (4, [.ref hrw])), (hrw, .inl (g.2.2.1, 3, .inr (.inr (.inr (.inr (zk_ra [r0, r1, r2])))))), (r0, .inl (g.1, 4, .inl (zk_ia (M.getD 0 [])))), (r1, .inl (g.1, 4, .inl (zk_ia (M.getD 1 [])))), (r2, .inl (g.1, 4, .inl (zk_ia (M.getD 2 [])))), (ms, .inl (g.1, 4, .inl (zk_ia Ms))), (ch, .inl (g.1, 4, .inl (zk_ia Cs))), (md, .inl (g.1, 4, .inl (zk_ia Ds))), (kr, .inl (g.1, 4, .inl (zk_ia Ks)))] zk_ARE (fun w => ∃ (S1 c1 Ds1 : List Nat) (s0 s1 s2 : Nat) (M1 : List (List Nat)), S1.length = 7 ∧ S1.getD 0 0 = 0 ∧ c1.length = 8 ∧ Ds1.length = 4 ∧ zk_ml M1 ∧ w = [(hn, .inr (0, [.ref co, .ref tr, .int (nI 1), .int (nI dep), .ref ms, .ref ch, .ref md, .ref kp, .ref wy])), (ms, .inl (g.1, 4, .inl (zk_ia Ms))), (ch, .inl (g.1, 4, .inl (zk_ia Cs))), (md, .inl (g.1, 4, .inl (zk_ia Ds1))), (kr, .inl (g.1, 4, .inl (zk_ia Ks))), (co, .inr (1, [.ref h0, .int (nI t), .int (nI gn), .int (nI kd), .ref hs, .ref pl])), (h0, .inr (2, [.int (nI n), .ref hp, .ref hq])), (hp, .inl (g.1, 62, .inl (zk_ia P))), (hq, .inl (g.1, 32, .inl (zk_ia L))), (hs, .inl (g.1, 7, .inl (zk_ia S1))), (pl, .inr (3, [.ref plc])), (plc, .inl (g.1, 8, .inl (zk_ia c1))), (he, .inr (4, [.ref hrw])), (hrw, .inl (g.2.2.1, 3, .inr (.inr (.inr (.inr (zk_ra [s0, s1, s2])))))), (s0, .inl (g.1, 4, .inl (zk_ia (M1.getD 0 [])))), (s1, .inl (g.1, 4, .inl (zk_ia (M1.getD 1 [])))), (s2, .inl (g.1, 4, .inl (zk_ia (M1.getD 2 []))))]) := by
  refine zk_ofWT (by decide) (Nat.le_of_ble_eq_true rfl) ?_
  intro pg ev s mm below meth cd A C hlocks hno Z ls hl
  have hx := C.1.1
  have hb := C.1.2.1
  have hml := C.1.2.2.1
  have hown := C.1.2.2.2.1
  have hts := C.1.2.2.2.2
  have hl : lv_has ls 5 [(0, .ref hn), (1, .ref kr), (2, .ref he)] := hl
  have hn31 := F.n31
  obtain ⟨H, hH⟩ : ∃ H, H = s.heap := ⟨_, rfl⟩
  obtain ⟨locs, hlocs⟩ : ∃ q : List Loc, q = [] := ⟨_, rfl⟩
  rw [← hH, ← hlocs] at Z ⊢
  refine lv_iconst (v := nI 0) hx hb dX1_mend_0 (by decide) ?_
  refine lv_istore_n (lv' := [(3, .int (nI 0)), (0, .ref hn), (1, .ref kr), (2, .ref he)]) hx hb dX1_mend_1 rfl hl (by decide) rfl (fun ls hl => ?_)
  refine lv_iconst (v := nI 0) hx hb dX1_mend_2 (by decide) ?_
  refine lv_istore (lv' := [(4, .int (nI 0)), (3, .int (nI 0)), (0, .ref hn), (1, .ref kr), (2, .ref he)]) hx hb dX1_mend_3 hl (by decide) rfl (fun ls hl => ?_)
  refine lp1_mdEK C hn co tr dep ms ch md kp wy h0 hs pl plc t gn kd hp hq p n P L F t1 t3 d4 kdn kr he hrw Ms Cs Ks hMs hCs hKs up (by omega) hW hall _ (fun Ds S c r0 r1 r2 M H locs ls hD hS hS0 hl8 hM hDs Z hl => ?_) up 0 Ds S c 0 r0 r1 r2 M H locs ls (by omega) hD hS hS0 hl8 hM (fun j hj => absurd hj (Nat.not_lt_zero _)) rfl Z (lv_sub hl [2, 3, 4, 1, 0] rfl)
  refine lv_iload hx hb dX1_mend_5 (lv_at hl 4 rfl) ?_
  refine lv_aload_n hx hb dX1_mend_7 rfl (lv_at hl 0 rfl) ?_
  refine zk_get C Z in_X1 0 rfl rfl 3 (by decide) q168 rfl (v := .int (nI dep)) rfl dX1_mend_8 ?_
  refine nr_ge (tgt := 57) hx hb (by omega) (by omega) dX1_mend_11 (by decide) (fun c_1 => absurd c_1 (by omega)) (fun c_1 => ?_)
  refine lv_aload_n hx hb dX1_mend_14 rfl (lv_at hl 0 rfl) ?_
  refine zk_get C Z in_X1 0 rfl rfl 6 (by decide) q171 rfl (v := .ref md) rfl dX1_mend_15 ?_
  refine lv_iload hx hb dX1_mend_18 (lv_at hl 4 rfl) ?_
  refine lv_aload_n hx hb dX1_mend_20 rfl (lv_at hl 0 rfl) ?_
  refine zk_get C Z in_X1 0 rfl rfl 0 (by decide) q165 rfl (v := .ref co) rfl dX1_mend_21 ?_
  refine lv_aload_n hx hb dX1_mend_24 rfl (lv_at hl 1 rfl) ?_
  refine lv_iload hx hb dX1_mend_25 (lv_at hl 4 rfl) ?_
  refine zk_iald C Z 16 rfl (by decide) (by omega) dX1_mend_27 ?_
  refine lv_aload_n hx hb dX1_mend_28 rfl (lv_at hl 2 rfl) ?_
  refine zk_callVT (cells' := 1) (slots' := 6) (rest := [.int (nI up), .ref md]) (n := 2) (wr := [(hn, .inr (0, [.ref co, .ref tr, .int (nI 1), .int (nI dep), .ref ms, .ref ch, .ref md, .ref kp, .ref wy])), (ms, .inl (g.1, 4, .inl (zk_ia Ms))), (ch, .inl (g.1, 4, .inl (zk_ia Cs))), (md, .inl (g.1, 4, .inl (zk_ia Ds))), (kr, .inl (g.1, 4, .inl (zk_ia Ks)))]) C Z (t2_mdE l hfl D g co h0 hs pl plc t gn kd hp hq p n P L F t1 t3 he hrw r0 r1 r2 M hM (Ks.getD up 0) (hW _) S c hS hS0 hl8 hnone) [1, 2, 3, 4, 5, 6, 7, 8, 9, 10, 11, 12] [0, 13, 14, 15, 16] rfl rfl (by decide) (by decide) (by decide) 1 1 rfl rfl rfl q498 q499 q500 q20 q501 (by decide +kernel) rfl (Nat.le_of_ble_eq_true rfl) (Nat.le_of_ble_eq_true rfl) (Nat.le_of_ble_eq_true rfl) (Nat.le_of_ble_eq_true rfl) rfl rfl hl.1 rfl (Nat.le_of_ble_eq_true rfl) dX1_mend_29 (fun w1 hq => ?_)
  obtain ⟨S1, c1, s0, s1, s2, M1, hS1, hS10, hc1, hM1, rfl⟩ := hq
  exact zk_leave hlocks hno (⟨S1, c1, Ds, s0, s1, s2, M1, hS1, hS10, hc1, hD, hM1, rfl⟩) (Nat.le_of_ble_eq_true rfl) (Nat.le_of_ble_eq_true rfl)

set_option maxHeartbeats 4000000 in
theorem lp1_mdDA {pg : Program} {l : Launch} {ev : Env} {s : State} {mm : MethodId} {args : Array Value} {below : List Frame} {meth : Method} {cd : Code} {Q : State → Prop} {D : va_G} {g : G4} {A : Nat → Prop} (C : zk_C pg s mm cd args cX1_mend 5 RX1 D g A) (hn co tr dep ms ch md kp wy : Nat) (h0 hs pl plc t gn kd : Nat) (hp hq p n : Nat) (P L : List Nat) (F : zk_F p n P L) (t1 : 1 ≤ t) (t3 : t ≤ 3) (d4 : dep ≤ 4) (kdn : kd ≤ n) (hv : Nat) (Ms Cs : List Nat) (hMs : Ms.length = 4) (hCs : Cs.length = 4) (up : Nat) (hup : up ≤ dep) (hW : ∀ j, Cs.getD j 0 < 2 ^ 31) (hall : ∀ j, j < up → mdd 1 p n t (Cs.getD j 0) = some (mdr 1 p n t (Cs.getD j 0))) (finN : Nat) (kk : ∀ (Ds S c : List Nat) (a1 b1 a2 b2 a3 b3 a4 b4 : Nat) (xh xl xb xn : List Nat) (H : Heap) (locs : List Loc) (ls : Array Slot), Ds.length = 4 → S.length = 7 → S.getD 0 0 = 0 → c.length = 8 → xh.length = 8 → xl.length = 8 → xb.length = 8 → xn.length = 8 → (∀ j, j < up → Ds.getD j 0 = mdr 1 p n t (Cs.getD j 0)) → zk_Z D A s H locs [(hn, .inr (0, [.ref co, .ref tr, .int (nI 1), .int (nI dep), .ref ms, .ref ch, .ref md, .ref kp, .ref wy])), (co, .inr (1, [.ref h0, .int (nI t), .int (nI gn), .int (nI kd), .ref hs, .ref pl])), (h0, .inr (2, [.int (nI n), .ref hp, .ref hq])), (hp, .inl (g.1, 62, .inl (zk_ia P))), (hq, .inl (g.1, 32, .inl (zk_ia L))), (hs, .inl (g.1, 7, .inl (zk_ia S))), (pl, .inr (3, [.ref plc])), (plc, .inl (g.1, 8, .inl (zk_ia c))), (hv, .inr (5, [.ref a1, .ref a2, .ref a3, .ref a4])), (a1, .inr (3, [.ref b1])), (b1, .inl (g.1, 8, .inl (zk_ia xh))), (a2, .inr (3, [.ref b2])), (b2, .inl (g.1, 8, .inl (zk_ia xl))), (a3, .inr (3, [.ref b3])), (b3, .inl (g.1, 8, .inl (zk_ia xb))), (a4, .inr (3, [.ref b4])), (b4, .inl (g.1, 8, .inl (zk_ia xn))), (ms, .inl (g.1, 4, .inl (zk_ia Ms))), (ch, .inl (g.1, 4, .inl (zk_ia Cs))), (md, .inl (g.1, 4, .inl (zk_ia Ds)))] → lv_has ls 5 [(0, .ref hn), (1, .ref ch), (2, .ref hv), (3, .int (nI finN)), (4, .int (nI up))] → W pg l ev (zk_R 7 1 6) s mm args below meth cd H locs 0 0 Q (F0 mm 5 ls [])) :
    ∀ (k : Nat) (w : Nat) (Ds S c : List Nat) (nn : Nat) (a1 b1 a2 b2 a3 b3 a4 b4 : Nat) (xh xl xb xn : List Nat) (H : Heap) (locs : List Loc) (ls : Array Slot), (w + k = up) → (Ds.length = 4) → (S.length = 7) → (S.getD 0 0 = 0) → (c.length = 8) → (xh.length = 8) → (xl.length = 8) → (xb.length = 8) → (xn.length = 8) → (∀ j, j < w → Ds.getD j 0 = mdr 1 p n t (Cs.getD j 0)) → (zk_it (fun j s => s + bct (mdr 1 p n t (Cs.getD j 0) ^^^ Cs.getD j 0)) k w nn = finN) → zk_Z D A s H locs [(hn, .inr (0, [.ref co, .ref tr, .int (nI 1), .int (nI dep), .ref ms, .ref ch, .ref md, .ref kp, .ref wy])), (co, .inr (1, [.ref h0, .int (nI t), .int (nI gn), .int (nI kd), .ref hs, .ref pl])), (h0, .inr (2, [.int (nI n), .ref hp, .ref hq])), (hp, .inl (g.1, 62, .inl (zk_ia P))), (hq, .inl (g.1, 32, .inl (zk_ia L))), (hs, .inl (g.1, 7, .inl (zk_ia S))), (pl, .inr (3, [.ref plc])), (plc, .inl (g.1, 8, .inl (zk_ia c))), (hv, .inr (5, [.ref a1, .ref a2, .ref a3, .ref a4])), (a1, .inr (3, [.ref b1])), (b1, .inl (g.1, 8, .inl (zk_ia xh))), (a2, .inr (3, [.ref b2])), (b2, .inl (g.1, 8, .inl (zk_ia xl))), (a3, .inr (3, [.ref b3])), (b3, .inl (g.1, 8, .inl (zk_ia xb))), (a4, .inr (3, [.ref b4])), (b4, .inl (g.1, 8, .inl (zk_ia xn))), (ms, .inl (g.1, 4, .inl (zk_ia Ms))), (ch, .inl (g.1, 4, .inl (zk_ia Cs))), (md, .inl (g.1, 4, .inl (zk_ia Ds)))] → lv_has ls 5 [(0, .ref hn), (1, .ref ch), (2, .ref hv), (3, .int (nI nn)), (4, .int (nI w))] → W pg l ev (zk_R 7 1 6) s mm args below meth cd H locs 0 0 Q (F0 mm 5 ls []) := by
  have hx := C.1.1
  have hb := C.1.2.1
  have hml := C.1.2.2.1
  have hown := C.1.2.2.2.1
  have hts := C.1.2.2.2.2
  have hn31 := F.n31
  intro k
  induction k with
  | zero =>
    intro w Ds S c nn a1 b1 a2 b2 a3 b3 a4 b4 xh xl xb xn H locs ls hik hD hS hS0 hl8 lh ll lb ln hDs hfin Z hl
    have hw : w = up := by omega
    subst hw
    have hfin : nn = finN := hfin
    subst hfin
    exact kk Ds S c a1 b1 a2 b2 a3 b3 a4 b4 xh xl xb xn H locs ls hD hS hS0 hl8 lh ll lb ln hDs Z hl
  | succ k ih =>
    intro w Ds S c nn a1 b1 a2 b2 a3 b3 a4 b4 xh xl xb xn H locs ls hik hD hS hS0 hl8 lh ll lb ln hDs hfin Z hl
    refine lv_iload hx hb dX1_mend_5 (lv_at hl 4 rfl) ?_
    refine lv_aload_n hx hb dX1_mend_7 rfl (lv_at hl 0 rfl) ?_
    refine zk_get C Z in_X1 0 rfl rfl 3 (by decide) q168 rfl (v := .int (nI dep)) rfl dX1_mend_8 ?_
    refine nr_ge (tgt := 57) hx hb (by omega) (by omega) dX1_mend_11 (by decide) (fun c_1 => absurd c_1 (by omega)) (fun c_1 => ?_)
    refine lv_aload_n hx hb dX1_mend_14 rfl (lv_at hl 0 rfl) ?_
    refine zk_get C Z in_X1 0 rfl rfl 6 (by decide) q171 rfl (v := .ref md) rfl dX1_mend_15 ?_
    refine lv_iload hx hb dX1_mend_18 (lv_at hl 4 rfl) ?_
    refine lv_aload_n hx hb dX1_mend_20 rfl (lv_at hl 0 rfl) ?_
    refine zk_get C Z in_X1 0 rfl rfl 0 (by decide) q165 rfl (v := .ref co) rfl dX1_mend_21 ?_
    refine lv_aload_n hx hb dX1_mend_24 rfl (lv_at hl 1 rfl) ?_
    refine lv_iload hx hb dX1_mend_25 (lv_at hl 4 rfl) ?_
    refine zk_iald C Z 18 rfl (by decide) (by omega) dX1_mend_27 ?_
    refine lv_aload_n hx hb dX1_mend_28 rfl (lv_at hl 2 rfl) ?_
    refine zk_callV (cells' := 0) (slots' := 0) (rest := [.int (nI w), .ref md]) (n := 2) (wr := [(hn, .inr (0, [.ref co, .ref tr, .int (nI 1), .int (nI dep), .ref ms, .ref ch, .ref md, .ref kp, .ref wy])), (ms, .inl (g.1, 4, .inl (zk_ia Ms))), (ch, .inl (g.1, 4, .inl (zk_ia Cs))), (md, .inl (g.1, 4, .inl (zk_ia Ds)))]) C Z (m2_mdD l D g co h0 hs pl plc t gn kd hp hq p n P L F t1 t3 hv a1 b1 a2 b2 a3 b3 a4 b4 xh xl xb xn lh ll lb ln (Cs.getD w 0) (hW _) S c hS hS0 hl8 (mdr 1 p n t (Cs.getD w 0)) (hall w (by omega))) [1, 2, 3, 4, 5, 6, 7, 8, 9, 10, 11, 12, 13, 14, 15, 16] [0, 17, 18, 19] rfl rfl (by decide) (by decide) (by decide) 1 1 rfl rfl rfl q498 q499 q500 q20 q501 (by decide +kernel) rfl (Nat.le_of_ble_eq_true rfl) (Nat.le_of_ble_eq_true rfl) (Nat.le_of_ble_eq_true rfl) (Nat.le_of_ble_eq_true rfl) rfl rfl hl.1 rfl (Nat.le_of_ble_eq_true rfl) dX1_mend_29 (fun v w1 H locs hq Z => ?_)
    obtain ⟨rfl, S1, c1, c1_, d1_, c2_, d2_, c3_, d3_, c4_, d4_, y1, y2, y3, y4, hS1, hS10, hc1, hy1, hy2, hy3, hy4, rfl⟩ := hq
    have Z : zk_Z D A s H locs [(hn, .inr (0, [.ref co, .ref tr, .int (nI 1), .int (nI dep), .ref ms, .ref ch, .ref md, .ref kp, .ref wy])), (co, .inr (1, [.ref h0, .int (nI t), .int (nI gn), .int (nI kd), .ref hs, .ref pl])), (h0, .inr (2, [.int (nI n), .ref hp, .ref hq])), (hp, .inl (g.1, 62, .inl (zk_ia P))), (hq, .inl (g.1, 32, .inl (zk_ia L))), (hs, .inl (g.1, 7, .inl (zk_ia S1))), (pl, .inr (3, [.ref plc])), (plc, .inl (g.1, 8, .inl (zk_ia c1))), (hv, .inr (5, [.ref c1_, .ref c2_, .ref c3_, .ref c4_])), (c1_, .inr (3, [.ref d1_])), (d1_, .inl (g.1, 8, .inl (zk_ia y1))), (c2_, .inr (3, [.ref d2_])), (d2_, .inl (g.1, 8, .inl (zk_ia y2))), (c3_, .inr (3, [.ref d3_])), (d3_, .inl (g.1, 8, .inl (zk_ia y3))), (c4_, .inr (3, [.ref d4_])), (d4_, .inl (g.1, 8, .inl (zk_ia y4))), (ms, .inl (g.1, 4, .inl (zk_ia Ms))), (ch, .inl (g.1, 4, .inl (zk_ia Cs))), (md, .inl (g.1, 4, .inl (zk_ia Ds)))] := Z.sub [0, 4, 5, 6, 7, 8, 9, 10, 11, 12, 13, 14, 15, 16, 17, 18, 19, 1, 2, 3] (by decide) rfl
    refine W.eq (g2 := F0 mm 32 ls [.int (nI (mdr 1 p n t (Cs.getD w 0))), .int (nI w), .ref md]) rfl ?_
    refine zk_iast C Z 19 rfl (by decide) (by omega) hD dX1_mend_32 (fun H locs Z => ?_)
    have hlen_2 : (Ds.set w (mdr 1 p n t (Cs.getD w 0))).length = 4 := by rw [List.length_set]; exact hD
    have Z : zk_Z D A s H locs [(hn, .inr (0, [.ref co, .ref tr, .int (nI 1), .int (nI dep), .ref ms, .ref ch, .ref md, .ref kp, .ref wy])), (co, .inr (1, [.ref h0, .int (nI t), .int (nI gn), .int (nI kd), .ref hs, .ref pl])), (h0, .inr (2, [.int (nI n), .ref hp, .ref hq])), (hp, .inl (g.1, 62, .inl (zk_ia P))), (hq, .inl (g.1, 32, .inl (zk_ia L))), (hs, .inl (g.1, 7, .inl (zk_ia S1))), (pl, .inr (3, [.ref plc])), (plc, .inl (g.1, 8, .inl (zk_ia c1))), (hv, .inr (5, [.ref c1_, .ref c2_, .ref c3_, .ref c4_])), (c1_, .inr (3, [.ref d1_])), (d1_, .inl (g.1, 8, .inl (zk_ia y1))), (c2_, .inr (3, [.ref d2_])), (d2_, .inl (g.1, 8, .inl (zk_ia y2))), (c3_, .inr (3, [.ref d3_])), (d3_, .inl (g.1, 8, .inl (zk_ia y3))), (c4_, .inr (3, [.ref d4_])), (d4_, .inl (g.1, 8, .inl (zk_ia y4))), (ms, .inl (g.1, 4, .inl (zk_ia Ms))), (ch, .inl (g.1, 4, .inl (zk_ia Cs))), (md, .inl (g.1, 4, .inl (zk_ia (Ds.set w (mdr 1 p n t (Cs.getD w 0))))))] := Z
    refine lv_iload_n hx hb dX1_mend_33 rfl (lv_at hl 3 rfl) ?_
    refine lv_aload_n hx hb dX1_mend_34 rfl (lv_at hl 0 rfl) ?_
    refine zk_get C Z in_X1 0 rfl rfl 6 (by decide) q171 rfl (v := .ref md) rfl dX1_mend_35 ?_
    refine lv_iload hx hb dX1_mend_38 (lv_at hl 4 rfl) ?_
    refine zk_iald C Z 19 rfl (by decide) (by omega) dX1_mend_40 ?_
    rw [show (Ds.set w (mdr 1 p n t (Cs.getD w 0))).getD w 0 = mdr 1 p n t (Cs.getD w 0) from zk_sg (by omega)]
    refine lv_aload_n hx hb dX1_mend_41 rfl (lv_at hl 1 rfl) ?_
    refine lv_iload hx hb dX1_mend_42 (lv_at hl 4 rfl) ?_
    refine zk_iald C Z 18 rfl (by decide) (by omega) dX1_mend_44 ?_
    refine nr_ixor hx hb dX1_mend_45 ?_
    refine zk_callS (cells' := 0) (slots' := 0) (rest := [.int (nI nn)]) (n := 1) (wr := [(hn, .inr (0, [.ref co, .ref tr, .int (nI 1), .int (nI dep), .ref ms, .ref ch, .ref md, .ref kp, .ref wy])), (co, .inr (1, [.ref h0, .int (nI t), .int (nI gn), .int (nI kd), .ref hs, .ref pl])), (h0, .inr (2, [.int (nI n), .ref hp, .ref hq])), (hp, .inl (g.1, 62, .inl (zk_ia P))), (hq, .inl (g.1, 32, .inl (zk_ia L))), (hs, .inl (g.1, 7, .inl (zk_ia S1))), (pl, .inr (3, [.ref plc])), (plc, .inl (g.1, 8, .inl (zk_ia c1))), (hv, .inr (5, [.ref c1_, .ref c2_, .ref c3_, .ref c4_])), (c1_, .inr (3, [.ref d1_])), (d1_, .inl (g.1, 8, .inl (zk_ia y1))), (c2_, .inr (3, [.ref d2_])), (d2_, .inl (g.1, 8, .inl (zk_ia y2))), (c3_, .inr (3, [.ref d3_])), (d3_, .inl (g.1, 8, .inl (zk_ia y3))), (c4_, .inr (3, [.ref d4_])), (d4_, .inl (g.1, 8, .inl (zk_ia y4))), (ms, .inl (g.1, 4, .inl (zk_ia Ms))), (ch, .inl (g.1, 4, .inl (zk_ia Cs))), (md, .inl (g.1, 4, .inl (zk_ia (Ds.set w (mdr 1 p n t (Cs.getD w 0))))))]) C Z (mJ_bc l D g ((mdr 1 p n t (Cs.getD w 0)) ^^^ (Cs.getD w 0)) (Nat.xor_lt_two_pow (mdr_lt hn31.2 (hW _) (hall w (by omega))) (hW _))) [] [0, 1, 2, 3, 4, 5, 6, 7, 8, 9, 10, 11, 12, 13, 14, 15, 16, 17, 18, 19] rfl rfl (by decide) (by decide) (by decide) q447 q448 q36 q449 (by decide +kernel) rfl (Nat.le_of_ble_eq_true rfl) (Nat.le_of_ble_eq_true rfl) (Nat.le_of_ble_eq_true rfl) (Nat.le_of_ble_eq_true rfl) rfl rfl hl.1 rfl (Nat.le_of_ble_eq_true rfl) dX1_mend_46 (fun v w1 H locs hq Z => ?_)
    obtain ⟨rfl, rfl⟩ := hq
    have Z : zk_Z D A s H locs [(hn, .inr (0, [.ref co, .ref tr, .int (nI 1), .int (nI dep), .ref ms, .ref ch, .ref md, .ref kp, .ref wy])), (co, .inr (1, [.ref h0, .int (nI t), .int (nI gn), .int (nI kd), .ref hs, .ref pl])), (h0, .inr (2, [.int (nI n), .ref hp, .ref hq])), (hp, .inl (g.1, 62, .inl (zk_ia P))), (hq, .inl (g.1, 32, .inl (zk_ia L))), (hs, .inl (g.1, 7, .inl (zk_ia S1))), (pl, .inr (3, [.ref plc])), (plc, .inl (g.1, 8, .inl (zk_ia c1))), (hv, .inr (5, [.ref c1_, .ref c2_, .ref c3_, .ref c4_])), (c1_, .inr (3, [.ref d1_])), (d1_, .inl (g.1, 8, .inl (zk_ia y1))), (c2_, .inr (3, [.ref d2_])), (d2_, .inl (g.1, 8, .inl (zk_ia y2))), (c3_, .inr (3, [.ref d3_])), (d3_, .inl (g.1, 8, .inl (zk_ia y3))), (c4_, .inr (3, [.ref d4_])), (d4_, .inl (g.1, 8, .inl (zk_ia y4))), (ms, .inl (g.1, 4, .inl (zk_ia Ms))), (ch, .inl (g.1, 4, .inl (zk_ia Cs))), (md, .inl (g.1, 4, .inl (zk_ia (Ds.set w (mdr 1 p n t (Cs.getD w 0))))))] := Z.sub [0, 1, 2, 3, 4, 5, 6, 7, 8, 9, 10, 11, 12, 13, 14, 15, 16, 17, 18, 19] (by decide) rfl
    refine W.eq (g2 := F0 mm 49 ls [.int (nI (bct ((mdr 1 p n t (Cs.getD w 0)) ^^^ (Cs.getD w 0)))), .int (nI nn)]) rfl ?_
    refine nr_iadd hx hb dX1_mend_49 ?_
    refine lv_istore_n (lv' := [(3, .int (nI (nn + (bct ((mdr 1 p n t (Cs.getD w 0)) ^^^ (Cs.getD w 0)))))), (0, .ref hn), (1, .ref ch), (2, .ref hv), (4, .int (nI w))]) hx hb dX1_mend_50 rfl hl (by decide) rfl (fun ls hl => ?_)
    refine nr_iinc (n := 1) (lv' := [(4, .int (nI (w + 1))), (3, .int (nI (nn + (bct ((mdr 1 p n t (Cs.getD w 0)) ^^^ (Cs.getD w 0)))))), (0, .ref hn), (1, .ref ch), (2, .ref hv)]) hx hb (by decide) dX1_mend_51 hl (k := 4) rfl (by decide) rfl (fun ls hl => ?_)
    refine lv_goto (tgt := 5) hx hb dX1_mend_54 (by decide) ?_
    exact ih (w + 1) (Ds.set w (mdr 1 p n t (Cs.getD w 0))) S1 c1 (nn + (bct ((mdr 1 p n t (Cs.getD w 0)) ^^^ (Cs.getD w 0)))) c1_ d1_ c2_ d2_ c3_ d3_ c4_ d4_ y1 y2 y3 y4 H locs ls (by omega) hlen_2 hS1 hS10 hc1 hy1 hy2 hy3 hy4 (zk_upto (P := fun _ => True) (by omega) rfl hDs) hfin Z (lv_sub hl [2, 3, 4, 1, 0] rfl)

set_option maxHeartbeats 4000000 in
theorem lp1_meDA {pg : Program} {l : Launch} {ev : Env} {s : State} {mm : MethodId} {args : Array Value} {below : List Frame} {meth : Method} {cd : Code} {Q : State → Prop} {D : va_G} {g : G4} {A : Nat → Prop} (C : zk_C pg s mm cd args cX1_mend 5 RX1 D g A) (hn co tr dep ms ch md kp wy : Nat) (h0 hs pl plc t gn kd : Nat) (hp hq p n : Nat) (P L : List Nat) (F : zk_F p n P L) (t1 : 1 ≤ t) (t3 : t ≤ 3) (d4 : dep ≤ 4) (kdn : kd ≤ n) (hv : Nat) (a1 b1 a2 b2 a3 b3 a4 b4 : Nat) (xh xl xb xn : List Nat) (S c Ds Ws : List Nat) (hD31 : ∀ j, j < dep → mdr 1 p n t (Ws.getD j 0) < 2 ^ 31) (hDs : ∀ j, j < dep → Ds.getD j 0 = mdr 1 p n t (Ws.getD j 0)) (nn : Nat) (finC finM : List Nat) (kk : ∀ (H : Heap) (locs : List Loc) (ls : Array Slot), zk_Z D A s H locs [(hn, .inr (0, [.ref co, .ref tr, .int (nI 1), .int (nI dep), .ref ms, .ref ch, .ref md, .ref kp, .ref wy])), (co, .inr (1, [.ref h0, .int (nI t), .int (nI gn), .int (nI kd), .ref hs, .ref pl])), (h0, .inr (2, [.int (nI n), .ref hp, .ref hq])), (hp, .inl (g.1, 62, .inl (zk_ia P))), (hq, .inl (g.1, 32, .inl (zk_ia L))), (hs, .inl (g.1, 7, .inl (zk_ia S))), (pl, .inr (3, [.ref plc])), (plc, .inl (g.1, 8, .inl (zk_ia c))), (hv, .inr (5, [.ref a1, .ref a2, .ref a3, .ref a4])), (a1, .inr (3, [.ref b1])), (b1, .inl (g.1, 8, .inl (zk_ia xh))), (a2, .inr (3, [.ref b2])), (b2, .inl (g.1, 8, .inl (zk_ia xl))), (a3, .inr (3, [.ref b3])), (b3, .inl (g.1, 8, .inl (zk_ia xb))), (a4, .inr (3, [.ref b4])), (b4, .inl (g.1, 8, .inl (zk_ia xn))), (ms, .inl (g.1, 4, .inl (zk_ia finM))), (ch, .inl (g.1, 4, .inl (zk_ia finC))), (md, .inl (g.1, 4, .inl (zk_ia Ds)))] → lv_has ls 5 [(0, .ref hn), (3, .int (nI nn))] → W pg l ev (zk_R 7 1 6) s mm args below meth cd H locs 0 0 Q (F0 mm 122 ls [])) :
    ∀ (k : Nat) (w : Nat) (Cs Ms : List Nat) (H : Heap) (locs : List Loc) (ls : Array Slot), (w + k = dep) → (Cs.length = 4) → (Ms.length = 4) → (zk_it (fun j C => C.set j (mdr 1 p n t (Ws.getD j 0))) k w Cs = finC) → (zk_it (fun j M => M.set j (mdr 1 p n t (Ws.getD j 0) >>> (n - kd))) k w Ms = finM) → zk_Z D A s H locs [(hn, .inr (0, [.ref co, .ref tr, .int (nI 1), .int (nI dep), .ref ms, .ref ch, .ref md, .ref kp, .ref wy])), (co, .inr (1, [.ref h0, .int (nI t), .int (nI gn), .int (nI kd), .ref hs, .ref pl])), (h0, .inr (2, [.int (nI n), .ref hp, .ref hq])), (hp, .inl (g.1, 62, .inl (zk_ia P))), (hq, .inl (g.1, 32, .inl (zk_ia L))), (hs, .inl (g.1, 7, .inl (zk_ia S))), (pl, .inr (3, [.ref plc])), (plc, .inl (g.1, 8, .inl (zk_ia c))), (hv, .inr (5, [.ref a1, .ref a2, .ref a3, .ref a4])), (a1, .inr (3, [.ref b1])), (b1, .inl (g.1, 8, .inl (zk_ia xh))), (a2, .inr (3, [.ref b2])), (b2, .inl (g.1, 8, .inl (zk_ia xl))), (a3, .inr (3, [.ref b3])), (b3, .inl (g.1, 8, .inl (zk_ia xb))), (a4, .inr (3, [.ref b4])), (b4, .inl (g.1, 8, .inl (zk_ia xn))), (ms, .inl (g.1, 4, .inl (zk_ia Ms))), (ch, .inl (g.1, 4, .inl (zk_ia Cs))), (md, .inl (g.1, 4, .inl (zk_ia Ds)))] → lv_has ls 5 [(0, .ref hn), (1, .ref ch), (2, .ref hv), (3, .int (nI nn)), (4, .int (nI w))] → W pg l ev (zk_R 7 1 6) s mm args below meth cd H locs 0 0 Q (F0 mm 60 ls []) := by
  have hx := C.1.1
  have hb := C.1.2.1
  have hml := C.1.2.2.1
  have hown := C.1.2.2.2.1
  have hts := C.1.2.2.2.2
  have hn31 := F.n31
  intro k
  induction k with
  | zero =>
    intro w Cs Ms H locs ls hik hCs hMs hf1 hf2 Z hl
    have hf1 : Cs = finC := hf1
    have hf2 : Ms = finM := hf2
    subst hf1
    subst hf2
    refine lv_iload hx hb dX1_mend_60 (lv_at hl 4 rfl) ?_
    refine lv_aload_n hx hb dX1_mend_62 rfl (lv_at hl 0 rfl) ?_
    refine zk_get C Z in_X1 0 rfl rfl 3 (by decide) q168 rfl (v := .int (nI dep)) rfl dX1_mend_63 ?_
    refine nr_ge (tgt := 122) hx hb (by omega) (by omega) dX1_mend_66 (by decide) (fun c_1 => ?_) (fun c_1 => absurd c_1 (by omega))
    exact kk  H locs ls  Z (lv_sub hl [0, 3] rfl)
  | succ k ih =>
    intro w Cs Ms H locs ls hik hCs hMs hf1 hf2 Z hl
    refine lv_iload hx hb dX1_mend_60 (lv_at hl 4 rfl) ?_
    refine lv_aload_n hx hb dX1_mend_62 rfl (lv_at hl 0 rfl) ?_
    refine zk_get C Z in_X1 0 rfl rfl 3 (by decide) q168 rfl (v := .int (nI dep)) rfl dX1_mend_63 ?_
    refine nr_ge (tgt := 122) hx hb (by omega) (by omega) dX1_mend_66 (by decide) (fun c_1 => absurd c_1 (by omega)) (fun c_1 => ?_)
    refine lv_aload_n hx hb dX1_mend_69 rfl (lv_at hl 0 rfl) ?_
    refine zk_get C Z in_X1 0 rfl rfl 5 (by decide) q170 rfl (v := .ref ch) rfl dX1_mend_70 ?_
    refine lv_iload hx hb dX1_mend_73 (lv_at hl 4 rfl) ?_
    refine lv_aload_n hx hb dX1_mend_75 rfl (lv_at hl 0 rfl) ?_
    refine zk_get C Z in_X1 0 rfl rfl 6 (by decide) q171 rfl (v := .ref md) rfl dX1_mend_76 ?_
    refine lv_iload hx hb dX1_mend_79 (lv_at hl 4 rfl) ?_
    refine zk_iald C Z 19 rfl (by decide) (by omega) dX1_mend_81 ?_
    rw [hDs w (by omega)]
    refine zk_iast C Z 18 rfl (by decide) (by omega) hCs dX1_mend_82 (fun H locs Z => ?_)
    have hlen_2 : (Cs.set w (mdr 1 p n t (Ws.getD w 0))).length = 4 := by rw [List.length_set]; exact hCs
    have Z : zk_Z D A s H locs [(hn, .inr (0, [.ref co, .ref tr, .int (nI 1), .int (nI dep), .ref ms, .ref ch, .ref md, .ref kp, .ref wy])), (co, .inr (1, [.ref h0, .int (nI t), .int (nI gn), .int (nI kd), .ref hs, .ref pl])), (h0, .inr (2, [.int (nI n), .ref hp, .ref hq])), (hp, .inl (g.1, 62, .inl (zk_ia P))), (hq, .inl (g.1, 32, .inl (zk_ia L))), (hs, .inl (g.1, 7, .inl (zk_ia S))), (pl, .inr (3, [.ref plc])), (plc, .inl (g.1, 8, .inl (zk_ia c))), (hv, .inr (5, [.ref a1, .ref a2, .ref a3, .ref a4])), (a1, .inr (3, [.ref b1])), (b1, .inl (g.1, 8, .inl (zk_ia xh))), (a2, .inr (3, [.ref b2])), (b2, .inl (g.1, 8, .inl (zk_ia xl))), (a3, .inr (3, [.ref b3])), (b3, .inl (g.1, 8, .inl (zk_ia xb))), (a4, .inr (3, [.ref b4])), (b4, .inl (g.1, 8, .inl (zk_ia xn))), (ms, .inl (g.1, 4, .inl (zk_ia Ms))), (ch, .inl (g.1, 4, .inl (zk_ia (Cs.set w (mdr 1 p n t (Ws.getD w 0)))))), (md, .inl (g.1, 4, .inl (zk_ia Ds)))] := Z
    refine lv_aload_n hx hb dX1_mend_83 rfl (lv_at hl 0 rfl) ?_
    refine zk_get C Z in_X1 0 rfl rfl 4 (by decide) q169 rfl (v := .ref ms) rfl dX1_mend_84 ?_
    refine lv_iload hx hb dX1_mend_87 (lv_at hl 4 rfl) ?_
    refine lv_aload_n hx hb dX1_mend_89 rfl (lv_at hl 0 rfl) ?_
    refine zk_get C Z in_X1 0 rfl rfl 6 (by decide) q171 rfl (v := .ref md) rfl dX1_mend_90 ?_
    refine lv_iload hx hb dX1_mend_93 (lv_at hl 4 rfl) ?_
    refine zk_iald C Z 19 rfl (by decide) (by omega) dX1_mend_95 ?_
    rw [hDs w (by omega)]
    refine lv_aload_n hx hb dX1_mend_96 rfl (lv_at hl 0 rfl) ?_
    refine zk_get C Z in_X1 0 rfl rfl 0 (by decide) q165 rfl (v := .ref co) rfl dX1_mend_97 ?_
    refine zk_getN C Z in_X2 1 rfl rfl 0 (by decide) q92 rfl (v := .ref h0) rfl dX1_mend_100 ?_
    refine zk_getN C Z in_X3 2 rfl rfl 0 (by decide) q61 rfl (v := .int (nI n)) rfl dX1_mend_103 ?_
    refine lv_aload_n hx hb dX1_mend_106 rfl (lv_at hl 0 rfl) ?_
    refine zk_get C Z in_X1 0 rfl rfl 0 (by decide) q165 rfl (v := .ref co) rfl dX1_mend_107 ?_
    refine zk_getN C Z in_X2 1 rfl rfl 3 (by decide) q98 rfl (v := .int (nI kd)) rfl dX1_mend_110 ?_
    refine nr_isub hx hb (by omega) dX1_mend_113 ?_
    refine nr_ishr hx hb (hD31 w (by omega)) (by omega) dX1_mend_114 ?_
    refine zk_iast C Z 17 rfl (by decide) (by omega) hMs dX1_mend_115 (fun H locs Z => ?_)
    have hlen_3 : (Ms.set w ((mdr 1 p n t (Ws.getD w 0)) >>> (n - kd))).length = 4 := by rw [List.length_set]; exact hMs
    have Z : zk_Z D A s H locs [(hn, .inr (0, [.ref co, .ref tr, .int (nI 1), .int (nI dep), .ref ms, .ref ch, .ref md, .ref kp, .ref wy])), (co, .inr (1, [.ref h0, .int (nI t), .int (nI gn), .int (nI kd), .ref hs, .ref pl])), (h0, .inr (2, [.int (nI n), .ref hp, .ref hq])), (hp, .inl (g.1, 62, .inl (zk_ia P))), (hq, .inl (g.1, 32, .inl (zk_ia L))), (hs, .inl (g.1, 7, .inl (zk_ia S))), (pl, .inr (3, [.ref plc])), (plc, .inl (g.1, 8, .inl (zk_ia c))), (hv, .inr (5, [.ref a1, .ref a2, .ref a3, .ref a4])), (a1, .inr (3, [.ref b1])), (b1, .inl (g.1, 8, .inl (zk_ia xh))), (a2, .inr (3, [.ref b2])), (b2, .inl (g.1, 8, .inl (zk_ia xl))), (a3, .inr (3, [.ref b3])), (b3, .inl (g.1, 8, .inl (zk_ia xb))), (a4, .inr (3, [.ref b4])), (b4, .inl (g.1, 8, .inl (zk_ia xn))), (ms, .inl (g.1, 4, .inl (zk_ia (Ms.set w ((mdr 1 p n t (Ws.getD w 0)) >>> (n - kd)))))), (ch, .inl (g.1, 4, .inl (zk_ia (Cs.set w (mdr 1 p n t (Ws.getD w 0)))))), (md, .inl (g.1, 4, .inl (zk_ia Ds)))] := Z
    refine nr_iinc (n := 1) (lv' := [(4, .int (nI (w + 1))), (0, .ref hn), (1, .ref ch), (2, .ref hv), (3, .int (nI nn))]) hx hb (by decide) dX1_mend_116 hl (k := 4) rfl (by decide) rfl (fun ls hl => ?_)
    refine lv_goto (tgt := 60) hx hb dX1_mend_119 (by decide) ?_
    exact ih (w + 1) (Cs.set w (mdr 1 p n t (Ws.getD w 0))) (Ms.set w ((mdr 1 p n t (Ws.getD w 0)) >>> (n - kd))) H locs ls (by omega) hlen_2 hlen_3 hf1 hf2 Z (lv_sub hl [1, 2, 3, 4, 0] rfl)

set_option maxHeartbeats 4000000 in
/-- mend, DA -/
theorem m1_mdDA (l : Launch) (D : va_G) (g : G4) (hn co tr dep ms ch md kp wy : Nat) (h0 hs pl plc t gn kd : Nat) (hp hq p n : Nat) (P L : List Nat) (F : zk_F p n P L) (t1 : 1 ≤ t) (t3 : t ≤ 3) (d4 : dep ≤ 4) (kdn : kd ≤ n) (hv a1 b1 a2 b2 a3 b3 a4 b4 : Nat) (xh xl xb xn : List Nat) (lh : xh.length = 8) (ll : xl.length = 8) (lb : xb.length = 8) (ln : xn.length = 8) (Ms Cs : List Nat) (hMs : Ms.length = 4) (hCs : Cs.length = 4) (hW : ∀ j, Cs.getD j 0 < 2 ^ 31) (S c Ds : List Nat) (hS : S.length = 7) (hS0 : S.getD 0 0 = 0) (hl8 : c.length = 8) (hD : Ds.length = 4) (hall : ∀ j, j < dep → mdd 1 p n t (Cs.getD j 0) = some (mdr 1 p n t (Cs.getD j 0))) : zk_M l yX1_mend (ws_ yX1_mend cX1_mend 5 (some .int)) (zk_R 7 1 6) D g [.ref hn, .ref ch, .ref hv] [(hn, .inr (0, [.ref co, .ref tr, .int (nI 1), .int (nI dep), .ref ms, .ref ch, .ref md, .ref kp, .ref wy])), (co, .inr (1, [.ref h0, .int (nI t), .int (nI gn), .int (nI kd), .ref hs, .ref pl])), (h0, .inr (2, [.int (nI n), .ref hp, .ref hq])), (hp, .inl (g.1, 62, .inl (zk_ia P))), (hq, .inl (g.1, 32, .inl (zk_ia L))), (hs, .inl (g.1, 7, .inl (zk_ia S))), (pl, .inr (3, [.ref plc])), (plc, .inl (g.1, 8, .inl (zk_ia c))), (hv, .inr (5, [.ref a1, .ref a2, .ref a3, .ref a4])), (a1, .inr (3, [.ref b1])), (b1, .inl (g.1, 8, .inl (zk_ia xh))), (a2, .inr (3, [.ref b2])), (b2, .inl (g.1, 8, .inl (zk_ia xl))), (a3, .inr (3, [.ref b3])), (b3, .inl (g.1, 8, .inl (zk_ia xb))), (a4, .inr (3, [.ref b4])), (b4, .inl (g.1, 8, .inl (zk_ia xn))), (ms, .inl (g.1, 4, .inl (zk_ia Ms))), (ch, .inl (g.1, 4, .inl (zk_ia Cs))), (md, .inl (g.1, 4, .inl (zk_ia Ds)))] (fun v w => v = some (.int (nI (mdN 1 p n t dep Cs))) ∧ ∃ (S1 c1 Ds1 : List Nat) (c1_ d1_ c2_ d2_ c3_ d3_ c4_ d4_ : Nat) (y1 y2 y3 y4 : List Nat), S1.length = 7 ∧ S1.getD 0 0 = 0 ∧ c1.length = 8 ∧ Ds1.length = 4 ∧ y1.length = 8 ∧ y2.length = 8 ∧ y3.length = 8 ∧ y4.length = 8 ∧ w = [(hn, .inr (0, [.ref co, .ref tr, .int (nI 1), .int (nI dep), .ref ms, .ref ch, .ref md, .ref kp, .ref wy])), (co, .inr (1, [.ref h0, .int (nI t), .int (nI gn), .int (nI kd), .ref hs, .ref pl])), (h0, .inr (2, [.int (nI n), .ref hp, .ref hq])), (hp, .inl (g.1, 62, .inl (zk_ia P))), (hq, .inl (g.1, 32, .inl (zk_ia L))), (hs, .inl (g.1, 7, .inl (zk_ia S1))), (pl, .inr (3, [.ref plc])), (plc, .inl (g.1, 8, .inl (zk_ia c1))), (hv, .inr (5, [.ref c1_, .ref c2_, .ref c3_, .ref c4_])), (c1_, .inr (3, [.ref d1_])), (d1_, .inl (g.1, 8, .inl (zk_ia y1))), (c2_, .inr (3, [.ref d2_])), (d2_, .inl (g.1, 8, .inl (zk_ia y2))), (c3_, .inr (3, [.ref d3_])), (d3_, .inl (g.1, 8, .inl (zk_ia y3))), (c4_, .inr (3, [.ref d4_])), (d4_, .inl (g.1, 8, .inl (zk_ia y4))), (ms, .inl (g.1, 4, .inl (zk_ia (mdM 1 p n t dep (n - kd) Cs Ms)))), (ch, .inl (g.1, 4, .inl (zk_ia (mdC 1 p n t dep Cs Cs)))), (md, .inl (g.1, 4, .inl (zk_ia Ds1)))]) := by
  refine zk_ofW (by decide) (Nat.le_of_ble_eq_true rfl) ?_
  intro pg ev s mm below meth cd A C hr hlocks hname Z ls hl
  have hx := C.1.1
  have hb := C.1.2.1
  have hml := C.1.2.2.1
  have hown := C.1.2.2.2.1
  have hts := C.1.2.2.2.2
  have hl : lv_has ls 5 [(0, .ref hn), (1, .ref ch), (2, .ref hv)] := hl
  have hn31 := F.n31
  obtain ⟨H, hH⟩ : ∃ H, H = s.heap := ⟨_, rfl⟩
  obtain ⟨locs, hlocs⟩ : ∃ q : List Loc, q = [] := ⟨_, rfl⟩
  rw [← hH, ← hlocs] at Z ⊢
  refine lv_iconst (v := nI 0) hx hb dX1_mend_0 (by decide) ?_
  refine lv_istore_n (lv' := [(3, .int (nI 0)), (0, .ref hn), (1, .ref ch), (2, .ref hv)]) hx hb dX1_mend_1 rfl hl (by decide) rfl (fun ls hl => ?_)
  refine lv_iconst (v := nI 0) hx hb dX1_mend_2 (by decide) ?_
  refine lv_istore (lv' := [(4, .int (nI 0)), (3, .int (nI 0)), (0, .ref hn), (1, .ref ch), (2, .ref hv)]) hx hb dX1_mend_3 hl (by decide) rfl (fun ls hl => ?_)
  refine lp1_mdDA C hn co tr dep ms ch md kp wy h0 hs pl plc t gn kd hp hq p n P L F t1 t3 d4 kdn hv Ms Cs hMs hCs dep (by omega) hW hall _ (fun Ds S c a1 b1 a2 b2 a3 b3 a4 b4 xh xl xb xn H locs ls hD hS hS0 hl8 lh ll lb ln hDs Z hl => ?_) dep 0 Ds S c 0 a1 b1 a2 b2 a3 b3 a4 b4 xh xl xb xn H locs ls (by omega) hD hS hS0 hl8 lh ll lb ln (fun j hj => absurd hj (Nat.not_lt_zero _)) rfl Z (lv_sub hl [2, 3, 4, 1, 0] rfl)
  refine lv_iload hx hb dX1_mend_5 (lv_at hl 4 rfl) ?_
  refine lv_aload_n hx hb dX1_mend_7 rfl (lv_at hl 0 rfl) ?_
  refine zk_get C Z in_X1 0 rfl rfl 3 (by decide) q168 rfl (v := .int (nI dep)) rfl dX1_mend_8 ?_
  refine nr_ge (tgt := 57) hx hb (by omega) (by omega) dX1_mend_11 (by decide) (fun c_1 => ?_) (fun c_1 => absurd c_1 (by omega))
  refine lv_iconst (v := nI 0) hx hb dX1_mend_57 (by decide) ?_
  refine lv_istore (lv' := [(4, .int (nI 0)), (0, .ref hn), (1, .ref ch), (2, .ref hv), (3, .int (nI (zk_it (fun j s => s + bct (mdr 1 p n t (Cs.getD j 0) ^^^ Cs.getD j 0)) dep 0 0)))]) hx hb dX1_mend_58 hl (by decide) rfl (fun ls hl => ?_)
  refine lp1_meDA C hn co tr dep ms ch md kp wy h0 hs pl plc t gn kd hp hq p n P L F t1 t3 d4 kdn hv a1 b1 a2 b2 a3 b3 a4 b4 xh xl xb xn S c Ds Cs (fun j hj => mdr_lt hn31.2 (hW _) (hall j hj)) hDs _ _ _ (fun H locs ls Z hl => ?_) dep 0 Cs Ms H locs ls (by omega) hCs hMs rfl rfl Z (lv_sub hl [1, 2, 3, 4, 0] rfl)
  have Z : zk_Z D A s H locs [(hn, .inr (0, [.ref co, .ref tr, .int (nI 1), .int (nI dep), .ref ms, .ref ch, .ref md, .ref kp, .ref wy])), (co, .inr (1, [.ref h0, .int (nI t), .int (nI gn), .int (nI kd), .ref hs, .ref pl])), (h0, .inr (2, [.int (nI n), .ref hp, .ref hq])), (hp, .inl (g.1, 62, .inl (zk_ia P))), (hq, .inl (g.1, 32, .inl (zk_ia L))), (hs, .inl (g.1, 7, .inl (zk_ia S))), (pl, .inr (3, [.ref plc])), (plc, .inl (g.1, 8, .inl (zk_ia c))), (hv, .inr (5, [.ref a1, .ref a2, .ref a3, .ref a4])), (a1, .inr (3, [.ref b1])), (b1, .inl (g.1, 8, .inl (zk_ia xh))), (a2, .inr (3, [.ref b2])), (b2, .inl (g.1, 8, .inl (zk_ia xl))), (a3, .inr (3, [.ref b3])), (b3, .inl (g.1, 8, .inl (zk_ia xb))), (a4, .inr (3, [.ref b4])), (b4, .inl (g.1, 8, .inl (zk_ia xn))), (ms, .inl (g.1, 4, .inl (zk_ia (mdM 1 p n t dep (n - kd) Cs Ms)))), (ch, .inl (g.1, 4, .inl (zk_ia (mdC 1 p n t dep Cs Cs)))), (md, .inl (g.1, 4, .inl (zk_ia Ds)))] := Z
  refine lv_iload_n hx hb dX1_mend_122 rfl (lv_at hl 1 rfl) ?_
  exact zk_iret C hr hlocks Z ⟨rfl, S, c, Ds, a1, b1, a2, b2, a3, b3, a4, b4, xh, xl, xb, xn, hS, hS0, hl8, hD, lh, ll, lb, ln, rfl⟩ (Nat.le_of_ble_eq_true rfl) (Nat.le_of_ble_eq_true rfl) dX1_mend_123

set_option maxHeartbeats 4000000 in
/-- mend, DA, which throws -/
theorem t1_mdDA (l : Launch) (hfl : l.flags = flags0) (D : va_G) (g : G4) (hn co tr dep ms ch md kp wy : Nat) (h0 hs pl plc t gn kd : Nat) (hp hq p n : Nat) (P L : List Nat) (F : zk_F p n P L) (t1 : 1 ≤ t) (t3 : t ≤ 3) (d4 : dep ≤ 4) (kdn : kd ≤ n) (hv a1 b1 a2 b2 a3 b3 a4 b4 : Nat) (xh xl xb xn : List Nat) (lh : xh.length = 8) (ll : xl.length = 8) (lb : xb.length = 8) (ln : xn.length = 8) (Ms Cs : List Nat) (hMs : Ms.length = 4) (hCs : Cs.length = 4) (hW : ∀ j, Cs.getD j 0 < 2 ^ 31) (S c Ds : List Nat) (hS : S.length = 7) (hS0 : S.getD 0 0 = 0) (hl8 : c.length = 8) (hD : Ds.length = 4) (up : Nat) (hup : up < dep) (hall : ∀ j, j < up → mdd 1 p n t (Cs.getD j 0) = some (mdr 1 p n t (Cs.getD j 0))) (hnone : mdd 1 p n t (Cs.getD up 0) = none) : zk_MT l yX1_mend (ws_ yX1_mend cX1_mend 5 (some .int)) (zk_R 7 1 6) D g [.ref hn, .ref ch, .ref hv] [(hn, .inr (0, [.ref co, .ref tr, .int (nI 1), .int (nI dep), .ref ms, .ref ch, .ref md, .ref kp, .ref wy])), (co, .inr (1, [.ref h0, .int (nI t), .int (nI gn), .int (nI kd), .ref hs, .ref pl])), (h0, .inr (2, [.int (nI n), .ref hp, .ref hq])), (hp, .inl (g.1, 62, .inl (zk_ia P))), (hq, .inl (g.1, 32, .inl (zk_ia L))), (hs, .inl (g.1, 7, .inl (zk_ia S))), (pl, .inr (3, [.ref plc])), (plc, .inl (g.1, 8, .inl (zk_ia c))), (hv, .inr (5, [.ref a1, .ref a2, .ref a3, .ref a4])), (a1, .inr (3, [.ref b1])), (b1, .inl (g.1, 8, .inl (zk_ia xh))), (a2, .inr (3, [.ref b2])), (b2, .inl (g.1, 8, .inl (zk_ia xl))), (a3, .inr (3, [.ref b3])), (b3, .inl (g.1, 8, .inl (zk_ia xb))), (a4, .inr (3, [.ref b4])), (b4, .inl (g.1, 8, .inl (zk_ia xn))), (ms, .inl (g.1, 4, .inl (zk_ia Ms))), (ch, .inl (g.1, 4, .inl (zk_ia Cs))), (md, .inl (g.1, 4, .inl (zk_ia Ds)))] zk_ARE (fun w => ∃ (S1 c1 Ds1 : List Nat) (c1_ d1_ c2_ d2_ c3_ d3_ c4_ d4_ : Nat) (y1 y2 y3 y4 : List Nat), S1.length = 7 ∧ S1.getD 0 0 = 0 ∧ c1.length = 8 ∧ Ds1.length = 4 ∧ y1.length = 8 ∧ y2.length = 8 ∧ y3.length = 8 ∧ y4.length = 8 ∧ w = [(hn, .inr (0, [.ref co, .ref tr, .int (nI 1), .int (nI dep), .ref ms, .ref ch, .ref md, .ref kp, .ref wy])), (ms, .inl (g.1, 4, .inl (zk_ia Ms))), (ch, .inl (g.1, 4, .inl (zk_ia Cs))), (md, .inl (g.1, 4, .inl (zk_ia Ds1))), (co, .inr (1, [.ref h0, .int (nI t), .int (nI gn), .int (nI kd), .ref hs, .ref pl])), (h0, .inr (2, [.int (nI n), .ref hp, .ref hq])), (hp, .inl (g.1, 62, .inl (zk_ia P))), (hq, .inl (g.1, 32, .inl (zk_ia L))), (hs, .inl (g.1, 7, .inl (zk_ia S1))), (pl, .inr (3, [.ref plc])), (plc, .inl (g.1, 8, .inl (zk_ia c1))), (hv, .inr (5, [.ref c1_, .ref c2_, .ref c3_, .ref c4_])), (c1_, .inr (3, [.ref d1_])), (d1_, .inl (g.1, 8, .inl (zk_ia y1))), (c2_, .inr (3, [.ref d2_])), (d2_, .inl (g.1, 8, .inl (zk_ia y2))), (c3_, .inr (3, [.ref d3_])), (d3_, .inl (g.1, 8, .inl (zk_ia y3))), (c4_, .inr (3, [.ref d4_])), (d4_, .inl (g.1, 8, .inl (zk_ia y4)))]) := by
  refine zk_ofWT (by decide) (Nat.le_of_ble_eq_true rfl) ?_
  intro pg ev s mm below meth cd A C hlocks hno Z ls hl
  have hx := C.1.1
  have hb := C.1.2.1
  have hml := C.1.2.2.1
  have hown := C.1.2.2.2.1
  have hts := C.1.2.2.2.2
  have hl : lv_has ls 5 [(0, .ref hn), (1, .ref ch), (2, .ref hv)] := hl
  have hn31 := F.n31
  obtain ⟨H, hH⟩ : ∃ H, H = s.heap := ⟨_, rfl⟩
  obtain ⟨locs, hlocs⟩ : ∃ q : List Loc, q = [] := ⟨_, rfl⟩
  rw [← hH, ← hlocs] at Z ⊢
  refine lv_iconst (v := nI 0) hx hb dX1_mend_0 (by decide) ?_
  refine lv_istore_n (lv' := [(3, .int (nI 0)), (0, .ref hn), (1, .ref ch), (2, .ref hv)]) hx hb dX1_mend_1 rfl hl (by decide) rfl (fun ls hl => ?_)
  refine lv_iconst (v := nI 0) hx hb dX1_mend_2 (by decide) ?_
  refine lv_istore (lv' := [(4, .int (nI 0)), (3, .int (nI 0)), (0, .ref hn), (1, .ref ch), (2, .ref hv)]) hx hb dX1_mend_3 hl (by decide) rfl (fun ls hl => ?_)
  refine lp1_mdDA C hn co tr dep ms ch md kp wy h0 hs pl plc t gn kd hp hq p n P L F t1 t3 d4 kdn hv Ms Cs hMs hCs up (by omega) hW hall _ (fun Ds S c a1 b1 a2 b2 a3 b3 a4 b4 xh xl xb xn H locs ls hD hS hS0 hl8 lh ll lb ln hDs Z hl => ?_) up 0 Ds S c 0 a1 b1 a2 b2 a3 b3 a4 b4 xh xl xb xn H locs ls (by omega) hD hS hS0 hl8 lh ll lb ln (fun j hj => absurd hj (Nat.not_lt_zero _)) rfl Z (lv_sub hl [2, 3, 4, 1, 0] rfl)
  refine lv_iload hx hb dX1_mend_5 (lv_at hl 4 rfl) ?_
  refine lv_aload_n hx hb dX1_mend_7 rfl (lv_at hl 0 rfl) ?_
  refine zk_get C Z in_X1 0 rfl rfl 3 (by decide) q168 rfl (v := .int (nI dep)) rfl dX1_mend_8 ?_
  refine nr_ge (tgt := 57) hx hb (by omega) (by omega) dX1_mend_11 (by decide) (fun c_1 => absurd c_1 (by omega)) (fun c_1 => ?_)
  refine lv_aload_n hx hb dX1_mend_14 rfl (lv_at hl 0 rfl) ?_
  refine zk_get C Z in_X1 0 rfl rfl 6 (by decide) q171 rfl (v := .ref md) rfl dX1_mend_15 ?_
  refine lv_iload hx hb dX1_mend_18 (lv_at hl 4 rfl) ?_
  refine lv_aload_n hx hb dX1_mend_20 rfl (lv_at hl 0 rfl) ?_
  refine zk_get C Z in_X1 0 rfl rfl 0 (by decide) q165 rfl (v := .ref co) rfl dX1_mend_21 ?_
  refine lv_aload_n hx hb dX1_mend_24 rfl (lv_at hl 1 rfl) ?_
  refine lv_iload hx hb dX1_mend_25 (lv_at hl 4 rfl) ?_
  refine zk_iald C Z 18 rfl (by decide) (by omega) dX1_mend_27 ?_
  refine lv_aload_n hx hb dX1_mend_28 rfl (lv_at hl 2 rfl) ?_
  refine zk_callVT (cells' := 1) (slots' := 6) (rest := [.int (nI up), .ref md]) (n := 2) (wr := [(hn, .inr (0, [.ref co, .ref tr, .int (nI 1), .int (nI dep), .ref ms, .ref ch, .ref md, .ref kp, .ref wy])), (ms, .inl (g.1, 4, .inl (zk_ia Ms))), (ch, .inl (g.1, 4, .inl (zk_ia Cs))), (md, .inl (g.1, 4, .inl (zk_ia Ds)))]) C Z (t2_mdD l hfl D g co h0 hs pl plc t gn kd hp hq p n P L F t1 t3 hv a1 b1 a2 b2 a3 b3 a4 b4 xh xl xb xn lh ll lb ln (Cs.getD up 0) (hW _) S c hS hS0 hl8 hnone) [1, 2, 3, 4, 5, 6, 7, 8, 9, 10, 11, 12, 13, 14, 15, 16] [0, 17, 18, 19] rfl rfl (by decide) (by decide) (by decide) 1 1 rfl rfl rfl q498 q499 q500 q20 q501 (by decide +kernel) rfl (Nat.le_of_ble_eq_true rfl) (Nat.le_of_ble_eq_true rfl) (Nat.le_of_ble_eq_true rfl) (Nat.le_of_ble_eq_true rfl) rfl rfl hl.1 rfl (Nat.le_of_ble_eq_true rfl) dX1_mend_29 (fun w1 hq => ?_)
  obtain ⟨S1, c1, c1_, d1_, c2_, d2_, c3_, d3_, c4_, d4_, y1, y2, y3, y4, hS1, hS10, hc1, hy1, hy2, hy3, hy4, rfl⟩ := hq
  exact zk_leave hlocks hno (⟨S1, c1, Ds, c1_, d1_, c2_, d2_, c3_, d3_, c4_, d4_, y1, y2, y3, y4, hS1, hS10, hc1, hD, hy1, hy2, hy3, hy4, rfl⟩) (Nat.le_of_ble_eq_true rfl) (Nat.le_of_ble_eq_true rfl)

set_option maxHeartbeats 4000000 in
theorem lp1_mdDK {pg : Program} {l : Launch} {ev : Env} {s : State} {mm : MethodId} {args : Array Value} {below : List Frame} {meth : Method} {cd : Code} {Q : State → Prop} {D : va_G} {g : G4} {A : Nat → Prop} (C : zk_C pg s mm cd args cX1_mend 5 RX1 D g A) (hn co tr dep ms ch md kp wy : Nat) (h0 hs pl plc t gn kd : Nat) (hp hq p n : Nat) (P L : List Nat) (F : zk_F p n P L) (t1 : 1 ≤ t) (t3 : t ≤ 3) (d4 : dep ≤ 4) (kdn : kd ≤ n) (kr : Nat) (hv : Nat) (Ms Cs Ks : List Nat) (hMs : Ms.length = 4) (hCs : Cs.length = 4) (hKs : Ks.length = 4) (up : Nat) (hup : up ≤ dep) (hW : ∀ j, Ks.getD j 0 < 2 ^ 31) (hall : ∀ j, j < up → mdd 1 p n t (Ks.getD j 0) = some (mdr 1 p n t (Ks.getD j 0))) (finN : Nat) (kk : ∀ (Ds S c : List Nat) (a1 b1 a2 b2 a3 b3 a4 b4 : Nat) (xh xl xb xn : List Nat) (H : Heap) (locs : List Loc) (ls : Array Slot), Ds.length = 4 → S.length = 7 → S.getD 0 0 = 0 → c.length = 8 → xh.length = 8 → xl.length = 8 → xb.length = 8 → xn.length = 8 → (∀ j, j < up → Ds.getD j 0 = mdr 1 p n t (Ks.getD j 0)) → zk_Z D A s H locs [(hn, .inr (0, [.ref co, .ref tr, .int (nI 1), .int (nI dep), .ref ms, .ref ch, .ref md, .ref kp, .ref wy])), (co, .inr (1, [.ref h0, .int (nI t), .int (nI gn), .int (nI kd), .ref hs, .ref pl])), (h0, .inr (2, [.int (nI n), .ref hp, .ref hq])), (hp, .inl (g.1, 62, .inl (zk_ia P))), (hq, .inl (g.1, 32, .inl (zk_ia L))), (hs, .inl (g.1, 7, .inl (zk_ia S))), (pl, .inr (3, [.ref plc])), (plc, .inl (g.1, 8, .inl (zk_ia c))), (hv, .inr (5, [.ref a1, .ref a2, .ref a3, .ref a4])), (a1, .inr (3, [.ref b1])), (b1, .inl (g.1, 8, .inl (zk_ia xh))), (a2, .inr (3, [.ref b2])), (b2, .inl (g.1, 8, .inl (zk_ia xl))), (a3, .inr (3, [.ref b3])), (b3, .inl (g.1, 8, .inl (zk_ia xb))), (a4, .inr (3, [.ref b4])), (b4, .inl (g.1, 8, .inl (zk_ia xn))), (ms, .inl (g.1, 4, .inl (zk_ia Ms))), (ch, .inl (g.1, 4, .inl (zk_ia Cs))), (md, .inl (g.1, 4, .inl (zk_ia Ds))), (kr, .inl (g.1, 4, .inl (zk_ia Ks)))] → lv_has ls 5 [(0, .ref hn), (1, .ref kr), (2, .ref hv), (3, .int (nI finN)), (4, .int (nI up))] → W pg l ev (zk_R 7 1 6) s mm args below meth cd H locs 0 0 Q (F0 mm 5 ls [])) :
    ∀ (k : Nat) (w : Nat) (Ds S c : List Nat) (nn : Nat) (a1 b1 a2 b2 a3 b3 a4 b4 : Nat) (xh xl xb xn : List Nat) (H : Heap) (locs : List Loc) (ls : Array Slot), (w + k = up) → (Ds.length = 4) → (S.length = 7) → (S.getD 0 0 = 0) → (c.length = 8) → (xh.length = 8) → (xl.length = 8) → (xb.length = 8) → (xn.length = 8) → (∀ j, j < w → Ds.getD j 0 = mdr 1 p n t (Ks.getD j 0)) → (zk_it (fun j s => s + bct (mdr 1 p n t (Ks.getD j 0) ^^^ Ks.getD j 0)) k w nn = finN) → zk_Z D A s H locs [(hn, .inr (0, [.ref co, .ref tr, .int (nI 1), .int (nI dep), .ref ms, .ref ch, .ref md, .ref kp, .ref wy])), (co, .inr (1, [.ref h0, .int (nI t), .int (nI gn), .int (nI kd), .ref hs, .ref pl])), (h0, .inr (2, [.int (nI n), .ref hp, .ref hq])), (hp, .inl (g.1, 62, .inl (zk_ia P))), (hq, .inl (g.1, 32, .inl (zk_ia L))), (hs, .inl (g.1, 7, .inl (zk_ia S))), (pl, .inr (3, [.ref plc])), (plc, .inl (g.1, 8, .inl (zk_ia c))), (hv, .inr (5, [.ref a1, .ref a2, .ref a3, .ref a4])), (a1, .inr (3, [.ref b1])), (b1, .inl (g.1, 8, .inl (zk_ia xh))), (a2, .inr (3, [.ref b2])), (b2, .inl (g.1, 8, .inl (zk_ia xl))), (a3, .inr (3, [.ref b3])), (b3, .inl (g.1, 8, .inl (zk_ia xb))), (a4, .inr (3, [.ref b4])), (b4, .inl (g.1, 8, .inl (zk_ia xn))), (ms, .inl (g.1, 4, .inl (zk_ia Ms))), (ch, .inl (g.1, 4, .inl (zk_ia Cs))), (md, .inl (g.1, 4, .inl (zk_ia Ds))), (kr, .inl (g.1, 4, .inl (zk_ia Ks)))] → lv_has ls 5 [(0, .ref hn), (1, .ref kr), (2, .ref hv), (3, .int (nI nn)), (4, .int (nI w))] → W pg l ev (zk_R 7 1 6) s mm args below meth cd H locs 0 0 Q (F0 mm 5 ls []) := by
  have hx := C.1.1
  have hb := C.1.2.1
  have hml := C.1.2.2.1
  have hown := C.1.2.2.2.1
  have hts := C.1.2.2.2.2
  have hn31 := F.n31
  intro k
  induction k with
  | zero =>
    intro w Ds S c nn a1 b1 a2 b2 a3 b3 a4 b4 xh xl xb xn H locs ls hik hD hS hS0 hl8 lh ll lb ln hDs hfin Z hl
    have hw : w = up := by omega
    subst hw
    have hfin : nn = finN := hfin
    subst hfin
    exact kk Ds S c a1 b1 a2 b2 a3 b3 a4 b4 xh xl xb xn H locs ls hD hS hS0 hl8 lh ll lb ln hDs Z hl
  | succ k ih =>
    intro w Ds S c nn a1 b1 a2 b2 a3 b3 a4 b4 xh xl xb xn H locs ls hik hD hS hS0 hl8 lh ll lb ln hDs hfin Z hl
    refine lv_iload hx hb dX1_mend_5 (lv_at hl 4 rfl) ?_
    refine lv_aload_n hx hb dX1_mend_7 rfl (lv_at hl 0 rfl) ?_
    refine zk_get C Z in_X1 0 rfl rfl 3 (by decide) q168 rfl (v := .int (nI dep)) rfl dX1_mend_8 ?_
    refine nr_ge (tgt := 57) hx hb (by omega) (by omega) dX1_mend_11 (by decide) (fun c_1 => absurd c_1 (by omega)) (fun c_1 => ?_)
    refine lv_aload_n hx hb dX1_mend_14 rfl (lv_at hl 0 rfl) ?_
    refine zk_get C Z in_X1 0 rfl rfl 6 (by decide) q171 rfl (v := .ref md) rfl dX1_mend_15 ?_
    refine lv_iload hx hb dX1_mend_18 (lv_at hl 4 rfl) ?_
    refine lv_aload_n hx hb dX1_mend_20 rfl (lv_at hl 0 rfl) ?_
    refine zk_get C Z in_X1 0 rfl rfl 0 (by decide) q165 rfl (v := .ref co) rfl dX1_mend_21 ?_
    refine lv_aload_n hx hb dX1_mend_24 rfl (lv_at hl 1 rfl) ?_
    refine lv_iload hx hb dX1_mend_25 (lv_at hl 4 rfl) ?_
    refine zk_iald C Z 20 rfl (by decide) (by omega) dX1_mend_27 ?_
    refine lv_aload_n hx hb dX1_mend_28 rfl (lv_at hl 2 rfl) ?_
    refine zk_callV (cells' := 0) (slots' := 0) (rest := [.int (nI w), .ref md]) (n := 2) (wr := [(hn, .inr (0, [.ref co, .ref tr, .int (nI 1), .int (nI dep), .ref ms, .ref ch, .ref md, .ref kp, .ref wy])), (ms, .inl (g.1, 4, .inl (zk_ia Ms))), (ch, .inl (g.1, 4, .inl (zk_ia Cs))), (md, .inl (g.1, 4, .inl (zk_ia Ds))), (kr, .inl (g.1, 4, .inl (zk_ia Ks)))]) C Z (m2_mdD l D g co h0 hs pl plc t gn kd hp hq p n P L F t1 t3 hv a1 b1 a2 b2 a3 b3 a4 b4 xh xl xb xn lh ll lb ln (Ks.getD w 0) (hW _) S c hS hS0 hl8 (mdr 1 p n t (Ks.getD w 0)) (hall w (by omega))) [1, 2, 3, 4, 5, 6, 7, 8, 9, 10, 11, 12, 13, 14, 15, 16] [0, 17, 18, 19, 20] rfl rfl (by decide) (by decide) (by decide) 1 1 rfl rfl rfl q498 q499 q500 q20 q501 (by decide +kernel) rfl (Nat.le_of_ble_eq_true rfl) (Nat.le_of_ble_eq_true rfl) (Nat.le_of_ble_eq_true rfl) (Nat.le_of_ble_eq_true rfl) rfl rfl hl.1 rfl (Nat.le_of_ble_eq_true rfl) dX1_mend_29 (fun v w1 H locs hq Z => ?_)
    obtain ⟨rfl, S1, c1, c1_, d1_, c2_, d2_, c3_, d3_, c4_, d4_, y1, y2, y3, y4, hS1, hS10, hc1, hy1, hy2, hy3, hy4, rfl⟩ := hq
    have Z : zk_Z D A s H locs [(hn, .inr (0, [.ref co, .ref tr, .int (nI 1), .int (nI dep), .ref ms, .ref ch, .ref md, .ref kp, .ref wy])), (co, .inr (1, [.ref h0, .int (nI t), .int (nI gn), .int (nI kd), .ref hs, .ref pl])), (h0, .inr (2, [.int (nI n), .ref hp, .ref hq])), (hp, .inl (g.1, 62, .inl (zk_ia P))), (hq, .inl (g.1, 32, .inl (zk_ia L))), (hs, .inl (g.1, 7, .inl (zk_ia S1))), (pl, .inr (3, [.ref plc])), (plc, .inl (g.1, 8, .inl (zk_ia c1))), (hv, .inr (5, [.ref c1_, .ref c2_, .ref c3_, .ref c4_])), (c1_, .inr (3, [.ref d1_])), (d1_, .inl (g.1, 8, .inl (zk_ia y1))), (c2_, .inr (3, [.ref d2_])), (d2_, .inl (g.1, 8, .inl (zk_ia y2))), (c3_, .inr (3, [.ref d3_])), (d3_, .inl (g.1, 8, .inl (zk_ia y3))), (c4_, .inr (3, [.ref d4_])), (d4_, .inl (g.1, 8, .inl (zk_ia y4))), (ms, .inl (g.1, 4, .inl (zk_ia Ms))), (ch, .inl (g.1, 4, .inl (zk_ia Cs))), (md, .inl (g.1, 4, .inl (zk_ia Ds))), (kr, .inl (g.1, 4, .inl (zk_ia Ks)))] := Z.sub [0, 5, 6, 7, 8, 9, 10, 11, 12, 13, 14, 15, 16, 17, 18, 19, 20, 1, 2, 3, 4] (by decide) rfl
    refine W.eq (g2 := F0 mm 32 ls [.int (nI (mdr 1 p n t (Ks.getD w 0))), .int (nI w), .ref md]) rfl ?_
    refine zk_iast C Z 19 rfl (by decide) (by omega) hD dX1_mend_32 (fun H locs Z => ?_)
    have hlen_2 : (Ds.set w (mdr 1 p n t (Ks.getD w 0))).length = 4 := by rw [List.length_set]; exact hD
    have Z : zk_Z D A s H locs [(hn, .inr (0, [.ref co, .ref tr, .int (nI 1), .int (nI dep), .ref ms, .ref ch, .ref md, .ref kp, .ref wy])), (co, .inr (1, [.ref h0, .int (nI t), .int (nI gn), .int (nI kd), .ref hs, .ref pl])), (h0, .inr (2, [.int (nI n), .ref hp, .ref hq])), (hp, .inl (g.1, 62, .inl (zk_ia P))), (hq, .inl (g.1, 32, .inl (zk_ia L))), (hs, .inl (g.1, 7, .inl (zk_ia S1))), (pl, .inr (3, [.ref plc])), (plc, .inl (g.1, 8, .inl (zk_ia c1))), (hv, .inr (5, [.ref c1_, .ref c2_, .ref c3_, .ref c4_])), (c1_, .inr (3, [.ref d1_])), (d1_, .inl (g.1, 8, .inl (zk_ia y1))), (c2_, .inr (3, [.ref d2_])), (d2_, .inl (g.1, 8, .inl (zk_ia y2))), (c3_, .inr (3, [.ref d3_])), (d3_, .inl (g.1, 8, .inl (zk_ia y3))), (c4_, .inr (3, [.ref d4_])), (d4_, .inl (g.1, 8, .inl (zk_ia y4))), (ms, .inl (g.1, 4, .inl (zk_ia Ms))), (ch, .inl (g.1, 4, .inl (zk_ia Cs))), (md, .inl (g.1, 4, .inl (zk_ia (Ds.set w (mdr 1 p n t (Ks.getD w 0)))))), (kr, .inl (g.1, 4, .inl (zk_ia Ks)))] := Z
    refine lv_iload_n hx hb dX1_mend_33 rfl (lv_at hl 3 rfl) ?_
    refine lv_aload_n hx hb dX1_mend_34 rfl (lv_at hl 0 rfl) ?_
    refine zk_get C Z in_X1 0 rfl rfl 6 (by decide) q171 rfl (v := .ref md) rfl dX1_mend_35 ?_
    refine lv_iload hx hb dX1_mend_38 (lv_at hl 4 rfl) ?_
    refine zk_iald C Z 19 rfl (by decide) (by omega) dX1_mend_40 ?_
    rw [show (Ds.set w (mdr 1 p n t (Ks.getD w 0))).getD w 0 = mdr 1 p n t (Ks.getD w 0) from zk_sg (by omega)]
    refine lv_aload_n hx hb dX1_mend_41 rfl (lv_at hl 1 rfl) ?_
    refine lv_iload hx hb dX1_mend_42 (lv_at hl 4 rfl) ?_
    refine zk_iald C Z 20 rfl (by decide) (by omega) dX1_mend_44 ?_
    refine nr_ixor hx hb dX1_mend_45 ?_
    refine zk_callS (cells' := 0) (slots' := 0) (rest := [.int (nI nn)]) (n := 1) (wr := [(hn, .inr (0, [.ref co, .ref tr, .int (nI 1), .int (nI dep), .ref ms, .ref ch, .ref md, .ref kp, .ref wy])), (co, .inr (1, [.ref h0, .int (nI t), .int (nI gn), .int (nI kd), .ref hs, .ref pl])), (h0, .inr (2, [.int (nI n), .ref hp, .ref hq])), (hp, .inl (g.1, 62, .inl (zk_ia P))), (hq, .inl (g.1, 32, .inl (zk_ia L))), (hs, .inl (g.1, 7, .inl (zk_ia S1))), (pl, .inr (3, [.ref plc])), (plc, .inl (g.1, 8, .inl (zk_ia c1))), (hv, .inr (5, [.ref c1_, .ref c2_, .ref c3_, .ref c4_])), (c1_, .inr (3, [.ref d1_])), (d1_, .inl (g.1, 8, .inl (zk_ia y1))), (c2_, .inr (3, [.ref d2_])), (d2_, .inl (g.1, 8, .inl (zk_ia y2))), (c3_, .inr (3, [.ref d3_])), (d3_, .inl (g.1, 8, .inl (zk_ia y3))), (c4_, .inr (3, [.ref d4_])), (d4_, .inl (g.1, 8, .inl (zk_ia y4))), (ms, .inl (g.1, 4, .inl (zk_ia Ms))), (ch, .inl (g.1, 4, .inl (zk_ia Cs))), (md, .inl (g.1, 4, .inl (zk_ia (Ds.set w (mdr 1 p n t (Ks.getD w 0)))))), (kr, .inl (g.1, 4, .inl (zk_ia Ks)))]) C Z (mJ_bc l D g ((mdr 1 p n t (Ks.getD w 0)) ^^^ (Ks.getD w 0)) (Nat.xor_lt_two_pow (mdr_lt hn31.2 (hW _) (hall w (by omega))) (hW _))) [] [0, 1, 2, 3, 4, 5, 6, 7, 8, 9, 10, 11, 12, 13, 14, 15, 16, 17, 18, 19, 20] rfl rfl (by decide) (by decide) (by decide) q447 q448 q36 q449 (by decide +kernel) rfl (Nat.le_of_ble_eq_true rfl) (Nat.le_of_ble_eq_true rfl) (Nat.le_of_ble_eq_true rfl) (Nat.le_of_ble_eq_true rfl) rfl rfl hl.1 rfl (Nat.le_of_ble_eq_true rfl) dX1_mend_46 (fun v w1 H locs hq Z => ?_)
    obtain ⟨rfl, rfl⟩ := hq
    have Z : zk_Z D A s H locs [(hn, .inr (0, [.ref co, .ref tr, .int (nI 1), .int (nI dep), .ref ms, .ref ch, .ref md, .ref kp, .ref wy])), (co, .inr (1, [.ref h0, .int (nI t), .int (nI gn), .int (nI kd), .ref hs, .ref pl])), (h0, .inr (2, [.int (nI n), .ref hp, .ref hq])), (hp, .inl (g.1, 62, .inl (zk_ia P))), (hq, .inl (g.1, 32, .inl (zk_ia L))), (hs, .inl (g.1, 7, .inl (zk_ia S1))), (pl, .inr (3, [.ref plc])), (plc, .inl (g.1, 8, .inl (zk_ia c1))), (hv, .inr (5, [.ref c1_, .ref c2_, .ref c3_, .ref c4_])), (c1_, .inr (3, [.ref d1_])), (d1_, .inl (g.1, 8, .inl (zk_ia y1))), (c2_, .inr (3, [.ref d2_])), (d2_, .inl (g.1, 8, .inl (zk_ia y2))), (c3_, .inr (3, [.ref d3_])), (d3_, .inl (g.1, 8, .inl (zk_ia y3))), (c4_, .inr (3, [.ref d4_])), (d4_, .inl (g.1, 8, .inl (zk_ia y4))), (ms, .inl (g.1, 4, .inl (zk_ia Ms))), (ch, .inl (g.1, 4, .inl (zk_ia Cs))), (md, .inl (g.1, 4, .inl (zk_ia (Ds.set w (mdr 1 p n t (Ks.getD w 0)))))), (kr, .inl (g.1, 4, .inl (zk_ia Ks)))] := Z.sub [0, 1, 2, 3, 4, 5, 6, 7, 8, 9, 10, 11, 12, 13, 14, 15, 16, 17, 18, 19, 20] (by decide) rfl
    refine W.eq (g2 := F0 mm 49 ls [.int (nI (bct ((mdr 1 p n t (Ks.getD w 0)) ^^^ (Ks.getD w 0)))), .int (nI nn)]) rfl ?_
    refine nr_iadd hx hb dX1_mend_49 ?_
    refine lv_istore_n (lv' := [(3, .int (nI (nn + (bct ((mdr 1 p n t (Ks.getD w 0)) ^^^ (Ks.getD w 0)))))), (0, .ref hn), (1, .ref kr), (2, .ref hv), (4, .int (nI w))]) hx hb dX1_mend_50 rfl hl (by decide) rfl (fun ls hl => ?_)
    refine nr_iinc (n := 1) (lv' := [(4, .int (nI (w + 1))), (3, .int (nI (nn + (bct ((mdr 1 p n t (Ks.getD w 0)) ^^^ (Ks.getD w 0)))))), (0, .ref hn), (1, .ref kr), (2, .ref hv)]) hx hb (by decide) dX1_mend_51 hl (k := 4) rfl (by decide) rfl (fun ls hl => ?_)
    refine lv_goto (tgt := 5) hx hb dX1_mend_54 (by decide) ?_
    exact ih (w + 1) (Ds.set w (mdr 1 p n t (Ks.getD w 0))) S1 c1 (nn + (bct ((mdr 1 p n t (Ks.getD w 0)) ^^^ (Ks.getD w 0)))) c1_ d1_ c2_ d2_ c3_ d3_ c4_ d4_ y1 y2 y3 y4 H locs ls (by omega) hlen_2 hS1 hS10 hc1 hy1 hy2 hy3 hy4 (zk_upto (P := fun _ => True) (by omega) rfl hDs) hfin Z (lv_sub hl [2, 3, 4, 1, 0] rfl)

set_option maxHeartbeats 4000000 in
theorem lp1_meDK {pg : Program} {l : Launch} {ev : Env} {s : State} {mm : MethodId} {args : Array Value} {below : List Frame} {meth : Method} {cd : Code} {Q : State → Prop} {D : va_G} {g : G4} {A : Nat → Prop} (C : zk_C pg s mm cd args cX1_mend 5 RX1 D g A) (hn co tr dep ms ch md kp wy : Nat) (h0 hs pl plc t gn kd : Nat) (hp hq p n : Nat) (P L : List Nat) (F : zk_F p n P L) (t1 : 1 ≤ t) (t3 : t ≤ 3) (d4 : dep ≤ 4) (kdn : kd ≤ n) (kr : Nat) (hv : Nat) (a1 b1 a2 b2 a3 b3 a4 b4 : Nat) (xh xl xb xn : List Nat) (S c Ds Ws Ks : List Nat) (hD31 : ∀ j, j < dep → mdr 1 p n t (Ws.getD j 0) < 2 ^ 31) (hDs : ∀ j, j < dep → Ds.getD j 0 = mdr 1 p n t (Ws.getD j 0)) (nn : Nat) (finC finM : List Nat) (kk : ∀ (H : Heap) (locs : List Loc) (ls : Array Slot), zk_Z D A s H locs [(hn, .inr (0, [.ref co, .ref tr, .int (nI 1), .int (nI dep), .ref ms, .ref ch, .ref md, .ref kp, .ref wy])), (co, .inr (1, [.ref h0, .int (nI t), .int (nI gn), .int (nI kd), .ref hs, .ref pl])), (h0, .inr (2, [.int (nI n), .ref hp, .ref hq])), (hp, .inl (g.1, 62, .inl (zk_ia P))), (hq, .inl (g.1, 32, .inl (zk_ia L))), (hs, .inl (g.1, 7, .inl (zk_ia S))), (pl, .inr (3, [.ref plc])), (plc, .inl (g.1, 8, .inl (zk_ia c))), (hv, .inr (5, [.ref a1, .ref a2, .ref a3, .ref a4])), (a1, .inr (3, [.ref b1])), (b1, .inl (g.1, 8, .inl (zk_ia xh))), (a2, .inr (3, [.ref b2])), (b2, .inl (g.1, 8, .inl (zk_ia xl))), (a3, .inr (3, [.ref b3])), (b3, .inl (g.1, 8, .inl (zk_ia xb))), (a4, .inr (3, [.ref b4])), (b4, .inl (g.1, 8, .inl (zk_ia xn))), (ms, .inl (g.1, 4, .inl (zk_ia finM))), (ch, .inl (g.1, 4, .inl (zk_ia finC))), (md, .inl (g.1, 4, .inl (zk_ia Ds))), (kr, .inl (g.1, 4, .inl (zk_ia Ks)))] → lv_has ls 5 [(0, .ref hn), (3, .int (nI nn))] → W pg l ev (zk_R 7 1 6) s mm args below meth cd H locs 0 0 Q (F0 mm 122 ls [])) :
    ∀ (k : Nat) (w : Nat) (Cs Ms : List Nat) (H : Heap) (locs : List Loc) (ls : Array Slot), (w + k = dep) → (Cs.length = 4) → (Ms.length = 4) → (zk_it (fun j C => C.set j (mdr 1 p n t (Ws.getD j 0))) k w Cs = finC) → (zk_it (fun j M => M.set j (mdr 1 p n t (Ws.getD j 0) >>> (n - kd))) k w Ms = finM) → zk_Z D A s H locs [(hn, .inr (0, [.ref co, .ref tr, .int (nI 1), .int (nI dep), .ref ms, .ref ch, .ref md, .ref kp, .ref wy])), (co, .inr (1, [.ref h0, .int (nI t), .int (nI gn), .int (nI kd), .ref hs, .ref pl])), (h0, .inr (2, [.int (nI n), .ref hp, .ref hq])), (hp, .inl (g.1, 62, .inl (zk_ia P))), (hq, .inl (g.1, 32, .inl (zk_ia L))), (hs, .inl (g.1, 7, .inl (zk_ia S))), (pl, .inr (3, [.ref plc])), (plc, .inl (g.1, 8, .inl (zk_ia c))), (hv, .inr (5, [.ref a1, .ref a2, .ref a3, .ref a4])), (a1, .inr (3, [.ref b1])), (b1, .inl (g.1, 8, .inl (zk_ia xh))), (a2, .inr (3, [.ref b2])), (b2, .inl (g.1, 8, .inl (zk_ia xl))), (a3, .inr (3, [.ref b3])), (b3, .inl (g.1, 8, .inl (zk_ia xb))), (a4, .inr (3, [.ref b4])), (b4, .inl (g.1, 8, .inl (zk_ia xn))), (ms, .inl (g.1, 4, .inl (zk_ia Ms))), (ch, .inl (g.1, 4, .inl (zk_ia Cs))), (md, .inl (g.1, 4, .inl (zk_ia Ds))), (kr, .inl (g.1, 4, .inl (zk_ia Ks)))] → lv_has ls 5 [(0, .ref hn), (1, .ref kr), (2, .ref hv), (3, .int (nI nn)), (4, .int (nI w))] → W pg l ev (zk_R 7 1 6) s mm args below meth cd H locs 0 0 Q (F0 mm 60 ls []) := by
  have hx := C.1.1
  have hb := C.1.2.1
  have hml := C.1.2.2.1
  have hown := C.1.2.2.2.1
  have hts := C.1.2.2.2.2
  have hn31 := F.n31
  intro k
  induction k with
  | zero =>
    intro w Cs Ms H locs ls hik hCs hMs hf1 hf2 Z hl
    have hf1 : Cs = finC := hf1
    have hf2 : Ms = finM := hf2
    subst hf1
    subst hf2
    refine lv_iload hx hb dX1_mend_60 (lv_at hl 4 rfl) ?_
    refine lv_aload_n hx hb dX1_mend_62 rfl (lv_at hl 0 rfl) ?_
    refine zk_get C Z in_X1 0 rfl rfl 3 (by decide) q168 rfl (v := .int (nI dep)) rfl dX1_mend_63 ?_
    refine nr_ge (tgt := 122) hx hb (by omega) (by omega) dX1_mend_66 (by decide) (fun c_1 => ?_) (fun c_1 => absurd c_1 (by omega))
    exact kk  H locs ls  Z (lv_sub hl [0, 3] rfl)
  | succ k ih =>
    intro w Cs Ms H locs ls hik hCs hMs hf1 hf2 Z hl
    refine lv_iload hx hb dX1_mend_60 (lv_at hl 4 rfl) ?_
    refine lv_aload_n hx hb dX1_mend_62 rfl (lv_at hl 0 rfl) ?_
    refine zk_get C Z in_X1 0 rfl rfl 3 (by decide) q168 rfl (v := .int (nI dep)) rfl dX1_mend_63 ?_
    refine nr_ge (tgt := 122) hx hb (by omega) (by omega) dX1_mend_66 (by decide) (fun c_1 => absurd c_1 (by omega)) (fun c_1 => ?_)
    refine lv_aload_n hx hb dX1_mend_69 rfl (lv_at hl 0 rfl) ?_
    refine zk_get C Z in_X1 0 rfl rfl 5 (by decide) q170 rfl (v := .ref ch) rfl dX1_mend_70 ?_
    refine lv_iload hx hb dX1_mend_73 (lv_at hl 4 rfl) ?_
    refine lv_aload_n hx hb dX1_mend_75 rfl (lv_at hl 0 rfl) ?_
    refine zk_get C Z in_X1 0 rfl rfl 6 (by decide) q171 rfl (v := .ref md) rfl dX1_mend_76 ?_
    refine lv_iload hx hb dX1_mend_79 (lv_at hl 4 rfl) ?_
    refine zk_iald C Z 19 rfl (by decide) (by omega) dX1_mend_81 ?_
    rw [hDs w (by omega)]
    refine zk_iast C Z 18 rfl (by decide) (by omega) hCs dX1_mend_82 (fun H locs Z => ?_)
    have hlen_2 : (Cs.set w (mdr 1 p n t (Ws.getD w 0))).length = 4 := by rw [List.length_set]; exact hCs
    have Z : zk_Z D A s H locs [(hn, .inr (0, [.ref co, .ref tr, .int (nI 1), .int (nI dep), .ref ms, .ref ch, .ref md, .ref kp, .ref wy])), (co, .inr (1, [.ref h0, .int (nI t), .int (nI gn), .int (nI kd), .ref hs, .ref pl])), (h0, .inr (2, [.int (nI n), .ref hp, .ref hq])), (hp, .inl (g.1, 62, .inl (zk_ia P))), (hq, .inl (g.1, 32, .inl (zk_ia L))), (hs, .inl (g.1, 7, .inl (zk_ia S))), (pl, .inr (3, [.ref plc])), (plc, .inl (g.1, 8, .inl (zk_ia c))), (hv, .inr (5, [.ref a1, .ref a2, .ref a3, .ref a4])), (a1, .inr (3, [.ref b1])), (b1, .inl (g.1, 8, .inl (zk_ia xh))), (a2, .inr (3, [.ref b2])), (b2, .inl (g.1, 8, .inl (zk_ia xl))), (a3, .inr (3, [.ref b3])), (b3, .inl (g.1, 8, .inl (zk_ia xb))), (a4, .inr (3, [.ref b4])), (b4, .inl (g.1, 8, .inl (zk_ia xn))), (ms, .inl (g.1, 4, .inl (zk_ia Ms))), (ch, .inl (g.1, 4, .inl (zk_ia (Cs.set w (mdr 1 p n t (Ws.getD w 0)))))), (md, .inl (g.1, 4, .inl (zk_ia Ds))), (kr, .inl (g.1, 4, .inl (zk_ia Ks)))] := Z
    refine lv_aload_n hx hb dX1_mend_83 rfl (lv_at hl 0 rfl) ?_
    refine zk_get C Z in_X1 0 rfl rfl 4 (by decide) q169 rfl (v := .ref ms) rfl dX1_mend_84 ?_
    refine lv_iload hx hb dX1_mend_87 (lv_at hl 4 rfl) ?_
    refine lv_aload_n hx hb dX1_mend_89 rfl (lv_at hl 0 rfl) ?_
    refine zk_get C Z in_X1 0 rfl rfl 6 (by decide) q171 rfl (v := .ref md) rfl dX1_mend_90 ?_
    refine lv_iload hx hb dX1_mend_93 (lv_at hl 4 rfl) ?_
    refine zk_iald C Z 19 rfl (by decide) (by omega) dX1_mend_95 ?_
    rw [hDs w (by omega)]
    refine lv_aload_n hx hb dX1_mend_96 rfl (lv_at hl 0 rfl) ?_
    refine zk_get C Z in_X1 0 rfl rfl 0 (by decide) q165 rfl (v := .ref co) rfl dX1_mend_97 ?_
    refine zk_getN C Z in_X2 1 rfl rfl 0 (by decide) q92 rfl (v := .ref h0) rfl dX1_mend_100 ?_
    refine zk_getN C Z in_X3 2 rfl rfl 0 (by decide) q61 rfl (v := .int (nI n)) rfl dX1_mend_103 ?_
    refine lv_aload_n hx hb dX1_mend_106 rfl (lv_at hl 0 rfl) ?_
    refine zk_get C Z in_X1 0 rfl rfl 0 (by decide) q165 rfl (v := .ref co) rfl dX1_mend_107 ?_
    refine zk_getN C Z in_X2 1 rfl rfl 3 (by decide) q98 rfl (v := .int (nI kd)) rfl dX1_mend_110 ?_
    refine nr_isub hx hb (by omega) dX1_mend_113 ?_
    refine nr_ishr hx hb (hD31 w (by omega)) (by omega) dX1_mend_114 ?_
    refine zk_iast C Z 17 rfl (by decide) (by omega) hMs dX1_mend_115 (fun H locs Z => ?_)
    have hlen_3 : (Ms.set w ((mdr 1 p n t (Ws.getD w 0)) >>> (n - kd))).length = 4 := by rw [List.length_set]; exact hMs
    have Z : zk_Z D A s H locs [(hn, .inr (0, [.ref co, .ref tr, .int (nI 1), .int (nI dep), .ref ms, .ref ch, .ref md, .ref kp, .ref wy])), (co, .inr (1, [.ref h0, .int (nI t), .int (nI gn), .int (nI kd), .ref hs, .ref pl])), (h0, .inr (2, [.int (nI n), .ref hp, .ref hq])), (hp, .inl (g.1, 62, .inl (zk_ia P))), (hq, .inl (g.1, 32, .inl (zk_ia L))), (hs, .inl (g.1, 7, .inl (zk_ia S))), (pl, .inr (3, [.ref plc])), (plc, .inl (g.1, 8, .inl (zk_ia c))), (hv, .inr (5, [.ref a1, .ref a2, .ref a3, .ref a4])), (a1, .inr (3, [.ref b1])), (b1, .inl (g.1, 8, .inl (zk_ia xh))), (a2, .inr (3, [.ref b2])), (b2, .inl (g.1, 8, .inl (zk_ia xl))), (a3, .inr (3, [.ref b3])), (b3, .inl (g.1, 8, .inl (zk_ia xb))), (a4, .inr (3, [.ref b4])), (b4, .inl (g.1, 8, .inl (zk_ia xn))), (ms, .inl (g.1, 4, .inl (zk_ia (Ms.set w ((mdr 1 p n t (Ws.getD w 0)) >>> (n - kd)))))), (ch, .inl (g.1, 4, .inl (zk_ia (Cs.set w (mdr 1 p n t (Ws.getD w 0)))))), (md, .inl (g.1, 4, .inl (zk_ia Ds))), (kr, .inl (g.1, 4, .inl (zk_ia Ks)))] := Z
    refine nr_iinc (n := 1) (lv' := [(4, .int (nI (w + 1))), (0, .ref hn), (1, .ref kr), (2, .ref hv), (3, .int (nI nn))]) hx hb (by decide) dX1_mend_116 hl (k := 4) rfl (by decide) rfl (fun ls hl => ?_)
    refine lv_goto (tgt := 60) hx hb dX1_mend_119 (by decide) ?_
    exact ih (w + 1) (Cs.set w (mdr 1 p n t (Ws.getD w 0))) (Ms.set w ((mdr 1 p n t (Ws.getD w 0)) >>> (n - kd))) H locs ls (by omega) hlen_2 hlen_3 hf1 hf2 Z (lv_sub hl [1, 2, 3, 4, 0] rfl)

set_option maxHeartbeats 4000000 in
/-- mend, DK -/
theorem m1_mdDK (l : Launch) (D : va_G) (g : G4) (hn co tr dep ms ch md kp wy : Nat) (h0 hs pl plc t gn kd : Nat) (hp hq p n : Nat) (P L : List Nat) (F : zk_F p n P L) (t1 : 1 ≤ t) (t3 : t ≤ 3) (d4 : dep ≤ 4) (kdn : kd ≤ n) (kr : Nat) (hv a1 b1 a2 b2 a3 b3 a4 b4 : Nat) (xh xl xb xn : List Nat) (lh : xh.length = 8) (ll : xl.length = 8) (lb : xb.length = 8) (ln : xn.length = 8) (Ms Cs Ks : List Nat) (hMs : Ms.length = 4) (hCs : Cs.length = 4) (hKs : Ks.length = 4) (hW : ∀ j, Ks.getD j 0 < 2 ^ 31) (S c Ds : List Nat) (hS : S.length = 7) (hS0 : S.getD 0 0 = 0) (hl8 : c.length = 8) (hD : Ds.length = 4) (hall : ∀ j, j < dep → mdd 1 p n t (Ks.getD j 0) = some (mdr 1 p n t (Ks.getD j 0))) : zk_M l yX1_mend (ws_ yX1_mend cX1_mend 5 (some .int)) (zk_R 7 1 6) D g [.ref hn, .ref kr, .ref hv] [(hn, .inr (0, [.ref co, .ref tr, .int (nI 1), .int (nI dep), .ref ms, .ref ch, .ref md, .ref kp, .ref wy])), (co, .inr (1, [.ref h0, .int (nI t), .int (nI gn), .int (nI kd), .ref hs, .ref pl])), (h0, .inr (2, [.int (nI n), .ref hp, .ref hq])), (hp, .inl (g.1, 62, .inl (zk_ia P))), (hq, .inl (g.1, 32, .inl (zk_ia L))), (hs, .inl (g.1, 7, .inl (zk_ia S))), (pl, .inr (3, [.ref plc])), (plc, .inl (g.1, 8, .inl (zk_ia c))), (hv, .inr (5, [.ref a1, .ref a2, .ref a3, .ref a4])), (a1, .inr (3, [.ref b1])), (b1, .inl (g.1, 8, .inl (zk_ia xh))), (a2, .inr (3, [.ref b2])), (b2, .inl (g.1, 8, .inl (zk_ia xl))), (a3, .inr (3, [.ref b3])), (b3, .inl (g.1, 8, .inl (zk_ia xb))), (a4, .inr (3, [.ref b4])), (b4, .inl (g.1, 8, .inl (zk_ia xn))), (ms, .inl (g.1, 4, .inl (zk_ia Ms))), (ch, .inl (g.1, 4, .inl (zk_ia Cs))), (md, .inl (g.1, 4, .inl (zk_ia Ds))), (kr, .inl (g.1, 4, .inl (zk_ia Ks)))] (fun v w => v = some (.int (nI (mdN 1 p n t dep Ks))) ∧ ∃ (S1 c1 Ds1 : List Nat) (c1_ d1_ c2_ d2_ c3_ d3_ c4_ d4_ : Nat) (y1 y2 y3 y4 : List Nat), S1.length = 7 ∧ S1.getD 0 0 = 0 ∧ c1.length = 8 ∧ Ds1.length = 4 ∧ y1.length = 8 ∧ y2.length = 8 ∧ y3.length = 8 ∧ y4.length = 8 ∧ w = [(hn, .inr (0, [.ref co, .ref tr, .int (nI 1), .int (nI dep), .ref ms, .ref ch, .ref md, .ref kp, .ref wy])), (co, .inr (1, [.ref h0, .int (nI t), .int (nI gn), .int (nI kd), .ref hs, .ref pl])), (h0, .inr (2, [.int (nI n), .ref hp, .ref hq])), (hp, .inl (g.1, 62, .inl (zk_ia P))), (hq, .inl (g.1, 32, .inl (zk_ia L))), (hs, .inl (g.1, 7, .inl (zk_ia S1))), (pl, .inr (3, [.ref plc])), (plc, .inl (g.1, 8, .inl (zk_ia c1))), (hv, .inr (5, [.ref c1_, .ref c2_, .ref c3_, .ref c4_])), (c1_, .inr (3, [.ref d1_])), (d1_, .inl (g.1, 8, .inl (zk_ia y1))), (c2_, .inr (3, [.ref d2_])), (d2_, .inl (g.1, 8, .inl (zk_ia y2))), (c3_, .inr (3, [.ref d3_])), (d3_, .inl (g.1, 8, .inl (zk_ia y3))), (c4_, .inr (3, [.ref d4_])), (d4_, .inl (g.1, 8, .inl (zk_ia y4))), (ms, .inl (g.1, 4, .inl (zk_ia (mdM 1 p n t dep (n - kd) Ks Ms)))), (ch, .inl (g.1, 4, .inl (zk_ia (mdC 1 p n t dep Ks Cs)))), (md, .inl (g.1, 4, .inl (zk_ia Ds1))), (kr, .inl (g.1, 4, .inl (zk_ia Ks)))]) := by
  refine zk_ofW (by decide) (Nat.le_of_ble_eq_true rfl) ?_
  intro pg ev s mm below meth cd A C hr hlocks hname Z ls hl
  have hx := C.1.1
  have hb := C.1.2.1
  have hml := C.1.2.2.1
  have hown := C.1.2.2.2.1
  have hts := C.1.2.2.2.2
  have hl : lv_has ls 5 [(0, .ref hn), (1, .ref kr), (2, .ref hv)] := hl
  have hn31 := F.n31
  obtain ⟨H, hH⟩ : ∃ H, H = s.heap := ⟨_, rfl⟩
  obtain ⟨locs, hlocs⟩ : ∃ q : List Loc, q = [] := ⟨_, rfl⟩
  rw [← hH, ← hlocs] at Z ⊢
  refine lv_iconst (v := nI 0) hx hb dX1_mend_0 (by decide) ?_
  refine lv_istore_n (lv' := [(3, .int (nI 0)), (0, .ref hn), (1, .ref kr), (2, .ref hv)]) hx hb dX1_mend_1 rfl hl (by decide) rfl (fun ls hl => ?_)
  refine lv_iconst (v := nI 0) hx hb dX1_mend_2 (by decide) ?_
  refine lv_istore (lv' := [(4, .int (nI 0)), (3, .int (nI 0)), (0, .ref hn), (1, .ref kr), (2, .ref hv)]) hx hb dX1_mend_3 hl (by decide) rfl (fun ls hl => ?_)
  refine lp1_mdDK C hn co tr dep ms ch md kp wy h0 hs pl plc t gn kd hp hq p n P L F t1 t3 d4 kdn kr hv Ms Cs Ks hMs hCs hKs dep (by omega) hW hall _ (fun Ds S c a1 b1 a2 b2 a3 b3 a4 b4 xh xl xb xn H locs ls hD hS hS0 hl8 lh ll lb ln hDs Z hl => ?_) dep 0 Ds S c 0 a1 b1 a2 b2 a3 b3 a4 b4 xh xl xb xn H locs ls (by omega) hD hS hS0 hl8 lh ll lb ln (fun j hj => absurd hj (Nat.not_lt_zero _)) rfl Z (lv_sub hl [2, 3, 4, 1, 0] rfl)
  refine lv_iload hx hb dX1_mend_5 (lv_at hl 4 rfl) ?_
  refine lv_aload_n hx hb dX1_mend_7 rfl (lv_at hl 0 rfl) ?_
  refine zk_get C Z in_X1 0 rfl rfl 3 (by decide) q168 rfl (v := .int (nI dep)) rfl dX1_mend_8 ?_
  refine nr_ge (tgt := 57) hx hb (by omega) (by omega) dX1_mend_11 (by decide) (fun c_1 => ?_) (fun c_1 => absurd c_1 (by omega))
  refine lv_iconst (v := nI 0) hx hb dX1_mend_57 (by decide) ?_
  refine lv_istore (lv' := [(4, .int (nI 0)), (0, .ref hn), (1, .ref kr), (2, .ref hv), (3, .int (nI (zk_it (fun j s => s + bct (mdr 1 p n t (Ks.getD j 0) ^^^ Ks.getD j 0)) dep 0 0)))]) hx hb dX1_mend_58 hl (by decide) rfl (fun ls hl => ?_)
  refine lp1_meDK C hn co tr dep ms ch md kp wy h0 hs pl plc t gn kd hp hq p n P L F t1 t3 d4 kdn kr hv a1 b1 a2 b2 a3 b3 a4 b4 xh xl xb xn S c Ds Ks Ks (fun j hj => mdr_lt hn31.2 (hW _) (hall j hj)) hDs _ _ _ (fun H locs ls Z hl => ?_) dep 0 Cs Ms H locs ls (by omega) hCs hMs rfl rfl Z (lv_sub hl [1, 2, 3, 4, 0] rfl)
  have Z : zk_Z D A s H locs [(hn, .inr (0, [.ref co, .ref tr, .int (nI 1), .int (nI dep), .ref ms, .ref ch, .ref md, .ref kp, .ref wy])), (co, .inr (1, [.ref h0, .int (nI t), .int (nI gn), .int (nI kd), .ref hs, .ref pl])), (h0, .inr (2, [.int (nI n), .ref hp, .ref hq])), (hp, .inl (g.1, 62, .inl (zk_ia P))), (hq, .inl (g.1, 32, .inl (zk_ia L))), (hs, .inl (g.1, 7, .inl (zk_ia S))), (pl, .inr (3, [.ref plc])), (plc, .inl (g.1, 8, .inl (zk_ia c))), (hv, .inr (5, [.ref a1, .ref a2, .ref a3, .ref a4])), (a1, .inr (3, [.ref b1])), (b1, .inl (g.1, 8, .inl (zk_ia xh))), (a2, .inr (3, [.ref b2])), (b2, .inl (g.1, 8, .inl (zk_ia xl))), (a3, .inr (3, [.ref b3])), (b3, .inl (g.1, 8, .inl (zk_ia xb))), (a4, .inr (3, [.ref b4])), (b4, .inl (g.1, 8, .inl (zk_ia xn))), (ms, .inl (g.1, 4, .inl (zk_ia (mdM 1 p n t dep (n - kd) Ks Ms)))), (ch, .inl (g.1, 4, .inl (zk_ia (mdC 1 p n t dep Ks Cs)))), (md, .inl (g.1, 4, .inl (zk_ia Ds))), (kr, .inl (g.1, 4, .inl (zk_ia Ks)))] := Z
  refine lv_iload_n hx hb dX1_mend_122 rfl (lv_at hl 1 rfl) ?_
  exact zk_iret C hr hlocks Z ⟨rfl, S, c, Ds, a1, b1, a2, b2, a3, b3, a4, b4, xh, xl, xb, xn, hS, hS0, hl8, hD, lh, ll, lb, ln, rfl⟩ (Nat.le_of_ble_eq_true rfl) (Nat.le_of_ble_eq_true rfl) dX1_mend_123

set_option maxHeartbeats 4000000 in
/-- mend, DK, which throws -/
theorem t1_mdDK (l : Launch) (hfl : l.flags = flags0) (D : va_G) (g : G4) (hn co tr dep ms ch md kp wy : Nat) (h0 hs pl plc t gn kd : Nat) (hp hq p n : Nat) (P L : List Nat) (F : zk_F p n P L) (t1 : 1 ≤ t) (t3 : t ≤ 3) (d4 : dep ≤ 4) (kdn : kd ≤ n) (kr : Nat) (hv a1 b1 a2 b2 a3 b3 a4 b4 : Nat) (xh xl xb xn : List Nat) (lh : xh.length = 8) (ll : xl.length = 8) (lb : xb.length = 8) (ln : xn.length = 8) (Ms Cs Ks : List Nat) (hMs : Ms.length = 4) (hCs : Cs.length = 4) (hKs : Ks.length = 4) (hW : ∀ j, Ks.getD j 0 < 2 ^ 31) (S c Ds : List Nat) (hS : S.length = 7) (hS0 : S.getD 0 0 = 0) (hl8 : c.length = 8) (hD : Ds.length = 4) (up : Nat) (hup : up < dep) (hall : ∀ j, j < up → mdd 1 p n t (Ks.getD j 0) = some (mdr 1 p n t (Ks.getD j 0))) (hnone : mdd 1 p n t (Ks.getD up 0) = none) : zk_MT l yX1_mend (ws_ yX1_mend cX1_mend 5 (some .int)) (zk_R 7 1 6) D g [.ref hn, .ref kr, .ref hv] [(hn, .inr (0, [.ref co, .ref tr, .int (nI 1), .int (nI dep), .ref ms, .ref ch, .ref md, .ref kp, .ref wy])), (co, .inr (1, [.ref h0, .int (nI t), .int (nI gn), .int (nI kd), .ref hs, .ref pl])), (h0, .inr (2, [.int (nI n), .ref hp, .ref hq])), (hp, .inl (g.1, 62, .inl (zk_ia P))), (hq, .inl (g.1, 32, .inl (zk_ia L))), (hs, .inl (g.1, 7, .inl (zk_ia S))), (pl, .inr (3, [.ref plc])), (plc, .inl (g.1, 8, .inl (zk_ia c))), (hv, .inr (5, [.ref a1, .ref a2, .ref a3, .ref a4])), (a1, .inr (3, [.ref b1])), (b1, .inl (g.1, 8, .inl (zk_ia xh))), (a2, .inr (3, [.ref b2])), (b2, .inl (g.1, 8, .inl (zk_ia xl))), (a3, .inr (3, [.ref b3])), (b3, .inl (g.1, 8, .inl (zk_ia xb))), (a4, .inr (3, [.ref b4])), (b4, .inl (g.1, 8, .inl (zk_ia xn))), (ms, .inl (g.1, 4, .inl (zk_ia Ms))), (ch, .inl (g.1, 4, .inl (zk_ia Cs))), (md, .inl (g.1, 4, .inl (zk_ia Ds))), (kr, .inl (g.1, 4, .inl (zk_ia Ks)))] zk_ARE (fun w => ∃ (S1 c1 Ds1 : List Nat) (c1_ d1_ c2_ d2_ c3_ d3_ c4_ d4_ : Nat) (y1 y2 y3 y4 : List Nat), S1.length = 7 ∧ S1.getD 0 0 = 0 ∧ c1.length = 8 ∧ Ds1.length = 4 ∧ y1.length = 8 ∧ y2.length = 8 ∧ y3.length = 8 ∧ y4.length = 8 ∧ w = [(hn, .inr (0, [.ref co, .ref tr, .int (nI 1), .int (nI dep), .ref ms, .ref ch, .ref md, .ref kp, .ref wy])), (ms, .inl (g.1, 4, .inl (zk_ia Ms))), (ch, .inl (g.1, 4, .inl (zk_ia Cs))), (md, .inl (g.1, 4, .inl (zk_ia Ds1))), (kr, .inl (g.1, 4, .inl (zk_ia Ks))), (co, .inr (1, [.ref h0, .int (nI t), .int (nI gn), .int (nI kd), .ref hs, .ref pl])), (h0, .inr (2, [.int (nI n), .ref hp, .ref hq])), (hp, .inl (g.1, 62, .inl (zk_ia P))), (hq, .inl (g.1, 32, .inl (zk_ia L))), (hs, .inl (g.1, 7, .inl (zk_ia S1))), (pl, .inr (3, [.ref plc])), (plc, .inl (g.1, 8, .inl (zk_ia c1))), (hv, .inr (5, [.ref c1_, .ref c2_, .ref c3_, .ref c4_])), (c1_, .inr (3, [.ref d1_])), (d1_, .inl (g.1, 8, .inl (zk_ia y1))), (c2_, .inr (3, [.ref d2_])), (d2_, .inl (g.1, 8, .inl (zk_ia y2))), (c3_, .inr (3, [.ref d3_])), (d3_, .inl (g.1, 8, .inl (zk_ia y3))), (c4_, .inr (3, [.ref d4_])), (d4_, .inl (g.1, 8, .inl (zk_ia y4)))]) := by
  refine zk_ofWT (by decide) (Nat.le_of_ble_eq_true rfl) ?_
  intro pg ev s mm below meth cd A C hlocks hno Z ls hl
  have hx := C.1.1
  have hb := C.1.2.1
  have hml := C.1.2.2.1
  have hown := C.1.2.2.2.1
  have hts := C.1.2.2.2.2
  have hl : lv_has ls 5 [(0, .ref hn), (1, .ref kr), (2, .ref hv)] := hl
  have hn31 := F.n31
  obtain ⟨H, hH⟩ : ∃ H, H = s.heap := ⟨_, rfl⟩
  obtain ⟨locs, hlocs⟩ : ∃ q : List Loc, q = [] := ⟨_, rfl⟩
  rw [← hH, ← hlocs] at Z ⊢
  refine lv_iconst (v := nI 0) hx hb dX1_mend_0 (by decide) ?_
  refine lv_istore_n (lv' := [(3, .int (nI 0)), (0, .ref hn), (1, .ref kr), (2, .ref hv)]) hx hb dX1_mend_1 rfl hl (by decide) rfl (fun ls hl => ?_)
  refine lv_iconst (v := nI 0) hx hb dX1_mend_2 (by decide) ?_
  refine lv_istore (lv' := [(4, .int (nI 0)), (3, .int (nI 0)), (0, .ref hn), (1, .ref kr), (2, .ref hv)]) hx hb dX1_mend_3 hl (by decide) rfl (fun ls hl => ?_)
  refine lp1_mdDK C hn co tr dep ms ch md kp wy h0 hs pl plc t gn kd hp hq p n P L F t1 t3 d4 kdn kr hv Ms Cs Ks hMs hCs hKs up (by omega) hW hall _ (fun Ds S c a1 b1 a2 b2 a3 b3 a4 b4 xh xl xb xn H locs ls hD hS hS0 hl8 lh ll lb ln hDs Z hl => ?_) up 0 Ds S c 0 a1 b1 a2 b2 a3 b3 a4 b4 xh xl xb xn H locs ls (by omega) hD hS hS0 hl8 lh ll lb ln (fun j hj => absurd hj (Nat.not_lt_zero _)) rfl Z (lv_sub hl [2, 3, 4, 1, 0] rfl)
  refine lv_iload hx hb dX1_mend_5 (lv_at hl 4 rfl) ?_
  refine lv_aload_n hx hb dX1_mend_7 rfl (lv_at hl 0 rfl) ?_
  refine zk_get C Z in_X1 0 rfl rfl 3 (by decide) q168 rfl (v := .int (nI dep)) rfl dX1_mend_8 ?_
  refine nr_ge (tgt := 57) hx hb (by omega) (by omega) dX1_mend_11 (by decide) (fun c_1 => absurd c_1 (by omega)) (fun c_1 => ?_)
  refine lv_aload_n hx hb dX1_mend_14 rfl (lv_at hl 0 rfl) ?_
  refine zk_get C Z in_X1 0 rfl rfl 6 (by decide) q171 rfl (v := .ref md) rfl dX1_mend_15 ?_
  refine lv_iload hx hb dX1_mend_18 (lv_at hl 4 rfl) ?_
  refine lv_aload_n hx hb dX1_mend_20 rfl (lv_at hl 0 rfl) ?_
  refine zk_get C Z in_X1 0 rfl rfl 0 (by decide) q165 rfl (v := .ref co) rfl dX1_mend_21 ?_
  refine lv_aload_n hx hb dX1_mend_24 rfl (lv_at hl 1 rfl) ?_
  refine lv_iload hx hb dX1_mend_25 (lv_at hl 4 rfl) ?_
  refine zk_iald C Z 20 rfl (by decide) (by omega) dX1_mend_27 ?_
  refine lv_aload_n hx hb dX1_mend_28 rfl (lv_at hl 2 rfl) ?_
  refine zk_callVT (cells' := 1) (slots' := 6) (rest := [.int (nI up), .ref md]) (n := 2) (wr := [(hn, .inr (0, [.ref co, .ref tr, .int (nI 1), .int (nI dep), .ref ms, .ref ch, .ref md, .ref kp, .ref wy])), (ms, .inl (g.1, 4, .inl (zk_ia Ms))), (ch, .inl (g.1, 4, .inl (zk_ia Cs))), (md, .inl (g.1, 4, .inl (zk_ia Ds))), (kr, .inl (g.1, 4, .inl (zk_ia Ks)))]) C Z (t2_mdD l hfl D g co h0 hs pl plc t gn kd hp hq p n P L F t1 t3 hv a1 b1 a2 b2 a3 b3 a4 b4 xh xl xb xn lh ll lb ln (Ks.getD up 0) (hW _) S c hS hS0 hl8 hnone) [1, 2, 3, 4, 5, 6, 7, 8, 9, 10, 11, 12, 13, 14, 15, 16] [0, 17, 18, 19, 20] rfl rfl (by decide) (by decide) (by decide) 1 1 rfl rfl rfl q498 q499 q500 q20 q501 (by decide +kernel) rfl (Nat.le_of_ble_eq_true rfl) (Nat.le_of_ble_eq_true rfl) (Nat.le_of_ble_eq_true rfl) (Nat.le_of_ble_eq_true rfl) rfl rfl hl.1 rfl (Nat.le_of_ble_eq_true rfl) dX1_mend_29 (fun w1 hq => ?_)
  obtain ⟨S1, c1, c1_, d1_, c2_, d2_, c3_, d3_, c4_, d4_, y1, y2, y3, y4, hS1, hS10, hc1, hy1, hy2, hy3, hy4, rfl⟩ := hq
  exact zk_leave hlocks hno (⟨S1, c1, Ds, c1_, d1_, c2_, d2_, c3_, d3_, c4_, d4_, y1, y2, y3, y4, hS1, hS10, hc1, hD, hy1, hy2, hy3, hy4, rfl⟩) (Nat.le_of_ble_eq_true rfl) (Nat.le_of_ble_eq_true rfl)

set_option maxHeartbeats 4000000 in
theorem lp1_mdGA {pg : Program} {l : Launch} {ev : Env} {s : State} {mm : MethodId} {args : Array Value} {below : List Frame} {meth : Method} {cd : Code} {Q : State → Prop} {D : va_G} {g : G4} {A : Nat → Prop} (C : zk_C pg s mm cd args cX1_mend 5 RX1 D g A) (hn co tr dep ms ch md kp wy : Nat) (h0 hs pl plc t gn kd : Nat) (hp hq p n : Nat) (P L : List Nat) (F : zk_F p n P L) (t1 : 1 ≤ t) (t3 : t ≤ 3) (d4 : dep ≤ 4) (kdn : kd ≤ n) (hg go goc gt gtc : Nat) (Ms Cs : List Nat) (hMs : Ms.length = 4) (hCs : Cs.length = 4) (up : Nat) (hup : up ≤ dep) (hW : ∀ j, Cs.getD j 0 < 2 ^ 31) (hall : ∀ j, j < up → mdd 2 p n t (Cs.getD j 0) = some (mdr 2 p n t (Cs.getD j 0))) (finN : Nat) (kk : ∀ (Ds S c : List Nat) (o gr : List Nat) (H : Heap) (locs : List Loc) (ls : Array Slot), Ds.length = 4 → S.length = 7 → S.getD 0 0 = 0 → c.length = 8 → o.length = 8 → gr.length = 8 → (∀ j, j < up → Ds.getD j 0 = mdr 2 p n t (Cs.getD j 0)) → zk_Z D A s H locs [(hn, .inr (0, [.ref co, .ref tr, .int (nI 1), .int (nI dep), .ref ms, .ref ch, .ref md, .ref kp, .ref wy])), (co, .inr (1, [.ref h0, .int (nI t), .int (nI gn), .int (nI kd), .ref hs, .ref pl])), (h0, .inr (2, [.int (nI n), .ref hp, .ref hq])), (hp, .inl (g.1, 62, .inl (zk_ia P))), (hq, .inl (g.1, 32, .inl (zk_ia L))), (hs, .inl (g.1, 7, .inl (zk_ia S))), (pl, .inr (3, [.ref plc])), (plc, .inl (g.1, 8, .inl (zk_ia c))), (hg, .inr (6, [.ref go, .ref gt])), (go, .inr (3, [.ref goc])), (goc, .inl (g.1, 8, .inl (zk_ia o))), (gt, .inr (3, [.ref gtc])), (gtc, .inl (g.1, 8, .inl (zk_ia gr))), (ms, .inl (g.1, 4, .inl (zk_ia Ms))), (ch, .inl (g.1, 4, .inl (zk_ia Cs))), (md, .inl (g.1, 4, .inl (zk_ia Ds)))] → lv_has ls 5 [(0, .ref hn), (1, .ref ch), (2, .ref hg), (3, .int (nI finN)), (4, .int (nI up))] → W pg l ev (zk_R 7 1 6) s mm args below meth cd H locs 0 0 Q (F0 mm 5 ls [])) :
    ∀ (k : Nat) (w : Nat) (Ds S c : List Nat) (nn : Nat) (o gr : List Nat) (H : Heap) (locs : List Loc) (ls : Array Slot), (w + k = up) → (Ds.length = 4) → (S.length = 7) → (S.getD 0 0 = 0) → (c.length = 8) → (o.length = 8) → (gr.length = 8) → (∀ j, j < w → Ds.getD j 0 = mdr 2 p n t (Cs.getD j 0)) → (zk_it (fun j s => s + bct (mdr 2 p n t (Cs.getD j 0) ^^^ Cs.getD j 0)) k w nn = finN) → zk_Z D A s H locs [(hn, .inr (0, [.ref co, .ref tr, .int (nI 1), .int (nI dep), .ref ms, .ref ch, .ref md, .ref kp, .ref wy])), (co, .inr (1, [.ref h0, .int (nI t), .int (nI gn), .int (nI kd), .ref hs, .ref pl])), (h0, .inr (2, [.int (nI n), .ref hp, .ref hq])), (hp, .inl (g.1, 62, .inl (zk_ia P))), (hq, .inl (g.1, 32, .inl (zk_ia L))), (hs, .inl (g.1, 7, .inl (zk_ia S))), (pl, .inr (3, [.ref plc])), (plc, .inl (g.1, 8, .inl (zk_ia c))), (hg, .inr (6, [.ref go, .ref gt])), (go, .inr (3, [.ref goc])), (goc, .inl (g.1, 8, .inl (zk_ia o))), (gt, .inr (3, [.ref gtc])), (gtc, .inl (g.1, 8, .inl (zk_ia gr))), (ms, .inl (g.1, 4, .inl (zk_ia Ms))), (ch, .inl (g.1, 4, .inl (zk_ia Cs))), (md, .inl (g.1, 4, .inl (zk_ia Ds)))] → lv_has ls 5 [(0, .ref hn), (1, .ref ch), (2, .ref hg), (3, .int (nI nn)), (4, .int (nI w))] → W pg l ev (zk_R 7 1 6) s mm args below meth cd H locs 0 0 Q (F0 mm 5 ls []) := by
  have hx := C.1.1
  have hb := C.1.2.1
  have hml := C.1.2.2.1
  have hown := C.1.2.2.2.1
  have hts := C.1.2.2.2.2
  have hn31 := F.n31
  intro k
  induction k with
  | zero =>
    intro w Ds S c nn o gr H locs ls hik hD hS hS0 hl8 ho ht hDs hfin Z hl
    have hw : w = up := by omega
    subst hw
    have hfin : nn = finN := hfin
    subst hfin
    exact kk Ds S c o gr H locs ls hD hS hS0 hl8 ho ht hDs Z hl
  | succ k ih =>
    intro w Ds S c nn o gr H locs ls hik hD hS hS0 hl8 ho ht hDs hfin Z hl
    refine lv_iload hx hb dX1_mend_5 (lv_at hl 4 rfl) ?_
    refine lv_aload_n hx hb dX1_mend_7 rfl (lv_at hl 0 rfl) ?_
    refine zk_get C Z in_X1 0 rfl rfl 3 (by decide) q168 rfl (v := .int (nI dep)) rfl dX1_mend_8 ?_
    refine nr_ge (tgt := 57) hx hb (by omega) (by omega) dX1_mend_11 (by decide) (fun c_1 => absurd c_1 (by omega)) (fun c_1 => ?_)
    refine lv_aload_n hx hb dX1_mend_14 rfl (lv_at hl 0 rfl) ?_
    refine zk_get C Z in_X1 0 rfl rfl 6 (by decide) q171 rfl (v := .ref md) rfl dX1_mend_15 ?_
    refine lv_iload hx hb dX1_mend_18 (lv_at hl 4 rfl) ?_
    refine lv_aload_n hx hb dX1_mend_20 rfl (lv_at hl 0 rfl) ?_
    refine zk_get C Z in_X1 0 rfl rfl 0 (by decide) q165 rfl (v := .ref co) rfl dX1_mend_21 ?_
    refine lv_aload_n hx hb dX1_mend_24 rfl (lv_at hl 1 rfl) ?_
    refine lv_iload hx hb dX1_mend_25 (lv_at hl 4 rfl) ?_
    refine zk_iald C Z 14 rfl (by decide) (by omega) dX1_mend_27 ?_
    refine lv_aload_n hx hb dX1_mend_28 rfl (lv_at hl 2 rfl) ?_
    refine zk_callV (cells' := 0) (slots' := 0) (rest := [.int (nI w), .ref md]) (n := 2) (wr := [(hn, .inr (0, [.ref co, .ref tr, .int (nI 1), .int (nI dep), .ref ms, .ref ch, .ref md, .ref kp, .ref wy])), (ms, .inl (g.1, 4, .inl (zk_ia Ms))), (ch, .inl (g.1, 4, .inl (zk_ia Cs))), (md, .inl (g.1, 4, .inl (zk_ia Ds)))]) C Z (m2_mdG l D g co h0 hs pl plc t gn kd hp hq p n P L F t1 t3 hg go goc gt gtc o gr ho ht (Cs.getD w 0) (hW _) S c hS hS0 hl8 (mdr 2 p n t (Cs.getD w 0)) (hall w (by omega))) [1, 2, 3, 4, 5, 6, 7, 8, 9, 10, 11, 12] [0, 13, 14, 15] rfl rfl (by decide) (by decide) (by decide) 1 1 rfl rfl rfl q498 q499 q500 q20 q501 (by decide +kernel) rfl (Nat.le_of_ble_eq_true rfl) (Nat.le_of_ble_eq_true rfl) (Nat.le_of_ble_eq_true rfl) (Nat.le_of_ble_eq_true rfl) rfl rfl hl.1 rfl (Nat.le_of_ble_eq_true rfl) dX1_mend_29 (fun v w1 H locs hq Z => ?_)
    obtain ⟨rfl, S1, c1, o1, t1_, hS1, hS10, hc1, ho1, ht1, rfl⟩ := hq
    have Z : zk_Z D A s H locs [(hn, .inr (0, [.ref co, .ref tr, .int (nI 1), .int (nI dep), .ref ms, .ref ch, .ref md, .ref kp, .ref wy])), (co, .inr (1, [.ref h0, .int (nI t), .int (nI gn), .int (nI kd), .ref hs, .ref pl])), (h0, .inr (2, [.int (nI n), .ref hp, .ref hq])), (hp, .inl (g.1, 62, .inl (zk_ia P))), (hq, .inl (g.1, 32, .inl (zk_ia L))), (hs, .inl (g.1, 7, .inl (zk_ia S1))), (pl, .inr (3, [.ref plc])), (plc, .inl (g.1, 8, .inl (zk_ia c1))), (hg, .inr (6, [.ref go, .ref gt])), (go, .inr (3, [.ref goc])), (goc, .inl (g.1, 8, .inl (zk_ia o1))), (gt, .inr (3, [.ref gtc])), (gtc, .inl (g.1, 8, .inl (zk_ia t1_))), (ms, .inl (g.1, 4, .inl (zk_ia Ms))), (ch, .inl (g.1, 4, .inl (zk_ia Cs))), (md, .inl (g.1, 4, .inl (zk_ia Ds)))] := Z.sub [0, 4, 5, 6, 7, 8, 9, 10, 11, 12, 13, 14, 15, 1, 2, 3] (by decide) rfl
    refine W.eq (g2 := F0 mm 32 ls [.int (nI (mdr 2 p n t (Cs.getD w 0))), .int (nI w), .ref md]) rfl ?_
    refine zk_iast C Z 15 rfl (by decide) (by omega) hD dX1_mend_32 (fun H locs Z => ?_)
    have hlen_2 : (Ds.set w (mdr 2 p n t (Cs.getD w 0))).length = 4 := by rw [List.length_set]; exact hD
    have Z : zk_Z D A s H locs [(hn, .inr (0, [.ref co, .ref tr, .int (nI 1), .int (nI dep), .ref ms, .ref ch, .ref md, .ref kp, .ref wy])), (co, .inr (1, [.ref h0, .int (nI t), .int (nI gn), .int (nI kd), .ref hs, .ref pl])), (h0, .inr (2, [.int (nI n), .ref hp, .ref hq])), (hp, .inl (g.1, 62, .inl (zk_ia P))), (hq, .inl (g.1, 32, .inl (zk_ia L))), (hs, .inl (g.1, 7, .inl (zk_ia S1))), (pl, .inr (3, [.ref plc])), (plc, .inl (g.1, 8, .inl (zk_ia c1))), (hg, .inr (6, [.ref go, .ref gt])), (go, .inr (3, [.ref goc])), (goc, .inl (g.1, 8, .inl (zk_ia o1))), (gt, .inr (3, [.ref gtc])), (gtc, .inl (g.1, 8, .inl (zk_ia t1_))), (ms, .inl (g.1, 4, .inl (zk_ia Ms))), (ch, .inl (g.1, 4, .inl (zk_ia Cs))), (md, .inl (g.1, 4, .inl (zk_ia (Ds.set w (mdr 2 p n t (Cs.getD w 0))))))] := Z
    refine lv_iload_n hx hb dX1_mend_33 rfl (lv_at hl 3 rfl) ?_
    refine lv_aload_n hx hb dX1_mend_34 rfl (lv_at hl 0 rfl) ?_
    refine zk_get C Z in_X1 0 rfl rfl 6 (by decide) q171 rfl (v := .ref md) rfl dX1_mend_35 ?_
    refine lv_iload hx hb dX1_mend_38 (lv_at hl 4 rfl) ?_
    refine zk_iald C Z 15 rfl (by decide) (by omega) dX1_mend_40 ?_
    rw [show (Ds.set w (mdr 2 p n t (Cs.getD w 0))).getD w 0 = mdr 2 p n t (Cs.getD w 0) from zk_sg (by omega)]
    refine lv_aload_n hx hb dX1_mend_41 rfl (lv_at hl 1 rfl) ?_
    refine lv_iload hx hb dX1_mend_42 (lv_at hl 4 rfl) ?_
    refine zk_iald C Z 14 rfl (by decide) (by omega) dX1_mend_44 ?_
    refine nr_ixor hx hb dX1_mend_45 ?_
    refine zk_callS (cells' := 0) (slots' := 0) (rest := [.int (nI nn)]) (n := 1) (wr := [(hn, .inr (0, [.ref co, .ref tr, .int (nI 1), .int (nI dep), .ref ms, .ref ch, .ref md, .ref kp, .ref wy])), (co, .inr (1, [.ref h0, .int (nI t), .int (nI gn), .int (nI kd), .ref hs, .ref pl])), (h0, .inr (2, [.int (nI n), .ref hp, .ref hq])), (hp, .inl (g.1, 62, .inl (zk_ia P))), (hq, .inl (g.1, 32, .inl (zk_ia L))), (hs, .inl (g.1, 7, .inl (zk_ia S1))), (pl, .inr (3, [.ref plc])), (plc, .inl (g.1, 8, .inl (zk_ia c1))), (hg, .inr (6, [.ref go, .ref gt])), (go, .inr (3, [.ref goc])), (goc, .inl (g.1, 8, .inl (zk_ia o1))), (gt, .inr (3, [.ref gtc])), (gtc, .inl (g.1, 8, .inl (zk_ia t1_))), (ms, .inl (g.1, 4, .inl (zk_ia Ms))), (ch, .inl (g.1, 4, .inl (zk_ia Cs))), (md, .inl (g.1, 4, .inl (zk_ia (Ds.set w (mdr 2 p n t (Cs.getD w 0))))))]) C Z (mJ_bc l D g ((mdr 2 p n t (Cs.getD w 0)) ^^^ (Cs.getD w 0)) (Nat.xor_lt_two_pow (mdr_lt hn31.2 (hW _) (hall w (by omega))) (hW _))) [] [0, 1, 2, 3, 4, 5, 6, 7, 8, 9, 10, 11, 12, 13, 14, 15] rfl rfl (by decide) (by decide) (by decide) q447 q448 q36 q449 (by decide +kernel) rfl (Nat.le_of_ble_eq_true rfl) (Nat.le_of_ble_eq_true rfl) (Nat.le_of_ble_eq_true rfl) (Nat.le_of_ble_eq_true rfl) rfl rfl hl.1 rfl (Nat.le_of_ble_eq_true rfl) dX1_mend_46 (fun v w1 H locs hq Z => ?_)
    obtain ⟨rfl, rfl⟩ := hq
    have Z : zk_Z D A s H locs [(hn, .inr (0, [.ref co, .ref tr, .int (nI 1), .int (nI dep), .ref ms, .ref ch, .ref md, .ref kp, .ref wy])), (co, .inr (1, [.ref h0, .int (nI t), .int (nI gn), .int (nI kd), .ref hs, .ref pl])), (h0, .inr (2, [.int (nI n), .ref hp, .ref hq])), (hp, .inl (g.1, 62, .inl (zk_ia P))), (hq, .inl (g.1, 32, .inl (zk_ia L))), (hs, .inl (g.1, 7, .inl (zk_ia S1))), (pl, .inr (3, [.ref plc])), (plc, .inl (g.1, 8, .inl (zk_ia c1))), (hg, .inr (6, [.ref go, .ref gt])), (go, .inr (3, [.ref goc])), (goc, .inl (g.1, 8, .inl (zk_ia o1))), (gt, .inr (3, [.ref gtc])), (gtc, .inl (g.1, 8, .inl (zk_ia t1_))), (ms, .inl (g.1, 4, .inl (zk_ia Ms))), (ch, .inl (g.1, 4, .inl (zk_ia Cs))), (md, .inl (g.1, 4, .inl (zk_ia (Ds.set w (mdr 2 p n t (Cs.getD w 0))))))] := Z.sub [0, 1, 2, 3, 4, 5, 6, 7, 8, 9, 10, 11, 12, 13, 14, 15] (by decide) rfl
    refine W.eq (g2 := F0 mm 49 ls [.int (nI (bct ((mdr 2 p n t (Cs.getD w 0)) ^^^ (Cs.getD w 0)))), .int (nI nn)]) rfl ?_
    refine nr_iadd hx hb dX1_mend_49 ?_
    refine lv_istore_n (lv' := [(3, .int (nI (nn + (bct ((mdr 2 p n t (Cs.getD w 0)) ^^^ (Cs.getD w 0)))))), (0, .ref hn), (1, .ref ch), (2, .ref hg), (4, .int (nI w))]) hx hb dX1_mend_50 rfl hl (by decide) rfl (fun ls hl => ?_)
    refine nr_iinc (n := 1) (lv' := [(4, .int (nI (w + 1))), (3, .int (nI (nn + (bct ((mdr 2 p n t (Cs.getD w 0)) ^^^ (Cs.getD w 0)))))), (0, .ref hn), (1, .ref ch), (2, .ref hg)]) hx hb (by decide) dX1_mend_51 hl (k := 4) rfl (by decide) rfl (fun ls hl => ?_)
    refine lv_goto (tgt := 5) hx hb dX1_mend_54 (by decide) ?_
    exact ih (w + 1) (Ds.set w (mdr 2 p n t (Cs.getD w 0))) S1 c1 (nn + (bct ((mdr 2 p n t (Cs.getD w 0)) ^^^ (Cs.getD w 0)))) o1 t1_ H locs ls (by omega) hlen_2 hS1 hS10 hc1 ho1 ht1 (zk_upto (P := fun _ => True) (by omega) rfl hDs) hfin Z (lv_sub hl [2, 3, 4, 1, 0] rfl)

set_option maxHeartbeats 4000000 in
theorem lp1_meGA {pg : Program} {l : Launch} {ev : Env} {s : State} {mm : MethodId} {args : Array Value} {below : List Frame} {meth : Method} {cd : Code} {Q : State → Prop} {D : va_G} {g : G4} {A : Nat → Prop} (C : zk_C pg s mm cd args cX1_mend 5 RX1 D g A) (hn co tr dep ms ch md kp wy : Nat) (h0 hs pl plc t gn kd : Nat) (hp hq p n : Nat) (P L : List Nat) (F : zk_F p n P L) (t1 : 1 ≤ t) (t3 : t ≤ 3) (d4 : dep ≤ 4) (kdn : kd ≤ n) (hg go goc gt gtc : Nat) (o gr : List Nat) (S c Ds Ws : List Nat) (hD31 : ∀ j, j < dep → mdr 2 p n t (Ws.getD j 0) < 2 ^ 31) (hDs : ∀ j, j < dep → Ds.getD j 0 = mdr 2 p n t (Ws.getD j 0)) (nn : Nat) (finC finM : List Nat) (kk : ∀ (H : Heap) (locs : List Loc) (ls : Array Slot), zk_Z D A s H locs [(hn, .inr (0, [.ref co, .ref tr, .int (nI 1), .int (nI dep), .ref ms, .ref ch, .ref md, .ref kp, .ref wy])), (co, .inr (1, [.ref h0, .int (nI t), .int (nI gn), .int (nI kd), .ref hs, .ref pl])), (h0, .inr (2, [.int (nI n), .ref hp, .ref hq])), (hp, .inl (g.1, 62, .inl (zk_ia P))), (hq, .inl (g.1, 32, .inl (zk_ia L))), (hs, .inl (g.1, 7, .inl (zk_ia S))), (pl, .inr (3, [.ref plc])), (plc, .inl (g.1, 8, .inl (zk_ia c))), (hg, .inr (6, [.ref go, .ref gt])), (go, .inr (3, [.ref goc])), (goc, .inl (g.1, 8, .inl (zk_ia o))), (gt, .inr (3, [.ref gtc])), (gtc, .inl (g.1, 8, .inl (zk_ia gr))), (ms, .inl (g.1, 4, .inl (zk_ia finM))), (ch, .inl (g.1, 4, .inl (zk_ia finC))), (md, .inl (g.1, 4, .inl (zk_ia Ds)))] → lv_has ls 5 [(0, .ref hn), (3, .int (nI nn))] → W pg l ev (zk_R 7 1 6) s mm args below meth cd H locs 0 0 Q (F0 mm 122 ls [])) :
    ∀ (k : Nat) (w : Nat) (Cs Ms : List Nat) (H : Heap) (locs : List Loc) (ls : Array Slot), (w + k = dep) → (Cs.length = 4) → (Ms.length = 4) → (zk_it (fun j C => C.set j (mdr 2 p n t (Ws.getD j 0))) k w Cs = finC) → (zk_it (fun j M => M.set j (mdr 2 p n t (Ws.getD j 0) >>> (n - kd))) k w Ms = finM) → zk_Z D A s H locs [(hn, .inr (0, [.ref co, .ref tr, .int (nI 1), .int (nI dep), .ref ms, .ref ch, .ref md, .ref kp, .ref wy])), (co, .inr (1, [.ref h0, .int (nI t), .int (nI gn), .int (nI kd), .ref hs, .ref pl])), (h0, .inr (2, [.int (nI n), .ref hp, .ref hq])), (hp, .inl (g.1, 62, .inl (zk_ia P))), (hq, .inl (g.1, 32, .inl (zk_ia L))), (hs, .inl (g.1, 7, .inl (zk_ia S))), (pl, .inr (3, [.ref plc])), (plc, .inl (g.1, 8, .inl (zk_ia c))), (hg, .inr (6, [.ref go, .ref gt])), (go, .inr (3, [.ref goc])), (goc, .inl (g.1, 8, .inl (zk_ia o))), (gt, .inr (3, [.ref gtc])), (gtc, .inl (g.1, 8, .inl (zk_ia gr))), (ms, .inl (g.1, 4, .inl (zk_ia Ms))), (ch, .inl (g.1, 4, .inl (zk_ia Cs))), (md, .inl (g.1, 4, .inl (zk_ia Ds)))] → lv_has ls 5 [(0, .ref hn), (1, .ref ch), (2, .ref hg), (3, .int (nI nn)), (4, .int (nI w))] → W pg l ev (zk_R 7 1 6) s mm args below meth cd H locs 0 0 Q (F0 mm 60 ls []) := by
  have hx := C.1.1
  have hb := C.1.2.1
  have hml := C.1.2.2.1
  have hown := C.1.2.2.2.1
  have hts := C.1.2.2.2.2
  have hn31 := F.n31
  intro k
  induction k with
  | zero =>
    intro w Cs Ms H locs ls hik hCs hMs hf1 hf2 Z hl
    have hf1 : Cs = finC := hf1
    have hf2 : Ms = finM := hf2
    subst hf1
    subst hf2
    refine lv_iload hx hb dX1_mend_60 (lv_at hl 4 rfl) ?_
    refine lv_aload_n hx hb dX1_mend_62 rfl (lv_at hl 0 rfl) ?_
    refine zk_get C Z in_X1 0 rfl rfl 3 (by decide) q168 rfl (v := .int (nI dep)) rfl dX1_mend_63 ?_
    refine nr_ge (tgt := 122) hx hb (by omega) (by omega) dX1_mend_66 (by decide) (fun c_1 => ?_) (fun c_1 => absurd c_1 (by omega))
    exact kk  H locs ls  Z (lv_sub hl [0, 3] rfl)
  | succ k ih =>
    intro w Cs Ms H locs ls hik hCs hMs hf1 hf2 Z hl
    refine lv_iload hx hb dX1_mend_60 (lv_at hl 4 rfl) ?_
    refine lv_aload_n hx hb dX1_mend_62 rfl (lv_at hl 0 rfl) ?_
    refine zk_get C Z in_X1 0 rfl rfl 3 (by decide) q168 rfl (v := .int (nI dep)) rfl dX1_mend_63 ?_
    refine nr_ge (tgt := 122) hx hb (by omega) (by omega) dX1_mend_66 (by decide) (fun c_1 => absurd c_1 (by omega)) (fun c_1 => ?_)
    refine lv_aload_n hx hb dX1_mend_69 rfl (lv_at hl 0 rfl) ?_
    refine zk_get C Z in_X1 0 rfl rfl 5 (by decide) q170 rfl (v := .ref ch) rfl dX1_mend_70 ?_
    refine lv_iload hx hb dX1_mend_73 (lv_at hl 4 rfl) ?_
    refine lv_aload_n hx hb dX1_mend_75 rfl (lv_at hl 0 rfl) ?_
    refine zk_get C Z in_X1 0 rfl rfl 6 (by decide) q171 rfl (v := .ref md) rfl dX1_mend_76 ?_
    refine lv_iload hx hb dX1_mend_79 (lv_at hl 4 rfl) ?_
    refine zk_iald C Z 15 rfl (by decide) (by omega) dX1_mend_81 ?_
    rw [hDs w (by omega)]
    refine zk_iast C Z 14 rfl (by decide) (by omega) hCs dX1_mend_82 (fun H locs Z => ?_)
    have hlen_2 : (Cs.set w (mdr 2 p n t (Ws.getD w 0))).length = 4 := by rw [List.length_set]; exact hCs
    have Z : zk_Z D A s H locs [(hn, .inr (0, [.ref co, .ref tr, .int (nI 1), .int (nI dep), .ref ms, .ref ch, .ref md, .ref kp, .ref wy])), (co, .inr (1, [.ref h0, .int (nI t), .int (nI gn), .int (nI kd), .ref hs, .ref pl])), (h0, .inr (2, [.int (nI n), .ref hp, .ref hq])), (hp, .inl (g.1, 62, .inl (zk_ia P))), (hq, .inl (g.1, 32, .inl (zk_ia L))), (hs, .inl (g.1, 7, .inl (zk_ia S))), (pl, .inr (3, [.ref plc])), (plc, .inl (g.1, 8, .inl (zk_ia c))), (hg, .inr (6, [.ref go, .ref gt])), (go, .inr (3, [.ref goc])), (goc, .inl (g.1, 8, .inl (zk_ia o))), (gt, .inr (3, [.ref gtc])), (gtc, .inl (g.1, 8, .inl (zk_ia gr))), (ms, .inl (g.1, 4, .inl (zk_ia Ms))), (ch, .inl (g.1, 4, .inl (zk_ia (Cs.set w (mdr 2 p n t (Ws.getD w 0)))))), (md, .inl (g.1, 4, .inl (zk_ia Ds)))] := Z
    refine lv_aload_n hx hb dX1_mend_83 rfl (lv_at hl 0 rfl) ?_
    refine zk_get C Z in_X1 0 rfl rfl 4 (by decide) q169 rfl (v := .ref ms) rfl dX1_mend_84 ?_
    refine lv_iload hx hb dX1_mend_87 (lv_at hl 4 rfl) ?_
    refine lv_aload_n hx hb dX1_mend_89 rfl (lv_at hl 0 rfl) ?_
    refine zk_get C Z in_X1 0 rfl rfl 6 (by decide) q171 rfl (v := .ref md) rfl dX1_mend_90 ?_
    refine lv_iload hx hb dX1_mend_93 (lv_at hl 4 rfl) ?_
    refine zk_iald C Z 15 rfl (by decide) (by omega) dX1_mend_95 ?_
    rw [hDs w (by omega)]
    refine lv_aload_n hx hb dX1_mend_96 rfl (lv_at hl 0 rfl) ?_
    refine zk_get C Z in_X1 0 rfl rfl 0 (by decide) q165 rfl (v := .ref co) rfl dX1_mend_97 ?_
    refine zk_getN C Z in_X2 1 rfl rfl 0 (by decide) q92 rfl (v := .ref h0) rfl dX1_mend_100 ?_
    refine zk_getN C Z in_X3 2 rfl rfl 0 (by decide) q61 rfl (v := .int (nI n)) rfl dX1_mend_103 ?_
    refine lv_aload_n hx hb dX1_mend_106 rfl (lv_at hl 0 rfl) ?_
    refine zk_get C Z in_X1 0 rfl rfl 0 (by decide) q165 rfl (v := .ref co) rfl dX1_mend_107 ?_
    refine zk_getN C Z in_X2 1 rfl rfl 3 (by decide) q98 rfl (v := .int (nI kd)) rfl dX1_mend_110 ?_
    refine nr_isub hx hb (by omega) dX1_mend_113 ?_
    refine nr_ishr hx hb (hD31 w (by omega)) (by omega) dX1_mend_114 ?_
    refine zk_iast C Z 13 rfl (by decide) (by omega) hMs dX1_mend_115 (fun H locs Z => ?_)
    have hlen_3 : (Ms.set w ((mdr 2 p n t (Ws.getD w 0)) >>> (n - kd))).length = 4 := by rw [List.length_set]; exact hMs
    have Z : zk_Z D A s H locs [(hn, .inr (0, [.ref co, .ref tr, .int (nI 1), .int (nI dep), .ref ms, .ref ch, .ref md, .ref kp, .ref wy])), (co, .inr (1, [.ref h0, .int (nI t), .int (nI gn), .int (nI kd), .ref hs, .ref pl])), (h0, .inr (2, [.int (nI n), .ref hp, .ref hq])), (hp, .inl (g.1, 62, .inl (zk_ia P))), (hq, .inl (g.1, 32, .inl (zk_ia L))), (hs, .inl (g.1, 7, .inl (zk_ia S))), (pl, .inr (3, [.ref plc])), (plc, .inl (g.1, 8, .inl (zk_ia c))), (hg, .inr (6, [.ref go, .ref gt])), (go, .inr (3, [.ref goc])), (goc, .inl (g.1, 8, .inl (zk_ia o))), (gt, .inr (3, [.ref gtc])), (gtc, .inl (g.1, 8, .inl (zk_ia gr))), (ms, .inl (g.1, 4, .inl (zk_ia (Ms.set w ((mdr 2 p n t (Ws.getD w 0)) >>> (n - kd)))))), (ch, .inl (g.1, 4, .inl (zk_ia (Cs.set w (mdr 2 p n t (Ws.getD w 0)))))), (md, .inl (g.1, 4, .inl (zk_ia Ds)))] := Z
    refine nr_iinc (n := 1) (lv' := [(4, .int (nI (w + 1))), (0, .ref hn), (1, .ref ch), (2, .ref hg), (3, .int (nI nn))]) hx hb (by decide) dX1_mend_116 hl (k := 4) rfl (by decide) rfl (fun ls hl => ?_)
    refine lv_goto (tgt := 60) hx hb dX1_mend_119 (by decide) ?_
    exact ih (w + 1) (Cs.set w (mdr 2 p n t (Ws.getD w 0))) (Ms.set w ((mdr 2 p n t (Ws.getD w 0)) >>> (n - kd))) H locs ls (by omega) hlen_2 hlen_3 hf1 hf2 Z (lv_sub hl [1, 2, 3, 4, 0] rfl)

set_option maxHeartbeats 4000000 in
/-- mend, GA -/
theorem m1_mdGA (l : Launch) (D : va_G) (g : G4) (hn co tr dep ms ch md kp wy : Nat) (h0 hs pl plc t gn kd : Nat) (hp hq p n : Nat) (P L : List Nat) (F : zk_F p n P L) (t1 : 1 ≤ t) (t3 : t ≤ 3) (d4 : dep ≤ 4) (kdn : kd ≤ n) (hg go goc gt gtc : Nat) (o gr : List Nat) (ho : o.length = 8) (ht : gr.length = 8) (Ms Cs : List Nat) (hMs : Ms.length = 4) (hCs : Cs.length = 4) (hW : ∀ j, Cs.getD j 0 < 2 ^ 31) (S c Ds : List Nat) (hS : S.length = 7) (hS0 : S.getD 0 0 = 0) (hl8 : c.length = 8) (hD : Ds.length = 4) (hall : ∀ j, j < dep → mdd 2 p n t (Cs.getD j 0) = some (mdr 2 p n t (Cs.getD j 0))) : zk_M l yX1_mend (ws_ yX1_mend cX1_mend 5 (some .int)) (zk_R 7 1 6) D g [.ref hn, .ref ch, .ref hg] [(hn, .inr (0, [.ref co, .ref tr, .int (nI 1), .int (nI dep), .ref ms, .ref ch, .ref md, .ref kp, .ref wy])), (co, .inr (1, [.ref h0, .int (nI t), .int (nI gn), .int (nI kd), .ref hs, .ref pl])), (h0, .inr (2, [.int (nI n), .ref hp, .ref hq])), (hp, .inl (g.1, 62, .inl (zk_ia P))), (hq, .inl (g.1, 32, .inl (zk_ia L))), (hs, .inl (g.1, 7, .inl (zk_ia S))), (pl, .inr (3, [.ref plc])), (plc, .inl (g.1, 8, .inl (zk_ia c))), (hg, .inr (6, [.ref go, .ref gt])), (go, .inr (3, [.ref goc])), (goc, .inl (g.1, 8, .inl (zk_ia o))), (gt, .inr (3, [.ref gtc])), (gtc, .inl (g.1, 8, .inl (zk_ia gr))), (ms, .inl (g.1, 4, .inl (zk_ia Ms))), (ch, .inl (g.1, 4, .inl (zk_ia Cs))), (md, .inl (g.1, 4, .inl (zk_ia Ds)))] (fun v w => v = some (.int (nI (mdN 2 p n t dep Cs))) ∧ ∃ (S1 c1 Ds1 : List Nat) (o1 t1_ : List Nat), S1.length = 7 ∧ S1.getD 0 0 = 0 ∧ c1.length = 8 ∧ Ds1.length = 4 ∧ o1.length = 8 ∧ t1_.length = 8 ∧ w = [(hn, .inr (0, [.ref co, .ref tr, .int (nI 1), .int (nI dep), .ref ms, .ref ch, .ref md, .ref kp, .ref wy])), (co, .inr (1, [.ref h0, .int (nI t), .int (nI gn), .int (nI kd), .ref hs, .ref pl])), (h0, .inr (2, [.int (nI n), .ref hp, .ref hq])), (hp, .inl (g.1, 62, .inl (zk_ia P))), (hq, .inl (g.1, 32, .inl (zk_ia L))), (hs, .inl (g.1, 7, .inl (zk_ia S1))), (pl, .inr (3, [.ref plc])), (plc, .inl (g.1, 8, .inl (zk_ia c1))), (hg, .inr (6, [.ref go, .ref gt])), (go, .inr (3, [.ref goc])), (goc, .inl (g.1, 8, .inl (zk_ia o1))), (gt, .inr (3, [.ref gtc])), (gtc, .inl (g.1, 8, .inl (zk_ia t1_))), (ms, .inl (g.1, 4, .inl (zk_ia (mdM 2 p n t dep (n - kd) Cs Ms)))), (ch, .inl (g.1, 4, .inl (zk_ia (mdC 2 p n t dep Cs Cs)))), (md, .inl (g.1, 4, .inl (zk_ia Ds1)))]) := by
  refine zk_ofW (by decide) (Nat.le_of_ble_eq_true rfl) ?_
  intro pg ev s mm below meth cd A C hr hlocks hname Z ls hl
  have hx := C.1.1
  have hb := C.1.2.1
  have hml := C.1.2.2.1
  have hown := C.1.2.2.2.1
  have hts := C.1.2.2.2.2
  have hl : lv_has ls 5 [(0, .ref hn), (1, .ref ch), (2, .ref hg)] := hl
  have hn31 := F.n31
  obtain ⟨H, hH⟩ : ∃ H, H = s.heap := ⟨_, rfl⟩
  obtain ⟨locs, hlocs⟩ : ∃ q : List Loc, q = [] := ⟨_, rfl⟩
  rw [← hH, ← hlocs] at Z ⊢
  refine lv_iconst (v := nI 0) hx hb dX1_mend_0 (by decide) ?_
  refine lv_istore_n (lv' := [(3, .int (nI 0)), (0, .ref hn), (1, .ref ch), (2, .ref hg)]) hx hb dX1_mend_1 rfl hl (by decide) rfl (fun ls hl => ?_)
  refine lv_iconst (v := nI 0) hx hb dX1_mend_2 (by decide) ?_
  refine lv_istore (lv' := [(4, .int (nI 0)), (3, .int (nI 0)), (0, .ref hn), (1, .ref ch), (2, .ref hg)]) hx hb dX1_mend_3 hl (by decide) rfl (fun ls hl => ?_)
  refine lp1_mdGA C hn co tr dep ms ch md kp wy h0 hs pl plc t gn kd hp hq p n P L F t1 t3 d4 kdn hg go goc gt gtc Ms Cs hMs hCs dep (by omega) hW hall _ (fun Ds S c o gr H locs ls hD hS hS0 hl8 ho ht hDs Z hl => ?_) dep 0 Ds S c 0 o gr H locs ls (by omega) hD hS hS0 hl8 ho ht (fun j hj => absurd hj (Nat.not_lt_zero _)) rfl Z (lv_sub hl [2, 3, 4, 1, 0] rfl)
  refine lv_iload hx hb dX1_mend_5 (lv_at hl 4 rfl) ?_
  refine lv_aload_n hx hb dX1_mend_7 rfl (lv_at hl 0 rfl) ?_
  refine zk_get C Z in_X1 0 rfl rfl 3 (by decide) q168 rfl (v := .int (nI dep)) rfl dX1_mend_8 ?_
  refine nr_ge (tgt := 57) hx hb (by omega) (by omega) dX1_mend_11 (by decide) (fun c_1 => ?_) (fun c_1 => absurd c_1 (by omega))
  refine lv_iconst (v := nI 0) hx hb dX1_mend_57 (by decide) ?_
  refine lv_istore (lv' := [(4, .int (nI 0)), (0, .ref hn), (1, .ref ch), (2, .ref hg), (3, .int (nI (zk_it (fun j s => s + bct (mdr 2 p n t (Cs.getD j 0) ^^^ Cs.getD j 0)) dep 0 0)))]) hx hb dX1_mend_58 hl (by decide) rfl (fun ls hl => ?_)
  refine lp1_meGA C hn co tr dep ms ch md kp wy h0 hs pl plc t gn kd hp hq p n P L F t1 t3 d4 kdn hg go goc gt gtc o gr S c Ds Cs (fun j hj => mdr_lt hn31.2 (hW _) (hall j hj)) hDs _ _ _ (fun H locs ls Z hl => ?_) dep 0 Cs Ms H locs ls (by omega) hCs hMs rfl rfl Z (lv_sub hl [1, 2, 3, 4, 0] rfl)
  have Z : zk_Z D A s H locs [(hn, .inr (0, [.ref co, .ref tr, .int (nI 1), .int (nI dep), .ref ms, .ref ch, .ref md, .ref kp, .ref wy])), (co, .inr (1, [.ref h0, .int (nI t), .int (nI gn), .int (nI kd), .ref hs, .ref pl])), (h0, .inr (2, [.int (nI n), .ref hp, .ref hq])), (hp, .inl (g.1, 62, .inl (zk_ia P))), (hq, .inl (g.1, 32, .inl (zk_ia L))), (hs, .inl (g.1, 7, .inl (zk_ia S))), (pl, .inr (3, [.ref plc])), (plc, .inl (g.1, 8, .inl (zk_ia c))), (hg, .inr (6, [.ref go, .ref gt])), (go, .inr (3, [.ref goc])), (goc, .inl (g.1, 8, .inl (zk_ia o))), (gt, .inr (3, [.ref gtc])), (gtc, .inl (g.1, 8, .inl (zk_ia gr))), (ms, .inl (g.1, 4, .inl (zk_ia (mdM 2 p n t dep (n - kd) Cs Ms)))), (ch, .inl (g.1, 4, .inl (zk_ia (mdC 2 p n t dep Cs Cs)))), (md, .inl (g.1, 4, .inl (zk_ia Ds)))] := Z
  refine lv_iload_n hx hb dX1_mend_122 rfl (lv_at hl 1 rfl) ?_
  exact zk_iret C hr hlocks Z ⟨rfl, S, c, Ds, o, gr, hS, hS0, hl8, hD, ho, ht, rfl⟩ (Nat.le_of_ble_eq_true rfl) (Nat.le_of_ble_eq_true rfl) dX1_mend_123

set_option maxHeartbeats 4000000 in
/-- mend, GA, which throws -/
theorem t1_mdGA (l : Launch) (hfl : l.flags = flags0) (D : va_G) (g : G4) (hn co tr dep ms ch md kp wy : Nat) (h0 hs pl plc t gn kd : Nat) (hp hq p n : Nat) (P L : List Nat) (F : zk_F p n P L) (t1 : 1 ≤ t) (t3 : t ≤ 3) (d4 : dep ≤ 4) (kdn : kd ≤ n) (hg go goc gt gtc : Nat) (o gr : List Nat) (ho : o.length = 8) (ht : gr.length = 8) (Ms Cs : List Nat) (hMs : Ms.length = 4) (hCs : Cs.length = 4) (hW : ∀ j, Cs.getD j 0 < 2 ^ 31) (S c Ds : List Nat) (hS : S.length = 7) (hS0 : S.getD 0 0 = 0) (hl8 : c.length = 8) (hD : Ds.length = 4) (up : Nat) (hup : up < dep) (hall : ∀ j, j < up → mdd 2 p n t (Cs.getD j 0) = some (mdr 2 p n t (Cs.getD j 0))) (hnone : mdd 2 p n t (Cs.getD up 0) = none) : zk_MT l yX1_mend (ws_ yX1_mend cX1_mend 5 (some .int)) (zk_R 7 1 6) D g [.ref hn, .ref ch, .ref hg] [(hn, .inr (0, [.ref co, .ref tr, .int (nI 1), .int (nI dep), .ref ms, .ref ch, .ref md, .ref kp, .ref wy])), (co, .inr (1, [.ref h0, .int (nI t), .int (nI gn), .int (nI kd), .ref hs, .ref pl])), (h0, .inr (2, [.int (nI n), .ref hp, .ref hq])), (hp, .inl (g.1, 62, .inl (zk_ia P))), (hq, .inl (g.1, 32, .inl (zk_ia L))), (hs, .inl (g.1, 7, .inl (zk_ia S))), (pl, .inr (3, [.ref plc])), (plc, .inl (g.1, 8, .inl (zk_ia c))), (hg, .inr (6, [.ref go, .ref gt])), (go, .inr (3, [.ref goc])), (goc, .inl (g.1, 8, .inl (zk_ia o))), (gt, .inr (3, [.ref gtc])), (gtc, .inl (g.1, 8, .inl (zk_ia gr))), (ms, .inl (g.1, 4, .inl (zk_ia Ms))), (ch, .inl (g.1, 4, .inl (zk_ia Cs))), (md, .inl (g.1, 4, .inl (zk_ia Ds)))] zk_ARE (fun w => ∃ (S1 c1 Ds1 : List Nat) (o1 t1_ : List Nat), S1.length = 7 ∧ S1.getD 0 0 = 0 ∧ c1.length = 8 ∧ Ds1.length = 4 ∧ o1.length = 8 ∧ t1_.length = 8 ∧ w = [(hn, .inr (0, [.ref co, .ref tr, .int (nI 1), .int (nI dep), .ref ms, .ref ch, .ref md, .ref kp, .ref wy])), (ms, .inl (g.1, 4, .inl (zk_ia Ms))), (ch, .inl (g.1, 4, .inl (zk_ia Cs))), (md, .inl (g.1, 4, .inl (zk_ia Ds1))), (co, .inr (1, [.ref h0, .int (nI t), .int (nI gn), .int (nI kd), .ref hs, .ref pl])), (h0, .inr (2, [.int (nI n), .ref hp, .ref hq])), (hp, .inl (g.1, 62, .inl (zk_ia P))), (hq, .inl (g.1, 32, .inl (zk_ia L))), (hs, .inl (g.1, 7, .inl (zk_ia S1))), (pl, .inr (3, [.ref plc])), (plc, .inl (g.1, 8, .inl (zk_ia c1))), (hg, .inr (6, [.ref go, .ref gt])), (go, .inr (3, [.ref goc])), (goc, .inl (g.1, 8, .inl (zk_ia o1))), (gt, .inr (3, [.ref gtc])), (gtc, .inl (g.1, 8, .inl (zk_ia t1_)))]) := by
  refine zk_ofWT (by decide) (Nat.le_of_ble_eq_true rfl) ?_
  intro pg ev s mm below meth cd A C hlocks hno Z ls hl
  have hx := C.1.1
  have hb := C.1.2.1
  have hml := C.1.2.2.1
  have hown := C.1.2.2.2.1
  have hts := C.1.2.2.2.2
  have hl : lv_has ls 5 [(0, .ref hn), (1, .ref ch), (2, .ref hg)] := hl
  have hn31 := F.n31
  obtain ⟨H, hH⟩ : ∃ H, H = s.heap := ⟨_, rfl⟩
  obtain ⟨locs, hlocs⟩ : ∃ q : List Loc, q = [] := ⟨_, rfl⟩
  rw [← hH, ← hlocs] at Z ⊢
  refine lv_iconst (v := nI 0) hx hb dX1_mend_0 (by decide) ?_
  refine lv_istore_n (lv' := [(3, .int (nI 0)), (0, .ref hn), (1, .ref ch), (2, .ref hg)]) hx hb dX1_mend_1 rfl hl (by decide) rfl (fun ls hl => ?_)
  refine lv_iconst (v := nI 0) hx hb dX1_mend_2 (by decide) ?_
  refine lv_istore (lv' := [(4, .int (nI 0)), (3, .int (nI 0)), (0, .ref hn), (1, .ref ch), (2, .ref hg)]) hx hb dX1_mend_3 hl (by decide) rfl (fun ls hl => ?_)
  refine lp1_mdGA C hn co tr dep ms ch md kp wy h0 hs pl plc t gn kd hp hq p n P L F t1 t3 d4 kdn hg go goc gt gtc Ms Cs hMs hCs up (by omega) hW hall _ (fun Ds S c o gr H locs ls hD hS hS0 hl8 ho ht hDs Z hl => ?_) up 0 Ds S c 0 o gr H locs ls (by omega) hD hS hS0 hl8 ho ht (fun j hj => absurd hj (Nat.not_lt_zero _)) rfl Z (lv_sub hl [2, 3, 4, 1, 0] rfl)
  refine lv_iload hx hb dX1_mend_5 (lv_at hl 4 rfl) ?_
  refine lv_aload_n hx hb dX1_mend_7 rfl (lv_at hl 0 rfl) ?_
  refine zk_get C Z in_X1 0 rfl rfl 3 (by decide) q168 rfl (v := .int (nI dep)) rfl dX1_mend_8 ?_
  refine nr_ge (tgt := 57) hx hb (by omega) (by omega) dX1_mend_11 (by decide) (fun c_1 => absurd c_1 (by omega)) (fun c_1 => ?_)
  refine lv_aload_n hx hb dX1_mend_14 rfl (lv_at hl 0 rfl) ?_
  refine zk_get C Z in_X1 0 rfl rfl 6 (by decide) q171 rfl (v := .ref md) rfl dX1_mend_15 ?_
  refine lv_iload hx hb dX1_mend_18 (lv_at hl 4 rfl) ?_
  refine lv_aload_n hx hb dX1_mend_20 rfl (lv_at hl 0 rfl) ?_
  refine zk_get C Z in_X1 0 rfl rfl 0 (by decide) q165 rfl (v := .ref co) rfl dX1_mend_21 ?_
  refine lv_aload_n hx hb dX1_mend_24 rfl (lv_at hl 1 rfl) ?_
  refine lv_iload hx hb dX1_mend_25 (lv_at hl 4 rfl) ?_
  refine zk_iald C Z 14 rfl (by decide) (by omega) dX1_mend_27 ?_
  refine lv_aload_n hx hb dX1_mend_28 rfl (lv_at hl 2 rfl) ?_
  refine zk_callVT (cells' := 1) (slots' := 6) (rest := [.int (nI up), .ref md]) (n := 2) (wr := [(hn, .inr (0, [.ref co, .ref tr, .int (nI 1), .int (nI dep), .ref ms, .ref ch, .ref md, .ref kp, .ref wy])), (ms, .inl (g.1, 4, .inl (zk_ia Ms))), (ch, .inl (g.1, 4, .inl (zk_ia Cs))), (md, .inl (g.1, 4, .inl (zk_ia Ds)))]) C Z (t2_mdG l hfl D g co h0 hs pl plc t gn kd hp hq p n P L F t1 t3 hg go goc gt gtc o gr ho ht (Cs.getD up 0) (hW _) S c hS hS0 hl8 hnone) [1, 2, 3, 4, 5, 6, 7, 8, 9, 10, 11, 12] [0, 13, 14, 15] rfl rfl (by decide) (by decide) (by decide) 1 1 rfl rfl rfl q498 q499 q500 q20 q501 (by decide +kernel) rfl (Nat.le_of_ble_eq_true rfl) (Nat.le_of_ble_eq_true rfl) (Nat.le_of_ble_eq_true rfl) (Nat.le_of_ble_eq_true rfl) rfl rfl hl.1 rfl (Nat.le_of_ble_eq_true rfl) dX1_mend_29 (fun w1 hq => ?_)
  obtain ⟨S1, c1, o1, t1_, hS1, hS10, hc1, ho1, ht1, rfl⟩ := hq
  exact zk_leave hlocks hno (⟨S1, c1, Ds, o1, t1_, hS1, hS10, hc1, hD, ho1, ht1, rfl⟩) (Nat.le_of_ble_eq_true rfl) (Nat.le_of_ble_eq_true rfl)

set_option maxHeartbeats 4000000 in
theorem lp1_mdGK {pg : Program} {l : Launch} {ev : Env} {s : State} {mm : MethodId} {args : Array Value} {below : List Frame} {meth : Method} {cd : Code} {Q : State → Prop} {D : va_G} {g : G4} {A : Nat → Prop} (C : zk_C pg s mm cd args cX1_mend 5 RX1 D g A) (hn co tr dep ms ch md kp wy : Nat) (h0 hs pl plc t gn kd : Nat) (hp hq p n : Nat) (P L : List Nat) (F : zk_F p n P L) (t1 : 1 ≤ t) (t3 : t ≤ 3) (d4 : dep ≤ 4) (kdn : kd ≤ n) (kr : Nat) (hg go goc gt gtc : Nat) (Ms Cs Ks : List Nat) (hMs : Ms.length = 4) (hCs : Cs.length = 4) (hKs : Ks.length = 4) (up : Nat) (hup : up ≤ dep) (hW : ∀ j, Ks.getD j 0 < 2 ^ 31) (hall : ∀ j, j < up → mdd 2 p n t (Ks.getD j 0) = some (mdr 2 p n t (Ks.getD j 0))) (finN : Nat) (kk : ∀ (Ds S c : List Nat) (o gr : List Nat) (H : Heap) (locs : List Loc) (ls : Array Slot), Ds.length = 4 → S.length = 7 → S.getD 0 0 = 0 → c.length = 8 → o.length = 8 → gr.length = 8 → (∀ j, j < up → Ds.getD j 0 = mdr 2 p n t (Ks.getD j 0)) → zk_Z D A s H locs [(hn, .inr (0, [.ref co, .ref tr, .int (nI 1), .int (nI dep), .ref ms, .ref ch, .ref md, .ref kp, .ref wy])), (co, .inr (1, [.ref h0, .int (nI t), .int (nI gn), .int (nI kd), .ref hs, .ref pl])), (h0, .inr (2, [.int (nI n), .ref hp, .ref hq])), (hp, .inl (g.1, 62, .inl (zk_ia P))), (hq, .inl (g.1, 32, .inl (zk_ia L))), (hs, .inl (g.1, 7, .inl (zk_ia S))), (pl, .inr (3, [.ref plc])), (plc, .inl (g.1, 8, .inl (zk_ia c))), (hg, .inr (6, [.ref go, .ref gt])), (go, .inr (3, [.ref goc])), (goc, .inl (g.1, 8, .inl (zk_ia o))), (gt, .inr (3, [.ref gtc])), (gtc, .inl (g.1, 8, .inl (zk_ia gr))), (ms, .inl (g.1, 4, .inl (zk_ia Ms))), (ch, .inl (g.1, 4, .inl (zk_ia Cs))), (md, .inl (g.1, 4, .inl (zk_ia Ds))), (kr, .inl (g.1, 4, .inl (zk_ia Ks)))] → lv_has ls 5 [(0, .ref hn), (1, .ref kr), (2, .ref hg), (3, .int (nI finN)), (4, .int (nI up))] → W pg l ev (zk_R 7 1 6) s mm args below meth cd H locs 0 0 Q (F0 mm 5 ls [])) :
    ∀ (k : Nat) (w : Nat) (Ds S c : List Nat) (nn : Nat) (o gr : List Nat) (H : Heap) (locs : List Loc) (ls : Array Slot), (w + k = up) → (Ds.length = 4) → (S.length = 7) → (S.getD 0 0 = 0) → (c.length = 8) → (o.length = 8) → (gr.length = 8) → (∀ j, j < w → Ds.getD j 0 = mdr 2 p n t (Ks.getD j 0)) → (zk_it (fun j s => s + bct (mdr 2 p n t (Ks.getD j 0) ^^^ Ks.getD j 0)) k w nn = finN) → zk_Z D A s H locs [(hn, .inr (0, [.ref co, .ref tr, .int (nI 1), .int (nI dep), .ref ms, .ref ch, .ref md, .ref kp, .ref wy])), (co, .inr (1, [.ref h0, .int (nI t), .int (nI gn), .int (nI kd), .ref hs, .ref pl])), (h0, .inr (2, [.int (nI n), .ref hp, .ref hq])), (hp, .inl (g.1, 62, .inl (zk_ia P))), (hq, .inl (g.1, 32, .inl (zk_ia L))), (hs, .inl (g.1, 7, .inl (zk_ia S))), (pl, .inr (3, [.ref plc])), (plc, .inl (g.1, 8, .inl (zk_ia c))), (hg, .inr (6, [.ref go, .ref gt])), (go, .inr (3, [.ref goc])), (goc, .inl (g.1, 8, .inl (zk_ia o))), (gt, .inr (3, [.ref gtc])), (gtc, .inl (g.1, 8, .inl (zk_ia gr))), (ms, .inl (g.1, 4, .inl (zk_ia Ms))), (ch, .inl (g.1, 4, .inl (zk_ia Cs))), (md, .inl (g.1, 4, .inl (zk_ia Ds))), (kr, .inl (g.1, 4, .inl (zk_ia Ks)))] → lv_has ls 5 [(0, .ref hn), (1, .ref kr), (2, .ref hg), (3, .int (nI nn)), (4, .int (nI w))] → W pg l ev (zk_R 7 1 6) s mm args below meth cd H locs 0 0 Q (F0 mm 5 ls []) := by
  have hx := C.1.1
  have hb := C.1.2.1
  have hml := C.1.2.2.1
  have hown := C.1.2.2.2.1
  have hts := C.1.2.2.2.2
  have hn31 := F.n31
  intro k
  induction k with
  | zero =>
    intro w Ds S c nn o gr H locs ls hik hD hS hS0 hl8 ho ht hDs hfin Z hl
    have hw : w = up := by omega
    subst hw
    have hfin : nn = finN := hfin
    subst hfin
    exact kk Ds S c o gr H locs ls hD hS hS0 hl8 ho ht hDs Z hl
  | succ k ih =>
    intro w Ds S c nn o gr H locs ls hik hD hS hS0 hl8 ho ht hDs hfin Z hl
    refine lv_iload hx hb dX1_mend_5 (lv_at hl 4 rfl) ?_
    refine lv_aload_n hx hb dX1_mend_7 rfl (lv_at hl 0 rfl) ?_
    refine zk_get C Z in_X1 0 rfl rfl 3 (by decide) q168 rfl (v := .int (nI dep)) rfl dX1_mend_8 ?_
    refine nr_ge (tgt := 57) hx hb (by omega) (by omega) dX1_mend_11 (by decide) (fun c_1 => absurd c_1 (by omega)) (fun c_1 => ?_)
    refine lv_aload_n hx hb dX1_mend_14 rfl (lv_at hl 0 rfl) ?_
    refine zk_get C Z in_X1 0 rfl rfl 6 (by decide) q171 rfl (v := .ref md) rfl dX1_mend_15 ?_
    refine lv_iload hx hb dX1_mend_18 (lv_at hl 4 rfl) ?_
    refine lv_aload_n hx hb dX1_mend_20 rfl (lv_at hl 0 rfl) ?_
    refine zk_get C Z in_X1 0 rfl rfl 0 (by decide) q165 rfl (v := .ref co) rfl dX1_mend_21 ?_
    refine lv_aload_n hx hb dX1_mend_24 rfl (lv_at hl 1 rfl) ?_
    refine lv_iload hx hb dX1_mend_25 (lv_at hl 4 rfl) ?_
    refine zk_iald C Z 16 rfl (by decide) (by omega) dX1_mend_27 ?_
    refine lv_aload_n hx hb dX1_mend_28 rfl (lv_at hl 2 rfl) ?_
    refine zk_callV (cells' := 0) (slots' := 0) (rest := [.int (nI w), .ref md]) (n := 2) (wr := [(hn, .inr (0, [.ref co, .ref tr, .int (nI 1), .int (nI dep), .ref ms, .ref ch, .ref md, .ref kp, .ref wy])), (ms, .inl (g.1, 4, .inl (zk_ia Ms))), (ch, .inl (g.1, 4, .inl (zk_ia Cs))), (md, .inl (g.1, 4, .inl (zk_ia Ds))), (kr, .inl (g.1, 4, .inl (zk_ia Ks)))]) C Z (m2_mdG l D g co h0 hs pl plc t gn kd hp hq p n P L F t1 t3 hg go goc gt gtc o gr ho ht (Ks.getD w 0) (hW _) S c hS hS0 hl8 (mdr 2 p n t (Ks.getD w 0)) (hall w (by omega))) [1, 2, 3, 4, 5, 6, 7, 8, 9, 10, 11, 12] [0, 13, 14, 15, 16] rfl rfl (by decide) (by decide) (by decide) 1 1 rfl rfl rfl q498 q499 q500 q20 q501 (by decide +kernel) rfl (Nat.le_of_ble_eq_true rfl) (Nat.le_of_ble_eq_true rfl) (Nat.le_of_ble_eq_true rfl) (Nat.le_of_ble_eq_true rfl) rfl rfl hl.1 rfl (Nat.le_of_ble_eq_true rfl) dX1_mend_29 (fun v w1 H locs hq Z => ?_)
    obtain ⟨rfl, S1, c1, o1, t1_, hS1, hS10, hc1, ho1, ht1, rfl⟩ := hq
    have Z : zk_Z D A s H locs [(hn, .inr (0, [.ref co, .ref tr, .int (nI 1), .int (nI dep), .ref ms, .ref ch, .ref md, .ref kp, .ref wy])), (co, .inr (1, [.ref h0, .int (nI t), .int (nI gn), .int (nI kd), .ref hs, .ref pl])), (h0, .inr (2, [.int (nI n), .ref hp, .ref hq])), (hp, .inl (g.1, 62, .inl (zk_ia P))), (hq, .inl (g.1, 32, .inl (zk_ia L))), (hs, .inl (g.1, 7, .inl (zk_ia S1))), (pl, .inr (3, [.ref plc])), (plc, .inl (g.1, 8, .inl (zk_ia c1))), (hg, .inr (6, [.ref go, .ref gt])), (go, .inr (3, [.ref goc])), (goc, .inl (g.1, 8, .inl (zk_ia o1))), (gt, .inr (3, [.ref gtc])), (gtc, .inl (g.1, 8, .inl (zk_ia t1_))), (ms, .inl (g.1, 4, .inl (zk_ia Ms))), (ch, .inl (g.1, 4, .inl (zk_ia Cs))), (md, .inl (g.1, 4, .inl (zk_ia Ds))), (kr, .inl (g.1, 4, .inl (zk_ia Ks)))] := Z.sub [0, 5, 6, 7, 8, 9, 10, 11, 12, 13, 14, 15, 16, 1, 2, 3, 4] (by decide) rfl
    refine W.eq (g2 := F0 mm 32 ls [.int (nI (mdr 2 p n t (Ks.getD w 0))), .int (nI w), .ref md]) rfl ?_
    refine zk_iast C Z 15 rfl (by decide) (by omega) hD dX1_mend_32 (fun H locs Z => ?_)
    have hlen_2 : (Ds.set w (mdr 2 p n t (Ks.getD w 0))).length = 4 := by rw [List.length_set]; exact hD
    have Z : zk_Z D A s H locs [(hn, .inr (0, [.ref co, .ref tr, .int (nI 1), .int (nI dep), .ref ms, .ref ch, .ref md, .ref kp, .ref wy])), (co, .inr (1, [.ref h0, .int (nI t), .int (nI gn), .int (nI kd), .ref hs, .ref pl])), (h0, .inr (2, [.int (nI n), .ref hp, .ref hq])), (hp, .inl (g.1, 62, .inl (zk_ia P))), (hq, .inl (g.1, 32, .inl (zk_ia L))), (hs, .inl (g.1, 7, .inl (zk_ia S1))), (pl, .inr (3, [.ref plc])), (plc, .inl (g.1, 8, .inl (zk_ia c1))), (hg, .inr (6, [.ref go, .ref gt])), (go, .inr (3, [.ref goc])), (goc, .inl (g.1, 8, .inl (zk_ia o1))), (gt, .inr (3, [.ref gtc])), (gtc, .inl (g.1, 8, .inl (zk_ia t1_))), (ms, .inl (g.1, 4, .inl (zk_ia Ms))), (ch, .inl (g.1, 4, .inl (zk_ia Cs))), (md, .inl (g.1, 4, .inl (zk_ia (Ds.set w (mdr 2 p n t (Ks.getD w 0)))))), (kr, .inl (g.1, 4, .inl (zk_ia Ks)))] := Z
    refine lv_iload_n hx hb dX1_mend_33 rfl (lv_at hl 3 rfl) ?_
    refine lv_aload_n hx hb dX1_mend_34 rfl (lv_at hl 0 rfl) ?_
    refine zk_get C Z in_X1 0 rfl rfl 6 (by decide) q171 rfl (v := .ref md) rfl dX1_mend_35 ?_
    refine lv_iload hx hb dX1_mend_38 (lv_at hl 4 rfl) ?_
    refine zk_iald C Z 15 rfl (by decide) (by omega) dX1_mend_40 ?_
    rw [show (Ds.set w (mdr 2 p n t (Ks.getD w 0))).getD w 0 = mdr 2 p n t (Ks.getD w 0) from zk_sg (by omega)]
    refine lv_aload_n hx hb dX1_mend_41 rfl (lv_at hl 1 rfl) ?_
    refine lv_iload hx hb dX1_mend_42 (lv_at hl 4 rfl) ?_
    refine zk_iald C Z 16 rfl (by decide) (by omega) dX1_mend_44 ?_
    refine nr_ixor hx hb dX1_mend_45 ?_
    refine zk_callS (cells' := 0) (slots' := 0) (rest := [.int (nI nn)]) (n := 1) (wr := [(hn, .inr (0, [.ref co, .ref tr, .int (nI 1), .int (nI dep), .ref ms, .ref ch, .ref md, .ref kp, .ref wy])), (co, .inr (1, [.ref h0, .int (nI t), .int (nI gn), .int (nI kd), .ref hs, .ref pl])), (h0, .inr (2, [.int (nI n), .ref hp, .ref hq])), (hp, .inl (g.1, 62, .inl (zk_ia P))), (hq, .inl (g.1, 32, .inl (zk_ia L))), (hs, .inl (g.1, 7, .inl (zk_ia S1))), (pl, .inr (3, [.ref plc])), (plc, .inl (g.1, 8, .inl (zk_ia c1))), (hg, .inr (6, [.ref go, .ref gt])), (go, .inr (3, [.ref goc])), (goc, .inl (g.1, 8, .inl (zk_ia o1))), (gt, .inr (3, [.ref gtc])), (gtc, .inl (g.1, 8, .inl (zk_ia t1_))), (ms, .inl (g.1, 4, .inl (zk_ia Ms))), (ch, .inl (g.1, 4, .inl (zk_ia Cs))), (md, .inl (g.1, 4, .inl (zk_ia (Ds.set w (mdr 2 p n t (Ks.getD w 0)))))), (kr, .inl (g.1, 4, .inl (zk_ia Ks)))]) C Z (mJ_bc l D g ((mdr 2 p n t (Ks.getD w 0)) ^^^ (Ks.getD w 0)) (Nat.xor_lt_two_pow (mdr_lt hn31.2 (hW _) (hall w (by omega))) (hW _))) [] [0, 1, 2, 3, 4, 5, 6, 7, 8, 9, 10, 11, 12, 13, 14, 15, 16] rfl rfl (by decide) (by decide) (by decide) q447 q448 q36 q449 (by decide +kernel) rfl (Nat.le_of_ble_eq_true rfl) (Nat.le_of_ble_eq_true rfl) (Nat.le_of_ble_eq_true rfl) (Nat.le_of_ble_eq_true rfl) rfl rfl hl.1 rfl (Nat.le_of_ble_eq_true rfl) dX1_mend_46 (fun v w1 H locs hq Z => ?_)
    obtain ⟨rfl, rfl⟩ := hq
    have Z : zk_Z D A s H locs [(hn, .inr (0, [.ref co, .ref tr, .int (nI 1), .int (nI dep), .ref ms, .ref ch, .ref md, .ref kp, .ref wy])), (co, .inr (1, [.ref h0, .int (nI t), .int (nI gn), .int (nI kd), .ref hs, .ref pl])), (h0, .inr (2, [.int (nI n), .ref hp, .ref hq])), (hp, .inl (g.1, 62, .inl (zk_ia P))), (hq, .inl (g.1, 32, .inl (zk_ia L))), (hs, .inl (g.1, 7, .inl (zk_ia S1))), (pl, .inr (3, [.ref plc])), (plc, .inl (g.1, 8, .inl (zk_ia c1))), (hg, .inr (6, [.ref go, .ref gt])), (go, .inr (3, [.ref goc])), (goc, .inl (g.1, 8, .inl (zk_ia o1))), (gt, .inr (3, [.ref gtc])), (gtc, .inl (g.1, 8, .inl (zk_ia t1_))), (ms, .inl (g.1, 4, .inl (zk_ia Ms))), (ch, .inl (g.1, 4, .inl (zk_ia Cs))), (md, .inl (g.1, 4, .inl (zk_ia (Ds.set w (mdr 2 p n t (Ks.getD w 0)))))), (kr, .inl (g.1, 4, .inl (zk_ia Ks)))] := Z.sub [0, 1, 2, 3, 4, 5, 6, 7, 8, 9, 10, 11, 12, 13, 14, 15, 16] (by decide) rfl
    refine W.eq (g2 := F0 mm 49 ls [.int (nI (bct ((mdr 2 p n t (Ks.getD w 0)) ^^^ (Ks.getD w 0)))), .int (nI nn)]) rfl ?_
    refine nr_iadd hx hb dX1_mend_49 ?_
    refine lv_istore_n (lv' := [(3, .int (nI (nn + (bct ((mdr 2 p n t (Ks.getD w 0)) ^^^ (Ks.getD w 0)))))), (0, .ref hn), (1, .ref kr), (2, .ref hg), (4, .int (nI w))]) hx hb dX1_mend_50 rfl hl (by decide) rfl (fun ls hl => ?_)
    refine nr_iinc (n := 1) (lv' := [(4, .int (nI (w + 1))), (3, .int (nI (nn + (bct ((mdr 2 p n t (Ks.getD w 0)) ^^^ (Ks.getD w 0)))))), (0, .ref hn), (1, .ref kr), (2, .ref hg)]) hx hb (by decide) dX1_mend_51 hl (k := 4) rfl (by decide) rfl (fun ls hl => ?_)
    refine lv_goto (tgt := 5) hx hb dX1_mend_54 (by decide) ?_
    exact ih (w + 1) (Ds.set w (mdr 2 p n t (Ks.getD w 0))) S1 c1 (nn + (bct ((mdr 2 p n t (Ks.getD w 0)) ^^^ (Ks.getD w 0)))) o1 t1_ H locs ls (by omega) hlen_2 hS1 hS10 hc1 ho1 ht1 (zk_upto (P := fun _ => True) (by omega) rfl hDs) hfin Z (lv_sub hl [2, 3, 4, 1, 0] rfl)

set_option maxHeartbeats 4000000 in
theorem lp1_meGK {pg : Program} {l : Launch} {ev : Env} {s : State} {mm : MethodId} {args : Array Value} {below : List Frame} {meth : Method} {cd : Code} {Q : State → Prop} {D : va_G} {g : G4} {A : Nat → Prop} (C : zk_C pg s mm cd args cX1_mend 5 RX1 D g A) (hn co tr dep ms ch md kp wy : Nat) (h0 hs pl plc t gn kd : Nat) (hp hq p n : Nat) (P L : List Nat) (F : zk_F p n P L) (t1 : 1 ≤ t) (t3 : t ≤ 3) (d4 : dep ≤ 4) (kdn : kd ≤ n) (kr : Nat) (hg go goc gt gtc : Nat) (o gr : List Nat) (S c Ds Ws Ks : List Nat) (hD31 : ∀ j, j < dep → mdr 2 p n t (Ws.getD j 0) < 2 ^ 31) (hDs : ∀ j, j < dep → Ds.getD j 0 = mdr 2 p n t (Ws.getD j 0)) (nn : Nat) (finC finM : List Nat) (kk : ∀ (H : Heap) (locs : List Loc) (ls : Array Slot), zk_Z D A s H locs [(hn, .inr (0, [.ref co, .ref tr, .int (nI 1), .int (nI dep), .ref ms, .ref ch, .ref md, .ref kp, .ref wy])), (co, .inr (1, [.ref h0, .int (nI t), .int (nI gn), .int (nI kd), .ref hs, .ref pl])), (h0, .inr (2, [.int (nI n), .ref hp, .ref hq])), (hp, .inl (g.1, 62, .inl (zk_ia P))), (hq, .inl (g.1, 32, .inl (zk_ia L))), (hs, .inl (g.1, 7, .inl (zk_ia S))), (pl, .inr (3, [.ref plc])), (plc, .inl (g.1, 8, .inl (zk_ia c))), (hg, .inr (6, [.ref go, .ref gt])), (go, .inr (3, [.ref goc])), (goc, .inl (g.1, 8, .inl (zk_ia o))), (gt, .inr (3, [.ref gtc])), (gtc, .inl (g.1, 8, .inl (zk_ia gr))), (ms, .inl (g.1, 4, .inl (zk_ia finM))), (ch, .inl (g.1, 4, .inl (zk_ia finC))), (md, .inl (g.1, 4, .inl (zk_ia Ds))), (kr, .inl (g.1, 4, .inl (zk_ia Ks)))] → lv_has ls 5 [(0, .ref hn), (3, .int (nI nn))] → W pg l ev (zk_R 7 1 6) s mm args below meth cd H locs 0 0 Q (F0 mm 122 ls [])) :
    ∀ (k : Nat) (w : Nat) (Cs Ms : List Nat) (H : Heap) (locs : List Loc) (ls : Array Slot), (w + k = dep) → (Cs.length = 4) → (Ms.length = 4) → (zk_it (fun j C => C.set j (mdr 2 p n t (Ws.getD j 0))) k w Cs = finC) → (zk_it (fun j M => M.set j (mdr 2 p n t (Ws.getD j 0) >>> (n - kd))) k w Ms = finM) → zk_Z D A s H locs [(hn, .inr (0, [.ref co, .ref tr, .int (nI 1), .int (nI dep), .ref ms, .ref ch, .ref md, .ref kp, .ref wy])), (co, .inr (1, [.ref h0, .int (nI t), .int (nI gn), .int (nI kd), .ref hs, .ref pl])), (h0, .inr (2, [.int (nI n), .ref hp, .ref hq])), (hp, .inl (g.1, 62, .inl (zk_ia P))), (hq, .inl (g.1, 32, .inl (zk_ia L))), (hs, .inl (g.1, 7, .inl (zk_ia S))), (pl, .inr (3, [.ref plc])), (plc, .inl (g.1, 8, .inl (zk_ia c))), (hg, .inr (6, [.ref go, .ref gt])), (go, .inr (3, [.ref goc])), (goc, .inl (g.1, 8, .inl (zk_ia o))), (gt, .inr (3, [.ref gtc])), (gtc, .inl (g.1, 8, .inl (zk_ia gr))), (ms, .inl (g.1, 4, .inl (zk_ia Ms))), (ch, .inl (g.1, 4, .inl (zk_ia Cs))), (md, .inl (g.1, 4, .inl (zk_ia Ds))), (kr, .inl (g.1, 4, .inl (zk_ia Ks)))] → lv_has ls 5 [(0, .ref hn), (1, .ref kr), (2, .ref hg), (3, .int (nI nn)), (4, .int (nI w))] → W pg l ev (zk_R 7 1 6) s mm args below meth cd H locs 0 0 Q (F0 mm 60 ls []) := by
  have hx := C.1.1
  have hb := C.1.2.1
  have hml := C.1.2.2.1
  have hown := C.1.2.2.2.1
  have hts := C.1.2.2.2.2
  have hn31 := F.n31
  intro k
  induction k with
  | zero =>
    intro w Cs Ms H locs ls hik hCs hMs hf1 hf2 Z hl
    have hf1 : Cs = finC := hf1
    have hf2 : Ms = finM := hf2
    subst hf1
    subst hf2
    refine lv_iload hx hb dX1_mend_60 (lv_at hl 4 rfl) ?_
    refine lv_aload_n hx hb dX1_mend_62 rfl (lv_at hl 0 rfl) ?_
    refine zk_get C Z in_X1 0 rfl rfl 3 (by decide) q168 rfl (v := .int (nI dep)) rfl dX1_mend_63 ?_
    refine nr_ge (tgt := 122) hx hb (by omega) (by omega) dX1_mend_66 (by decide) (fun c_1 => ?_) (fun c_1 => absurd c_1 (by omega))
    exact kk  H locs ls  Z (lv_sub hl [0, 3] rfl)
  | succ k ih =>
    intro w Cs Ms H locs ls hik hCs hMs hf1 hf2 Z hl
    refine lv_iload hx hb dX1_mend_60 (lv_at hl 4 rfl) ?_
    refine lv_aload_n hx hb dX1_mend_62 rfl (lv_at hl 0 rfl) ?_
    refine zk_get C Z in_X1 0 rfl rfl 3 (by decide) q168 rfl (v := .int (nI dep)) rfl dX1_mend_63 ?_
    refine nr_ge (tgt := 122) hx hb (by omega) (by omega) dX1_mend_66 (by decide) (fun c_1 => absurd c_1 (by omega)) (fun c_1 => ?_)
    refine lv_aload_n hx hb dX1_mend_69 rfl (lv_at hl 0 rfl) ?_
    refine zk_get C Z in_X1 0 rfl rfl 5 (by decide) q170 rfl (v := .ref ch) rfl dX1_mend_70 ?_
    refine lv_iload hx hb dX1_mend_73 (lv_at hl 4 rfl) ?_
    refine lv_aload_n hx hb dX1_mend_75 rfl (lv_at hl 0 rfl) ?_
    refine zk_get C Z in_X1 0 rfl rfl 6 (by decide) q171 rfl (v := .ref md) rfl dX1_mend_76 ?_
    refine lv_iload hx hb dX1_mend_79 (lv_at hl 4 rfl) ?_
    refine zk_iald C Z 15 rfl (by decide) (by omega) dX1_mend_81 ?_
    rw [hDs w (by omega)]
    refine zk_iast C Z 14 rfl (by decide) (by omega) hCs dX1_mend_82 (fun H locs Z => ?_)
    have hlen_2 : (Cs.set w (mdr 2 p n t (Ws.getD w 0))).length = 4 := by rw [List.length_set]; exact hCs
    have Z : zk_Z D A s H locs [(hn, .inr (0, [.ref co, .ref tr, .int (nI 1), .int (nI dep), .ref ms, .ref ch, .ref md, .ref kp, .ref wy])), (co, .inr (1, [.ref h0, .int (nI t), .int (nI gn), .int (nI kd), .ref hs, .ref pl])), (h0, .inr (2, [.int (nI n), .ref hp, .ref hq])), (hp, .inl (g.1, 62, .inl (zk_ia P))), (hq, .inl (g.1, 32, .inl (zk_ia L))), (hs, .inl (g.1, 7, .inl (zk_ia S))), (pl, .inr (3, [.ref plc])), (plc, .inl (g.1, 8, .inl (zk_ia c))), (hg, .inr (6, [.ref go, .ref gt])), (go, .inr (3, [.ref goc])), (goc, .inl (g.1, 8, .inl (zk_ia o))), (gt, .inr (3, [.ref gtc])), (gtc, .inl (g.1, 8, .inl (zk_ia gr))), (ms, .inl (g.1, 4, .inl (zk_ia Ms))), (ch, .inl (g.1, 4, .inl (zk_ia (Cs.set w (mdr 2 p n t (Ws.getD w 0)))))), (md, .inl (g.1, 4, .inl (zk_ia Ds))), (kr, .inl (g.1, 4, .inl (zk_ia Ks)))] := Z
    refine lv_aload_n hx hb dX1_mend_83 rfl (lv_at hl 0 rfl) ?_
    refine zk_get C Z in_X1 0 rfl rfl 4 (by decide) q169 rfl (v := .ref ms) rfl dX1_mend_84 ?_
    refine lv_iload hx hb dX1_mend_87 (lv_at hl 4 rfl) ?_
    refine lv_aload_n hx hb dX1_mend_89 rfl (lv_at hl 0 rfl) ?_
    refine zk_get C Z in_X1 0 rfl rfl 6 (by decide) q171 rfl (v := .ref md) rfl dX1_mend_90 ?_
    refine lv_iload hx hb dX1_mend_93 (lv_at hl 4 rfl) ?_
    refine zk_iald C Z 15 rfl (by decide) (by omega) dX1_mend_95 ?_
    rw [hDs w (by omega)]
    refine lv_aload_n hx hb dX1_mend_96 rfl (lv_at hl 0 rfl) ?_
    refine zk_get C Z in_X1 0 rfl rfl 0 (by decide) q165 rfl (v := .ref co) rfl dX1_mend_97 ?_
    refine zk_getN C Z in_X2 1 rfl rfl 0 (by decide) q92 rfl (v := .ref h0) rfl dX1_mend_100 ?_
    refine zk_getN C Z in_X3 2 rfl rfl 0 (by decide) q61 rfl (v := .int (nI n)) rfl dX1_mend_103 ?_
    refine lv_aload_n hx hb dX1_mend_106 rfl (lv_at hl 0 rfl) ?_
    refine zk_get C Z in_X1 0 rfl rfl 0 (by decide) q165 rfl (v := .ref co) rfl dX1_mend_107 ?_
    refine zk_getN C Z in_X2 1 rfl rfl 3 (by decide) q98 rfl (v := .int (nI kd)) rfl dX1_mend_110 ?_
    refine nr_isub hx hb (by omega) dX1_mend_113 ?_
    refine nr_ishr hx hb (hD31 w (by omega)) (by omega) dX1_mend_114 ?_
    refine zk_iast C Z 13 rfl (by decide) (by omega) hMs dX1_mend_115 (fun H locs Z => ?_)
    have hlen_3 : (Ms.set w ((mdr 2 p n t (Ws.getD w 0)) >>> (n - kd))).length = 4 := by rw [List.length_set]; exact hMs
    have Z : zk_Z D A s H locs [(hn, .inr (0, [.ref co, .ref tr, .int (nI 1), .int (nI dep), .ref ms, .ref ch, .ref md, .ref kp, .ref wy])), (co, .inr (1, [.ref h0, .int (nI t), .int (nI gn), .int (nI kd), .ref hs, .ref pl])), (h0, .inr (2, [.int (nI n), .ref hp, .ref hq])), (hp, .inl (g.1, 62, .inl (zk_ia P))), (hq, .inl (g.1, 32, .inl (zk_ia L))), (hs, .inl (g.1, 7, .inl (zk_ia S))), (pl, .inr (3, [.ref plc])), (plc, .inl (g.1, 8, .inl (zk_ia c))), (hg, .inr (6, [.ref go, .ref gt])), (go, .inr (3, [.ref goc])), (goc, .inl (g.1, 8, .inl (zk_ia o))), (gt, .inr (3, [.ref gtc])), (gtc, .inl (g.1, 8, .inl (zk_ia gr))), (ms, .inl (g.1, 4, .inl (zk_ia (Ms.set w ((mdr 2 p n t (Ws.getD w 0)) >>> (n - kd)))))), (ch, .inl (g.1, 4, .inl (zk_ia (Cs.set w (mdr 2 p n t (Ws.getD w 0)))))), (md, .inl (g.1, 4, .inl (zk_ia Ds))), (kr, .inl (g.1, 4, .inl (zk_ia Ks)))] := Z
    refine nr_iinc (n := 1) (lv' := [(4, .int (nI (w + 1))), (0, .ref hn), (1, .ref kr), (2, .ref hg), (3, .int (nI nn))]) hx hb (by decide) dX1_mend_116 hl (k := 4) rfl (by decide) rfl (fun ls hl => ?_)
    refine lv_goto (tgt := 60) hx hb dX1_mend_119 (by decide) ?_
    exact ih (w + 1) (Cs.set w (mdr 2 p n t (Ws.getD w 0))) (Ms.set w ((mdr 2 p n t (Ws.getD w 0)) >>> (n - kd))) H locs ls (by omega) hlen_2 hlen_3 hf1 hf2 Z (lv_sub hl [1, 2, 3, 4, 0] rfl)

set_option maxHeartbeats 4000000 in
/-- mend, GK -/
theorem m1_mdGK (l : Launch) (D : va_G) (g : G4) (hn co tr dep ms ch md kp wy : Nat) (h0 hs pl plc t gn kd : Nat) (hp hq p n : Nat) (P L : List Nat) (F : zk_F p n P L) (t1 : 1 ≤ t) (t3 : t ≤ 3) (d4 : dep ≤ 4) (kdn : kd ≤ n) (kr : Nat) (hg go goc gt gtc : Nat) (o gr : List Nat) (ho : o.length = 8) (ht : gr.length = 8) (Ms Cs Ks : List Nat) (hMs : Ms.length = 4) (hCs : Cs.length = 4) (hKs : Ks.length = 4) (hW : ∀ j, Ks.getD j 0 < 2 ^ 31) (S c Ds : List Nat) (hS : S.length = 7) (hS0 : S.getD 0 0 = 0) (hl8 : c.length = 8) (hD : Ds.length = 4) (hall : ∀ j, j < dep → mdd 2 p n t (Ks.getD j 0) = some (mdr 2 p n t (Ks.getD j 0))) : zk_M l yX1_mend (ws_ yX1_mend cX1_mend 5 (some .int)) (zk_R 7 1 6) D g [.ref hn, .ref kr, .ref hg] [(hn, .inr (0, [.ref co, .ref tr, .int (nI 1), .int (nI dep), .ref ms, .ref ch, .ref md, .ref kp, .ref wy])), (co, .inr (1, [.ref h0, .int (nI t), .int (nI gn), .int (nI kd), .ref hs, .ref pl])), (h0, .inr (2, [.int (nI n), .ref hp, .ref hq])), (hp, .inl (g.1, 62, .inl (zk_ia P))), (hq, .inl (g.1, 32, .inl (zk_ia L))), (hs, .inl (g.1, 7, .inl (zk_ia S))), (pl, .inr (3, [.ref plc])), (plc, .inl (g.1, 8, .inl (zk_ia c))), (hg, .inr (6, [.ref go, .ref gt])), (go, .inr (3, [.ref goc])), (goc, .inl (g.1, 8, .inl (zk_ia o))), (gt, .inr (3, [.ref gtc])), (gtc, .inl (g.1, 8, .inl (zk_ia gr))), (ms, .inl (g.1, 4, .inl (zk_ia Ms))), (ch, .inl (g.1, 4, .inl (zk_ia Cs))), (md, .inl (g.1, 4, .inl (zk_ia Ds))), (kr, .inl (g.1, 4, .inl (zk_ia Ks)))] (fun v w => v = some (.int (nI (mdN 2 p n t dep Ks))) ∧ ∃ (S1 c1 Ds1 : List Nat) (o1 t1_ : List Nat), S1.length = 7 ∧ S1.getD 0 0 = 0 ∧ c1.length = 8 ∧ Ds1.length = 4 ∧ o1.length = 8 ∧ t1_.length = 8 ∧ w = [(hn, .inr (0, [.ref co, .ref tr, .int (nI 1), .int (nI dep), .ref ms, .ref ch, .ref md, .ref kp, .ref wy])), (co, .inr (1, [.ref h0, .int (nI t), .int (nI gn), .int (nI kd), .ref hs, .ref pl])), (h0, .inr (2, [.int (nI n), .ref hp, .ref hq])), (hp, .inl (g.1, 62, .inl (zk_ia P))), (hq, .inl (g.1, 32, .inl (zk_ia L))), (hs, .inl (g.1, 7, .inl (zk_ia S1))), (pl, .inr (3, [.ref plc])), (plc, .inl (g.1, 8, .inl (zk_ia c1))), (hg, .inr (6, [.ref go, .ref gt])), (go, .inr (3, [.ref goc])), (goc, .inl (g.1, 8, .inl (zk_ia o1))), (gt, .inr (3, [.ref gtc])), (gtc, .inl (g.1, 8, .inl (zk_ia t1_))), (ms, .inl (g.1, 4, .inl (zk_ia (mdM 2 p n t dep (n - kd) Ks Ms)))), (ch, .inl (g.1, 4, .inl (zk_ia (mdC 2 p n t dep Ks Cs)))), (md, .inl (g.1, 4, .inl (zk_ia Ds1))), (kr, .inl (g.1, 4, .inl (zk_ia Ks)))]) := by
  refine zk_ofW (by decide) (Nat.le_of_ble_eq_true rfl) ?_
  intro pg ev s mm below meth cd A C hr hlocks hname Z ls hl
  have hx := C.1.1
  have hb := C.1.2.1
  have hml := C.1.2.2.1
  have hown := C.1.2.2.2.1
  have hts := C.1.2.2.2.2
  have hl : lv_has ls 5 [(0, .ref hn), (1, .ref kr), (2, .ref hg)] := hl
  have hn31 := F.n31
  obtain ⟨H, hH⟩ : ∃ H, H = s.heap := ⟨_, rfl⟩
  obtain ⟨locs, hlocs⟩ : ∃ q : List Loc, q = [] := ⟨_, rfl⟩
  rw [← hH, ← hlocs] at Z ⊢
  refine lv_iconst (v := nI 0) hx hb dX1_mend_0 (by decide) ?_
  refine lv_istore_n (lv' := [(3, .int (nI 0)), (0, .ref hn), (1, .ref kr), (2, .ref hg)]) hx hb dX1_mend_1 rfl hl (by decide) rfl (fun ls hl => ?_)
  refine lv_iconst (v := nI 0) hx hb dX1_mend_2 (by decide) ?_
  refine lv_istore (lv' := [(4, .int (nI 0)), (3, .int (nI 0)), (0, .ref hn), (1, .ref kr), (2, .ref hg)]) hx hb dX1_mend_3 hl (by decide) rfl (fun ls hl => ?_)
  refine lp1_mdGK C hn co tr dep ms ch md kp wy h0 hs pl plc t gn kd hp hq p n P L F t1 t3 d4 kdn kr hg go goc gt gtc Ms Cs Ks hMs hCs hKs dep (by omega) hW hall _ (fun Ds S c o gr H locs ls hD hS hS0 hl8 ho ht hDs Z hl => ?_) dep 0 Ds S c 0 o gr H locs ls (by omega) hD hS hS0 hl8 ho ht (fun j hj => absurd hj (Nat.not_lt_zero _)) rfl Z (lv_sub hl [2, 3, 4, 1, 0] rfl)
  refine lv_iload hx hb dX1_mend_5 (lv_at hl 4 rfl) ?_
  refine lv_aload_n hx hb dX1_mend_7 rfl (lv_at hl 0 rfl) ?_
  refine zk_get C Z in_X1 0 rfl rfl 3 (by decide) q168 rfl (v := .int (nI dep)) rfl dX1_mend_8 ?_
  refine nr_ge (tgt := 57) hx hb (by omega) (by omega) dX1_mend_11 (by decide) (fun c_1 => ?_) (fun c_1 => absurd c_1 (by omega))
  refine lv_iconst (v := nI 0) hx hb dX1_mend_57 (by decide) ?_
  refine lv_istore (lv' := [(4, .int (nI 0)), (0, .ref hn), (1, .ref kr), (2, .ref hg), (3, .int (nI (zk_it (fun j s => s + bct (mdr 2 p n t (Ks.getD j 0) ^^^ Ks.getD j 0)) dep 0 0)))]) hx hb dX1_mend_58 hl (by decide) rfl (fun ls hl => ?_)
  refine lp1_meGK C hn co tr dep ms ch md kp wy h0 hs pl plc t gn kd hp hq p n P L F t1 t3 d4 kdn kr hg go goc gt gtc o gr S c Ds Ks Ks (fun j hj => mdr_lt hn31.2 (hW _) (hall j hj)) hDs _ _ _ (fun H locs ls Z hl => ?_) dep 0 Cs Ms H locs ls (by omega) hCs hMs rfl rfl Z (lv_sub hl [1, 2, 3, 4, 0] rfl)
  have Z : zk_Z D A s H locs [(hn, .inr (0, [.ref co, .ref tr, .int (nI 1), .int (nI dep), .ref ms, .ref ch, .ref md, .ref kp, .ref wy])), (co, .inr (1, [.ref h0, .int (nI t), .int (nI gn), .int (nI kd), .ref hs, .ref pl])), (h0, .inr (2, [.int (nI n), .ref hp, .ref hq])), (hp, .inl (g.1, 62, .inl (zk_ia P))), (hq, .inl (g.1, 32, .inl (zk_ia L))), (hs, .inl (g.1, 7, .inl (zk_ia S))), (pl, .inr (3, [.ref plc])), (plc, .inl (g.1, 8, .inl (zk_ia c))), (hg, .inr (6, [.ref go, .ref gt])), (go, .inr (3, [.ref goc])), (goc, .inl (g.1, 8, .inl (zk_ia o))), (gt, .inr (3, [.ref gtc])), (gtc, .inl (g.1, 8, .inl (zk_ia gr))), (ms, .inl (g.1, 4, .inl (zk_ia (mdM 2 p n t dep (n - kd) Ks Ms)))), (ch, .inl (g.1, 4, .inl (zk_ia (mdC 2 p n t dep Ks Cs)))), (md, .inl (g.1, 4, .inl (zk_ia Ds))), (kr, .inl (g.1, 4, .inl (zk_ia Ks)))] := Z
  refine lv_iload_n hx hb dX1_mend_122 rfl (lv_at hl 1 rfl) ?_
  exact zk_iret C hr hlocks Z ⟨rfl, S, c, Ds, o, gr, hS, hS0, hl8, hD, ho, ht, rfl⟩ (Nat.le_of_ble_eq_true rfl) (Nat.le_of_ble_eq_true rfl) dX1_mend_123

set_option maxHeartbeats 4000000 in
/-- mend, GK, which throws -/
theorem t1_mdGK (l : Launch) (hfl : l.flags = flags0) (D : va_G) (g : G4) (hn co tr dep ms ch md kp wy : Nat) (h0 hs pl plc t gn kd : Nat) (hp hq p n : Nat) (P L : List Nat) (F : zk_F p n P L) (t1 : 1 ≤ t) (t3 : t ≤ 3) (d4 : dep ≤ 4) (kdn : kd ≤ n) (kr : Nat) (hg go goc gt gtc : Nat) (o gr : List Nat) (ho : o.length = 8) (ht : gr.length = 8) (Ms Cs Ks : List Nat) (hMs : Ms.length = 4) (hCs : Cs.length = 4) (hKs : Ks.length = 4) (hW : ∀ j, Ks.getD j 0 < 2 ^ 31) (S c Ds : List Nat) (hS : S.length = 7) (hS0 : S.getD 0 0 = 0) (hl8 : c.length = 8) (hD : Ds.length = 4) (up : Nat) (hup : up < dep) (hall : ∀ j, j < up → mdd 2 p n t (Ks.getD j 0) = some (mdr 2 p n t (Ks.getD j 0))) (hnone : mdd 2 p n t (Ks.getD up 0) = none) : zk_MT l yX1_mend (ws_ yX1_mend cX1_mend 5 (some .int)) (zk_R 7 1 6) D g [.ref hn, .ref kr, .ref hg] [(hn, .inr (0, [.ref co, .ref tr, .int (nI 1), .int (nI dep), .ref ms, .ref ch, .ref md, .ref kp, .ref wy])), (co, .inr (1, [.ref h0, .int (nI t), .int (nI gn), .int (nI kd), .ref hs, .ref pl])), (h0, .inr (2, [.int (nI n), .ref hp, .ref hq])), (hp, .inl (g.1, 62, .inl (zk_ia P))), (hq, .inl (g.1, 32, .inl (zk_ia L))), (hs, .inl (g.1, 7, .inl (zk_ia S))), (pl, .inr (3, [.ref plc])), (plc, .inl (g.1, 8, .inl (zk_ia c))), (hg, .inr (6, [.ref go, .ref gt])), (go, .inr (3, [.ref goc])), (goc, .inl (g.1, 8, .inl (zk_ia o))), (gt, .inr (3, [.ref gtc])), (gtc, .inl (g.1, 8, .inl (zk_ia gr))), (ms, .inl (g.1, 4, .inl (zk_ia Ms))), (ch, .inl (g.1, 4, .inl (zk_ia Cs))), (md, .inl (g.1, 4, .inl (zk_ia Ds))), (kr, .inl (g.1, 4, .inl (zk_ia Ks)))] zk_ARE (fun w => ∃ (S1 c1 Ds1 : List Nat) (o1 t1_ : List Nat), S1.length = 7 ∧ S1.getD 0 0 = 0 ∧ c1.length = 8 ∧ Ds1.length = 4 ∧ o1.length = 8 ∧ t1_.length = 8 ∧ w = [(hn, .inr (0, [.ref co, .ref tr, .int (nI 1), .int (nI dep), .ref ms, .ref ch, .ref md, .ref kp, .ref wy])), (ms, .inl (g.1, 4, .inl (zk_ia Ms))), (ch, .inl (g.1, 4, .inl (zk_ia Cs))), (md, .inl (g.1, 4, .inl (zk_ia Ds1))), (kr, .inl (g.1, 4, .inl (zk_ia Ks))), (co, .inr (1, [.ref h0, .int (nI t), .int (nI gn), .int (nI kd), .ref hs, .ref pl])), (h0, .inr (2, [.int (nI n), .ref hp, .ref hq])), (hp, .inl (g.1, 62, .inl (zk_ia P))), (hq, .inl (g.1, 32, .inl (zk_ia L))), (hs, .inl (g.1, 7, .inl (zk_ia S1))), (pl, .inr (3, [.ref plc])), (plc, .inl (g.1, 8, .inl (zk_ia c1))), (hg, .inr (6, [.ref go, .ref gt])), (go, .inr (3, [.ref goc])), (goc, .inl (g.1, 8, .inl (zk_ia o1))), (gt, .inr (3, [.ref gtc])), (gtc, .inl (g.1, 8, .inl (zk_ia t1_)))]) := by
  refine zk_ofWT (by decide) (Nat.le_of_ble_eq_true rfl) ?_
  intro pg ev s mm below meth cd A C hlocks hno Z ls hl
  have hx := C.1.1
  have hb := C.1.2.1
  have hml := C.1.2.2.1
  have hown := C.1.2.2.2.1
  have hts := C.1.2.2.2.2
  have hl : lv_has ls 5 [(0, .ref hn), (1, .ref kr), (2, .ref hg)] := hl
  have hn31 := F.n31
  obtain ⟨H, hH⟩ : ∃ H, H = s.heap := ⟨_, rfl⟩
  obtain ⟨locs, hlocs⟩ : ∃ q : List Loc, q = [] := ⟨_, rfl⟩
  rw [← hH, ← hlocs] at Z ⊢
  refine lv_iconst (v := nI 0) hx hb dX1_mend_0 (by decide) ?_
  refine lv_istore_n (lv' := [(3, .int (nI 0)), (0, .ref hn), (1, .ref kr), (2, .ref hg)]) hx hb dX1_mend_1 rfl hl (by decide) rfl (fun ls hl => ?_)
  refine lv_iconst (v := nI 0) hx hb dX1_mend_2 (by decide) ?_
  refine lv_istore (lv' := [(4, .int (nI 0)), (3, .int (nI 0)), (0, .ref hn), (1, .ref kr), (2, .ref hg)]) hx hb dX1_mend_3 hl (by decide) rfl (fun ls hl => ?_)
  refine lp1_mdGK C hn co tr dep ms ch md kp wy h0 hs pl plc t gn kd hp hq p n P L F t1 t3 d4 kdn kr hg go goc gt gtc Ms Cs Ks hMs hCs hKs up (by omega) hW hall _ (fun Ds S c o gr H locs ls hD hS hS0 hl8 ho ht hDs Z hl => ?_) up 0 Ds S c 0 o gr H locs ls (by omega) hD hS hS0 hl8 ho ht (fun j hj => absurd hj (Nat.not_lt_zero _)) rfl Z (lv_sub hl [2, 3, 4, 1, 0] rfl)
  refine lv_iload hx hb dX1_mend_5 (lv_at hl 4 rfl) ?_
  refine lv_aload_n hx hb dX1_mend_7 rfl (lv_at hl 0 rfl) ?_
  refine zk_get C Z in_X1 0 rfl rfl 3 (by decide) q168 rfl (v := .int (nI dep)) rfl dX1_mend_8 ?_
  refine nr_ge (tgt := 57) hx hb (by omega) (by omega) dX1_mend_11 (by decide) (fun c_1 => absurd c_1 (by omega)) (fun c_1 => ?_)
  refine lv_aload_n hx hb dX1_mend_14 rfl (lv_at hl 0 rfl) ?_
  refine zk_get C Z in_X1 0 rfl rfl 6 (by decide) q171 rfl (v := .ref md) rfl dX1_mend_15 ?_
  refine lv_iload hx hb dX1_mend_18 (lv_at hl 4 rfl) ?_
  refine lv_aload_n hx hb dX1_mend_20 rfl (lv_at hl 0 rfl) ?_
  refine zk_get C Z in_X1 0 rfl rfl 0 (by decide) q165 rfl (v := .ref co) rfl dX1_mend_21 ?_
  refine lv_aload_n hx hb dX1_mend_24 rfl (lv_at hl 1 rfl) ?_
  refine lv_iload hx hb dX1_mend_25 (lv_at hl 4 rfl) ?_
  refine zk_iald C Z 16 rfl (by decide) (by omega) dX1_mend_27 ?_
  refine lv_aload_n hx hb dX1_mend_28 rfl (lv_at hl 2 rfl) ?_
  refine zk_callVT (cells' := 1) (slots' := 6) (rest := [.int (nI up), .ref md]) (n := 2) (wr := [(hn, .inr (0, [.ref co, .ref tr, .int (nI 1), .int (nI dep), .ref ms, .ref ch, .ref md, .ref kp, .ref wy])), (ms, .inl (g.1, 4, .inl (zk_ia Ms))), (ch, .inl (g.1, 4, .inl (zk_ia Cs))), (md, .inl (g.1, 4, .inl (zk_ia Ds))), (kr, .inl (g.1, 4, .inl (zk_ia Ks)))]) C Z (t2_mdG l hfl D g co h0 hs pl plc t gn kd hp hq p n P L F t1 t3 hg go goc gt gtc o gr ho ht (Ks.getD up 0) (hW _) S c hS hS0 hl8 hnone) [1, 2, 3, 4, 5, 6, 7, 8, 9, 10, 11, 12] [0, 13, 14, 15, 16] rfl rfl (by decide) (by decide) (by decide) 1 1 rfl rfl rfl q498 q499 q500 q20 q501 (by decide +kernel) rfl (Nat.le_of_ble_eq_true rfl) (Nat.le_of_ble_eq_true rfl) (Nat.le_of_ble_eq_true rfl) (Nat.le_of_ble_eq_true rfl) rfl rfl hl.1 rfl (Nat.le_of_ble_eq_true rfl) dX1_mend_29 (fun w1 hq => ?_)
  obtain ⟨S1, c1, o1, t1_, hS1, hS10, hc1, ho1, ht1, rfl⟩ := hq
  exact zk_leave hlocks hno (⟨S1, c1, Ds, o1, t1_, hS1, hS10, hc1, hD, ho1, ht1, rfl⟩) (Nat.le_of_ble_eq_true rfl) (Nat.le_of_ble_eq_true rfl)

