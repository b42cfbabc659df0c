/-! ===== NoisyCodes.begin ===== -/
set_option maxRecDepth 100000
abbrev zk_z4 : List Nat := [0, 0, 0, 0]
theorem zk_z4s {l : List Nat} (h : l.length = 4) : (((l.set 0 0).set (0 + 1) 0).set (0 + 1 + 1) 0).set (0 + 1 + 1 + 1) 0 = zk_z4 := by
  match l, h with
  | [_, _, _, _], _ => rfl
set_option maxHeartbeats 4000000 in
/-- begin -/
theorem m1_begin (l : Launch) (D : va_G) (g : G4) (hn co tr bg dep0 ms ch md kp wy : Nat) (th0 thp thq ths tpl tplc t0 g0 k0 n0 : Nat) (P L c : List Nat) (hP : P.length = 62) (hL : L.length = 32) (hl8 : c.length = 8) (x t dep : Nat) (t1 : 1 ≤ t) (t3 : t ≤ 3) (d1 : 1 ≤ dep) (d4 : dep ≤ 4) (x8 : 8 ≤ x) (x63 : x ≤ 63) (r0 r1 r2 r3 : Nat) (Ms Cs K0 K1 K2 K3 : List Nat) (hMs : Ms.length = 4) (hCs : Cs.length = 4) (hK0 : K0.length = 4) (hK1 : K1.length = 4) (hK2 : K2.length = 4) (hK3 : K3.length = 4) (hpr : (x, zk_nn x) ∈ zk_pr) : zk_M l yX1_begin (ws_ yX1_begin cX1_begin 7 (some .int)) (zk_R 7 1 6) D g [.ref hn, .int (nI x), .int (nI t), .int (nI dep)] [(hn, .inr (0, [.ref co, .ref tr, .int (nI bg), .int (nI dep0), .ref ms, .ref ch, .ref md, .ref kp, .ref wy])), (tr, .inr (1, [.ref th0, .int (nI t0), .int (nI g0), .int (nI k0), .ref ths, .ref tpl])), (th0, .inr (2, [.int (nI n0), .ref thp, .ref thq])), (thp, .inl (g.1, 62, .inl (zk_ia P))), (thq, .inl (g.1, 32, .inl (zk_ia L))), (tpl, .inr (3, [.ref tplc])), (tplc, .inl (g.1, 8, .inl (zk_ia c))), (ms, .inl (g.1, 4, .inl (zk_ia Ms))), (ch, .inl (g.1, 4, .inl (zk_ia Cs))), (kp, .inl (g.2.2.1, 4, .inr (.inr (.inr (.inr (zk_ra [r0, r1, r2, r3])))))), (r0, .inl (g.1, 4, .inl (zk_ia K0))), (r1, .inl (g.1, 4, .inl (zk_ia K1))), (r2, .inl (g.1, 4, .inl (zk_ia K2))), (r3, .inl (g.1, 4, .inl (zk_ia K3)))] (fun v w => v = some (.int (nI (zk_nn x - Nat.log2 (gnr x (zk_nn x) t)))) ∧ ∃ P1 L1 c1 : List Nat, zk_F x (zk_nn x) P1 L1 ∧ c1.length = 8 ∧ w = [(hn, .inr (0, [.ref tr, .ref co, .int (nI 1), .int (nI dep), .ref ms, .ref ch, .ref md, .ref kp, .ref wy])), (tr, .inr (1, [.ref th0, .int (nI t), .int (nI (gnr x (zk_nn x) t)), .int (nI (zk_nn x - Nat.log2 (gnr x (zk_nn x) t))), .ref ths, .ref tpl])), (th0, .inr (2, [.int (nI (zk_nn x)), .ref thp, .ref thq])), (thp, .inl (g.1, 62, .inl (zk_ia P1))), (thq, .inl (g.1, 32, .inl (zk_ia L1))), (tpl, .inr (3, [.ref tplc])), (tplc, .inl (g.1, 8, .inl (zk_ia c1))), (ms, .inl (g.1, 4, .inl (zk_ia zk_z4))), (ch, .inl (g.1, 4, .inl (zk_ia zk_z4))), (kp, .inl (g.2.2.1, 4, .inr (.inr (.inr (.inr (zk_ra [r0, r1, r2, r3])))))), (r0, .inl (g.1, 4, .inl (zk_ia zk_z4))), (r1, .inl (g.1, 4, .inl (zk_ia zk_z4))), (r2, .inl (g.1, 4, .inl (zk_ia zk_z4))), (r3, .inl (g.1, 4, .inl (zk_ia zk_z4)))]) := by
  refine zk_ofW (by decide) (Nat.le_of_ble_eq_true rfl) ?_
  intro pg ev s mm below meth cd A C hr hlocks hname Z ls hl
  have hx := C.1.1
  have hb := C.1.2.1
  have hml := C.1.2.2.1
  have hown := C.1.2.2.2.1
  have hts := C.1.2.2.2.2
  have hl : lv_has ls 7 [(0, .ref hn), (1, .int (nI x)), (2, .int (nI t)), (3, .int (nI dep))] := hl
  obtain ⟨H, hH⟩ : ∃ H, H = s.heap := ⟨_, rfl⟩
  obtain ⟨locs, hlocs⟩ : ∃ q : List Loc, q = [] := ⟨_, rfl⟩
  rw [← hH, ← hlocs] at Z ⊢
  refine lv_iload_n hx hb dX1_begin_0 rfl (lv_at hl 2 rfl) ?_
  refine lv_iconst (v := nI 1) hx hb dX1_begin_1 (by decide) ?_
  refine lv_iconst (v := nI 3) hx hb dX1_begin_2 (by decide) ?_
  refine zk_callS (cells' := 0) (slots' := 0) (rest := []) (n := 3) (wr := [(hn, .inr (0, [.ref co, .ref tr, .int (nI bg), .int (nI dep0), .ref ms, .ref ch, .ref md, .ref kp, .ref wy])), (tr, .inr (1, [.ref th0, .int (nI t0), .int (nI g0), .int (nI k0), .ref ths, .ref tpl])), (th0, .inr (2, [.int (nI n0), .ref thp, .ref thq])), (thp, .inl (g.1, 62, .inl (zk_ia P))), (thq, .inl (g.1, 32, .inl (zk_ia L))), (tpl, .inr (3, [.ref tplc])), (tplc, .inl (g.1, 8, .inl (zk_ia c))), (ms, .inl (g.1, 4, .inl (zk_ia Ms))), (ch, .inl (g.1, 4, .inl (zk_ia Cs))), (kp, .inl (g.2.2.1, 4, .inr (.inr (.inr (.inr (zk_ra [r0, r1, r2, r3])))))), (r0, .inl (g.1, 4, .inl (zk_ia K0))), (r1, .inl (g.1, 4, .inl (zk_ia K1))), (r2, .inl (g.1, 4, .inl (zk_ia K2))), (r3, .inl (g.1, 4, .inl (zk_ia K3)))]) C Z (m1_in1 l D g (nI t) (nI 1) (nI 3) (zk_le t1 (by omega)) (zk_le t3 (by decide))) [] [0, 1, 2, 3, 4, 5, 6, 7, 8, 9, 10, 11, 12, 13] rfl rfl (by decide) (by decide) (by decide) q274 q275 q19 q276 (by decide +kernel) rfl (Nat.le_of_ble_eq_true rfl) (Nat.le_of_ble_eq_true rfl) (Nat.le_of_ble_eq_true rfl) (Nat.le_of_ble_eq_true rfl) rfl rfl hl.1 rfl (Nat.le_of_ble_eq_true rfl) dX1_begin_3 (fun v w1 H locs hq Z => ?_)
  obtain ⟨rfl, rfl⟩ := hq
  have Z : zk_Z D A s H locs [(hn, .inr (0, [.ref co, .ref tr, .int (nI bg), .int (nI dep0), .ref ms, .ref ch, .ref md, .ref kp, .ref wy])), (tr, .inr (1, [.ref th0, .int (nI t0), .int (nI g0), .int (nI k0), .ref ths, .ref tpl])), (th0, .inr (2, [.int (nI n0), .ref thp, .ref thq])), (thp, .inl (g.1, 62, .inl (zk_ia P))), (thq, .inl (g.1, 32, .inl (zk_ia L))), (tpl, .inr (3, [.ref tplc])), (tplc, .inl (g.1, 8, .inl (zk_ia c))), (ms, .inl (g.1, 4, .inl (zk_ia Ms))), (ch, .inl (g.1, 4, .inl (zk_ia Cs))), (kp, .inl (g.2.2.1, 4, .inr (.inr (.inr (.inr (zk_ra [r0, r1, r2, r3])))))), (r0, .inl (g.1, 4, .inl (zk_ia K0))), (r1, .inl (g.1, 4, .inl (zk_ia K1))), (r2, .inl (g.1, 4, .inl (zk_ia K2))), (r3, .inl (g.1, 4, .inl (zk_ia K3)))] := Z.sub [0, 1, 2, 3, 4, 5, 6, 7, 8, 9, 10, 11, 12, 13] (by decide) rfl
  refine W.eq (g2 := F0 mm 6 ls [.int (nI 1)]) rfl ?_
  refine nr_eq0 (tgt := 33) hx hb (by omega) dX1_begin_6 (by decide) (fun c_1 => absurd c_1 (by decide)) (fun c_1 => ?_)
  refine lv_iload_n hx hb dX1_begin_9 rfl (lv_at hl 3 rfl) ?_
  refine lv_iconst (v := nI 1) hx hb dX1_begin_10 (by decide) ?_
  refine lv_iconst (v := nI 4) hx hb dX1_begin_11 (by decide) ?_
  refine zk_callS (cells' := 0) (slots' := 0) (rest := []) (n := 3) (wr := [(hn, .inr (0, [.ref co, .ref tr, .int (nI bg), .int (nI dep0), .ref ms, .ref ch, .ref md, .ref kp, .ref wy])), (tr, .inr (1, [.ref th0, .int (nI t0), .int (nI g0), .int (nI k0), .ref ths, .ref tpl])), (th0, .inr (2, [.int (nI n0), .ref thp, .ref thq])), (thp, .inl (g.1, 62, .inl (zk_ia P))), (thq, .inl (g.1, 32, .inl (zk_ia L))), (tpl, .inr (3, [.ref tplc])), (tplc, .inl (g.1, 8, .inl (zk_ia c))), (ms, .inl (g.1, 4, .inl (zk_ia Ms))), (ch, .inl (g.1, 4, .inl (zk_ia Cs))), (kp, .inl (g.2.2.1, 4, .inr (.inr (.inr (.inr (zk_ra [r0, r1, r2, r3])))))), (r0, .inl (g.1, 4, .inl (zk_ia K0))), (r1, .inl (g.1, 4, .inl (zk_ia K1))), (r2, .inl (g.1, 4, .inl (zk_ia K2))), (r3, .inl (g.1, 4, .inl (zk_ia K3)))]) C Z (m1_in1 l D g (nI dep) (nI 1) (nI 4) (zk_le d1 (by omega)) (zk_le d4 (by decide))) [] [0, 1, 2, 3, 4, 5, 6, 7, 8, 9, 10, 11, 12, 13] rfl rfl (by decide) (by decide) (by decide) q274 q275 q19 q276 (by decide +kernel) rfl (Nat.le_of_ble_eq_true rfl) (Nat.le_of_ble_eq_true rfl) (Nat.le_of_ble_eq_true rfl) (Nat.le_of_ble_eq_true rfl) rfl rfl hl.1 rfl (Nat.le_of_ble_eq_true rfl) dX1_begin_12 (fun v w1 H locs hq Z => ?_)
  obtain ⟨rfl, rfl⟩ := hq
  have Z : zk_Z D A s H locs [(hn, .inr (0, [.ref co, .ref tr, .int (nI bg), .int (nI dep0), .ref ms, .ref ch, .ref md, .ref kp, .ref wy])), (tr, .inr (1, [.ref th0, .int (nI t0), .int (nI g0), .int (nI k0), .ref ths, .ref tpl])), (th0, .inr (2, [.int (nI n0), .ref thp, .ref thq])), (thp, .inl (g.1, 62, .inl (zk_ia P))), (thq, .inl (g.1, 32, .inl (zk_ia L))), (tpl, .inr (3, [.ref tplc])), (tplc, .inl (g.1, 8, .inl (zk_ia c))), (ms, .inl (g.1, 4, .inl (zk_ia Ms))), (ch, .inl (g.1, 4, .inl (zk_ia Cs))), (kp, .inl (g.2.2.1, 4, .inr (.inr (.inr (.inr (zk_ra [r0, r1, r2, r3])))))), (r0, .inl (g.1, 4, .inl (zk_ia K0))), (r1, .inl (g.1, 4, .inl (zk_ia K1))), (r2, .inl (g.1, 4, .inl (zk_ia K2))), (r3, .inl (g.1, 4, .inl (zk_ia K3)))] := Z.sub [0, 1, 2, 3, 4, 5, 6, 7, 8, 9, 10, 11, 12, 13] (by decide) rfl
  refine W.eq (g2 := F0 mm 15 ls [.int (nI 1)]) rfl ?_
  refine nr_eq0 (tgt := 33) hx hb (by omega) dX1_begin_15 (by decide) (fun c_2 => absurd c_2 (by decide)) (fun c_2 => ?_)
  refine lv_iload_n hx hb dX1_begin_18 rfl (lv_at hl 1 rfl) ?_
  refine lv_bipush (v := nI 8) hx hb dX1_begin_19 (by decide) ?_
  refine lv_bipush (v := nI 63) hx hb dX1_begin_21 (by decide) ?_
  refine zk_callS (cells' := 0) (slots' := 0) (rest := []) (n := 3) (wr := [(hn, .inr (0, [.ref co, .ref tr, .int (nI bg), .int (nI dep0), .ref ms, .ref ch, .ref md, .ref kp, .ref wy])), (tr, .inr (1, [.ref th0, .int (nI t0), .int (nI g0), .int (nI k0), .ref ths, .ref tpl])), (th0, .inr (2, [.int (nI n0), .ref thp, .ref thq])), (thp, .inl (g.1, 62, .inl (zk_ia P))), (thq, .inl (g.1, 32, .inl (zk_ia L))), (tpl, .inr (3, [.ref tplc])), (tplc, .inl (g.1, 8, .inl (zk_ia c))), (ms, .inl (g.1, 4, .inl (zk_ia Ms))), (ch, .inl (g.1, 4, .inl (zk_ia Cs))), (kp, .inl (g.2.2.1, 4, .inr (.inr (.inr (.inr (zk_ra [r0, r1, r2, r3])))))), (r0, .inl (g.1, 4, .inl (zk_ia K0))), (r1, .inl (g.1, 4, .inl (zk_ia K1))), (r2, .inl (g.1, 4, .inl (zk_ia K2))), (r3, .inl (g.1, 4, .inl (zk_ia K3)))]) C Z (m1_in1 l D g (nI x) (nI 8) (nI 63) (zk_le x8 (by omega)) (zk_le x63 (by decide))) [] [0, 1, 2, 3, 4, 5, 6, 7, 8, 9, 10, 11, 12, 13] rfl rfl (by decide) (by decide) (by decide) q274 q275 q19 q276 (by decide +kernel) rfl (Nat.le_of_ble_eq_true rfl) (Nat.le_of_ble_eq_true rfl) (Nat.le_of_ble_eq_true rfl) (Nat.le_of_ble_eq_true rfl) rfl rfl hl.1 rfl (Nat.le_of_ble_eq_true rfl) dX1_begin_23 (fun v w1 H locs hq Z => ?_)
  obtain ⟨rfl, rfl⟩ := hq
  have Z : zk_Z D A s H locs [(hn, .inr (0, [.ref co, .ref tr, .int (nI bg), .int (nI dep0), .ref ms, .ref ch, .ref md, .ref kp, .ref wy])), (tr, .inr (1, [.ref th0, .int (nI t0), .int (nI g0), .int (nI k0), .ref ths, .ref tpl])), (th0, .inr (2, [.int (nI n0), .ref thp, .ref thq])), (thp, .inl (g.1, 62, .inl (zk_ia P))), (thq, .inl (g.1, 32, .inl (zk_ia L))), (tpl, .inr (3, [.ref tplc])), (tplc, .inl (g.1, 8, .inl (zk_ia c))), (ms, .inl (g.1, 4, .inl (zk_ia Ms))), (ch, .inl (g.1, 4, .inl (zk_ia Cs))), (kp, .inl (g.2.2.1, 4, .inr (.inr (.inr (.inr (zk_ra [r0, r1, r2, r3])))))), (r0, .inl (g.1, 4, .inl (zk_ia K0))), (r1, .inl (g.1, 4, .inl (zk_ia K1))), (r2, .inl (g.1, 4, .inl (zk_ia K2))), (r3, .inl (g.1, 4, .inl (zk_ia K3)))] := Z.sub [0, 1, 2, 3, 4, 5, 6, 7, 8, 9, 10, 11, 12, 13] (by decide) rfl
  refine W.eq (g2 := F0 mm 26 ls [.int (nI 1)]) rfl ?_
  refine nr_eq0 (tgt := 33) hx hb (by omega) dX1_begin_26 (by decide) (fun c_3 => absurd c_3 (by decide)) (fun c_3 => ?_)
  refine lv_iconst (v := nI 1) hx hb dX1_begin_29 (by decide) ?_
  refine lv_goto (tgt := 34) hx hb dX1_begin_30 (by decide) ?_
  refine zk_callS (cells' := 0) (slots' := 0) (rest := []) (n := 1) (wr := [(hn, .inr (0, [.ref co, .ref tr, .int (nI bg), .int (nI dep0), .ref ms, .ref ch, .ref md, .ref kp, .ref wy])), (tr, .inr (1, [.ref th0, .int (nI t0), .int (nI g0), .int (nI k0), .ref ths, .ref tpl])), (th0, .inr (2, [.int (nI n0), .ref thp, .ref thq])), (thp, .inl (g.1, 62, .inl (zk_ia P))), (thq, .inl (g.1, 32, .inl (zk_ia L))), (tpl, .inr (3, [.ref tplc])), (tplc, .inl (g.1, 8, .inl (zk_ia c))), (ms, .inl (g.1, 4, .inl (zk_ia Ms))), (ch, .inl (g.1, 4, .inl (zk_ia Cs))), (kp, .inl (g.2.2.1, 4, .inr (.inr (.inr (.inr (zk_ra [r0, r1, r2, r3])))))), (r0, .inl (g.1, 4, .inl (zk_ia K0))), (r1, .inl (g.1, 4, .inl (zk_ia K1))), (r2, .inl (g.1, 4, .inl (zk_ia K2))), (r3, .inl (g.1, 4, .inl (zk_ia K3)))]) C Z (m1_need l D g) [] [0, 1, 2, 3, 4, 5, 6, 7, 8, 9, 10, 11, 12, 13] rfl rfl (by decide) (by decide) (by decide) q277 q278 q19 q279 (by decide +kernel) rfl (Nat.le_of_ble_eq_true rfl) (Nat.le_of_ble_eq_true rfl) (Nat.le_of_ble_eq_true rfl) (Nat.le_of_ble_eq_true rfl) rfl rfl hl.1 rfl (Nat.le_of_ble_eq_true rfl) dX1_begin_34 (fun v w1 H locs hq Z => ?_)
  obtain ⟨rfl, rfl⟩ := hq
  have Z : zk_Z D A s H locs [(hn, .inr (0, [.ref co, .ref tr, .int (nI bg), .int (nI dep0), .ref ms, .ref ch, .ref md, .ref kp, .ref wy])), (tr, .inr (1, [.ref th0, .int (nI t0), .int (nI g0), .int (nI k0), .ref ths, .ref tpl])), (th0, .inr (2, [.int (nI n0), .ref thp, .ref thq])), (thp, .inl (g.1, 62, .inl (zk_ia P))), (thq, .inl (g.1, 32, .inl (zk_ia L))), (tpl, .inr (3, [.ref tplc])), (tplc, .inl (g.1, 8, .inl (zk_ia c))), (ms, .inl (g.1, 4, .inl (zk_ia Ms))), (ch, .inl (g.1, 4, .inl (zk_ia Cs))), (kp, .inl (g.2.2.1, 4, .inr (.inr (.inr (.inr (zk_ra [r0, r1, r2, r3])))))), (r0, .inl (g.1, 4, .inl (zk_ia K0))), (r1, .inl (g.1, 4, .inl (zk_ia K1))), (r2, .inl (g.1, 4, .inl (zk_ia K2))), (r3, .inl (g.1, 4, .inl (zk_ia K3)))] := Z.sub [0, 1, 2, 3, 4, 5, 6, 7, 8, 9, 10, 11, 12, 13] (by decide) rfl
  refine W.eq (g2 := F0 mm 37 ls []) rfl ?_
  refine lv_aload_n hx hb dX1_begin_37 rfl (lv_at hl 0 rfl) ?_
  refine zk_get C Z in_X1 0 rfl rfl 1 (by decide) q166 rfl (v := .ref tr) rfl dX1_begin_38 ?_
  refine lv_iload_n hx hb dX1_begin_41 rfl (lv_at hl 1 rfl) ?_
  refine lv_iload_n hx hb dX1_begin_42 rfl (lv_at hl 2 rfl) ?_
  refine zk_callV (cells' := 0) (slots' := 0) (rest := []) (n := 2) (wr := [(hn, .inr (0, [.ref co, .ref tr, .int (nI bg), .int (nI dep0), .ref ms, .ref ch, .ref md, .ref kp, .ref wy])), (ms, .inl (g.1, 4, .inl (zk_ia Ms))), (ch, .inl (g.1, 4, .inl (zk_ia Cs))), (kp, .inl (g.2.2.1, 4, .inr (.inr (.inr (.inr (zk_ra [r0, r1, r2, r3])))))), (r0, .inl (g.1, 4, .inl (zk_ia K0))), (r1, .inl (g.1, 4, .inl (zk_ia K1))), (r2, .inl (g.1, 4, .inl (zk_ia K2))), (r3, .inl (g.1, 4, .inl (zk_ia K3)))]) C Z (m2_make1 l D g tr ths tpl tplc t th0 thp thq x P L g0 k0 t0 n0 c hl8 hP hL x8 (by omega) t3 hpr) [1, 2, 3, 4, 5, 6] [0, 7, 8, 9, 10, 11, 12, 13] rfl rfl (by decide) (by decide) (by decide) 1 1 rfl rfl rfl q296 q297 q298 q20 q299 (by decide +kernel) rfl (Nat.le_of_ble_eq_true rfl) (Nat.le_of_ble_eq_true rfl) (Nat.le_of_ble_eq_true rfl) (Nat.le_of_ble_eq_true rfl) rfl rfl hl.1 rfl (Nat.le_of_ble_eq_true rfl) dX1_begin_43 (fun v w1 H locs hq Z => ?_)
  obtain ⟨rfl, P1, L1, c1, F, hc1, rfl⟩ := hq
  have Z : zk_Z D A s H locs [(hn, .inr (0, [.ref co, .ref tr, .int (nI bg), .int (nI dep0), .ref ms, .ref ch, .ref md, .ref kp, .ref wy])), (tr, .inr (1, [.ref th0, .int (nI t), .int (nI (gnr x (zk_nn x) t)), .int (nI (zk_nn x - Nat.log2 (gnr x (zk_nn x) t))), .ref ths, .ref tpl])), (th0, .inr (2, [.int (nI (zk_nn x)), .ref thp, .ref thq])), (thp, .inl (g.1, 62, .inl (zk_ia P1))), (thq, .inl (g.1, 32, .inl (zk_ia L1))), (tpl, .inr (3, [.ref tplc])), (tplc, .inl (g.1, 8, .inl (zk_ia c1))), (ms, .inl (g.1, 4, .inl (zk_ia Ms))), (ch, .inl (g.1, 4, .inl (zk_ia Cs))), (kp, .inl (g.2.2.1, 4, .inr (.inr (.inr (.inr (zk_ra [r0, r1, r2, r3])))))), (r0, .inl (g.1, 4, .inl (zk_ia K0))), (r1, .inl (g.1, 4, .inl (zk_ia K1))), (r2, .inl (g.1, 4, .inl (zk_ia K2))), (r3, .inl (g.1, 4, .inl (zk_ia K3)))] := Z.sub [0, 8, 9, 10, 11, 12, 13, 1, 2, 3, 4, 5, 6, 7] (by decide) rfl
  refine W.eq (g2 := F0 mm 46 ls [.int (nI 1)]) rfl ?_
  refine nr_ne0 (tgt := 59) hx hb (by omega) dX1_begin_46 (by decide) (fun c_4 => ?_) (fun c_4 => absurd c_4 (by decide))
  refine lv_aload_n hx hb dX1_begin_59 rfl (lv_at hl 0 rfl) ?_
  refine zk_get C Z in_X1 0 rfl rfl 0 (by decide) q165 rfl (v := .ref co) rfl dX1_begin_60 ?_
  refine lv_astore (lv' := [(4, .ref co), (0, .ref hn), (1, .int (nI x)), (2, .int (nI t)), (3, .int (nI dep))]) hx hb dX1_begin_63 hl (by decide) rfl (fun ls hl => ?_)
  refine lv_aload_n hx hb dX1_begin_65 rfl (lv_at hl 1 rfl) ?_
  refine lv_aload_n hx hb dX1_begin_66 rfl (lv_at hl 1 rfl) ?_
  refine zk_get C Z in_X1 0 rfl rfl 1 (by decide) q166 rfl (v := .ref tr) rfl dX1_begin_67 ?_
  refine zk_put C Z in_X1 tyX1 tyX1_ok nmX1 0 rfl rfl 0 (by decide) q165 rfl rfl (v := .ref tr) rfl rfl (Nat.le_of_ble_eq_true rfl) dX1_begin_70 (fun H locs Z => ?_)
  have Z : zk_Z D A s H locs [(hn, .inr (0, [.ref tr, .ref tr, .int (nI bg), .int (nI dep0), .ref ms, .ref ch, .ref md, .ref kp, .ref wy])), (tr, .inr (1, [.ref th0, .int (nI t), .int (nI (gnr x (zk_nn x) t)), .int (nI (zk_nn x - Nat.log2 (gnr x (zk_nn x) t))), .ref ths, .ref tpl])), (th0, .inr (2, [.int (nI (zk_nn x)), .ref thp, .ref thq])), (thp, .inl (g.1, 62, .inl (zk_ia P1))), (thq, .inl (g.1, 32, .inl (zk_ia L1))), (tpl, .inr (3, [.ref tplc])), (tplc, .inl (g.1, 8, .inl (zk_ia c1))), (ms, .inl (g.1, 4, .inl (zk_ia Ms))), (ch, .inl (g.1, 4, .inl (zk_ia Cs))), (kp, .inl (g.2.2.1, 4, .inr (.inr (.inr (.inr (zk_ra [r0, r1, r2, r3])))))), (r0, .inl (g.1, 4, .inl (zk_ia K0))), (r1, .inl (g.1, 4, .inl (zk_ia K1))), (r2, .inl (g.1, 4, .inl (zk_ia K2))), (r3, .inl (g.1, 4, .inl (zk_ia K3)))] := Z
  refine lv_aload_n hx hb dX1_begin_73 rfl (lv_at hl 1 rfl) ?_
  refine lv_aload hx hb dX1_begin_74 (lv_at hl 0 rfl) ?_
  refine zk_put C Z in_X1 tyX1 tyX1_ok nmX1 0 rfl rfl 1 (by decide) q166 rfl rfl (v := .ref co) rfl rfl (Nat.le_of_ble_eq_true rfl) dX1_begin_76 (fun H locs Z => ?_)
  have Z : zk_Z D A s H locs [(hn, .inr (0, [.ref tr, .ref co, .int (nI bg), .int (nI dep0), .ref ms, .ref ch, .ref md, .ref kp, .ref wy])), (tr, .inr (1, [.ref th0, .int (nI t), .int (nI (gnr x (zk_nn x) t)), .int (nI (zk_nn x - Nat.log2 (gnr x (zk_nn x) t))), .ref ths, .ref tpl])), (th0, .inr (2, [.int (nI (zk_nn x)), .ref thp, .ref thq])), (thp, .inl (g.1, 62, .inl (zk_ia P1))), (thq, .inl (g.1, 32, .inl (zk_ia L1))), (tpl, .inr (3, [.ref tplc])), (tplc, .inl (g.1, 8, .inl (zk_ia c1))), (ms, .inl (g.1, 4, .inl (zk_ia Ms))), (ch, .inl (g.1, 4, .inl (zk_ia Cs))), (kp, .inl (g.2.2.1, 4, .inr (.inr (.inr (.inr (zk_ra [r0, r1, r2, r3])))))), (r0, .inl (g.1, 4, .inl (zk_ia K0))), (r1, .inl (g.1, 4, .inl (zk_ia K1))), (r2, .inl (g.1, 4, .inl (zk_ia K2))), (r3, .inl (g.1, 4, .inl (zk_ia K3)))] := Z
  refine lv_aload_n hx hb dX1_begin_79 rfl (lv_at hl 1 rfl) ?_
  refine lv_iload_n hx hb dX1_begin_80 rfl (lv_at hl 4 rfl) ?_
  refine zk_put C Z in_X1 tyX1 tyX1_ok nmX1 0 rfl rfl 3 (by decide) q168 rfl rfl (v := .int (nI dep)) rfl rfl (Nat.le_of_ble_eq_true rfl) dX1_begin_81 (fun H locs Z => ?_)
  have Z : zk_Z D A s H locs [(hn, .inr (0, [.ref tr, .ref co, .int (nI bg), .int (nI dep), .ref ms, .ref ch, .ref md, .ref kp, .ref wy])), (tr, .inr (1, [.ref th0, .int (nI t), .int (nI (gnr x (zk_nn x) t)), .int (nI (zk_nn x - Nat.log2 (gnr x (zk_nn x) t))), .ref ths, .ref tpl])), (th0, .inr (2, [.int (nI (zk_nn x)), .ref thp, .ref thq])), (thp, .inl (g.1, 62, .inl (zk_ia P1))), (thq, .inl (g.1, 32, .inl (zk_ia L1))), (tpl, .inr (3, [.ref tplc])), (tplc, .inl (g.1, 8, .inl (zk_ia c1))), (ms, .inl (g.1, 4, .inl (zk_ia Ms))), (ch, .inl (g.1, 4, .inl (zk_ia Cs))), (kp, .inl (g.2.2.1, 4, .inr (.inr (.inr (.inr (zk_ra [r0, r1, r2, r3])))))), (r0, .inl (g.1, 4, .inl (zk_ia K0))), (r1, .inl (g.1, 4, .inl (zk_ia K1))), (r2, .inl (g.1, 4, .inl (zk_ia K2))), (r3, .inl (g.1, 4, .inl (zk_ia K3)))] := Z
  refine lv_aload_n hx hb dX1_begin_84 rfl (lv_at hl 1 rfl) ?_
  refine lv_iconst (v := nI 1) hx hb dX1_begin_85 (by decide) ?_
  refine zk_put C Z in_X1 tyX1 tyX1_ok nmX1 0 rfl rfl 2 (by decide) q167 rfl rfl (v := .int (nI 1)) rfl rfl (Nat.le_of_ble_eq_true rfl) dX1_begin_86 (fun H locs Z => ?_)
  have Z : zk_Z D A s H locs [(hn, .inr (0, [.ref tr, .ref co, .int (nI 1), .int (nI dep), .ref ms, .ref ch, .ref md, .ref kp, .ref wy])), (tr, .inr (1, [.ref th0, .int (nI t), .int (nI (gnr x (zk_nn x) t)), .int (nI (zk_nn x - Nat.log2 (gnr x (zk_nn x) t))), .ref ths, .ref tpl])), (th0, .inr (2, [.int (nI (zk_nn x)), .ref thp, .ref thq])), (thp, .inl (g.1, 62, .inl (zk_ia P1))), (thq, .inl (g.1, 32, .inl (zk_ia L1))), (tpl, .inr (3, [.ref tplc])), (tplc, .inl (g.1, 8, .inl (zk_ia c1))), (ms, .inl (g.1, 4, .inl (zk_ia Ms))), (ch, .inl (g.1, 4, .inl (zk_ia Cs))), (kp, .inl (g.2.2.1, 4, .inr (.inr (.inr (.inr (zk_ra [r0, r1, r2, r3])))))), (r0, .inl (g.1, 4, .inl (zk_ia K0))), (r1, .inl (g.1, 4, .inl (zk_ia K1))), (r2, .inl (g.1, 4, .inl (zk_ia K2))), (r3, .inl (g.1, 4, .inl (zk_ia K3)))] := Z
  refine lv_iconst (v := nI 0) hx hb dX1_begin_89 (by decide) ?_
  refine lv_istore (lv' := [(5, .int (nI 0)), (4, .ref co), (0, .ref hn), (1, .int (nI x)), (2, .int (nI t)), (3, .int (nI dep))]) hx hb dX1_begin_90 hl (by decide) rfl (fun ls hl => ?_)
  refine lv_iload hx hb dX1_begin_92 (lv_at hl 0 rfl) ?_
  refine lv_iconst (v := nI 4) hx hb dX1_begin_94 (by decide) ?_
  refine nr_ge (tgt := 146) hx hb (by decide) (by decide) dX1_begin_95 (by decide) (fun c_5 => absurd c_5 (by decide)) (fun c_5 => ?_)
  refine lv_aload_n hx hb dX1_begin_98 rfl (lv_at hl 2 rfl) ?_
  refine zk_get C Z in_X1 0 rfl rfl 4 (by decide) q169 rfl (v := .ref ms) rfl dX1_begin_99 ?_
  refine lv_iload hx hb dX1_begin_102 (lv_at hl 0 rfl) ?_
  refine lv_iconst (v := nI 0) hx hb dX1_begin_104 (by decide) ?_
  refine zk_iast C Z 7 rfl (by decide) (by decide) hMs dX1_begin_105 (fun H locs Z => ?_)
  have hlen_6 : (Ms.set 0 0).length = 4 := by rw [List.length_set]; exact hMs
  have Z : zk_Z D A s H locs [(hn, .inr (0, [.ref tr, .ref co, .int (nI 1), .int (nI dep), .ref ms, .ref ch, .ref md, .ref kp, .ref wy])), (tr, .inr (1, [.ref th0, .int (nI t), .int (nI (gnr x (zk_nn x) t)), .int (nI (zk_nn x - Nat.log2 (gnr x (zk_nn x) t))), .ref ths, .ref tpl])), (th0, .inr (2, [.int (nI (zk_nn x)), .ref thp, .ref thq])), (thp, .inl (g.1, 62, .inl (zk_ia P1))), (thq, .inl (g.1, 32, .inl (zk_ia L1))), (tpl, .inr (3, [.ref tplc])), (tplc, .inl (g.1, 8, .inl (zk_ia c1))), (ms, .inl (g.1, 4, .inl (zk_ia (Ms.set 0 0)))), (ch, .inl (g.1, 4, .inl (zk_ia Cs))), (kp, .inl (g.2.2.1, 4, .inr (.inr (.inr (.inr (zk_ra [r0, r1, r2, r3])))))), (r0, .inl (g.1, 4, .inl (zk_ia K0))), (r1, .inl (g.1, 4, .inl (zk_ia K1))), (r2, .inl (g.1, 4, .inl (zk_ia K2))), (r3, .inl (g.1, 4, .inl (zk_ia K3)))] := Z
  refine lv_aload_n hx hb dX1_begin_106 rfl (lv_at hl 2 rfl) ?_
  refine zk_get C Z in_X1 0 rfl rfl 5 (by decide) q170 rfl (v := .ref ch) rfl dX1_begin_107 ?_
  refine lv_iload hx hb dX1_begin_110 (lv_at hl 0 rfl) ?_
  refine lv_iconst (v := nI 0) hx hb dX1_begin_112 (by decide) ?_
  refine zk_iast C Z 8 rfl (by decide) (by decide) hCs dX1_begin_113 (fun H locs Z => ?_)
  have hlen_7 : (Cs.set 0 0).length = 4 := by rw [List.length_set]; exact hCs
  have Z : zk_Z D A s H locs [(hn, .inr (0, [.ref tr, .ref co, .int (nI 1), .int (nI dep), .ref ms, .ref ch, .ref md, .ref kp, .ref wy])), (tr, .inr (1, [.ref th0, .int (nI t), .int (nI (gnr x (zk_nn x) t)), .int (nI (zk_nn x - Nat.log2 (gnr x (zk_nn x) t))), .ref ths, .ref tpl])), (th0, .inr (2, [.int (nI (zk_nn x)), .ref thp, .ref thq])), (thp, .inl (g.1, 62, .inl (zk_ia P1))), (thq, .inl (g.1, 32, .inl (zk_ia L1))), (tpl, .inr (3, [.ref tplc])), (tplc, .inl (g.1, 8, .inl (zk_ia c1))), (ms, .inl (g.1, 4, .inl (zk_ia (Ms.set 0 0)))), (ch, .inl (g.1, 4, .inl (zk_ia (Cs.set 0 0)))), (kp, .inl (g.2.2.1, 4, .inr (.inr (.inr (.inr (zk_ra [r0, r1, r2, r3])))))), (r0, .inl (g.1, 4, .inl (zk_ia K0))), (r1, .inl (g.1, 4, .inl (zk_ia K1))), (r2, .inl (g.1, 4, .inl (zk_ia K2))), (r3, .inl (g.1, 4, .inl (zk_ia K3)))] := Z
  refine lv_iconst (v := nI 0) hx hb dX1_begin_114 (by decide) ?_
  refine lv_istore (lv' := [(6, .int (nI 0)), (5, .int (nI 0)), (4, .ref co), (0, .ref hn), (1, .int (nI x)), (2, .int (nI t)), (3, .int (nI dep))]) hx hb dX1_begin_115 hl (by decide) rfl (fun ls hl => ?_)
  refine lv_iload hx hb dX1_begin_117 (lv_at hl 0 rfl) ?_
  refine lv_iconst (v := nI 4) hx hb dX1_begin_119 (by decide) ?_
  refine nr_ge (tgt := 140) hx hb (by decide) (by decide) dX1_begin_120 (by decide) (fun c_8 => absurd c_8 (by decide)) (fun c_8 => ?_)
  refine lv_aload_n hx hb dX1_begin_123 rfl (lv_at hl 3 rfl) ?_
  refine zk_get C Z in_X1 0 rfl rfl 7 (by decide) q172 rfl (v := .ref kp) rfl dX1_begin_124 ?_
  refine lv_iload hx hb dX1_begin_127 (lv_at hl 0 rfl) ?_
  refine zk_aald C Z 9 rfl (by decide) (by decide) rfl dX1_begin_129 ?_
  refine lv_iload hx hb dX1_begin_130 (lv_at hl 1 rfl) ?_
  refine lv_iconst (v := nI 0) hx hb dX1_begin_132 (by decide) ?_
  refine zk_iast C Z 10 rfl (by decide) (by decide) hK0 dX1_begin_133 (fun H locs Z => ?_)
  have hlen_9 : (K0.set 0 0).length = 4 := by rw [List.length_set]; exact hK0
  have Z : zk_Z D A s H locs [(hn, .inr (0, [.ref tr, .ref co, .int (nI 1), .int (nI dep), .ref ms, .ref ch, .ref md, .ref kp, .ref wy])), (tr, .inr (1, [.ref th0, .int (nI t), .int (nI (gnr x (zk_nn x) t)), .int (nI (zk_nn x - Nat.log2 (gnr x (zk_nn x) t))), .ref ths, .ref tpl])), (th0, .inr (2, [.int (nI (zk_nn x)), .ref thp, .ref thq])), (thp, .inl (g.1, 62, .inl (zk_ia P1))), (thq, .inl (g.1, 32, .inl (zk_ia L1))), (tpl, .inr (3, [.ref tplc])), (tplc, .inl (g.1, 8, .inl (zk_ia c1))), (ms, .inl (g.1, 4, .inl (zk_ia (Ms.set 0 0)))), (ch, .inl (g.1, 4, .inl (zk_ia (Cs.set 0 0)))), (kp, .inl (g.2.2.1, 4, .inr (.inr (.inr (.inr (zk_ra [r0, r1, r2, r3])))))), (r0, .inl (g.1, 4, .inl (zk_ia (K0.set 0 0)))), (r1, .inl (g.1, 4, .inl (zk_ia K1))), (r2, .inl (g.1, 4, .inl (zk_ia K2))), (r3, .inl (g.1, 4, .inl (zk_ia K3)))] := Z
  refine nr_iinc (n := 1) (lv' := [(6, .int (nI (0 + 1))), (5, .int (nI 0)), (4, .ref co), (0, .ref hn), (1, .int (nI x)), (2, .int (nI t)), (3, .int (nI dep))]) hx hb (by decide) dX1_begin_134 hl (k := 0) rfl (by decide) rfl (fun ls hl => ?_)
  refine lv_goto (tgt := 117) hx hb dX1_begin_137 (by decide) ?_
  refine lv_iload hx hb dX1_begin_117 (lv_at hl 0 rfl) ?_
  refine lv_iconst (v := nI 4) hx hb dX1_begin_119 (by decide) ?_
  refine nr_ge (tgt := 140) hx hb (by decide) (by decide) dX1_begin_120 (by decide) (fun c_10 => absurd c_10 (by decide)) (fun c_10 => ?_)
  refine lv_aload_n hx hb dX1_begin_123 rfl (lv_at hl 3 rfl) ?_
  refine zk_get C Z in_X1 0 rfl rfl 7 (by decide) q172 rfl (v := .ref kp) rfl dX1_begin_124 ?_
  refine lv_iload hx hb dX1_begin_127 (lv_at hl 0 rfl) ?_
  refine zk_aald C Z 9 rfl (by decide) (by decide) rfl dX1_begin_129 ?_
  refine lv_iload hx hb dX1_begin_130 (lv_at hl 1 rfl) ?_
  refine lv_iconst (v := nI 0) hx hb dX1_begin_132 (by decide) ?_
  refine zk_iast C Z 11 rfl (by decide) (by decide) hK1 dX1_begin_133 (fun H locs Z => ?_)
  have hlen_11 : (K1.set 0 0).length = 4 := by rw [List.length_set]; exact hK1
  have Z : zk_Z D A s H locs [(hn, .inr (0, [.ref tr, .ref co, .int (nI 1), .int (nI dep), .ref ms, .ref ch, .ref md, .ref kp, .ref wy])), (tr, .inr (1, [.ref th0, .int (nI t), .int (nI (gnr x (zk_nn x) t)), .int (nI (zk_nn x - Nat.log2 (gnr x (zk_nn x) t))), .ref ths, .ref tpl])), (th0, .inr (2, [.int (nI (zk_nn x)), .ref thp, .ref thq])), (thp, .inl (g.1, 62, .inl (zk_ia P1))), (thq, .inl (g.1, 32, .inl (zk_ia L1))), (tpl, .inr (3, [.ref tplc])), (tplc, .inl (g.1, 8, .inl (zk_ia c1))), (ms, .inl (g.1, 4, .inl (zk_ia (Ms.set 0 0)))), (ch, .inl (g.1, 4, .inl (zk_ia (Cs.set 0 0)))), (kp, .inl (g.2.2.1, 4, .inr (.inr (.inr (.inr (zk_ra [r0, r1, r2, r3])))))), (r0, .inl (g.1, 4, .inl (zk_ia (K0.set 0 0)))), (r1, .inl (g.1, 4, .inl (zk_ia (K1.set 0 0)))), (r2, .inl (g.1, 4, .inl (zk_ia K2))), (r3, .inl (g.1, 4, .inl (zk_ia K3)))] := Z
  refine nr_iinc (n := 1) (lv' := [(6, .int (nI (0 + 1 + 1))), (5, .int (nI 0)), (4, .ref co), (0, .ref hn), (1, .int (nI x)), (2, .int (nI t)), (3, .int (nI dep))]) hx hb (by decide) dX1_begin_134 hl (k := 0) rfl (by decide) rfl (fun ls hl => ?_)
  refine lv_goto (tgt := 117) hx hb dX1_begin_137 (by decide) ?_
  refine lv_iload hx hb dX1_begin_117 (lv_at hl 0 rfl) ?_
  refine lv_iconst (v := nI 4) hx hb dX1_begin_119 (by decide) ?_
  refine nr_ge (tgt := 140) hx hb (by decide) (by decide) dX1_begin_120 (by decide) (fun c_12 => absurd c_12 (by decide)) (fun c_12 => ?_)
  refine lv_aload_n hx hb dX1_begin_123 rfl (lv_at hl 3 rfl) ?_
  refine zk_get C Z in_X1 0 rfl rfl 7 (by decide) q172 rfl (v := .ref kp) rfl dX1_begin_124 ?_
  refine lv_iload hx hb dX1_begin_127 (lv_at hl 0 rfl) ?_
  refine zk_aald C Z 9 rfl (by decide) (by decide) rfl dX1_begin_129 ?_
  refine lv_iload hx hb dX1_begin_130 (lv_at hl 1 rfl) ?_
  refine lv_iconst (v := nI 0) hx hb dX1_begin_132 (by decide) ?_
  refine zk_iast C Z 12 rfl (by decide) (by decide) hK2 dX1_begin_133 (fun H locs Z => ?_)
  have hlen_13 : (K2.set 0 0).length = 4 := by rw [List.length_set]; exact hK2
  have Z : zk_Z D A s H locs [(hn, .inr (0, [.ref tr, .ref co, .int (nI 1), .int (nI dep), .ref ms, .ref ch, .ref md, .ref kp, .ref wy])), (tr, .inr (1, [.ref th0, .int (nI t), .int (nI (gnr x (zk_nn x) t)), .int (nI (zk_nn x - Nat.log2 (gnr x (zk_nn x) t))), .ref ths, .ref tpl])), (th0, .inr (2, [.int (nI (zk_nn x)), .ref thp, .ref thq])), (thp, .inl (g.1, 62, .inl (zk_ia P1))), (thq, .inl (g.1, 32, .inl (zk_ia L1))), (tpl, .inr (3, [.ref tplc])), (tplc, .inl (g.1, 8, .inl (zk_ia c1))), (ms, .inl (g.1, 4, .inl (zk_ia (Ms.set 0 0)))), (ch, .inl (g.1, 4, .inl (zk_ia (Cs.set 0 0)))), (kp, .inl (g.2.2.1, 4, .inr (.inr (.inr (.inr (zk_ra [r0, r1, r2, r3])))))), (r0, .inl (g.1, 4, .inl (zk_ia (K0.set 0 0)))), (r1, .inl (g.1, 4, .inl (zk_ia (K1.set 0 0)))), (r2, .inl (g.1, 4, .inl (zk_ia (K2.set 0 0)))), (r3, .inl (g.1, 4, .inl (zk_ia K3)))] := Z
  refine nr_iinc (n := 1) (lv' := [(6, .int (nI (0 + 1 + 1 + 1))), (5, .int (nI 0)), (4, .ref co), (0, .ref hn), (1, .int (nI x)), (2, .int (nI t)), (3, .int (nI dep))]) hx hb (by decide) dX1_begin_134 hl (k := 0) rfl (by decide) rfl (fun ls hl => ?_)
  refine lv_goto (tgt := 117) hx hb dX1_begin_137 (by decide) ?_
  refine lv_iload hx hb dX1_begin_117 (lv_at hl 0 rfl) ?_
  refine lv_iconst (v := nI 4) hx hb dX1_begin_119 (by decide) ?_
  refine nr_ge (tgt := 140) hx hb (by decide) (by decide) dX1_begin_120 (by decide) (fun c_14 => absurd c_14 (by decide)) (fun c_14 => ?_)
  refine lv_aload_n hx hb dX1_begin_123 rfl (lv_at hl 3 rfl) ?_
  refine zk_get C Z in_X1 0 rfl rfl 7 (by decide) q172 rfl (v := .ref kp) rfl dX1_begin_124 ?_
  refine lv_iload hx hb dX1_begin_127 (lv_at hl 0 rfl) ?_
  refine zk_aald C Z 9 rfl (by decide) (by decide) rfl dX1_begin_129 ?_
  refine lv_iload hx hb dX1_begin_130 (lv_at hl 1 rfl) ?_
  refine lv_iconst (v := nI 0) hx hb dX1_begin_132 (by decide) ?_
  refine zk_iast C Z 13 rfl (by decide) (by decide) hK3 dX1_begin_133 (fun H locs Z => ?_)
  have hlen_15 : (K3.set 0 0).length = 4 := by rw [List.length_set]; exact hK3
  have Z : zk_Z D A s H locs [(hn, .inr (0, [.ref tr, .ref co, .int (nI 1), .int (nI dep), .ref ms, .ref ch, .ref md, .ref kp, .ref wy])), (tr, .inr (1, [.ref th0, .int (nI t), .int (nI (gnr x (zk_nn x) t)), .int (nI (zk_nn x - Nat.log2 (gnr x (zk_nn x) t))), .ref ths, .ref tpl])), (th0, .inr (2, [.int (nI (zk_nn x)), .ref thp, .ref thq])), (thp, .inl (g.1, 62, .inl (zk_ia P1))), (thq, .inl (g.1, 32, .inl (zk_ia L1))), (tpl, .inr (3, [.ref tplc])), (tplc, .inl (g.1, 8, .inl (zk_ia c1))), (ms, .inl (g.1, 4, .inl (zk_ia (Ms.set 0 0)))), (ch, .inl (g.1, 4, .inl (zk_ia (Cs.set 0 0)))), (kp, .inl (g.2.2.1, 4, .inr (.inr (.inr (.inr (zk_ra [r0, r1, r2, r3])))))), (r0, .inl (g.1, 4, .inl (zk_ia (K0.set 0 0)))), (r1, .inl (g.1, 4, .inl (zk_ia (K1.set 0 0)))), (r2, .inl (g.1, 4, .inl (zk_ia (K2.set 0 0)))), (r3, .inl (g.1, 4, .inl (zk_ia (K3.set 0 0))))] := Z
  refine nr_iinc (n := 1) (lv' := [(6, .int (nI (0 + 1 + 1 + 1 + 1))), (5, .int (nI 0)), (4, .ref co), (0, .ref hn), (1, .int (nI x)), (2, .int (nI t)), (3, .int (nI dep))]) hx hb (by decide) dX1_begin_134 hl (k := 0) rfl (by decide) rfl (fun ls hl => ?_)
  refine lv_goto (tgt := 117) hx hb dX1_begin_137 (by decide) ?_
  refine lv_iload hx hb dX1_begin_117 (lv_at hl 0 rfl) ?_
  refine lv_iconst (v := nI 4) hx hb dX1_begin_119 (by decide) ?_
  refine nr_ge (tgt := 140) hx hb (by decide) (by decide) dX1_begin_120 (by decide) (fun c_16 => ?_) (fun c_16 => absurd c_16 (by decide))
  refine nr_iinc (n := 1) (lv' := [(5, .int (nI (0 + 1))), (6, .int (nI (0 + 1 + 1 + 1 + 1))), (4, .ref co), (0, .ref hn), (1, .int (nI x)), (2, .int (nI t)), (3, .int (nI dep))]) hx hb (by decide) dX1_begin_140 hl (k := 1) rfl (by decide) rfl (fun ls hl => ?_)
  refine lv_goto (tgt := 92) hx hb dX1_begin_143 (by decide) ?_
  refine lv_iload hx hb dX1_begin_92 (lv_at hl 0 rfl) ?_
  refine lv_iconst (v := nI 4) hx hb dX1_begin_94 (by decide) ?_
  refine nr_ge (tgt := 146) hx hb (by decide) (by decide) dX1_begin_95 (by decide) (fun c_17 => absurd c_17 (by decide)) (fun c_17 => ?_)
  refine lv_aload_n hx hb dX1_begin_98 rfl (lv_at hl 3 rfl) ?_
  refine zk_get C Z in_X1 0 rfl rfl 4 (by decide) q169 rfl (v := .ref ms) rfl dX1_begin_99 ?_
  refine lv_iload hx hb dX1_begin_102 (lv_at hl 0 rfl) ?_
  refine lv_iconst (v := nI 0) hx hb dX1_begin_104 (by decide) ?_
  refine zk_iast C Z 7 rfl (by decide) (by decide) hlen_6 dX1_begin_105 (fun H locs Z => ?_)
  have hlen_18 : ((Ms.set 0 0).set (0 + 1) 0).length = 4 := by rw [List.length_set]; exact hlen_6
  have Z : zk_Z D A s H locs [(hn, .inr (0, [.ref tr, .ref co, .int (nI 1), .int (nI dep), .ref ms, .ref ch, .ref md, .ref kp, .ref wy])), (tr, .inr (1, [.ref th0, .int (nI t), .int (nI (gnr x (zk_nn x) t)), .int (nI (zk_nn x - Nat.log2 (gnr x (zk_nn x) t))), .ref ths, .ref tpl])), (th0, .inr (2, [.int (nI (zk_nn x)), .ref thp, .ref thq])), (thp, .inl (g.1, 62, .inl (zk_ia P1))), (thq, .inl (g.1, 32, .inl (zk_ia L1))), (tpl, .inr (3, [.ref tplc])), (tplc, .inl (g.1, 8, .inl (zk_ia c1))), (ms, .inl (g.1, 4, .inl (zk_ia ((Ms.set 0 0).set (0 + 1) 0)))), (ch, .inl (g.1, 4, .inl (zk_ia (Cs.set 0 0)))), (kp, .inl (g.2.2.1, 4, .inr (.inr (.inr (.inr (zk_ra [r0, r1, r2, r3])))))), (r0, .inl (g.1, 4, .inl (zk_ia (K0.set 0 0)))), (r1, .inl (g.1, 4, .inl (zk_ia (K1.set 0 0)))), (r2, .inl (g.1, 4, .inl (zk_ia (K2.set 0 0)))), (r3, .inl (g.1, 4, .inl (zk_ia (K3.set 0 0))))] := Z
  refine lv_aload_n hx hb dX1_begin_106 rfl (lv_at hl 3 rfl) ?_
  refine zk_get C Z in_X1 0 rfl rfl 5 (by decide) q170 rfl (v := .ref ch) rfl dX1_begin_107 ?_
  refine lv_iload hx hb dX1_begin_110 (lv_at hl 0 rfl) ?_
  refine lv_iconst (v := nI 0) hx hb dX1_begin_112 (by decide) ?_
  refine zk_iast C Z 8 rfl (by decide) (by decide) hlen_7 dX1_begin_113 (fun H locs Z => ?_)
  have hlen_19 : ((Cs.set 0 0).set (0 + 1) 0).length = 4 := by rw [List.length_set]; exact hlen_7
  have Z : zk_Z D A s H locs [(hn, .inr (0, [.ref tr, .ref co, .int (nI 1), .int (nI dep), .ref ms, .ref ch, .ref md, .ref kp, .ref wy])), (tr, .inr (1, [.ref th0, .int (nI t), .int (nI (gnr x (zk_nn x) t)), .int (nI (zk_nn x - Nat.log2 (gnr x (zk_nn x) t))), .ref ths, .ref tpl])), (th0, .inr (2, [.int (nI (zk_nn x)), .ref thp, .ref thq])), (thp, .inl (g.1, 62, .inl (zk_ia P1))), (thq, .inl (g.1, 32, .inl (zk_ia L1))), (tpl, .inr (3, [.ref tplc])), (tplc, .inl (g.1, 8, .inl (zk_ia c1))), (ms, .inl (g.1, 4, .inl (zk_ia ((Ms.set 0 0).set (0 + 1) 0)))), (ch, .inl (g.1, 4, .inl (zk_ia ((Cs.set 0 0).set (0 + 1) 0)))), (kp, .inl (g.2.2.1, 4, .inr (.inr (.inr (.inr (zk_ra [r0, r1, r2, r3])))))), (r0, .inl (g.1, 4, .inl (zk_ia (K0.set 0 0)))), (r1, .inl (g.1, 4, .inl (zk_ia (K1.set 0 0)))), (r2, .inl (g.1, 4, .inl (zk_ia (K2.set 0 0)))), (r3, .inl (g.1, 4, .inl (zk_ia (K3.set 0 0))))] := Z
  refine lv_iconst (v := nI 0) hx hb dX1_begin_114 (by decide) ?_
  refine lv_istore (lv' := [(6, .int (nI 0)), (5, .int (nI (0 + 1))), (4, .ref co), (0, .ref hn), (1, .int (nI x)), (2, .int (nI t)), (3, .int (nI dep))]) hx hb dX1_begin_115 hl (by decide) rfl (fun ls hl => ?_)
  refine lv_iload hx hb dX1_begin_117 (lv_at hl 0 rfl) ?_
  refine lv_iconst (v := nI 4) hx hb dX1_begin_119 (by decide) ?_
  refine nr_ge (tgt := 140) hx hb (by decide) (by decide) dX1_begin_120 (by decide) (fun c_20 => absurd c_20 (by decide)) (fun c_20 => ?_)
  refine lv_aload_n hx hb dX1_begin_123 rfl (lv_at hl 3 rfl) ?_
  refine zk_get C Z in_X1 0 rfl rfl 7 (by decide) q172 rfl (v := .ref kp) rfl dX1_begin_124 ?_
  refine lv_iload hx hb dX1_begin_127 (lv_at hl 0 rfl) ?_
  refine zk_aald C Z 9 rfl (by decide) (by decide) rfl dX1_begin_129 ?_
  refine lv_iload hx hb dX1_begin_130 (lv_at hl 1 rfl) ?_
  refine lv_iconst (v := nI 0) hx hb dX1_begin_132 (by decide) ?_
  refine zk_iast C Z 10 rfl (by decide) (by decide) hlen_9 dX1_begin_133 (fun H locs Z => ?_)
  have hlen_21 : ((K0.set 0 0).set (0 + 1) 0).length = 4 := by rw [List.length_set]; exact hlen_9
  have Z : zk_Z D A s H locs [(hn, .inr (0, [.ref tr, .ref co, .int (nI 1), .int (nI dep), .ref ms, .ref ch, .ref md, .ref kp, .ref wy])), (tr, .inr (1, [.ref th0, .int (nI t), .int (nI (gnr x (zk_nn x) t)), .int (nI (zk_nn x - Nat.log2 (gnr x (zk_nn x) t))), .ref ths, .ref tpl])), (th0, .inr (2, [.int (nI (zk_nn x)), .ref thp, .ref thq])), (thp, .inl (g.1, 62, .inl (zk_ia P1))), (thq, .inl (g.1, 32, .inl (zk_ia L1))), (tpl, .inr (3, [.ref tplc])), (tplc, .inl (g.1, 8, .inl (zk_ia c1))), (ms, .inl (g.1, 4, .inl (zk_ia ((Ms.set 0 0).set (0 + 1) 0)))), (ch, .inl (g.1, 4, .inl (zk_ia ((Cs.set 0 0).set (0 + 1) 0)))), (kp, .inl (g.2.2.1, 4, .inr (.inr (.inr (.inr (zk_ra [r0, r1, r2, r3])))))), (r0, .inl (g.1, 4, .inl (zk_ia ((K0.set 0 0).set (0 + 1) 0)))), (r1, .inl (g.1, 4, .inl (zk_ia (K1.set 0 0)))), (r2, .inl (g.1, 4, .inl (zk_ia (K2.set 0 0)))), (r3, .inl (g.1, 4, .inl (zk_ia (K3.set 0 0))))] := Z
  refine nr_iinc (n := 1) (lv' := [(6, .int (nI (0 + 1))), (5, .int (nI (0 + 1))), (4, .ref co), (0, .ref hn), (1, .int (nI x)), (2, .int (nI t)), (3, .int (nI dep))]) hx hb (by decide) dX1_begin_134 hl (k := 0) rfl (by decide) rfl (fun ls hl => ?_)
  refine lv_goto (tgt := 117) hx hb dX1_begin_137 (by decide) ?_
  refine lv_iload hx hb dX1_begin_117 (lv_at hl 0 rfl) ?_
  refine lv_iconst (v := nI 4) hx hb dX1_begin_119 (by decide) ?_
  refine nr_ge (tgt := 140) hx hb (by decide) (by decide) dX1_begin_120 (by decide) (fun c_22 => absurd c_22 (by decide)) (fun c_22 => ?_)
  refine lv_aload_n hx hb dX1_begin_123 rfl (lv_at hl 3 rfl) ?_
  refine zk_get C Z in_X1 0 rfl rfl 7 (by decide) q172 rfl (v := .ref kp) rfl dX1_begin_124 ?_
  refine lv_iload hx hb dX1_begin_127 (lv_at hl 0 rfl) ?_
  refine zk_aald C Z 9 rfl (by decide) (by decide) rfl dX1_begin_129 ?_
  refine lv_iload hx hb dX1_begin_130 (lv_at hl 1 rfl) ?_
  refine lv_iconst (v := nI 0) hx hb dX1_begin_132 (by decide) ?_
  refine zk_iast C Z 11 rfl (by decide) (by decide) hlen_11 dX1_begin_133 (fun H locs Z => ?_)
  have hlen_23 : ((K1.set 0 0).set (0 + 1) 0).length = 4 := by rw [List.length_set]; exact hlen_11
  have Z : zk_Z D A s H locs [(hn, .inr (0, [.ref tr, .ref co, .int (nI 1), .int (nI dep), .ref ms, .ref ch, .ref md, .ref kp, .ref wy])), (tr, .inr (1, [.ref th0, .int (nI t), .int (nI (gnr x (zk_nn x) t)), .int (nI (zk_nn x - Nat.log2 (gnr x (zk_nn x) t))), .ref ths, .ref tpl])), (th0, .inr (2, [.int (nI (zk_nn x)), .ref thp, .ref thq])), (thp, .inl (g.1, 62, .inl (zk_ia P1))), (thq, .inl (g.1, 32, .inl (zk_ia L1))), (tpl, .inr (3, [.ref tplc])), (tplc, .inl (g.1, 8, .inl (zk_ia c1))), (ms, .inl (g.1, 4, .inl (zk_ia ((Ms.set 0 0).set (0 + 1) 0)))), (ch, .inl (g.1, 4, .inl (zk_ia ((Cs.set 0 0).set (0 + 1) 0)))), (kp, .inl (g.2.2.1, 4, .inr (.inr (.inr (.inr (zk_ra [r0, r1, r2, r3])))))), (r0, .inl (g.1, 4, .inl (zk_ia ((K0.set 0 0).set (0 + 1) 0)))), (r1, .inl (g.1, 4, .inl (zk_ia ((K1.set 0 0).set (0 + 1) 0)))), (r2, .inl (g.1, 4, .inl (zk_ia (K2.set 0 0)))), (r3, .inl (g.1, 4, .inl (zk_ia (K3.set 0 0))))] := Z
  refine nr_iinc (n := 1) (lv' := [(6, .int (nI (0 + 1 + 1))), (5, .int (nI (0 + 1))), (4, .ref co), (0, .ref hn), (1, .int (nI x)), (2, .int (nI t)), (3, .int (nI dep))]) hx hb (by decide) dX1_begin_134 hl (k := 0) rfl (by decide) rfl (fun ls hl => ?_)
  refine lv_goto (tgt := 117) hx hb dX1_begin_137 (by decide) ?_
  refine lv_iload hx hb dX1_begin_117 (lv_at hl 0 rfl) ?_
  refine lv_iconst (v := nI 4) hx hb dX1_begin_119 (by decide) ?_
  refine nr_ge (tgt := 140) hx hb (by decide) (by decide) dX1_begin_120 (by decide) (fun c_24 => absurd c_24 (by decide)) (fun c_24 => ?_)
  refine lv_aload_n hx hb dX1_begin_123 rfl (lv_at hl 3 rfl) ?_
  refine zk_get C Z in_X1 0 rfl rfl 7 (by decide) q172 rfl (v := .ref kp) rfl dX1_begin_124 ?_
  refine lv_iload hx hb dX1_begin_127 (lv_at hl 0 rfl) ?_
  refine zk_aald C Z 9 rfl (by decide) (by decide) rfl dX1_begin_129 ?_
  refine lv_iload hx hb dX1_begin_130 (lv_at hl 1 rfl) ?_
  refine lv_iconst (v := nI 0) hx hb dX1_begin_132 (by decide) ?_
  refine zk_iast C Z 12 rfl (by decide) (by decide) hlen_13 dX1_begin_133 (fun H locs Z => ?_)
  have hlen_25 : ((K2.set 0 0).set (0 + 1) 0).length = 4 := by rw [List.length_set]; exact hlen_13
  have Z : zk_Z D A s H locs [(hn, .inr (0, [.ref tr, .ref co, .int (nI 1), .int (nI dep), .ref ms, .ref ch, .ref md, .ref kp, .ref wy])), (tr, .inr (1, [.ref th0, .int (nI t), .int (nI (gnr x (zk_nn x) t)), .int (nI (zk_nn x - Nat.log2 (gnr x (zk_nn x) t))), .ref ths, .ref tpl])), (th0, .inr (2, [.int (nI (zk_nn x)), .ref thp, .ref thq])), (thp, .inl (g.1, 62, .inl (zk_ia P1))), (thq, .inl (g.1, 32, .inl (zk_ia L1))), (tpl, .inr (3, [.ref tplc])), (tplc, .inl (g.1, 8, .inl (zk_ia c1))), (ms, .inl (g.1, 4, .inl (zk_ia ((Ms.set 0 0).set (0 + 1) 0)))), (ch, .inl (g.1, 4, .inl (zk_ia ((Cs.set 0 0).set (0 + 1) 0)))), (kp, .inl (g.2.2.1, 4, .inr (.inr (.inr (.inr (zk_ra [r0, r1, r2, r3])))))), (r0, .inl (g.1, 4, .inl (zk_ia ((K0.set 0 0).set (0 + 1) 0)))), (r1, .inl (g.1, 4, .inl (zk_ia ((K1.set 0 0).set (0 + 1) 0)))), (r2, .inl (g.1, 4, .inl (zk_ia ((K2.set 0 0).set (0 + 1) 0)))), (r3, .inl (g.1, 4, .inl (zk_ia (K3.set 0 0))))] := Z
  refine nr_iinc (n := 1) (lv' := [(6, .int (nI (0 + 1 + 1 + 1))), (5, .int (nI (0 + 1))), (4, .ref co), (0, .ref hn), (1, .int (nI x)), (2, .int (nI t)), (3, .int (nI dep))]) hx hb (by decide) dX1_begin_134 hl (k := 0) rfl (by decide) rfl (fun ls hl => ?_)
  refine lv_goto (tgt := 117) hx hb dX1_begin_137 (by decide) ?_
  refine lv_iload hx hb dX1_begin_117 (lv_at hl 0 rfl) ?_
  refine lv_iconst (v := nI 4) hx hb dX1_begin_119 (by decide) ?_
  refine nr_ge (tgt := 140) hx hb (by decide) (by decide) dX1_begin_120 (by decide) (fun c_26 => absurd c_26 (by decide)) (fun c_26 => ?_)
  refine lv_aload_n hx hb dX1_begin_123 rfl (lv_at hl 3 rfl) ?_
  refine zk_get C Z in_X1 0 rfl rfl 7 (by decide) q172 rfl (v := .ref kp) rfl dX1_begin_124 ?_
  refine lv_iload hx hb dX1_begin_127 (lv_at hl 0 rfl) ?_
  refine zk_aald C Z 9 rfl (by decide) (by decide) rfl dX1_begin_129 ?_
  refine lv_iload hx hb dX1_begin_130 (lv_at hl 1 rfl) ?_
  refine lv_iconst (v := nI 0) hx hb dX1_begin_132 (by decide) ?_
  refine zk_iast C Z 13 rfl (by decide) (by decide) hlen_15 dX1_begin_133 (fun H locs Z => ?_)
  have hlen_27 : ((K3.set 0 0).set (0 + 1) 0).length = 4 := by rw [List.length_set]; exact hlen_15
  have Z : zk_Z D A s H locs [(hn, .inr (0, [.ref tr, .ref co, .int (nI 1), .int (nI dep), .ref ms, .ref ch, .ref md, .ref kp, .ref wy])), (tr, .inr (1, [.ref th0, .int (nI t), .int (nI (gnr x (zk_nn x) t)), .int (nI (zk_nn x - Nat.log2 (gnr x (zk_nn x) t))), .ref ths, .ref tpl])), (th0, .inr (2, [.int (nI (zk_nn x)), .ref thp, .ref thq])), (thp, .inl (g.1, 62, .inl (zk_ia P1))), (thq, .inl (g.1, 32, .inl (zk_ia L1))), (tpl, .inr (3, [.ref tplc])), (tplc, .inl (g.1, 8, .inl (zk_ia c1))), (ms, .inl (g.1, 4, .inl (zk_ia ((Ms.set 0 0).set (0 + 1) 0)))), (ch, .inl (g.1, 4, .inl (zk_ia ((Cs.set 0 0).set (0 + 1) 0)))), (kp, .inl (g.2.2.1, 4, .inr (.inr (.inr (.inr (zk_ra [r0, r1, r2, r3])))))), (r0, .inl (g.1, 4, .inl (zk_ia ((K0.set 0 0).set (0 + 1) 0)))), (r1, .inl (g.1, 4, .inl (zk_ia ((K1.set 0 0).set (0 + 1) 0)))), (r2, .inl (g.1, 4, .inl (zk_ia ((K2.set 0 0).set (0 + 1) 0)))), (r3, .inl (g.1, 4, .inl (zk_ia ((K3.set 0 0).set (0 + 1) 0))))] := Z
  refine nr_iinc (n := 1) (lv' := [(6, .int (nI (0 + 1 + 1 + 1 + 1))), (5, .int (nI (0 + 1))), (4, .ref co), (0, .ref hn), (1, .int (nI x)), (2, .int (nI t)), (3, .int (nI dep))]) hx hb (by decide) dX1_begin_134 hl (k := 0) rfl (by decide) rfl (fun ls hl => ?_)
  refine lv_goto (tgt := 117) hx hb dX1_begin_137 (by decide) ?_
  refine lv_iload hx hb dX1_begin_117 (lv_at hl 0 rfl) ?_
  refine lv_iconst (v := nI 4) hx hb dX1_begin_119 (by decide) ?_
  refine nr_ge (tgt := 140) hx hb (by decide) (by decide) dX1_begin_120 (by decide) (fun c_28 => ?_) (fun c_28 => absurd c_28 (by decide))
  refine nr_iinc (n := 1) (lv' := [(5, .int (nI (0 + 1 + 1))), (6, .int (nI (0 + 1 + 1 + 1 + 1))), (4, .ref co), (0, .ref hn), (1, .int (nI x)), (2, .int (nI t)), (3, .int (nI dep))]) hx hb (by decide) dX1_begin_140 hl (k := 1) rfl (by decide) rfl (fun ls hl => ?_)
  refine lv_goto (tgt := 92) hx hb dX1_begin_143 (by decide) ?_
  refine lv_iload hx hb dX1_begin_92 (lv_at hl 0 rfl) ?_
  refine lv_iconst (v := nI 4) hx hb dX1_begin_94 (by decide) ?_
  refine nr_ge (tgt := 146) hx hb (by decide) (by decide) dX1_begin_95 (by decide) (fun c_29 => absurd c_29 (by decide)) (fun c_29 => ?_)
  refine lv_aload_n hx hb dX1_begin_98 rfl (lv_at hl 3 rfl) ?_
  refine zk_get C Z in_X1 0 rfl rfl 4 (by decide) q169 rfl (v := .ref ms) rfl dX1_begin_99 ?_
  refine lv_iload hx hb dX1_begin_102 (lv_at hl 0 rfl) ?_
  refine lv_iconst (v := nI 0) hx hb dX1_begin_104 (by decide) ?_
  refine zk_iast C Z 7 rfl (by decide) (by decide) hlen_18 dX1_begin_105 (fun H locs Z => ?_)
  have hlen_30 : (((Ms.set 0 0).set (0 + 1) 0).set (0 + 1 + 1) 0).length = 4 := by rw [List.length_set]; exact hlen_18
  have Z : zk_Z D A s H locs [(hn, .inr (0, [.ref tr, .ref co, .int (nI 1), .int (nI dep), .ref ms, .ref ch, .ref md, .ref kp, .ref wy])), (tr, .inr (1, [.ref th0, .int (nI t), .int (nI (gnr x (zk_nn x) t)), .int (nI (zk_nn x - Nat.log2 (gnr x (zk_nn x) t))), .ref ths, .ref tpl])), (th0, .inr (2, [.int (nI (zk_nn x)), .ref thp, .ref thq])), (thp, .inl (g.1, 62, .inl (zk_ia P1))), (thq, .inl (g.1, 32, .inl (zk_ia L1))), (tpl, .inr (3, [.ref tplc])), (tplc, .inl (g.1, 8, .inl (zk_ia c1))), (ms, .inl (g.1, 4, .inl (zk_ia (((Ms.set 0 0).set (0 + 1) 0).set (0 + 1 + 1) 0)))), (ch, .inl (g.1, 4, .inl (zk_ia ((Cs.set 0 0).set (0 + 1) 0)))), (kp, .inl (g.2.2.1, 4, .inr (.inr (.inr (.inr (zk_ra [r0, r1, r2, r3])))))), (r0, .inl (g.1, 4, .inl (zk_ia ((K0.set 0 0).set (0 + 1) 0)))), (r1, .inl (g.1, 4, .inl (zk_ia ((K1.set 0 0).set (0 + 1) 0)))), (r2, .inl (g.1, 4, .inl (zk_ia ((K2.set 0 0).set (0 + 1) 0)))), (r3, .inl (g.1, 4, .inl (zk_ia ((K3.set 0 0).set (0 + 1) 0))))] := Z
  refine lv_aload_n hx hb dX1_begin_106 rfl (lv_at hl 3 rfl) ?_
  refine zk_get C Z in_X1 0 rfl rfl 5 (by decide) q170 rfl (v := .ref ch) rfl dX1_begin_107 ?_
  refine lv_iload hx hb dX1_begin_110 (lv_at hl 0 rfl) ?_
  refine lv_iconst (v := nI 0) hx hb dX1_begin_112 (by decide) ?_
  refine zk_iast C Z 8 rfl (by decide) (by decide) hlen_19 dX1_begin_113 (fun H locs Z => ?_)
  have hlen_31 : (((Cs.set 0 0).set (0 + 1) 0).set (0 + 1 + 1) 0).length = 4 := by rw [List.length_set]; exact hlen_19
  have Z : zk_Z D A s H locs [(hn, .inr (0, [.ref tr, .ref co, .int (nI 1), .int (nI dep), .ref ms, .ref ch, .ref md, .ref kp, .ref wy])), (tr, .inr (1, [.ref th0, .int (nI t), .int (nI (gnr x (zk_nn x) t)), .int (nI (zk_nn x - Nat.log2 (gnr x (zk_nn x) t))), .ref ths, .ref tpl])), (th0, .inr (2, [.int (nI (zk_nn x)), .ref thp, .ref thq])), (thp, .inl (g.1, 62, .inl (zk_ia P1))), (thq, .inl (g.1, 32, .inl (zk_ia L1))), (tpl, .inr (3, [.ref tplc])), (tplc, .inl (g.1, 8, .inl (zk_ia c1))), (ms, .inl (g.1, 4, .inl (zk_ia (((Ms.set 0 0).set (0 + 1) 0).set (0 + 1 + 1) 0)))), (ch, .inl (g.1, 4, .inl (zk_ia (((Cs.set 0 0).set (0 + 1) 0).set (0 + 1 + 1) 0)))), (kp, .inl (g.2.2.1, 4, .inr (.inr (.inr (.inr (zk_ra [r0, r1, r2, r3])))))), (r0, .inl (g.1, 4, .inl (zk_ia ((K0.set 0 0).set (0 + 1) 0)))), (r1, .inl (g.1, 4, .inl (zk_ia ((K1.set 0 0).set (0 + 1) 0)))), (r2, .inl (g.1, 4, .inl (zk_ia ((K2.set 0 0).set (0 + 1) 0)))), (r3, .inl (g.1, 4, .inl (zk_ia ((K3.set 0 0).set (0 + 1) 0))))] := Z
  refine lv_iconst (v := nI 0) hx hb dX1_begin_114 (by decide) ?_
  refine lv_istore (lv' := [(6, .int (nI 0)), (5, .int (nI (0 + 1 + 1))), (4, .ref co), (0, .ref hn), (1, .int (nI x)), (2, .int (nI t)), (3, .int (nI dep))]) hx hb dX1_begin_115 hl (by decide) rfl (fun ls hl => ?_)
  refine lv_iload hx hb dX1_begin_117 (lv_at hl 0 rfl) ?_
  refine lv_iconst (v := nI 4) hx hb dX1_begin_119 (by decide) ?_
  refine nr_ge (tgt := 140) hx hb (by decide) (by decide) dX1_begin_120 (by decide) (fun c_32 => absurd c_32 (by decide)) (fun c_32 => ?_)
  refine lv_aload_n hx hb dX1_begin_123 rfl (lv_at hl 3 rfl) ?_
  refine zk_get C Z in_X1 0 rfl rfl 7 (by decide) q172 rfl (v := .ref kp) rfl dX1_begin_124 ?_
  refine lv_iload hx hb dX1_begin_127 (lv_at hl 0 rfl) ?_
  refine zk_aald C Z 9 rfl (by decide) (by decide) rfl dX1_begin_129 ?_
  refine lv_iload hx hb dX1_begin_130 (lv_at hl 1 rfl) ?_
  refine lv_iconst (v := nI 0) hx hb dX1_begin_132 (by decide) ?_
  refine zk_iast C Z 10 rfl (by decide) (by decide) hlen_21 dX1_begin_133 (fun H locs Z => ?_)
  have hlen_33 : (((K0.set 0 0).set (0 + 1) 0).set (0 + 1 + 1) 0).length = 4 := by rw [List.length_set]; exact hlen_21
  have Z : zk_Z D A s H locs [(hn, .inr (0, [.ref tr, .ref co, .int (nI 1), .int (nI dep), .ref ms, .ref ch, .ref md, .ref kp, .ref wy])), (tr, .inr (1, [.ref th0, .int (nI t), .int (nI (gnr x (zk_nn x) t)), .int (nI (zk_nn x - Nat.log2 (gnr x (zk_nn x) t))), .ref ths, .ref tpl])), (th0, .inr (2, [.int (nI (zk_nn x)), .ref thp, .ref thq])), (thp, .inl (g.1, 62, .inl (zk_ia P1))), (thq, .inl (g.1, 32, .inl (zk_ia L1))), (tpl, .inr (3, [.ref tplc])), (tplc, .inl (g.1, 8, .inl (zk_ia c1))), (ms, .inl (g.1, 4, .inl (zk_ia (((Ms.set 0 0).set (0 + 1) 0).set (0 + 1 + 1) 0)))), (ch, .inl (g.1, 4, .inl (zk_ia (((Cs.set 0 0).set (0 + 1) 0).set (0 + 1 + 1) 0)))), (kp, .inl (g.2.2.1, 4, .inr (.inr (.inr (.inr (zk_ra [r0, r1, r2, r3])))))), (r0, .inl (g.1, 4, .inl (zk_ia (((K0.set 0 0).set (0 + 1) 0).set (0 + 1 + 1) 0)))), (r1, .inl (g.1, 4, .inl (zk_ia ((K1.set 0 0).set (0 + 1) 0)))), (r2, .inl (g.1, 4, .inl (zk_ia ((K2.set 0 0).set (0 + 1) 0)))), (r3, .inl (g.1, 4, .inl (zk_ia ((K3.set 0 0).set (0 + 1) 0))))] := Z
  refine nr_iinc (n := 1) (lv' := [(6, .int (nI (0 + 1))), (5, .int (nI (0 + 1 + 1))), (4, .ref co), (0, .ref hn), (1, .int (nI x)), (2, .int (nI t)), (3, .int (nI dep))]) hx hb (by decide) dX1_begin_134 hl (k := 0) rfl (by decide) rfl (fun ls hl => ?_)
  refine lv_goto (tgt := 117) hx hb dX1_begin_137 (by decide) ?_
  refine lv_iload hx hb dX1_begin_117 (lv_at hl 0 rfl) ?_
  refine lv_iconst (v := nI 4) hx hb dX1_begin_119 (by decide) ?_
  refine nr_ge (tgt := 140) hx hb (by decide) (by decide) dX1_begin_120 (by decide) (fun c_34 => absurd c_34 (by decide)) (fun c_34 => ?_)
  refine lv_aload_n hx hb dX1_begin_123 rfl (lv_at hl 3 rfl) ?_
  refine zk_get C Z in_X1 0 rfl rfl 7 (by decide) q172 rfl (v := .ref kp) rfl dX1_begin_124 ?_
  refine lv_iload hx hb dX1_begin_127 (lv_at hl 0 rfl) ?_
  refine zk_aald C Z 9 rfl (by decide) (by decide) rfl dX1_begin_129 ?_
  refine lv_iload hx hb dX1_begin_130 (lv_at hl 1 rfl) ?_
  refine lv_iconst (v := nI 0) hx hb dX1_begin_132 (by decide) ?_
  refine zk_iast C Z 11 rfl (by decide) (by decide) hlen_23 dX1_begin_133 (fun H locs Z => ?_)
  have hlen_35 : (((K1.set 0 0).set (0 + 1) 0).set (0 + 1 + 1) 0).length = 4 := by rw [List.length_set]; exact hlen_23
  have Z : zk_Z D A s H locs [(hn, .inr (0, [.ref tr, .ref co, .int (nI 1), .int (nI dep), .ref ms, .ref ch, .ref md, .ref kp, .ref wy])), (tr, .inr (1, [.ref th0, .int (nI t), .int (nI (gnr x (zk_nn x) t)), .int (nI (zk_nn x - Nat.log2 (gnr x (zk_nn x) t))), .ref ths, .ref tpl])), (th0, .inr (2, [.int (nI (zk_nn x)), .ref thp, .ref thq])), (thp, .inl (g.1, 62, .inl (zk_ia P1))), (thq, .inl (g.1, 32, .inl (zk_ia L1))), (tpl, .inr (3, [.ref tplc])), (tplc, .inl (g.1, 8, .inl (zk_ia c1))), (ms, .inl (g.1, 4, .inl (zk_ia (((Ms.set 0 0).set (0 + 1) 0).set (0 + 1 + 1) 0)))), (ch, .inl (g.1, 4, .inl (zk_ia (((Cs.set 0 0).set (0 + 1) 0).set (0 + 1 + 1) 0)))), (kp, .inl (g.2.2.1, 4, .inr (.inr (.inr (.inr (zk_ra [r0, r1, r2, r3])))))), (r0, .inl (g.1, 4, .inl (zk_ia (((K0.set 0 0).set (0 + 1) 0).set (0 + 1 + 1) 0)))), (r1, .inl (g.1, 4, .inl (zk_ia (((K1.set 0 0).set (0 + 1) 0).set (0 + 1 + 1) 0)))), (r2, .inl (g.1, 4, .inl (zk_ia ((K2.set 0 0).set (0 + 1) 0)))), (r3, .inl (g.1, 4, .inl (zk_ia ((K3.set 0 0).set (0 + 1) 0))))] := Z
  refine nr_iinc (n := 1) (lv' := [(6, .int (nI (0 + 1 + 1))), (5, .int (nI (0 + 1 + 1))), (4, .ref co), (0, .ref hn), (1, .int (nI x)), (2, .int (nI t)), (3, .int (nI dep))]) hx hb (by decide) dX1_begin_134 hl (k := 0) rfl (by decide) rfl (fun ls hl => ?_)
  refine lv_goto (tgt := 117) hx hb dX1_begin_137 (by decide) ?_
  refine lv_iload hx hb dX1_begin_117 (lv_at hl 0 rfl) ?_
  refine lv_iconst (v := nI 4) hx hb dX1_begin_119 (by decide) ?_
  refine nr_ge (tgt := 140) hx hb (by decide) (by decide) dX1_begin_120 (by decide) (fun c_36 => absurd c_36 (by decide)) (fun c_36 => ?_)
  refine lv_aload_n hx hb dX1_begin_123 rfl (lv_at hl 3 rfl) ?_
  refine zk_get C Z in_X1 0 rfl rfl 7 (by decide) q172 rfl (v := .ref kp) rfl dX1_begin_124 ?_
  refine lv_iload hx hb dX1_begin_127 (lv_at hl 0 rfl) ?_
  refine zk_aald C Z 9 rfl (by decide) (by decide) rfl dX1_begin_129 ?_
  refine lv_iload hx hb dX1_begin_130 (lv_at hl 1 rfl) ?_
  refine lv_iconst (v := nI 0) hx hb dX1_begin_132 (by decide) ?_
  refine zk_iast C Z 12 rfl (by decide) (by decide) hlen_25 dX1_begin_133 (fun H locs Z => ?_)
  have hlen_37 : (((K2.set 0 0).set (0 + 1) 0).set (0 + 1 + 1) 0).length = 4 := by rw [List.length_set]; exact hlen_25
  have Z : zk_Z D A s H locs [(hn, .inr (0, [.ref tr, .ref co, .int (nI 1), .int (nI dep), .ref ms, .ref ch, .ref md, .ref kp, .ref wy])), (tr, .inr (1, [.ref th0, .int (nI t), .int (nI (gnr x (zk_nn x) t)), .int (nI (zk_nn x - Nat.log2 (gnr x (zk_nn x) t))), .ref ths, .ref tpl])), (th0, .inr (2, [.int (nI (zk_nn x)), .ref thp, .ref thq])), (thp, .inl (g.1, 62, .inl (zk_ia P1))), (thq, .inl (g.1, 32, .inl (zk_ia L1))), (tpl, .inr (3, [.ref tplc])), (tplc, .inl (g.1, 8, .inl (zk_ia c1))), (ms, .inl (g.1, 4, .inl (zk_ia (((Ms.set 0 0).set (0 + 1) 0).set (0 + 1 + 1) 0)))), (ch, .inl (g.1, 4, .inl (zk_ia (((Cs.set 0 0).set (0 + 1) 0).set (0 + 1 + 1) 0)))), (kp, .inl (g.2.2.1, 4, .inr (.inr (.inr (.inr (zk_ra [r0, r1, r2, r3])))))), (r0, .inl (g.1, 4, .inl (zk_ia (((K0.set 0 0).set (0 + 1) 0).set (0 + 1 + 1) 0)))), (r1, .inl (g.1, 4, .inl (zk_ia (((K1.set 0 0).set (0 + 1) 0).set (0 + 1 + 1) 0)))), (r2, .inl (g.1, 4, .inl (zk_ia (((K2.set 0 0).set (0 + 1) 0).set (0 + 1 + 1) 0)))), (r3, .inl (g.1, 4, .inl (zk_ia ((K3.set 0 0).set (0 + 1) 0))))] := Z
  refine nr_iinc (n := 1) (lv' := [(6, .int (nI (0 + 1 + 1 + 1))), (5, .int (nI (0 + 1 + 1))), (4, .ref co), (0, .ref hn), (1, .int (nI x)), (2, .int (nI t)), (3, .int (nI dep))]) hx hb (by decide) dX1_begin_134 hl (k := 0) rfl (by decide) rfl (fun ls hl => ?_)
  refine lv_goto (tgt := 117) hx hb dX1_begin_137 (by decide) ?_
  refine lv_iload hx hb dX1_begin_117 (lv_at hl 0 rfl) ?_
  refine lv_iconst (v := nI 4) hx hb dX1_begin_119 (by decide) ?_
  refine nr_ge (tgt := 140) hx hb (by decide) (by decide) dX1_begin_120 (by decide) (fun c_38 => absurd c_38 (by decide)) (fun c_38 => ?_)
  refine lv_aload_n hx hb dX1_begin_123 rfl (lv_at hl 3 rfl) ?_
  refine zk_get C Z in_X1 0 rfl rfl 7 (by decide) q172 rfl (v := .ref kp) rfl dX1_begin_124 ?_
  refine lv_iload hx hb dX1_begin_127 (lv_at hl 0 rfl) ?_
  refine zk_aald C Z 9 rfl (by decide) (by decide) rfl dX1_begin_129 ?_
  refine lv_iload hx hb dX1_begin_130 (lv_at hl 1 rfl) ?_
  refine lv_iconst (v := nI 0) hx hb dX1_begin_132 (by decide) ?_
  refine zk_iast C Z 13 rfl (by decide) (by decide) hlen_27 dX1_begin_133 (fun H locs Z => ?_)
  have hlen_39 : (((K3.set 0 0).set (0 + 1) 0).set (0 + 1 + 1) 0).length = 4 := by rw [List.length_set]; exact hlen_27
  have Z : zk_Z D A s H locs [(hn, .inr (0, [.ref tr, .ref co, .int (nI 1), .int (nI dep), .ref ms, .ref ch, .ref md, .ref kp, .ref wy])), (tr, .inr (1, [.ref th0, .int (nI t), .int (nI (gnr x (zk_nn x) t)), .int (nI (zk_nn x - Nat.log2 (gnr x (zk_nn x) t))), .ref ths, .ref tpl])), (th0, .inr (2, [.int (nI (zk_nn x)), .ref thp, .ref thq])), (thp, .inl (g.1, 62, .inl (zk_ia P1))), (thq, .inl (g.1, 32, .inl (zk_ia L1))), (tpl, .inr (3, [.ref tplc])), (tplc, .inl (g.1, 8, .inl (zk_ia c1))), (ms, .inl (g.1, 4, .inl (zk_ia (((Ms.set 0 0).set (0 + 1) 0).set (0 + 1 + 1) 0)))), (ch, .inl (g.1, 4, .inl (zk_ia (((Cs.set 0 0).set (0 + 1) 0).set (0 + 1 + 1) 0)))), (kp, .inl (g.2.2.1, 4, .inr (.inr (.inr (.inr (zk_ra [r0, r1, r2, r3])))))), (r0, .inl (g.1, 4, .inl (zk_ia (((K0.set 0 0).set (0 + 1) 0).set (0 + 1 + 1) 0)))), (r1, .inl (g.1, 4, .inl (zk_ia (((K1.set 0 0).set (0 + 1) 0).set (0 + 1 + 1) 0)))), (r2, .inl (g.1, 4, .inl (zk_ia (((K2.set 0 0).set (0 + 1) 0).set (0 + 1 + 1) 0)))), (r3, .inl (g.1, 4, .inl (zk_ia (((K3.set 0 0).set (0 + 1) 0).set (0 + 1 + 1) 0))))] := Z
  refine nr_iinc (n := 1) (lv' := [(6, .int (nI (0 + 1 + 1 + 1 + 1))), (5, .int (nI (0 + 1 + 1))), (4, .ref co), (0, .ref hn), (1, .int (nI x)), (2, .int (nI t)), (3, .int (nI dep))]) hx hb (by decide) dX1_begin_134 hl (k := 0) rfl (by decide) rfl (fun ls hl => ?_)
  refine lv_goto (tgt := 117) hx hb dX1_begin_137 (by decide) ?_
  refine lv_iload hx hb dX1_begin_117 (lv_at hl 0 rfl) ?_
  refine lv_iconst (v := nI 4) hx hb dX1_begin_119 (by decide) ?_
  refine nr_ge (tgt := 140) hx hb (by decide) (by decide) dX1_begin_120 (by decide) (fun c_40 => ?_) (fun c_40 => absurd c_40 (by decide))
  refine nr_iinc (n := 1) (lv' := [(5, .int (nI (0 + 1 + 1 + 1))), (6, .int (nI (0 + 1 + 1 + 1 + 1))), (4, .ref co), (0, .ref hn), (1, .int (nI x)), (2, .int (nI t)), (3, .int (nI dep))]) hx hb (by decide) dX1_begin_140 hl (k := 1) rfl (by decide) rfl (fun ls hl => ?_)
  refine lv_goto (tgt := 92) hx hb dX1_begin_143 (by decide) ?_
  refine lv_iload hx hb dX1_begin_92 (lv_at hl 0 rfl) ?_
  refine lv_iconst (v := nI 4) hx hb dX1_begin_94 (by decide) ?_
  refine nr_ge (tgt := 146) hx hb (by decide) (by decide) dX1_begin_95 (by decide) (fun c_41 => absurd c_41 (by decide)) (fun c_41 => ?_)
  refine lv_aload_n hx hb dX1_begin_98 rfl (lv_at hl 3 rfl) ?_
  refine zk_get C Z in_X1 0 rfl rfl 4 (by decide) q169 rfl (v := .ref ms) rfl dX1_begin_99 ?_
  refine lv_iload hx hb dX1_begin_102 (lv_at hl 0 rfl) ?_
  refine lv_iconst (v := nI 0) hx hb dX1_begin_104 (by decide) ?_
  refine zk_iast C Z 7 rfl (by decide) (by decide) hlen_30 dX1_begin_105 (fun H locs Z => ?_)
  have hlen_42 : ((((Ms.set 0 0).set (0 + 1) 0).set (0 + 1 + 1) 0).set (0 + 1 + 1 + 1) 0).length = 4 := by rw [List.length_set]; exact hlen_30
  have Z : zk_Z D A s H locs [(hn, .inr (0, [.ref tr, .ref co, .int (nI 1), .int (nI dep), .ref ms, .ref ch, .ref md, .ref kp, .ref wy])), (tr, .inr (1, [.ref th0, .int (nI t), .int (nI (gnr x (zk_nn x) t)), .int (nI (zk_nn x - Nat.log2 (gnr x (zk_nn x) t))), .ref ths, .ref tpl])), (th0, .inr (2, [.int (nI (zk_nn x)), .ref thp, .ref thq])), (thp, .inl (g.1, 62, .inl (zk_ia P1))), (thq, .inl (g.1, 32, .inl (zk_ia L1))), (tpl, .inr (3, [.ref tplc])), (tplc, .inl (g.1, 8, .inl (zk_ia c1))), (ms, .inl (g.1, 4, .inl (zk_ia ((((Ms.set 0 0).set (0 + 1) 0).set (0 + 1 + 1) 0).set (0 + 1 + 1 + 1) 0)))), (ch, .inl (g.1, 4, .inl (zk_ia (((Cs.set 0 0).set (0 + 1) 0).set (0 + 1 + 1) 0)))), (kp, .inl (g.2.2.1, 4, .inr (.inr (.inr (.inr (zk_ra [r0, r1, r2, r3])))))), (r0, .inl (g.1, 4, .inl (zk_ia (((K0.set 0 0).set (0 + 1) 0).set (0 + 1 + 1) 0)))), (r1, .inl (g.1, 4, .inl (zk_ia (((K1.set 0 0).set (0 + 1) 0).set (0 + 1 + 1) 0)))), (r2, .inl (g.1, 4, .inl (zk_ia (((K2.set 0 0).set (0 + 1) 0).set (0 + 1 + 1) 0)))), (r3, .inl (g.1, 4, .inl (zk_ia (((K3.set 0 0).set (0 + 1) 0).set (0 + 1 + 1) 0))))] := Z
  refine lv_aload_n hx hb dX1_begin_106 rfl (lv_at hl 3 rfl) ?_
  refine zk_get C Z in_X1 0 rfl rfl 5 (by decide) q170 rfl (v := .ref ch) rfl dX1_begin_107 ?_
  refine lv_iload hx hb dX1_begin_110 (lv_at hl 0 rfl) ?_
  refine lv_iconst (v := nI 0) hx hb dX1_begin_112 (by decide) ?_
  refine zk_iast C Z 8 rfl (by decide) (by decide) hlen_31 dX1_begin_113 (fun H locs Z => ?_)
  have hlen_43 : ((((Cs.set 0 0).set (0 + 1) 0).set (0 + 1 + 1) 0).set (0 + 1 + 1 + 1) 0).length = 4 := by rw [List.length_set]; exact hlen_31
  have Z : zk_Z D A s H locs [(hn, .inr (0, [.ref tr, .ref co, .int (nI 1), .int (nI dep), .ref ms, .ref ch, .ref md, .ref kp, .ref wy])), (tr, .inr (1, [.ref th0, .int (nI t), .int (nI (gnr x (zk_nn x) t)), .int (nI (zk_nn x - Nat.log2 (gnr x (zk_nn x) t))), .ref ths, .ref tpl])), (th0, .inr (2, [.int (nI (zk_nn x)), .ref thp, .ref thq])), (thp, .inl (g.1, 62, .inl (zk_ia P1))), (thq, .inl (g.1, 32, .inl (zk_ia L1))), (tpl, .inr (3, [.ref tplc])), (tplc, .inl (g.1, 8, .inl (zk_ia c1))), (ms, .inl (g.1, 4, .inl (zk_ia ((((Ms.set 0 0).set (0 + 1) 0).set (0 + 1 + 1) 0).set (0 + 1 + 1 + 1) 0)))), (ch, .inl (g.1, 4, .inl (zk_ia ((((Cs.set 0 0).set (0 + 1) 0).set (0 + 1 + 1) 0).set (0 + 1 + 1 + 1) 0)))), (kp, .inl (g.2.2.1, 4, .inr (.inr (.inr (.inr (zk_ra [r0, r1, r2, r3])))))), (r0, .inl (g.1, 4, .inl (zk_ia (((K0.set 0 0).set (0 + 1) 0).set (0 + 1 + 1) 0)))), (r1, .inl (g.1, 4, .inl (zk_ia (((K1.set 0 0).set (0 + 1) 0).set (0 + 1 + 1) 0)))), (r2, .inl (g.1, 4, .inl (zk_ia (((K2.set 0 0).set (0 + 1) 0).set (0 + 1 + 1) 0)))), (r3, .inl (g.1, 4, .inl (zk_ia (((K3.set 0 0).set (0 + 1) 0).set (0 + 1 + 1) 0))))] := Z
  refine lv_iconst (v := nI 0) hx hb dX1_begin_114 (by decide) ?_
  refine lv_istore (lv' := [(6, .int (nI 0)), (5, .int (nI (0 + 1 + 1 + 1))), (4, .ref co), (0, .ref hn), (1, .int (nI x)), (2, .int (nI t)), (3, .int (nI dep))]) hx hb dX1_begin_115 hl (by decide) rfl (fun ls hl => ?_)
  refine lv_iload hx hb dX1_begin_117 (lv_at hl 0 rfl) ?_
  refine lv_iconst (v := nI 4) hx hb dX1_begin_119 (by decide) ?_
  refine nr_ge (tgt := 140) hx hb (by decide) (by decide) dX1_begin_120 (by decide) (fun c_44 => absurd c_44 (by decide)) (fun c_44 => ?_)
  refine lv_aload_n hx hb dX1_begin_123 rfl (lv_at hl 3 rfl) ?_
  refine zk_get C Z in_X1 0 rfl rfl 7 (by decide) q172 rfl (v := .ref kp) rfl dX1_begin_124 ?_
  refine lv_iload hx hb dX1_begin_127 (lv_at hl 0 rfl) ?_
  refine zk_aald C Z 9 rfl (by decide) (by decide) rfl dX1_begin_129 ?_
  refine lv_iload hx hb dX1_begin_130 (lv_at hl 1 rfl) ?_
  refine lv_iconst (v := nI 0) hx hb dX1_begin_132 (by decide) ?_
  refine zk_iast C Z 10 rfl (by decide) (by decide) hlen_33 dX1_begin_133 (fun H locs Z => ?_)
  have hlen_45 : ((((K0.set 0 0).set (0 + 1) 0).set (0 + 1 + 1) 0).set (0 + 1 + 1 + 1) 0).length = 4 := by rw [List.length_set]; exact hlen_33
  have Z : zk_Z D A s H locs [(hn, .inr (0, [.ref tr, .ref co, .int (nI 1), .int (nI dep), .ref ms, .ref ch, .ref md, .ref kp, .ref wy])), (tr, .inr (1, [.ref th0, .int (nI t), .int (nI (gnr x (zk_nn x) t)), .int (nI (zk_nn x - Nat.log2 (gnr x (zk_nn x) t))), .ref ths, .ref tpl])), (th0, .inr (2, [.int (nI (zk_nn x)), .ref thp, .ref thq])), (thp, .inl (g.1, 62, .inl (zk_ia P1))), (thq, .inl (g.1, 32, .inl (zk_ia L1))), (tpl, .inr (3, [.ref tplc])), (tplc, .inl (g.1, 8, .inl (zk_ia c1))), (ms, .inl (g.1, 4, .inl (zk_ia ((((Ms.set 0 0).set (0 + 1) 0).set (0 + 1 + 1) 0).set (0 + 1 + 1 + 1) 0)))), (ch, .inl (g.1, 4, .inl (zk_ia ((((Cs.set 0 0).set (0 + 1) 0).set (0 + 1 + 1) 0).set (0 + 1 + 1 + 1) 0)))), (kp, .inl (g.2.2.1, 4, .inr (.inr (.inr (.inr (zk_ra [r0, r1, r2, r3])))))), (r0, .inl (g.1, 4, .inl (zk_ia ((((K0.set 0 0).set (0 + 1) 0).set (0 + 1 + 1) 0).set (0 + 1 + 1 + 1) 0)))), (r1, .inl (g.1, 4, .inl (zk_ia (((K1.set 0 0).set (0 + 1) 0).set (0 + 1 + 1) 0)))), (r2, .inl (g.1, 4, .inl (zk_ia (((K2.set 0 0).set (0 + 1) 0).set (0 + 1 + 1) 0)))), (r3, .inl (g.1, 4, .inl (zk_ia (((K3.set 0 0).set (0 + 1) 0).set (0 + 1 + 1) 0))))] := Z
  refine nr_iinc (n := 1) (lv' := [(6, .int (nI (0 + 1))), (5, .int (nI (0 + 1 + 1 + 1))), (4, .ref co), (0, .ref hn), (1, .int (nI x)), (2, .int (nI t)), (3, .int (nI dep))]) hx hb (by decide) dX1_begin_134 hl (k := 0) rfl (by decide) rfl (fun ls hl => ?_)
  refine lv_goto (tgt := 117) hx hb dX1_begin_137 (by decide) ?_
  refine lv_iload hx hb dX1_begin_117 (lv_at hl 0 rfl) ?_
  refine lv_iconst (v := nI 4) hx hb dX1_begin_119 (by decide) ?_
  refine nr_ge (tgt := 140) hx hb (by decide) (by decide) dX1_begin_120 (by decide) (fun c_46 => absurd c_46 (by decide)) (fun c_46 => ?_)
  refine lv_aload_n hx hb dX1_begin_123 rfl (lv_at hl 3 rfl) ?_
  refine zk_get C Z in_X1 0 rfl rfl 7 (by decide) q172 rfl (v := .ref kp) rfl dX1_begin_124 ?_
  refine lv_iload hx hb dX1_begin_127 (lv_at hl 0 rfl) ?_
  refine zk_aald C Z 9 rfl (by decide) (by decide) rfl dX1_begin_129 ?_
  refine lv_iload hx hb dX1_begin_130 (lv_at hl 1 rfl) ?_
  refine lv_iconst (v := nI 0) hx hb dX1_begin_132 (by decide) ?_
  refine zk_iast C Z 11 rfl (by decide) (by decide) hlen_35 dX1_begin_133 (fun H locs Z => ?_)
  have hlen_47 : ((((K1.set 0 0).set (0 + 1) 0).set (0 + 1 + 1) 0).set (0 + 1 + 1 + 1) 0).length = 4 := by rw [List.length_set]; exact hlen_35
  have Z : zk_Z D A s H locs [(hn, .inr (0, [.ref tr, .ref co, .int (nI 1), .int (nI dep), .ref ms, .ref ch, .ref md, .ref kp, .ref wy])), (tr, .inr (1, [.ref th0, .int (nI t), .int (nI (gnr x (zk_nn x) t)), .int (nI (zk_nn x - Nat.log2 (gnr x (zk_nn x) t))), .ref ths, .ref tpl])), (th0, .inr (2, [.int (nI (zk_nn x)), .ref thp, .ref thq])), (thp, .inl (g.1, 62, .inl (zk_ia P1))), (thq, .inl (g.1, 32, .inl (zk_ia L1))), (tpl, .inr (3, [.ref tplc])), (tplc, .inl (g.1, 8, .inl (zk_ia c1))), (ms, .inl (g.1, 4, .inl (zk_ia ((((Ms.set 0 0).set (0 + 1) 0).set (0 + 1 + 1) 0).set (0 + 1 + 1 + 1) 0)))), (ch, .inl (g.1, 4, .inl (zk_ia ((((Cs.set 0 0).set (0 + 1) 0).set (0 + 1 + 1) 0).set (0 + 1 + 1 + 1) 0)))), (kp, .inl (g.2.2.1, 4, .inr (.inr (.inr (.inr (zk_ra [r0, r1, r2, r3])))))), (r0, .inl (g.1, 4, .inl (zk_ia ((((K0.set 0 0).set (0 + 1) 0).set (0 + 1 + 1) 0).set (0 + 1 + 1 + 1) 0)))), (r1, .inl (g.1, 4, .inl (zk_ia ((((K1.set 0 0).set (0 + 1) 0).set (0 + 1 + 1) 0).set (0 + 1 + 1 + 1) 0)))), (r2, .inl (g.1, 4, .inl (zk_ia (((K2.set 0 0).set (0 + 1) 0).set (0 + 1 + 1) 0)))), (r3, .inl (g.1, 4, .inl (zk_ia (((K3.set 0 0).set (0 + 1) 0).set (0 + 1 + 1) 0))))] := Z
  refine nr_iinc (n := 1) (lv' := [(6, .int (nI (0 + 1 + 1))), (5, .int (nI (0 + 1 + 1 + 1))), (4, .ref co), (0, .ref hn), (1, .int (nI x)), (2, .int (nI t)), (3, .int (nI dep))]) hx hb (by decide) dX1_begin_134 hl (k := 0) rfl (by decide) rfl (fun ls hl => ?_)
  refine lv_goto (tgt := 117) hx hb dX1_begin_137 (by decide) ?_
  refine lv_iload hx hb dX1_begin_117 (lv_at hl 0 rfl) ?_
  refine lv_iconst (v := nI 4) hx hb dX1_begin_119 (by decide) ?_
  refine nr_ge (tgt := 140) hx hb (by decide) (by decide) dX1_begin_120 (by decide) (fun c_48 => absurd c_48 (by decide)) (fun c_48 => ?_)
  refine lv_aload_n hx hb dX1_begin_123 rfl (lv_at hl 3 rfl) ?_
  refine zk_get C Z in_X1 0 rfl rfl 7 (by decide) q172 rfl (v := .ref kp) rfl dX1_begin_124 ?_
  refine lv_iload hx hb dX1_begin_127 (lv_at hl 0 rfl) ?_
  refine zk_aald C Z 9 rfl (by decide) (by decide) rfl dX1_begin_129 ?_
  refine lv_iload hx hb dX1_begin_130 (lv_at hl 1 rfl) ?_
  refine lv_iconst (v := nI 0) hx hb dX1_begin_132 (by decide) ?_
  refine zk_iast C Z 12 rfl (by decide) (by decide) hlen_37 dX1_begin_133 (fun H locs Z => ?_)
  have hlen_49 : ((((K2.set 0 0).set (0 + 1) 0).set (0 + 1 + 1) 0).set (0 + 1 + 1 + 1) 0).length = 4 := by rw [List.length_set]; exact hlen_37
  have Z : zk_Z D A s H locs [(hn, .inr (0, [.ref tr, .ref co, .int (nI 1), .int (nI dep), .ref ms, .ref ch, .ref md, .ref kp, .ref wy])), (tr, .inr (1, [.ref th0, .int (nI t), .int (nI (gnr x (zk_nn x) t)), .int (nI (zk_nn x - Nat.log2 (gnr x (zk_nn x) t))), .ref ths, .ref tpl])), (th0, .inr (2, [.int (nI (zk_nn x)), .ref thp, .ref thq])), (thp, .inl (g.1, 62, .inl (zk_ia P1))), (thq, .inl (g.1, 32, .inl (zk_ia L1))), (tpl, .inr (3, [.ref tplc])), (tplc, .inl (g.1, 8, .inl (zk_ia c1))), (ms, .inl (g.1, 4, .inl (zk_ia ((((Ms.set 0 0).set (0 + 1) 0).set (0 + 1 + 1) 0).set (0 + 1 + 1 + 1) 0)))), (ch, .inl (g.1, 4, .inl (zk_ia ((((Cs.set 0 0).set (0 + 1) 0).set (0 + 1 + 1) 0).set (0 + 1 + 1 + 1) 0)))), (kp, .inl (g.2.2.1, 4, .inr (.inr (.inr (.inr (zk_ra [r0, r1, r2, r3])))))), (r0, .inl (g.1, 4, .inl (zk_ia ((((K0.set 0 0).set (0 + 1) 0).set (0 + 1 + 1) 0).set (0 + 1 + 1 + 1) 0)))), (r1, .inl (g.1, 4, .inl (zk_ia ((((K1.set 0 0).set (0 + 1) 0).set (0 + 1 + 1) 0).set (0 + 1 + 1 + 1) 0)))), (r2, .inl (g.1, 4, .inl (zk_ia ((((K2.set 0 0).set (0 + 1) 0).set (0 + 1 + 1) 0).set (0 + 1 + 1 + 1) 0)))), (r3, .inl (g.1, 4, .inl (zk_ia (((K3.set 0 0).set (0 + 1) 0).set (0 + 1 + 1) 0))))] := Z
  refine nr_iinc (n := 1) (lv' := [(6, .int (nI (0 + 1 + 1 + 1))), (5, .int (nI (0 + 1 + 1 + 1))), (4, .ref co), (0, .ref hn), (1, .int (nI x)), (2, .int (nI t)), (3, .int (nI dep))]) hx hb (by decide) dX1_begin_134 hl (k := 0) rfl (by decide) rfl (fun ls hl => ?_)
  refine lv_goto (tgt := 117) hx hb dX1_begin_137 (by decide) ?_
  refine lv_iload hx hb dX1_begin_117 (lv_at hl 0 rfl) ?_
  refine lv_iconst (v := nI 4) hx hb dX1_begin_119 (by decide) ?_
  refine nr_ge (tgt := 140) hx hb (by decide) (by decide) dX1_begin_120 (by decide) (fun c_50 => absurd c_50 (by decide)) (fun c_50 => ?_)
  refine lv_aload_n hx hb dX1_begin_123 rfl (lv_at hl 3 rfl) ?_
  refine zk_get C Z in_X1 0 rfl rfl 7 (by decide) q172 rfl (v := .ref kp) rfl dX1_begin_124 ?_
  refine lv_iload hx hb dX1_begin_127 (lv_at hl 0 rfl) ?_
  refine zk_aald C Z 9 rfl (by decide) (by decide) rfl dX1_begin_129 ?_
  refine lv_iload hx hb dX1_begin_130 (lv_at hl 1 rfl) ?_
  refine lv_iconst (v := nI 0) hx hb dX1_begin_132 (by decide) ?_
  refine zk_iast C Z 13 rfl (by decide) (by decide) hlen_39 dX1_begin_133 (fun H locs Z => ?_)
  have hlen_51 : ((((K3.set 0 0).set (0 + 1) 0).set (0 + 1 + 1) 0).set (0 + 1 + 1 + 1) 0).length = 4 := by rw [List.length_set]; exact hlen_39
  have Z : zk_Z D A s H locs [(hn, .inr (0, [.ref tr, .ref co, .int (nI 1), .int (nI dep), .ref ms, .ref ch, .ref md, .ref kp, .ref wy])), (tr, .inr (1, [.ref th0, .int (nI t), .int (nI (gnr x (zk_nn x) t)), .int (nI (zk_nn x - Nat.log2 (gnr x (zk_nn x) t))), .ref ths, .ref tpl])), (th0, .inr (2, [.int (nI (zk_nn x)), .ref thp, .ref thq])), (thp, .inl (g.1, 62, .inl (zk_ia P1))), (thq, .inl (g.1, 32, .inl (zk_ia L1))), (tpl, .inr (3, [.ref tplc])), (tplc, .inl (g.1, 8, .inl (zk_ia c1))), (ms, .inl (g.1, 4, .inl (zk_ia ((((Ms.set 0 0).set (0 + 1) 0).set (0 + 1 + 1) 0).set (0 + 1 + 1 + 1) 0)))), (ch, .inl (g.1, 4, .inl (zk_ia ((((Cs.set 0 0).set (0 + 1) 0).set (0 + 1 + 1) 0).set (0 + 1 + 1 + 1) 0)))), (kp, .inl (g.2.2.1, 4, .inr (.inr (.inr (.inr (zk_ra [r0, r1, r2, r3])))))), (r0, .inl (g.1, 4, .inl (zk_ia ((((K0.set 0 0).set (0 + 1) 0).set (0 + 1 + 1) 0).set (0 + 1 + 1 + 1) 0)))), (r1, .inl (g.1, 4, .inl (zk_ia ((((K1.set 0 0).set (0 + 1) 0).set (0 + 1 + 1) 0).set (0 + 1 + 1 + 1) 0)))), (r2, .inl (g.1, 4, .inl (zk_ia ((((K2.set 0 0).set (0 + 1) 0).set (0 + 1 + 1) 0).set (0 + 1 + 1 + 1) 0)))), (r3, .inl (g.1, 4, .inl (zk_ia ((((K3.set 0 0).set (0 + 1) 0).set (0 + 1 + 1) 0).set (0 + 1 + 1 + 1) 0))))] := Z
  refine nr_iinc (n := 1) (lv' := [(6, .int (nI (0 + 1 + 1 + 1 + 1))), (5, .int (nI (0 + 1 + 1 + 1))), (4, .ref co), (0, .ref hn), (1, .int (nI x)), (2, .int (nI t)), (3, .int (nI dep))]) hx hb (by decide) dX1_begin_134 hl (k := 0) rfl (by decide) rfl (fun ls hl => ?_)
  refine lv_goto (tgt := 117) hx hb dX1_begin_137 (by decide) ?_
  refine lv_iload hx hb dX1_begin_117 (lv_at hl 0 rfl) ?_
  refine lv_iconst (v := nI 4) hx hb dX1_begin_119 (by decide) ?_
  refine nr_ge (tgt := 140) hx hb (by decide) (by decide) dX1_begin_120 (by decide) (fun c_52 => ?_) (fun c_52 => absurd c_52 (by decide))
  refine nr_iinc (n := 1) (lv' := [(5, .int (nI (0 + 1 + 1 + 1 + 1))), (6, .int (nI (0 + 1 + 1 + 1 + 1))), (4, .ref co), (0, .ref hn), (1, .int (nI x)), (2, .int (nI t)), (3, .int (nI dep))]) hx hb (by decide) dX1_begin_140 hl (k := 1) rfl (by decide) rfl (fun ls hl => ?_)
  refine lv_goto (tgt := 92) hx hb dX1_begin_143 (by decide) ?_
  refine lv_iload hx hb dX1_begin_92 (lv_at hl 0 rfl) ?_
  refine lv_iconst (v := nI 4) hx hb dX1_begin_94 (by decide) ?_
  refine nr_ge (tgt := 146) hx hb (by decide) (by decide) dX1_begin_95 (by decide) (fun c_53 => ?_) (fun c_53 => absurd c_53 (by decide))
  refine lv_aload_n hx hb dX1_begin_146 rfl (lv_at hl 3 rfl) ?_
  refine zk_get C Z in_X1 0 rfl rfl 0 (by decide) q165 rfl (v := .ref tr) rfl dX1_begin_147 ?_
  refine zk_getN C Z in_X2 1 rfl rfl 3 (by decide) q98 rfl (v := .int (nI (zk_nn x - Nat.log2 (gnr x (zk_nn x) t)))) rfl dX1_begin_150 ?_
  rw [zk_z4s hMs, zk_z4s hCs, zk_z4s hK0, zk_z4s hK1, zk_z4s hK2, zk_z4s hK3] at Z
  exact zk_iret C hr hlocks Z ⟨rfl, P1, L1, c1, F, hc1, rfl⟩ (Nat.le_of_ble_eq_true rfl) (Nat.le_of_ble_eq_true rfl) dX1_begin_153

set_option maxHeartbeats 4000000 in
/-- begin, not primitive -/
theorem t1_begin_p (l : Launch) (hfl : l.flags = flags0) (D : va_G) (g : G4) (hn co tr bg dep0 ms ch md kp wy : Nat) (th0 thp thq ths tpl tplc t0 g0 k0 n0 : Nat) (P L c : List Nat) (hP : P.length = 62) (hL : L.length = 32) (hl8 : c.length = 8) (x t dep : Nat) (t1 : 1 ≤ t) (t3 : t ≤ 3) (d1 : 1 ≤ dep) (d4 : dep ≤ 4) (x8 : 8 ≤ x) (x63 : x ≤ 63) (hpr : (x, zk_nn x) ∉ zk_pr) : zk_MT l yX1_begin (ws_ yX1_begin cX1_begin 7 (some .int)) (zk_R 7 1 6) D g [.ref hn, .int (nI x), .int (nI t), .int (nI dep)] [(hn, .inr (0, [.ref co, .ref tr, .int (nI bg), .int (nI dep0), .ref ms, .ref ch, .ref md, .ref kp, .ref wy])), (tr, .inr (1, [.ref th0, .int (nI t0), .int (nI g0), .int (nI k0), .ref ths, .ref tpl])), (th0, .inr (2, [.int (nI n0), .ref thp, .ref thq])), (thp, .inl (g.1, 62, .inl (zk_ia P))), (thq, .inl (g.1, 32, .inl (zk_ia L))), (tpl, .inr (3, [.ref tplc])), (tplc, .inl (g.1, 8, .inl (zk_ia c)))] zk_ARE (fun w => ∃ P1 L1 : List Nat, P1.length = 62 ∧ L1.length = 32 ∧ w = [(hn, .inr (0, [.ref co, .ref tr, .int (nI bg), .int (nI dep0), .ref ms, .ref ch, .ref md, .ref kp, .ref wy])), (tr, .inr (1, [.ref th0, .int (nI t), .int (nI g0), .int (nI k0), .ref ths, .ref tpl])), (th0, .inr (2, [.int (nI (zk_nn x)), .ref thp, .ref thq])), (thp, .inl (g.1, 62, .inl (zk_ia P1))), (thq, .inl (g.1, 32, .inl (zk_ia L1))), (tpl, .inr (3, [.ref tplc])), (tplc, .inl (g.1, 8, .inl (zk_ia c)))]) := by
  refine zk_ofWT (by decide) (Nat.le_of_ble_eq_true rfl) ?_
  intro pg ev s mm below meth cd A C hlocks hno Z ls hl
  have hx := C.1.1
  have hb := C.1.2.1
  have hml := C.1.2.2.1
  have hown := C.1.2.2.2.1
  have hts := C.1.2.2.2.2
  have hl : lv_has ls 7 [(0, .ref hn), (1, .int (nI x)), (2, .int (nI t)), (3, .int (nI dep))] := hl
  obtain ⟨H, hH⟩ : ∃ H, H = s.heap := ⟨_, rfl⟩
  obtain ⟨locs, hlocs⟩ : ∃ q : List Loc, q = [] := ⟨_, rfl⟩
  rw [← hH, ← hlocs] at Z ⊢
  refine lv_iload_n hx hb dX1_begin_0 rfl (lv_at hl 2 rfl) ?_
  refine lv_iconst (v := nI 1) hx hb dX1_begin_1 (by decide) ?_
  refine lv_iconst (v := nI 3) hx hb dX1_begin_2 (by decide) ?_
  refine zk_callS (cells' := 0) (slots' := 0) (rest := []) (n := 3) (wr := [(hn, .inr (0, [.ref co, .ref tr, .int (nI bg), .int (nI dep0), .ref ms, .ref ch, .ref md, .ref kp, .ref wy])), (tr, .inr (1, [.ref th0, .int (nI t0), .int (nI g0), .int (nI k0), .ref ths, .ref tpl])), (th0, .inr (2, [.int (nI n0), .ref thp, .ref thq])), (thp, .inl (g.1, 62, .inl (zk_ia P))), (thq, .inl (g.1, 32, .inl (zk_ia L))), (tpl, .inr (3, [.ref tplc])), (tplc, .inl (g.1, 8, .inl (zk_ia c)))]) C Z (m1_in1 l D g (nI t) (nI 1) (nI 3) (zk_le t1 (by omega)) (zk_le t3 (by decide))) [] [0, 1, 2, 3, 4, 5, 6] rfl rfl (by decide) (by decide) (by decide) q274 q275 q19 q276 (by decide +kernel) rfl (Nat.le_of_ble_eq_true rfl) (Nat.le_of_ble_eq_true rfl) (Nat.le_of_ble_eq_true rfl) (Nat.le_of_ble_eq_true rfl) rfl rfl hl.1 rfl (Nat.le_of_ble_eq_true rfl) dX1_begin_3 (fun v w1 H locs hq Z => ?_)
  obtain ⟨rfl, rfl⟩ := hq
  have Z : zk_Z D A s H locs [(hn, .inr (0, [.ref co, .ref tr, .int (nI bg), .int (nI dep0), .ref ms, .ref ch, .ref md, .ref kp, .ref wy])), (tr, .inr (1, [.ref th0, .int (nI t0), .int (nI g0), .int (nI k0), .ref ths, .ref tpl])), (th0, .inr (2, [.int (nI n0), .ref thp, .ref thq])), (thp, .inl (g.1, 62, .inl (zk_ia P))), (thq, .inl (g.1, 32, .inl (zk_ia L))), (tpl, .inr (3, [.ref tplc])), (tplc, .inl (g.1, 8, .inl (zk_ia c)))] := Z.sub [0, 1, 2, 3, 4, 5, 6] (by decide) rfl
  refine W.eq (g2 := F0 mm 6 ls [.int (nI 1)]) rfl ?_
  refine nr_eq0 (tgt := 33) hx hb (by omega) dX1_begin_6 (by decide) (fun c_1 => absurd c_1 (by decide)) (fun c_1 => ?_)
  refine lv_iload_n hx hb dX1_begin_9 rfl (lv_at hl 3 rfl) ?_
  refine lv_iconst (v := nI 1) hx hb dX1_begin_10 (by decide) ?_
  refine lv_iconst (v := nI 4) hx hb dX1_begin_11 (by decide) ?_
  refine zk_callS (cells' := 0) (slots' := 0) (rest := []) (n := 3) (wr := [(hn, .inr (0, [.ref co, .ref tr, .int (nI bg), .int (nI dep0), .ref ms, .ref ch, .ref md, .ref kp, .ref wy])), (tr, .inr (1, [.ref th0, .int (nI t0), .int (nI g0), .int (nI k0), .ref ths, .ref tpl])), (th0, .inr (2, [.int (nI n0), .ref thp, .ref thq])), (thp, .inl (g.1, 62, .inl (zk_ia P))), (thq, .inl (g.1, 32, .inl (zk_ia L))), (tpl, .inr (3, [.ref tplc])), (tplc, .inl (g.1, 8, .inl (zk_ia c)))]) C Z (m1_in1 l D g (nI dep) (nI 1) (nI 4) (zk_le d1 (by omega)) (zk_le d4 (by decide))) [] [0, 1, 2, 3, 4, 5, 6] rfl rfl (by decide) (by decide) (by decide) q274 q275 q19 q276 (by decide +kernel) rfl (Nat.le_of_ble_eq_true rfl) (Nat.le_of_ble_eq_true rfl) (Nat.le_of_ble_eq_true rfl) (Nat.le_of_ble_eq_true rfl) rfl rfl hl.1 rfl (Nat.le_of_ble_eq_true rfl) dX1_begin_12 (fun v w1 H locs hq Z => ?_)
  obtain ⟨rfl, rfl⟩ := hq
  have Z : zk_Z D A s H locs [(hn, .inr (0, [.ref co, .ref tr, .int (nI bg), .int (nI dep0), .ref ms, .ref ch, .ref md, .ref kp, .ref wy])), (tr, .inr (1, [.ref th0, .int (nI t0), .int (nI g0), .int (nI k0), .ref ths, .ref tpl])), (th0, .inr (2, [.int (nI n0), .ref thp, .ref thq])), (thp, .inl (g.1, 62, .inl (zk_ia P))), (thq, .inl (g.1, 32, .inl (zk_ia L))), (tpl, .inr (3, [.ref tplc])), (tplc, .inl (g.1, 8, .inl (zk_ia c)))] := Z.sub [0, 1, 2, 3, 4, 5, 6] (by decide) rfl
  refine W.eq (g2 := F0 mm 15 ls [.int (nI 1)]) rfl ?_
  refine nr_eq0 (tgt := 33) hx hb (by omega) dX1_begin_15 (by decide) (fun c_2 => absurd c_2 (by decide)) (fun c_2 => ?_)
  refine lv_iload_n hx hb dX1_begin_18 rfl (lv_at hl 1 rfl) ?_
  refine lv_bipush (v := nI 8) hx hb dX1_begin_19 (by decide) ?_
  refine lv_bipush (v := nI 63) hx hb dX1_begin_21 (by decide) ?_
  refine zk_callS (cells' := 0) (slots' := 0) (rest := []) (n := 3) (wr := [(hn, .inr (0, [.ref co, .ref tr, .int (nI bg), .int (nI dep0), .ref ms, .ref ch, .ref md, .ref kp, .ref wy])), (tr, .inr (1, [.ref th0, .int (nI t0), .int (nI g0), .int (nI k0), .ref ths, .ref tpl])), (th0, .inr (2, [.int (nI n0), .ref thp, .ref thq])), (thp, .inl (g.1, 62, .inl (zk_ia P))), (thq, .inl (g.1, 32, .inl (zk_ia L))), (tpl, .inr (3, [.ref tplc])), (tplc, .inl (g.1, 8, .inl (zk_ia c)))]) C Z (m1_in1 l D g (nI x) (nI 8) (nI 63) (zk_le x8 (by omega)) (zk_le x63 (by decide))) [] [0, 1, 2, 3, 4, 5, 6] rfl rfl (by decide) (by decide) (by decide) q274 q275 q19 q276 (by decide +kernel) rfl (Nat.le_of_ble_eq_true rfl) (Nat.le_of_ble_eq_true rfl) (Nat.le_of_ble_eq_true rfl) (Nat.le_of_ble_eq_true rfl) rfl rfl hl.1 rfl (Nat.le_of_ble_eq_true rfl) dX1_begin_23 (fun v w1 H locs hq Z => ?_)
  obtain ⟨rfl, rfl⟩ := hq
  have Z : zk_Z D A s H locs [(hn, .inr (0, [.ref co, .ref tr, .int (nI bg), .int (nI dep0), .ref ms, .ref ch, .ref md, .ref kp, .ref wy])), (tr, .inr (1, [.ref th0, .int (nI t0), .int (nI g0), .int (nI k0), .ref ths, .ref tpl])), (th0, .inr (2, [.int (nI n0), .ref thp, .ref thq])), (thp, .inl (g.1, 62, .inl (zk_ia P))), (thq, .inl (g.1, 32, .inl (zk_ia L))), (tpl, .inr (3, [.ref tplc])), (tplc, .inl (g.1, 8, .inl (zk_ia c)))] := Z.sub [0, 1, 2, 3, 4, 5, 6] (by decide) rfl
  refine W.eq (g2 := F0 mm 26 ls [.int (nI 1)]) rfl ?_
  refine nr_eq0 (tgt := 33) hx hb (by omega) dX1_begin_26 (by decide) (fun c_3 => absurd c_3 (by decide)) (fun c_3 => ?_)
  refine lv_iconst (v := nI 1) hx hb dX1_begin_29 (by decide) ?_
  refine lv_goto (tgt := 34) hx hb dX1_begin_30 (by decide) ?_
  refine zk_callS (cells' := 0) (slots' := 0) (rest := []) (n := 1) (wr := [(hn, .inr (0, [.ref co, .ref tr, .int (nI bg), .int (nI dep0), .ref ms, .ref ch, .ref md, .ref kp, .ref wy])), (tr, .inr (1, [.ref th0, .int (nI t0), .int (nI g0), .int (nI k0), .ref ths, .ref tpl])), (th0, .inr (2, [.int (nI n0), .ref thp, .ref thq])), (thp, .inl (g.1, 62, .inl (zk_ia P))), (thq, .inl (g.1, 32, .inl (zk_ia L))), (tpl, .inr (3, [.ref tplc])), (tplc, .inl (g.1, 8, .inl (zk_ia c)))]) C Z (m1_need l D g) [] [0, 1, 2, 3, 4, 5, 6] rfl rfl (by decide) (by decide) (by decide) q277 q278 q19 q279 (by decide +kernel) rfl (Nat.le_of_ble_eq_true rfl) (Nat.le_of_ble_eq_true rfl) (Nat.le_of_ble_eq_true rfl) (Nat.le_of_ble_eq_true rfl) rfl rfl hl.1 rfl (Nat.le_of_ble_eq_true rfl) dX1_begin_34 (fun v w1 H locs hq Z => ?_)
  obtain ⟨rfl, rfl⟩ := hq
  have Z : zk_Z D A s H locs [(hn, .inr (0, [.ref co, .ref tr, .int (nI bg), .int (nI dep0), .ref ms, .ref ch, .ref md, .ref kp, .ref wy])), (tr, .inr (1, [.ref th0, .int (nI t0), .int (nI g0), .int (nI k0), .ref ths, .ref tpl])), (th0, .inr (2, [.int (nI n0), .ref thp, .ref thq])), (thp, .inl (g.1, 62, .inl (zk_ia P))), (thq, .inl (g.1, 32, .inl (zk_ia L))), (tpl, .inr (3, [.ref tplc])), (tplc, .inl (g.1, 8, .inl (zk_ia c)))] := Z.sub [0, 1, 2, 3, 4, 5, 6] (by decide) rfl
  refine W.eq (g2 := F0 mm 37 ls []) rfl ?_
  refine lv_aload_n hx hb dX1_begin_37 rfl (lv_at hl 0 rfl) ?_
  refine zk_get C Z in_X1 0 rfl rfl 1 (by decide) q166 rfl (v := .ref tr) rfl dX1_begin_38 ?_
  refine lv_iload_n hx hb dX1_begin_41 rfl (lv_at hl 1 rfl) ?_
  refine lv_iload_n hx hb dX1_begin_42 rfl (lv_at hl 2 rfl) ?_
  refine zk_callV (cells' := 0) (slots' := 0) (rest := []) (n := 2) (wr := [(hn, .inr (0, [.ref co, .ref tr, .int (nI bg), .int (nI dep0), .ref ms, .ref ch, .ref md, .ref kp, .ref wy]))]) C Z (m2_make0 l D g tr ths tpl tplc t th0 thp thq x P L g0 k0 t0 n0 c hl8 hP hL x8 (by omega) hpr) [1, 2, 3, 4, 5, 6] [0] rfl rfl (by decide) (by decide) (by decide) 1 1 rfl rfl rfl q296 q297 q298 q20 q299 (by decide +kernel) rfl (Nat.le_of_ble_eq_true rfl) (Nat.le_of_ble_eq_true rfl) (Nat.le_of_ble_eq_true rfl) (Nat.le_of_ble_eq_true rfl) rfl rfl hl.1 rfl (Nat.le_of_ble_eq_true rfl) dX1_begin_43 (fun v w1 H locs hq Z => ?_)
  obtain ⟨rfl, P1, L1, hP1, hL1, rfl⟩ := hq
  have Z : zk_Z D A s H locs [(hn, .inr (0, [.ref co, .ref tr, .int (nI bg), .int (nI dep0), .ref ms, .ref ch, .ref md, .ref kp, .ref wy])), (tr, .inr (1, [.ref th0, .int (nI t), .int (nI g0), .int (nI k0), .ref ths, .ref tpl])), (th0, .inr (2, [.int (nI (zk_nn x)), .ref thp, .ref thq])), (thp, .inl (g.1, 62, .inl (zk_ia P1))), (thq, .inl (g.1, 32, .inl (zk_ia L1))), (tpl, .inr (3, [.ref tplc])), (tplc, .inl (g.1, 8, .inl (zk_ia c)))] := Z.sub [0, 1, 2, 3, 4, 5, 6] (by decide) rfl
  refine W.eq (g2 := F0 mm 46 ls [.int (nI 0)]) rfl ?_
  refine nr_ne0 (tgt := 59) hx hb (by omega) dX1_begin_46 (by decide) (fun c_4 => absurd c_4 (fun q => q rfl)) (fun c_4 => ?_)
  exact zk_throw hfl C Z hlocks hno (by decide +kernel) (zk_ownARE q329) q327 q30 q328 ⟨P1, L1, hP1, hL1, rfl⟩ (Nat.le_of_ble_eq_true rfl) (Nat.le_of_ble_eq_true rfl) (Nat.le_of_ble_eq_true rfl) (Nat.le_of_ble_eq_true rfl) (Nat.le_of_ble_eq_true rfl) (Nat.le_of_ble_eq_true rfl) hl.1 dX1_begin_49 dX1_begin_52 dX1_begin_53 dX1_begin_55 dX1_begin_58

set_option maxHeartbeats 4000000 in
/-- begin, out of bounds -/
theorem t1_begin_a (l : Launch) (hfl : l.flags = flags0) (D : va_G) (g : G4) (hn : Nat) (x t dep : Int32) (h0_ : ¬ (nI 1 ≤ t ∧ t ≤ nI 3)) : zk_MT l yX1_begin (ws_ yX1_begin cX1_begin 7 (some .int)) (zk_R 7 1 6) D g [.ref hn, .int x, .int t, .int dep] [] zk_IAE (fun w => w = []) := by
  refine zk_ofWT (by decide) (Nat.le_of_ble_eq_true rfl) ?_
  intro pg ev s mm below meth cd A C hlocks hno Z ls hl
  have hx := C.1.1
  have hb := C.1.2.1
  have hml := C.1.2.2.1
  have hown := C.1.2.2.2.1
  have hts := C.1.2.2.2.2
  have hl : lv_has ls 7 [(0, .ref hn), (1, .int x), (2, .int t), (3, .int dep)] := hl
  refine lv_iload_n hx hb dX1_begin_0 rfl (lv_at hl 2 rfl) ?_
  refine lv_iconst (v := nI 1) hx hb dX1_begin_1 (by decide) ?_
  refine lv_iconst (v := nI 3) hx hb dX1_begin_2 (by decide) ?_
  refine zk_callS (cells' := 0) (slots' := 0) (rest := []) (n := 3) (wr := []) C Z (m1_in0 l D g t (nI 1) (nI 3) h0_) [] [] rfl rfl (by decide) (by decide) (by decide) q274 q275 q19 q276 (by decide +kernel) rfl (Nat.le_of_ble_eq_true rfl) (Nat.le_of_ble_eq_true rfl) (Nat.le_of_ble_eq_true rfl) (Nat.le_of_ble_eq_true rfl) rfl rfl hl.1 rfl (Nat.le_of_ble_eq_true rfl) dX1_begin_3 (fun v w1 H locs hq Z => ?_)
  obtain ⟨rfl, rfl⟩ := hq
  have Z : zk_Z D A s H locs [] := Z.sub [] (by decide) rfl
  refine W.eq (g2 := F0 mm 6 ls [.int (nI 0)]) rfl ?_
  refine nr_eq0 (tgt := 33) hx hb (by omega) dX1_begin_6 (by decide) (fun c_1 => ?_) (fun c_1 => absurd c_1 (fun q => q rfl))
  refine lv_iconst (v := nI 0) hx hb dX1_begin_33 (by decide) ?_
  refine zk_callST (cells' := 1) (slots' := 6) (rest := []) (n := 1) (wr := []) C Z (t1_need l hfl D g) [] [] rfl rfl (by decide) (by decide) (by decide) q277 q278 q19 q279 (by decide +kernel) rfl (Nat.le_of_ble_eq_true rfl) (Nat.le_of_ble_eq_true rfl) (Nat.le_of_ble_eq_true rfl) (Nat.le_of_ble_eq_true rfl) rfl rfl hl.1 rfl (Nat.le_of_ble_eq_true rfl) dX1_begin_34 (fun w1 hq => ?_)
  obtain rfl := hq
  exact zk_leave hlocks hno (rfl) (Nat.le_of_ble_eq_true rfl) (Nat.le_of_ble_eq_true rfl)

set_option maxHeartbeats 4000000 in
/-- begin, out of bounds -/
theorem t1_begin_b (l : Launch) (hfl : l.flags = flags0) (D : va_G) (g : G4) (hn : Nat) (x t dep : Int32) (h1_ : nI 1 ≤ t ∧ t ≤ nI 3) (h0_ : ¬ (nI 1 ≤ dep ∧ dep ≤ nI 4)) : zk_MT l yX1_begin (ws_ yX1_begin cX1_begin 7 (some .int)) (zk_R 7 1 6) D g [.ref hn, .int x, .int t, .int dep] [] zk_IAE (fun w => w = []) := by
  refine zk_ofWT (by decide) (Nat.le_of_ble_eq_true rfl) ?_
  intro pg ev s mm below meth cd A C hlocks hno Z ls hl
  have hx := C.1.1
  have hb := C.1.2.1
  have hml := C.1.2.2.1
  have hown := C.1.2.2.2.1
  have hts := C.1.2.2.2.2
  have hl : lv_has ls 7 [(0, .ref hn), (1, .int x), (2, .int t), (3, .int dep)] := hl
  refine lv_iload_n hx hb dX1_begin_0 rfl (lv_at hl 2 rfl) ?_
  refine lv_iconst (v := nI 1) hx hb dX1_begin_1 (by decide) ?_
  refine lv_iconst (v := nI 3) hx hb dX1_begin_2 (by decide) ?_
  refine zk_callS (cells' := 0) (slots' := 0) (rest := []) (n := 3) (wr := []) C Z (m1_in1 l D g t (nI 1) (nI 3) h1_.1 h1_.2) [] [] rfl rfl (by decide) (by decide) (by decide) q274 q275 q19 q276 (by decide +kernel) rfl (Nat.le_of_ble_eq_true rfl) (Nat.le_of_ble_eq_true rfl) (Nat.le_of_ble_eq_true rfl) (Nat.le_of_ble_eq_true rfl) rfl rfl hl.1 rfl (Nat.le_of_ble_eq_true rfl) dX1_begin_3 (fun v w1 H locs hq Z => ?_)
  obtain ⟨rfl, rfl⟩ := hq
  have Z : zk_Z D A s H locs [] := Z.sub [] (by decide) rfl
  refine W.eq (g2 := F0 mm 6 ls [.int (nI 1)]) rfl ?_
  refine nr_eq0 (tgt := 33) hx hb (by omega) dX1_begin_6 (by decide) (fun c_1 => absurd c_1 (by decide)) (fun c_1 => ?_)
  refine lv_iload_n hx hb dX1_begin_9 rfl (lv_at hl 3 rfl) ?_
  refine lv_iconst (v := nI 1) hx hb dX1_begin_10 (by decide) ?_
  refine lv_iconst (v := nI 4) hx hb dX1_begin_11 (by decide) ?_
  refine zk_callS (cells' := 0) (slots' := 0) (rest := []) (n := 3) (wr := []) C Z (m1_in0 l D g dep (nI 1) (nI 4) h0_) [] [] rfl rfl (by decide) (by decide) (by decide) q274 q275 q19 q276 (by decide +kernel) rfl (Nat.le_of_ble_eq_true rfl) (Nat.le_of_ble_eq_true rfl) (Nat.le_of_ble_eq_true rfl) (Nat.le_of_ble_eq_true rfl) rfl rfl hl.1 rfl (Nat.le_of_ble_eq_true rfl) dX1_begin_12 (fun v w1 H locs hq Z => ?_)
  obtain ⟨rfl, rfl⟩ := hq
  have Z : zk_Z D A s H locs [] := Z.sub [] (by decide) rfl
  refine W.eq (g2 := F0 mm 15 ls [.int (nI 0)]) rfl ?_
  refine nr_eq0 (tgt := 33) hx hb (by omega) dX1_begin_15 (by decide) (fun c_2 => ?_) (fun c_2 => absurd c_2 (fun q => q rfl))
  refine lv_iconst (v := nI 0) hx hb dX1_begin_33 (by decide) ?_
  refine zk_callST (cells' := 1) (slots' := 6) (rest := []) (n := 1) (wr := []) C Z (t1_need l hfl D g) [] [] rfl rfl (by decide) (by decide) (by decide) q277 q278 q19 q279 (by decide +kernel) rfl (Nat.le_of_ble_eq_true rfl) (Nat.le_of_ble_eq_true rfl) (Nat.le_of_ble_eq_true rfl) (Nat.le_of_ble_eq_true rfl) rfl rfl hl.1 rfl (Nat.le_of_ble_eq_true rfl) dX1_begin_34 (fun w1 hq => ?_)
  obtain rfl := hq
  exact zk_leave hlocks hno (rfl) (Nat.le_of_ble_eq_true rfl) (Nat.le_of_ble_eq_true rfl)

set_option maxHeartbeats 4000000 in
/-- begin, out of bounds -/
theorem t1_begin_c (l : Launch) (hfl : l.flags = flags0) (D : va_G) (g : G4) (hn : Nat) (x t dep : Int32) (h1_ : nI 1 ≤ t ∧ t ≤ nI 3) (h2_ : nI 1 ≤ dep ∧ dep ≤ nI 4) (h0_ : ¬ (nI 8 ≤ x ∧ x ≤ nI 63)) : zk_MT l yX1_begin (ws_ yX1_begin cX1_begin 7 (some .int)) (zk_R 7 1 6) D g [.ref hn, .int x, .int t, .int dep] [] zk_IAE (fun w => w = []) := by
  refine zk_ofWT (by decide) (Nat.le_of_ble_eq_true rfl) ?_
  intro pg ev s mm below meth cd A C hlocks hno Z ls hl
  have hx := C.1.1
  have hb := C.1.2.1
  have hml := C.1.2.2.1
  have hown := C.1.2.2.2.1
  have hts := C.1.2.2.2.2
  have hl : lv_has ls 7 [(0, .ref hn), (1, .int x), (2, .int t), (3, .int dep)] := hl
  refine lv_iload_n hx hb dX1_begin_0 rfl (lv_at hl 2 rfl) ?_
  refine lv_iconst (v := nI 1) hx hb dX1_begin_1 (by decide) ?_
  refine lv_iconst (v := nI 3) hx hb dX1_begin_2 (by decide) ?_
  refine zk_callS (cells' := 0) (slots' := 0) (rest := []) (n := 3) (wr := []) C Z (m1_in1 l D g t (nI 1) (nI 3) h1_.1 h1_.2) [] [] rfl rfl (by decide) (by decide) (by decide) q274 q275 q19 q276 (by decide +kernel) rfl (Nat.le_of_ble_eq_true rfl) (Nat.le_of_ble_eq_true rfl) (Nat.le_of_ble_eq_true rfl) (Nat.le_of_ble_eq_true rfl) rfl rfl hl.1 rfl (Nat.le_of_ble_eq_true rfl) dX1_begin_3 (fun v w1 H locs hq Z => ?_)
  obtain ⟨rfl, rfl⟩ := hq
  have Z : zk_Z D A s H locs [] := Z.sub [] (by decide) rfl
  refine W.eq (g2 := F0 mm 6 ls [.int (nI 1)]) rfl ?_
  refine nr_eq0 (tgt := 33) hx hb (by omega) dX1_begin_6 (by decide) (fun c_1 => absurd c_1 (by decide)) (fun c_1 => ?_)
  refine lv_iload_n hx hb dX1_begin_9 rfl (lv_at hl 3 rfl) ?_
  refine lv_iconst (v := nI 1) hx hb dX1_begin_10 (by decide) ?_
  refine lv_iconst (v := nI 4) hx hb dX1_begin_11 (by decide) ?_
  refine zk_callS (cells' := 0) (slots' := 0) (rest := []) (n := 3) (wr := []) C Z (m1_in1 l D g dep (nI 1) (nI 4) h2_.1 h2_.2) [] [] rfl rfl (by decide) (by decide) (by decide) q274 q275 q19 q276 (by decide +kernel) rfl (Nat.le_of_ble_eq_true rfl) (Nat.le_of_ble_eq_true rfl) (Nat.le_of_ble_eq_true rfl) (Nat.le_of_ble_eq_true rfl) rfl rfl hl.1 rfl (Nat.le_of_ble_eq_true rfl) dX1_begin_12 (fun v w1 H locs hq Z => ?_)
  obtain ⟨rfl, rfl⟩ := hq
  have Z : zk_Z D A s H locs [] := Z.sub [] (by decide) rfl
  refine W.eq (g2 := F0 mm 15 ls [.int (nI 1)]) rfl ?_
  refine nr_eq0 (tgt := 33) hx hb (by omega) dX1_begin_15 (by decide) (fun c_2 => absurd c_2 (by decide)) (fun c_2 => ?_)
  refine lv_iload_n hx hb dX1_begin_18 rfl (lv_at hl 1 rfl) ?_
  refine lv_bipush (v := nI 8) hx hb dX1_begin_19 (by decide) ?_
  refine lv_bipush (v := nI 63) hx hb dX1_begin_21 (by decide) ?_
  refine zk_callS (cells' := 0) (slots' := 0) (rest := []) (n := 3) (wr := []) C Z (m1_in0 l D g x (nI 8) (nI 63) h0_) [] [] rfl rfl (by decide) (by decide) (by decide) q274 q275 q19 q276 (by decide +kernel) rfl (Nat.le_of_ble_eq_true rfl) (Nat.le_of_ble_eq_true rfl) (Nat.le_of_ble_eq_true rfl) (Nat.le_of_ble_eq_true rfl) rfl rfl hl.1 rfl (Nat.le_of_ble_eq_true rfl) dX1_begin_23 (fun v w1 H locs hq Z => ?_)
  obtain ⟨rfl, rfl⟩ := hq
  have Z : zk_Z D A s H locs [] := Z.sub [] (by decide) rfl
  refine W.eq (g2 := F0 mm 26 ls [.int (nI 0)]) rfl ?_
  refine nr_eq0 (tgt := 33) hx hb (by omega) dX1_begin_26 (by decide) (fun c_3 => ?_) (fun c_3 => absurd c_3 (fun q => q rfl))
  refine lv_iconst (v := nI 0) hx hb dX1_begin_33 (by decide) ?_
  refine zk_callST (cells' := 1) (slots' := 6) (rest := []) (n := 1) (wr := []) C Z (t1_need l hfl D g) [] [] rfl rfl (by decide) (by decide) (by decide) q277 q278 q19 q279 (by decide +kernel) rfl (Nat.le_of_ble_eq_true rfl) (Nat.le_of_ble_eq_true rfl) (Nat.le_of_ble_eq_true rfl) (Nat.le_of_ble_eq_true rfl) rfl rfl hl.1 rfl (Nat.le_of_ble_eq_true rfl) dX1_begin_34 (fun w1 hq => ?_)
  obtain rfl := hq
  exact zk_leave hlocks hno (rfl) (Nat.le_of_ble_eq_true rfl) (Nat.le_of_ble_eq_true rfl)

