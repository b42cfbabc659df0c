/-! ===== Division ===== -/
set_option maxRecDepth 100000
set_option maxHeartbeats 4000000 in
theorem lp6_divide {pg : Program} {l : Launch} {ev : Env} {s : State} {mm : MethodId} {args : Array Value} {below : List Frame} {meth : Method} {cd : Code} {Q : State → Prop} {D : va_G} {g : G4} {A : Nat → Prop} (C : zk_C pg s mm cd args cX6_divide 6 RX6 D g A) (hv a1 b1 a2 b2 a3 b3 a4 b4 : Nat) (h0 hp hq p n : Nat) (P L : List Nat) (F : zk_F p n P L) (xl xn : List Nat) (ll : xl.length = 8) (ln : xn.length = 8) (bl : zk_bd n xl) (bn : zk_bd n xn) (d : Nat) (hd : dgn xl 8 = d + 1) (fin : List Nat × List Nat) (kk : ∀ (xh xb : List Nat) (H : Heap) (locs : List Loc) (ls : Array Slot), (xh, xb) = fin → xh.length = 8 → xb.length = 8 → zk_bd n xh → zk_bd n xb → dgn xh 8 ≤ d → zk_Z D A s H locs [(hv, .inr (5, [.ref a1, .ref a2, .ref a3, .ref a4])), (a1, .inr (3, [.ref b1])), (b1, .inl (g.1, 8, .inl (zk_ia xh))), (a2, .inr (3, [.ref b2])), (b2, .inl (g.1, 8, .inl (zk_ia xl))), (a3, .inr (3, [.ref b3])), (b3, .inl (g.1, 8, .inl (zk_ia xb))), (a4, .inr (3, [.ref b4])), (b4, .inl (g.1, 8, .inl (zk_ia xn))), (h0, .inr (2, [.int (nI n), .ref hp, .ref hq])), (hp, .inl (g.1, 62, .inl (zk_ia P))), (hq, .inl (g.1, 32, .inl (zk_ia L)))] → lv_has ls 6 [(0, .ref hv), (1, .ref h0)] → W pg l ev (zk_R 2 0 0) s mm args below meth cd H locs 0 0 Q (F0 mm 98 ls [])) :
    ∀ (k : Nat) (xh xb : List Nat) (H : Heap) (locs : List Loc) (ls : Array Slot), (dgn xh 8 ≤ d + k) → (xh.length = 8) → (xb.length = 8) → (zk_bd n xh) → (zk_bd n xb) → (dvl p d (xl.getD d 0) xl xn k xh xb = fin) → zk_Z D A s H locs [(hv, .inr (5, [.ref a1, .ref a2, .ref a3, .ref a4])), (a1, .inr (3, [.ref b1])), (b1, .inl (g.1, 8, .inl (zk_ia xh))), (a2, .inr (3, [.ref b2])), (b2, .inl (g.1, 8, .inl (zk_ia xl))), (a3, .inr (3, [.ref b3])), (b3, .inl (g.1, 8, .inl (zk_ia xb))), (a4, .inr (3, [.ref b4])), (b4, .inl (g.1, 8, .inl (zk_ia xn))), (h0, .inr (2, [.int (nI n), .ref hp, .ref hq])), (hp, .inl (g.1, 62, .inl (zk_ia P))), (hq, .inl (g.1, 32, .inl (zk_ia L)))] → lv_has ls 6 [(0, .ref hv), (1, .ref h0), (2, .int (nI d)), (3, .int (nI (xl.getD d 0))), (4, .int (nI (dgn xh 8) + (-1)))] → W pg l ev (zk_R 2 0 0) s mm args below meth cd H locs 0 0 Q (F0 mm 27 ls []) := by
  have hx := C.1.1
  have hb := C.1.2.1
  have hml := C.1.2.2.1
  have hown := C.1.2.2.2.1
  have hts := C.1.2.2.2.2
  have hn := F.n31
  have hd8 := dgn_le xl 8
  have t0 : xl.getD d 0 ≠ 0 := by
    have := dgn_top (c := xl) (j := 8) (by omega)
    rwa [hd, Nat.add_sub_cancel] at this
  intro k
  induction k with
  | zero =>
    intro xh xb H locs ls hf lh lb bh bb hfin Z hl
    have hfin : (xh, xb) = fin := hfin
    subst hfin
    refine lv_iload hx hb dX6_divide_27 (lv_at hl 4 rfl) ?_
    refine lv_iload_n hx hb dX6_divide_29 rfl (lv_at hl 2 rfl) ?_
    refine lv_icmp_lt (tgt := 98) hx hb dX6_divide_30 (by decide) (fun c_1 => ?_) (fun c_1 => absurd c_1 (fun q => q ((zk_dlt (dgn_le xh 8) (by omega)).mpr (by omega))))
    exact kk xh xb H locs ls rfl lh lb bh bb (by omega) Z (lv_sub hl [0, 1] rfl)
  | succ k ih =>
    intro xh xb H locs ls hf lh lb bh bb hfin Z hl
    refine lv_iload hx hb dX6_divide_27 (lv_at hl 4 rfl) ?_
    refine lv_iload_n hx hb dX6_divide_29 rfl (lv_at hl 2 rfl) ?_
    refine lv_icmp_lt (tgt := 98) hx hb dX6_divide_30 (by decide) (fun c_1 => ?_) (fun c_1 => ?_)
    · have c_1 := (zk_dlt (dgn_le xh 8) (by omega)).mp c_1
      rw [dvl_e c_1] at hfin
      subst hfin
      exact kk xh xb H locs ls rfl lh lb bh bb c_1 Z (lv_sub hl [0, 1] rfl)
    · have c_1 : ¬ dgn xh 8 ≤ d := fun q => c_1 ((zk_dlt (dgn_le xh 8) (by omega)).mpr q)
      obtain ⟨kd, hkd⟩ : ∃ kd, dgn xh 8 = kd + 1 := ⟨dgn xh 8 - 1, by omega⟩
      have hx8 := dgn_le xh 8
      rw [hkd, pk_m1] at hl
      have hdec := dv_dec F bl bh ll lh hd hkd (by omega)
      rw [dvl_s hkd (by omega)] at hfin
      refine lv_aload_n hx hb dX6_divide_33 rfl (lv_at hl 1 rfl) ?_
      refine lv_aload_n hx hb dX6_divide_34 rfl (lv_at hl 0 rfl) ?_
      refine zk_get C Z in_X6 0 rfl rfl 0 (by decide) q137 rfl (v := .ref a1) rfl dX6_divide_35 ?_
      refine zk_getN C Z in_X4 1 rfl rfl 0 (by decide) q85 rfl (v := .ref b1) rfl dX6_divide_38 ?_
      refine lv_iload hx hb dX6_divide_41 (lv_at hl 4 rfl) ?_
      refine zk_iald C Z 2 rfl (by decide) (by omega) dX6_divide_43 ?_
      refine lv_iload_n hx hb dX6_divide_44 rfl (lv_at hl 3 rfl) ?_
      refine zk_callV (cells' := 0) (slots' := 0) (rest := []) (n := 2) (wr := [(hv, .inr (5, [.ref a1, .ref a2, .ref a3, .ref a4])), (a1, .inr (3, [.ref b1])), (b1, .inl (g.1, 8, .inl (zk_ia xh))), (a2, .inr (3, [.ref b2])), (b2, .inl (g.1, 8, .inl (zk_ia xl))), (a3, .inr (3, [.ref b3])), (b3, .inl (g.1, 8, .inl (zk_ia xb))), (a4, .inr (3, [.ref b4])), (b4, .inl (g.1, 8, .inl (zk_ia xn)))]) C Z (m3_over l D g h0 hp hq p n P L (xh.getD kd 0) (xl.getD d 0) F (bh kd) (bl d) t0) [9, 10, 11] [0, 1, 2, 3, 4, 5, 6, 7, 8] rfl rfl (by decide) (by decide) (by decide) 9 2 rfl rfl rfl q525 q526 q527 q21 q528 (by decide +kernel) rfl (Nat.le_of_ble_eq_true rfl) (Nat.le_of_ble_eq_true rfl) (Nat.le_of_ble_eq_true rfl) (Nat.le_of_ble_eq_true rfl) rfl rfl hl.1 rfl (Nat.le_of_ble_eq_true rfl) dX6_divide_45 (fun v w1 H locs hq Z => ?_)
      obtain ⟨rfl, rfl⟩ := hq
      have Z : zk_Z D A s H locs [(hv, .inr (5, [.ref a1, .ref a2, .ref a3, .ref a4])), (a1, .inr (3, [.ref b1])), (b1, .inl (g.1, 8, .inl (zk_ia xh))), (a2, .inr (3, [.ref b2])), (b2, .inl (g.1, 8, .inl (zk_ia xl))), (a3, .inr (3, [.ref b3])), (b3, .inl (g.1, 8, .inl (zk_ia xb))), (a4, .inr (3, [.ref b4])), (b4, .inl (g.1, 8, .inl (zk_ia xn))), (h0, .inr (2, [.int (nI n), .ref hp, .ref hq])), (hp, .inl (g.1, 62, .inl (zk_ia P))), (hq, .inl (g.1, 32, .inl (zk_ia L)))] := Z.sub [0, 1, 2, 3, 4, 5, 6, 7, 8, 9, 10, 11] (by decide) rfl
      refine W.eq (g2 := F0 mm 48 ls [.int (nI (gd p (xh.getD kd 0) (xl.getD d 0)))]) rfl ?_
      refine lv_istore (lv' := [(5, .int (nI (gd p (xh.getD kd 0) (xl.getD d 0)))), (0, .ref hv), (1, .ref h0), (2, .int (nI d)), (3, .int (nI (xl.getD d 0))), (4, .int (nI kd))]) hx hb dX6_divide_48 hl (by decide) rfl (fun ls hl => ?_)
      refine lv_aload_n hx hb dX6_divide_50 rfl (lv_at hl 1 rfl) ?_
      refine zk_get C Z in_X6 0 rfl rfl 0 (by decide) q137 rfl (v := .ref a1) rfl dX6_divide_51 ?_
      refine lv_aload_n hx hb dX6_divide_54 rfl (lv_at hl 2 rfl) ?_
      refine lv_aload_n hx hb dX6_divide_55 rfl (lv_at hl 1 rfl) ?_
      refine zk_get C Z in_X6 0 rfl rfl 1 (by decide) q138 rfl (v := .ref a2) rfl dX6_divide_56 ?_
      refine lv_iload hx hb dX6_divide_59 (lv_at hl 0 rfl) ?_
      refine lv_iload hx hb dX6_divide_61 (lv_at hl 5 rfl) ?_
      refine lv_iload_n hx hb dX6_divide_63 rfl (lv_at hl 3 rfl) ?_
      refine nr_isub hx hb (by omega) dX6_divide_64 ?_
      have hlen_1 : (padd p (gd p (xh.getD kd 0) (xl.getD d 0)) (kd - d) xl xh).length = 8 := by rw [padd_len]; exact lh
      have hbd_2 : zk_bd n (padd p (gd p (xh.getD kd 0) (xl.getD d 0)) (kd - d) xl xh) := padd_bd F bl (F.gdl (bh kd) (bl d) t0) bh
      refine zk_callV (cells' := 0) (slots' := 0) (rest := []) (n := 4) (wr := [(hv, .inr (5, [.ref a1, .ref a2, .ref a3, .ref a4])), (a3, .inr (3, [.ref b3])), (b3, .inl (g.1, 8, .inl (zk_ia xb))), (a4, .inr (3, [.ref b4])), (b4, .inl (g.1, 8, .inl (zk_ia xn)))]) C Z (m4_add l D g a1 b1 a2 b2 (gd p (xh.getD kd 0) (xl.getD d 0)) (kd - d) h0 hp hq p n P L xl F bl (F.gdl (bh kd) (bl d) t0) (by omega) xh lh) [1, 2, 9, 10, 11, 3, 4] [0, 5, 6, 7, 8] rfl rfl (by decide) (by decide) (by decide) 1 3 rfl rfl rfl q529 q530 q531 q22 q532 (by decide +kernel) rfl (Nat.le_of_ble_eq_true rfl) (Nat.le_of_ble_eq_true rfl) (Nat.le_of_ble_eq_true rfl) (Nat.le_of_ble_eq_true rfl) rfl rfl hl.1 rfl (Nat.le_of_ble_eq_true rfl) dX6_divide_65 (fun v w1 H locs hq Z => ?_)
      obtain ⟨rfl, rfl⟩ := hq
      have Z : zk_Z D A s H locs [(hv, .inr (5, [.ref a1, .ref a2, .ref a3, .ref a4])), (a1, .inr (3, [.ref b1])), (b1, .inl (g.1, 8, .inl (zk_ia (padd p (gd p (xh.getD kd 0) (xl.getD d 0)) (kd - d) xl xh)))), (a2, .inr (3, [.ref b2])), (b2, .inl (g.1, 8, .inl (zk_ia xl))), (a3, .inr (3, [.ref b3])), (b3, .inl (g.1, 8, .inl (zk_ia xb))), (a4, .inr (3, [.ref b4])), (b4, .inl (g.1, 8, .inl (zk_ia xn))), (h0, .inr (2, [.int (nI n), .ref hp, .ref hq])), (hp, .inl (g.1, 62, .inl (zk_ia P))), (hq, .inl (g.1, 32, .inl (zk_ia L)))] := Z.sub [0, 5, 6, 10, 11, 1, 2, 3, 4, 7, 8, 9] (by decide) rfl
      refine W.eq (g2 := F0 mm 68 ls []) rfl ?_
      refine lv_aload_n hx hb dX6_divide_68 rfl (lv_at hl 1 rfl) ?_
      refine zk_get C Z in_X6 0 rfl rfl 2 (by decide) q139 rfl (v := .ref a3) rfl dX6_divide_69 ?_
      refine lv_aload_n hx hb dX6_divide_72 rfl (lv_at hl 2 rfl) ?_
      refine lv_aload_n hx hb dX6_divide_73 rfl (lv_at hl 1 rfl) ?_
      refine zk_get C Z in_X6 0 rfl rfl 3 (by decide) q140 rfl (v := .ref a4) rfl dX6_divide_74 ?_
      refine lv_iload hx hb dX6_divide_77 (lv_at hl 0 rfl) ?_
      refine lv_iload hx hb dX6_divide_79 (lv_at hl 5 rfl) ?_
      refine lv_iload_n hx hb dX6_divide_81 rfl (lv_at hl 3 rfl) ?_
      refine nr_isub hx hb (by omega) dX6_divide_82 ?_
      have hlen_3 : (padd p (gd p (xh.getD kd 0) (xl.getD d 0)) (kd - d) xn xb).length = 8 := by rw [padd_len]; exact lb
      have hbd_4 : zk_bd n (padd p (gd p (xh.getD kd 0) (xl.getD d 0)) (kd - d) xn xb) := padd_bd F bn (F.gdl (bh kd) (bl d) t0) bb
      refine zk_callV (cells' := 0) (slots' := 0) (rest := []) (n := 4) (wr := [(hv, .inr (5, [.ref a1, .ref a2, .ref a3, .ref a4])), (a1, .inr (3, [.ref b1])), (b1, .inl (g.1, 8, .inl (zk_ia (padd p (gd p (xh.getD kd 0) (xl.getD d 0)) (kd - d) xl xh)))), (a2, .inr (3, [.ref b2])), (b2, .inl (g.1, 8, .inl (zk_ia xl)))]) C Z (m4_add l D g a3 b3 a4 b4 (gd p (xh.getD kd 0) (xl.getD d 0)) (kd - d) h0 hp hq p n P L xn F bn (F.gdl (bh kd) (bl d) t0) (by omega) xb lb) [5, 6, 9, 10, 11, 7, 8] [0, 1, 2, 3, 4] rfl rfl (by decide) (by decide) (by decide) 5 3 rfl rfl rfl q529 q530 q531 q22 q532 (by decide +kernel) rfl (Nat.le_of_ble_eq_true rfl) (Nat.le_of_ble_eq_true rfl) (Nat.le_of_ble_eq_true rfl) (Nat.le_of_ble_eq_true rfl) rfl rfl hl.1 rfl (Nat.le_of_ble_eq_true rfl) dX6_divide_83 (fun v w1 H locs hq Z => ?_)
      obtain ⟨rfl, rfl⟩ := hq
      have Z : zk_Z D A s H locs [(hv, .inr (5, [.ref a1, .ref a2, .ref a3, .ref a4])), (a1, .inr (3, [.ref b1])), (b1, .inl (g.1, 8, .inl (zk_ia (padd p (gd p (xh.getD kd 0) (xl.getD d 0)) (kd - d) xl xh)))), (a2, .inr (3, [.ref b2])), (b2, .inl (g.1, 8, .inl (zk_ia xl))), (a3, .inr (3, [.ref b3])), (b3, .inl (g.1, 8, .inl (zk_ia (padd p (gd p (xh.getD kd 0) (xl.getD d 0)) (kd - d) xn xb)))), (a4, .inr (3, [.ref b4])), (b4, .inl (g.1, 8, .inl (zk_ia xn))), (h0, .inr (2, [.int (nI n), .ref hp, .ref hq])), (hp, .inl (g.1, 62, .inl (zk_ia P))), (hq, .inl (g.1, 32, .inl (zk_ia L)))] := Z.sub [0, 1, 2, 3, 4, 5, 6, 10, 11, 7, 8, 9] (by decide) rfl
      refine W.eq (g2 := F0 mm 86 ls []) rfl ?_
      refine lv_aload_n hx hb dX6_divide_86 rfl (lv_at hl 1 rfl) ?_
      refine zk_get C Z in_X6 0 rfl rfl 0 (by decide) q137 rfl (v := .ref a1) rfl dX6_divide_87 ?_
      refine zk_callV (cells' := 0) (slots' := 0) (rest := []) (n := 0) (wr := [(hv, .inr (5, [.ref a1, .ref a2, .ref a3, .ref a4])), (a2, .inr (3, [.ref b2])), (b2, .inl (g.1, 8, .inl (zk_ia xl))), (a3, .inr (3, [.ref b3])), (b3, .inl (g.1, 8, .inl (zk_ia (padd p (gd p (xh.getD kd 0) (xl.getD d 0)) (kd - d) xn xb)))), (a4, .inr (3, [.ref b4])), (b4, .inl (g.1, 8, .inl (zk_ia xn))), (h0, .inr (2, [.int (nI n), .ref hp, .ref hq])), (hp, .inl (g.1, 62, .inl (zk_ia P))), (hq, .inl (g.1, 32, .inl (zk_ia L)))]) C Z (m4_degree l D g a1 b1 (padd p (gd p (xh.getD kd 0) (xl.getD d 0)) (kd - d) xl xh) hlen_1 (zk_bd_mono hbd_2 (by omega))) [1, 2] [0, 3, 4, 5, 6, 7, 8, 9, 10, 11] rfl rfl (by decide) (by decide) (by decide) 1 3 rfl rfl rfl q517 q518 q519 q22 q520 (by decide +kernel) rfl (Nat.le_of_ble_eq_true rfl) (Nat.le_of_ble_eq_true rfl) (Nat.le_of_ble_eq_true rfl) (Nat.le_of_ble_eq_true rfl) rfl rfl hl.1 rfl (Nat.le_of_ble_eq_true rfl) dX6_divide_90 (fun v w1 H locs hq Z => ?_)
      obtain ⟨rfl, rfl⟩ := hq
      have Z : zk_Z D A s H locs [(hv, .inr (5, [.ref a1, .ref a2, .ref a3, .ref a4])), (a1, .inr (3, [.ref b1])), (b1, .inl (g.1, 8, .inl (zk_ia (padd p (gd p (xh.getD kd 0) (xl.getD d 0)) (kd - d) xl xh)))), (a2, .inr (3, [.ref b2])), (b2, .inl (g.1, 8, .inl (zk_ia xl))), (a3, .inr (3, [.ref b3])), (b3, .inl (g.1, 8, .inl (zk_ia (padd p (gd p (xh.getD kd 0) (xl.getD d 0)) (kd - d) xn xb)))), (a4, .inr (3, [.ref b4])), (b4, .inl (g.1, 8, .inl (zk_ia xn))), (h0, .inr (2, [.int (nI n), .ref hp, .ref hq])), (hp, .inl (g.1, 62, .inl (zk_ia P))), (hq, .inl (g.1, 32, .inl (zk_ia L)))] := Z.sub [0, 10, 11, 1, 2, 3, 4, 5, 6, 7, 8, 9] (by decide) rfl
      refine W.eq (g2 := F0 mm 93 ls [.int (nI (dgn (padd p (gd p (xh.getD kd 0) (xl.getD d 0)) (kd - d) xl xh) 8) + (-1))]) rfl ?_
      refine lv_istore (lv' := [(4, .int (nI (dgn (padd p (gd p (xh.getD kd 0) (xl.getD d 0)) (kd - d) xl xh) 8) + (-1))), (5, .int (nI (gd p (xh.getD kd 0) (xl.getD d 0)))), (0, .ref hv), (1, .ref h0), (2, .int (nI d)), (3, .int (nI (xl.getD d 0)))]) hx hb dX6_divide_93 hl (by decide) rfl (fun ls hl => ?_)
      refine lv_goto (tgt := 27) hx hb dX6_divide_95 (by decide) ?_
      exact ih (padd p (gd p (xh.getD kd 0) (xl.getD d 0)) (kd - d) xl xh) (padd p (gd p (xh.getD kd 0) (xl.getD d 0)) (kd - d) xn xb) H locs ls (by omega) hlen_1 hlen_3 hbd_2 hbd_4 hfin Z (lv_sub hl [2, 3, 4, 5, 0] rfl)

set_option maxHeartbeats 4000000 in
/-- Division.divide -/
theorem m6_divide (l : Launch) (D : va_G) (g : G4) (hv a1 b1 a2 b2 a3 b3 a4 b4 : Nat) (h0 hp hq p n : Nat) (P L : List Nat) (F : zk_F p n P L) (xh xl xb xn : List Nat) (lh : xh.length = 8) (lb : xb.length = 8) (bh : zk_bd n xh) (bb : zk_bd n xb) (ll : xl.length = 8) (ln : xn.length = 8) (bl : zk_bd n xl) (bn : zk_bd n xn) (d : Nat) (hd : dgn xl 8 = d + 1) : zk_M l yX6_divide (ws_ yX6_divide cX6_divide 6 none) (zk_R 2 0 0) D g [.ref hv, .ref h0] [(hv, .inr (5, [.ref a1, .ref a2, .ref a3, .ref a4])), (a1, .inr (3, [.ref b1])), (b1, .inl (g.1, 8, .inl (zk_ia xh))), (a2, .inr (3, [.ref b2])), (b2, .inl (g.1, 8, .inl (zk_ia xl))), (a3, .inr (3, [.ref b3])), (b3, .inl (g.1, 8, .inl (zk_ia xb))), (a4, .inr (3, [.ref b4])), (b4, .inl (g.1, 8, .inl (zk_ia xn))), (h0, .inr (2, [.int (nI n), .ref hp, .ref hq])), (hp, .inl (g.1, 62, .inl (zk_ia P))), (hq, .inl (g.1, 32, .inl (zk_ia L)))] (zk_D none [(hv, .inr (5, [.ref a2, .ref a1, .ref a4, .ref a3])), (a1, .inr (3, [.ref b1])), (b1, .inl (g.1, 8, .inl (zk_ia ((dvl p d (xl.getD d 0) xl xn 8 xh xb).1)))), (a2, .inr (3, [.ref b2])), (b2, .inl (g.1, 8, .inl (zk_ia xl))), (a3, .inr (3, [.ref b3])), (b3, .inl (g.1, 8, .inl (zk_ia ((dvl p d (xl.getD d 0) xl xn 8 xh xb).2)))), (a4, .inr (3, [.ref b4])), (b4, .inl (g.1, 8, .inl (zk_ia xn))), (h0, .inr (2, [.int (nI n), .ref hp, .ref hq])), (hp, .inl (g.1, 62, .inl (zk_ia P))), (hq, .inl (g.1, 32, .inl (zk_ia L)))]) := by
  refine zk_ofW (by decide) (Nat.le_of_ble_eq_true rfl) ?_
  intro pg ev s mm below meth cd A C hr hlocks hname Z ls hl
  have hx := C.1.1
  have hb := C.1.2.1
  have hml := C.1.2.2.1
  have hown := C.1.2.2.2.1
  have hts := C.1.2.2.2.2
  have hl : lv_has ls 6 [(0, .ref hv), (1, .ref h0)] := hl
  have hn := F.n31
  have hd8 := dgn_le xl 8
  obtain ⟨H, hH⟩ : ∃ H, H = s.heap := ⟨_, rfl⟩
  obtain ⟨locs, hlocs⟩ : ∃ q : List Loc, q = [] := ⟨_, rfl⟩
  rw [← hH, ← hlocs] at Z ⊢
  refine lv_aload_n hx hb dX6_divide_0 rfl (lv_at hl 0 rfl) ?_
  refine zk_get C Z in_X6 0 rfl rfl 1 (by decide) q138 rfl (v := .ref a2) rfl dX6_divide_1 ?_
  refine zk_callV (cells' := 0) (slots' := 0) (rest := []) (n := 0) (wr := [(hv, .inr (5, [.ref a1, .ref a2, .ref a3, .ref a4])), (a1, .inr (3, [.ref b1])), (b1, .inl (g.1, 8, .inl (zk_ia xh))), (a3, .inr (3, [.ref b3])), (b3, .inl (g.1, 8, .inl (zk_ia xb))), (a4, .inr (3, [.ref b4])), (b4, .inl (g.1, 8, .inl (zk_ia xn))), (h0, .inr (2, [.int (nI n), .ref hp, .ref hq])), (hp, .inl (g.1, 62, .inl (zk_ia P))), (hq, .inl (g.1, 32, .inl (zk_ia L)))]) C Z (m4_degree l D g a2 b2 xl ll (zk_bd_mono bl (by omega))) [3, 4] [0, 1, 2, 5, 6, 7, 8, 9, 10, 11] rfl rfl (by decide) (by decide) (by decide) 3 3 rfl rfl rfl q517 q518 q519 q22 q520 (by decide +kernel) rfl (Nat.le_of_ble_eq_true rfl) (Nat.le_of_ble_eq_true rfl) (Nat.le_of_ble_eq_true rfl) (Nat.le_of_ble_eq_true rfl) rfl rfl hl.1 rfl (Nat.le_of_ble_eq_true rfl) dX6_divide_4 (fun v w1 H locs hq Z => ?_)
  obtain ⟨rfl, rfl⟩ := hq
  have Z : zk_Z D A s H locs [(hv, .inr (5, [.ref a1, .ref a2, .ref a3, .ref a4])), (a1, .inr (3, [.ref b1])), (b1, .inl (g.1, 8, .inl (zk_ia xh))), (a2, .inr (3, [.ref b2])), (b2, .inl (g.1, 8, .inl (zk_ia xl))), (a3, .inr (3, [.ref b3])), (b3, .inl (g.1, 8, .inl (zk_ia xb))), (a4, .inr (3, [.ref b4])), (b4, .inl (g.1, 8, .inl (zk_ia xn))), (h0, .inr (2, [.int (nI n), .ref hp, .ref hq])), (hp, .inl (g.1, 62, .inl (zk_ia P))), (hq, .inl (g.1, 32, .inl (zk_ia L)))] := Z.sub [0, 1, 2, 10, 11, 3, 4, 5, 6, 7, 8, 9] (by decide) rfl
  refine W.eq (g2 := F0 mm 7 ls [.int (nI (dgn xl 8) + (-1))]) rfl ?_
  rw [show nI (dgn xl 8) + (-1) = nI d from by rw [hd, pk_m1]]
  refine lv_istore_n (lv' := [(2, .int (nI d)), (0, .ref hv), (1, .ref h0)]) hx hb dX6_divide_7 rfl hl (by decide) rfl (fun ls hl => ?_)
  refine lv_aload_n hx hb dX6_divide_8 rfl (lv_at hl 1 rfl) ?_
  refine zk_get C Z in_X6 0 rfl rfl 1 (by decide) q138 rfl (v := .ref a2) rfl dX6_divide_9 ?_
  refine zk_getN C Z in_X4 3 rfl rfl 0 (by decide) q85 rfl (v := .ref b2) rfl dX6_divide_12 ?_
  refine lv_iload_n hx hb dX6_divide_15 rfl (lv_at hl 0 rfl) ?_
  refine zk_iald C Z 4 rfl (by decide) (by omega) dX6_divide_16 ?_
  refine lv_istore_n (lv' := [(3, .int (nI (xl.getD d 0))), (2, .int (nI d)), (0, .ref hv), (1, .ref h0)]) hx hb dX6_divide_17 rfl hl (by decide) rfl (fun ls hl => ?_)
  refine lv_aload_n hx hb dX6_divide_18 rfl (lv_at hl 2 rfl) ?_
  refine zk_get C Z in_X6 0 rfl rfl 0 (by decide) q137 rfl (v := .ref a1) rfl dX6_divide_19 ?_
  refine zk_callV (cells' := 0) (slots' := 0) (rest := []) (n := 0) (wr := [(hv, .inr (5, [.ref a1, .ref a2, .ref a3, .ref a4])), (a2, .inr (3, [.ref b2])), (b2, .inl (g.1, 8, .inl (zk_ia xl))), (a3, .inr (3, [.ref b3])), (b3, .inl (g.1, 8, .inl (zk_ia xb))), (a4, .inr (3, [.ref b4])), (b4, .inl (g.1, 8, .inl (zk_ia xn))), (h0, .inr (2, [.int (nI n), .ref hp, .ref hq])), (hp, .inl (g.1, 62, .inl (zk_ia P))), (hq, .inl (g.1, 32, .inl (zk_ia L)))]) C Z (m4_degree l D g a1 b1 xh lh (zk_bd_mono bh (by omega))) [1, 2] [0, 3, 4, 5, 6, 7, 8, 9, 10, 11] rfl rfl (by decide) (by decide) (by decide) 1 3 rfl rfl rfl q517 q518 q519 q22 q520 (by decide +kernel) rfl (Nat.le_of_ble_eq_true rfl) (Nat.le_of_ble_eq_true rfl) (Nat.le_of_ble_eq_true rfl) (Nat.le_of_ble_eq_true rfl) rfl rfl hl.1 rfl (Nat.le_of_ble_eq_true rfl) dX6_divide_22 (fun v w1 H locs hq Z => ?_)
  obtain ⟨rfl, rfl⟩ := hq
  have Z : zk_Z D A s H locs [(hv, .inr (5, [.ref a1, .ref a2, .ref a3, .ref a4])), (a1, .inr (3, [.ref b1])), (b1, .inl (g.1, 8, .inl (zk_ia xh))), (a2, .inr (3, [.ref b2])), (b2, .inl (g.1, 8, .inl (zk_ia xl))), (a3, .inr (3, [.ref b3])), (b3, .inl (g.1, 8, .inl (zk_ia xb))), (a4, .inr (3, [.ref b4])), (b4, .inl (g.1, 8, .inl (zk_ia xn))), (h0, .inr (2, [.int (nI n), .ref hp, .ref hq])), (hp, .inl (g.1, 62, .inl (zk_ia P))), (hq, .inl (g.1, 32, .inl (zk_ia L)))] := Z.sub [0, 10, 11, 1, 2, 3, 4, 5, 6, 7, 8, 9] (by decide) rfl
  refine W.eq (g2 := F0 mm 25 ls [.int (nI (dgn xh 8) + (-1))]) rfl ?_
  refine lv_istore (lv' := [(4, .int (nI (dgn xh 8) + (-1))), (3, .int (nI (xl.getD d 0))), (2, .int (nI d)), (0, .ref hv), (1, .ref h0)]) hx hb dX6_divide_25 hl (by decide) rfl (fun ls hl => ?_)
  refine lp6_divide C hv a1 b1 a2 b2 a3 b3 a4 b4 h0 hp hq p n P L F xl xn ll ln bl bn d hd _ (fun xh1 xb1 H locs ls e1 lh1 lb1 bh1 bb1 hdg1 Z hl => ?_) 8 xh xb H locs ls (by have := dgn_le xh 8; omega) lh lb bh bb rfl Z (lv_sub hl [3, 4, 2, 1, 0] rfl)
  refine lv_aload_n hx hb dX6_divide_98 rfl (lv_at hl 0 rfl) ?_
  refine zk_get C Z in_X6 0 rfl rfl 0 (by decide) q137 rfl (v := .ref a1) rfl dX6_divide_99 ?_
  refine lv_astore (lv' := [(4, .ref a1), (0, .ref hv), (1, .ref h0)]) hx hb dX6_divide_102 hl (by decide) rfl (fun ls hl => ?_)
  refine lv_aload_n hx hb dX6_divide_104 rfl (lv_at hl 1 rfl) ?_
  refine lv_aload_n hx hb dX6_divide_105 rfl (lv_at hl 1 rfl) ?_
  refine zk_get C Z in_X6 0 rfl rfl 1 (by decide) q138 rfl (v := .ref a2) rfl dX6_divide_106 ?_
  refine zk_put C Z in_X6 tyX6 tyX6_ok nmX6 0 rfl rfl 0 (by decide) q137 rfl rfl (v := .ref a2) rfl rfl (Nat.le_of_ble_eq_true rfl) dX6_divide_109 (fun H locs Z => ?_)
  have Z : zk_Z D A s H locs [(hv, .inr (5, [.ref a2, .ref a2, .ref a3, .ref a4])), (a1, .inr (3, [.ref b1])), (b1, .inl (g.1, 8, .inl (zk_ia xh1))), (a2, .inr (3, [.ref b2])), (b2, .inl (g.1, 8, .inl (zk_ia xl))), (a3, .inr (3, [.ref b3])), (b3, .inl (g.1, 8, .inl (zk_ia xb1))), (a4, .inr (3, [.ref b4])), (b4, .inl (g.1, 8, .inl (zk_ia xn))), (h0, .inr (2, [.int (nI n), .ref hp, .ref hq])), (hp, .inl (g.1, 62, .inl (zk_ia P))), (hq, .inl (g.1, 32, .inl (zk_ia L)))] := Z
  refine lv_aload_n hx hb dX6_divide_112 rfl (lv_at hl 1 rfl) ?_
  refine lv_aload hx hb dX6_divide_113 (lv_at hl 0 rfl) ?_
  refine zk_put C Z in_X6 tyX6 tyX6_ok nmX6 0 rfl rfl 1 (by decide) q138 rfl rfl (v := .ref a1) rfl rfl (Nat.le_of_ble_eq_true rfl) dX6_divide_115 (fun H locs Z => ?_)
  have Z : zk_Z D A s H locs [(hv, .inr (5, [.ref a2, .ref a1, .ref a3, .ref a4])), (a1, .inr (3, [.ref b1])), (b1, .inl (g.1, 8, .inl (zk_ia xh1))), (a2, .inr (3, [.ref b2])), (b2, .inl (g.1, 8, .inl (zk_ia xl))), (a3, .inr (3, [.ref b3])), (b3, .inl (g.1, 8, .inl (zk_ia xb1))), (a4, .inr (3, [.ref b4])), (b4, .inl (g.1, 8, .inl (zk_ia xn))), (h0, .inr (2, [.int (nI n), .ref hp, .ref hq])), (hp, .inl (g.1, 62, .inl (zk_ia P))), (hq, .inl (g.1, 32, .inl (zk_ia L)))] := Z
  refine lv_aload_n hx hb dX6_divide_118 rfl (lv_at hl 1 rfl) ?_
  refine zk_get C Z in_X6 0 rfl rfl 2 (by decide) q139 rfl (v := .ref a3) rfl dX6_divide_119 ?_
  refine lv_astore (lv' := [(4, .ref a3), (0, .ref hv), (1, .ref h0)]) hx hb dX6_divide_122 hl (by decide) rfl (fun ls hl => ?_)
  refine lv_aload_n hx hb dX6_divide_124 rfl (lv_at hl 1 rfl) ?_
  refine lv_aload_n hx hb dX6_divide_125 rfl (lv_at hl 1 rfl) ?_
  refine zk_get C Z in_X6 0 rfl rfl 3 (by decide) q140 rfl (v := .ref a4) rfl dX6_divide_126 ?_
  refine zk_put C Z in_X6 tyX6 tyX6_ok nmX6 0 rfl rfl 2 (by decide) q139 rfl rfl (v := .ref a4) rfl rfl (Nat.le_of_ble_eq_true rfl) dX6_divide_129 (fun H locs Z => ?_)
  have Z : zk_Z D A s H locs [(hv, .inr (5, [.ref a2, .ref a1, .ref a4, .ref a4])), (a1, .inr (3, [.ref b1])), (b1, .inl (g.1, 8, .inl (zk_ia xh1))), (a2, .inr (3, [.ref b2])), (b2, .inl (g.1, 8, .inl (zk_ia xl))), (a3, .inr (3, [.ref b3])), (b3, .inl (g.1, 8, .inl (zk_ia xb1))), (a4, .inr (3, [.ref b4])), (b4, .inl (g.1, 8, .inl (zk_ia xn))), (h0, .inr (2, [.int (nI n), .ref hp, .ref hq])), (hp, .inl (g.1, 62, .inl (zk_ia P))), (hq, .inl (g.1, 32, .inl (zk_ia L)))] := Z
  refine lv_aload_n hx hb dX6_divide_132 rfl (lv_at hl 1 rfl) ?_
  refine lv_aload hx hb dX6_divide_133 (lv_at hl 0 rfl) ?_
  refine zk_put C Z in_X6 tyX6 tyX6_ok nmX6 0 rfl rfl 3 (by decide) q140 rfl rfl (v := .ref a3) rfl rfl (Nat.le_of_ble_eq_true rfl) dX6_divide_135 (fun H locs Z => ?_)
  have Z : zk_Z D A s H locs [(hv, .inr (5, [.ref a2, .ref a1, .ref a4, .ref a3])), (a1, .inr (3, [.ref b1])), (b1, .inl (g.1, 8, .inl (zk_ia xh1))), (a2, .inr (3, [.ref b2])), (b2, .inl (g.1, 8, .inl (zk_ia xl))), (a3, .inr (3, [.ref b3])), (b3, .inl (g.1, 8, .inl (zk_ia xb1))), (a4, .inr (3, [.ref b4])), (b4, .inl (g.1, 8, .inl (zk_ia xn))), (h0, .inr (2, [.int (nI n), .ref hp, .ref hq])), (hp, .inl (g.1, 62, .inl (zk_ia P))), (hq, .inl (g.1, 32, .inl (zk_ia L)))] := Z
  exact zk_vret C hr hlocks Z ⟨rfl, by rw [← e1]⟩ (Nat.le_of_ble_eq_true rfl) (Nat.le_of_ble_eq_true rfl) dX6_divide_138

theorem dvl_facts {p n d : Nat} {P L xl xn : List Nat} (F : zk_F p n P L) (ll : xl.length = 8) (ln : xn.length = 8) (bl : zk_bd n xl) (bn : zk_bd n xn) (hd : dgn xl 8 = d + 1) : ∀ (f : Nat) (xh xb : List Nat), dgn xh 8 ≤ d + f → xh.length = 8 → xb.length = 8 → zk_bd n xh → zk_bd n xb → (dvl p d (xl.getD d 0) xl xn f xh xb).1.length = 8 ∧ (dvl p d (xl.getD d 0) xl xn f xh xb).2.length = 8 ∧ zk_bd n (dvl p d (xl.getD d 0) xl xn f xh xb).1 ∧ zk_bd n (dvl p d (xl.getD d 0) xl xn f xh xb).2 ∧ dgn (dvl p d (xl.getD d 0) xl xn f xh xb).1 8 ≤ d := by
  have hd8 := dgn_le xl 8
  have t0 : xl.getD d 0 ≠ 0 := by
    have := dgn_top (c := xl) (j := 8) (by omega)
    rwa [hd, Nat.add_sub_cancel] at this
  intro f
  induction f with
  | zero => intro xh xb h0 h1 h2 h3 h4; exact ⟨h1, h2, h3, h4, h0⟩
  | succ f ih =>
    intro xh xb h0 h1 h2 h3 h4
    by_cases q : dgn xh 8 ≤ d
    · rw [dvl_e q]; exact ⟨h1, h2, h3, h4, q⟩
    · obtain ⟨kd, hkd⟩ : ∃ kd, dgn xh 8 = kd + 1 := ⟨dgn xh 8 - 1, by omega⟩
      have hg := F.gdl (h3 kd) (bl d) t0
      have hdec := dv_dec F bl h3 ll h1 hd hkd (by omega)
      rw [dvl_s hkd (by omega)]
      exact ih _ _ (by omega) (by rw [padd_len]; exact h1) (by rw [padd_len]; exact h2) (padd_bd F bl hg h3) (padd_bd F bn hg h4)
set_option maxHeartbeats 4000000 in
theorem lp6_low {pg : Program} {l : Launch} {ev : Env} {s : State} {mm : MethodId} {args : Array Value} {below : List Frame} {meth : Method} {cd : Code} {Q : State → Prop} {D : va_G} {g : G4} {A : Nat → Prop} (C : zk_C pg s mm cd args cX6_find 6 RX6 D g A) (hv hs hw hwc t : Nat) (h0 hp hq p n : Nat) (P L : List Nat) (S : List Nat) (F : zk_F p n P L) (bS : zk_bs n t S) (t1 : 1 ≤ t) (t3 : t ≤ 3) (a1 b1 a2 b2 a3 b3 a4 b4 : Nat) (xh xb xn c : List Nat) (fin : List Nat) (kk : ∀ (xl : List Nat) (H : Heap) (locs : List Loc) (ls : Array Slot), xl = fin → xl.length = 8 → zk_bd n xl → zk_Z D A s H locs [(hv, .inr (5, [.ref a1, .ref a2, .ref a3, .ref a4])), (a1, .inr (3, [.ref b1])), (b1, .inl (g.1, 8, .inl (zk_ia xh))), (a2, .inr (3, [.ref b2])), (b2, .inl (g.1, 8, .inl (zk_ia xl))), (a3, .inr (3, [.ref b3])), (b3, .inl (g.1, 8, .inl (zk_ia xb))), (a4, .inr (3, [.ref b4])), (b4, .inl (g.1, 8, .inl (zk_ia xn))), (h0, .inr (2, [.int (nI n), .ref hp, .ref hq])), (hp, .inl (g.1, 62, .inl (zk_ia P))), (hq, .inl (g.1, 32, .inl (zk_ia L))), (hs, .inl (g.1, 7, .inl (zk_ia S))), (hw, .inr (3, [.ref hwc])), (hwc, .inl (g.1, 8, .inl (zk_ia c)))] → lv_has ls 6 [(0, .ref hv), (1, .ref h0), (2, .ref hs), (3, .int (nI t)), (4, .ref hw)] → W pg l ev (zk_R 3 0 0) s mm args below meth cd H locs 0 0 Q (F0 mm 61 ls [])) :
    ∀ (k : Nat) (j : Nat) (xl : List Nat) (H : Heap) (locs : List Loc) (ls : Array Slot), (j + k = 2 * t + 1) → (1 ≤ j) → (xl.length = 8) → (zk_bd n xl) → (zk_it (dlF S) k j xl = fin) → zk_Z D A s H locs [(hv, .inr (5, [.ref a1, .ref a2, .ref a3, .ref a4])), (a1, .inr (3, [.ref b1])), (b1, .inl (g.1, 8, .inl (zk_ia xh))), (a2, .inr (3, [.ref b2])), (b2, .inl (g.1, 8, .inl (zk_ia xl))), (a3, .inr (3, [.ref b3])), (b3, .inl (g.1, 8, .inl (zk_ia xb))), (a4, .inr (3, [.ref b4])), (b4, .inl (g.1, 8, .inl (zk_ia xn))), (h0, .inr (2, [.int (nI n), .ref hp, .ref hq])), (hp, .inl (g.1, 62, .inl (zk_ia P))), (hq, .inl (g.1, 32, .inl (zk_ia L))), (hs, .inl (g.1, 7, .inl (zk_ia S))), (hw, .inr (3, [.ref hwc])), (hwc, .inl (g.1, 8, .inl (zk_ia c)))] → lv_has ls 6 [(0, .ref hv), (1, .ref h0), (2, .ref hs), (3, .int (nI t)), (4, .ref hw), (5, .int (nI j))] → W pg l ev (zk_R 3 0 0) s mm args below meth cd H locs 0 0 Q (F0 mm 31 ls []) := by
  have hx := C.1.1
  have hb := C.1.2.1
  have hml := C.1.2.2.1
  have hown := C.1.2.2.2.1
  have hts := C.1.2.2.2.2
  have hn := F.n31
  intro k
  induction k with
  | zero =>
    intro j xl H locs ls hik hj1 ll bl hfin Z hl
    have hfin : xl = fin := hfin
    refine lv_iload hx hb dX6_find_31 (lv_at hl 5 rfl) ?_
    refine lv_iconst (v := nI 2) hx hb dX6_find_33 (by decide) ?_
    refine lv_iload_n hx hb dX6_find_34 rfl (lv_at hl 3 rfl) ?_
    refine nr_imul hx hb dX6_find_35 ?_
    refine nr_gt (tgt := 61) hx hb (by omega) (by omega) dX6_find_36 (by decide) (fun c_1 => ?_) (fun c_1 => absurd c_1 (by omega))
    exact kk xl H locs ls hfin ll bl Z (lv_sub hl [0, 1, 2, 3, 4] rfl)
  | succ k ih =>
    intro j xl H locs ls hik hj1 ll bl hfin Z hl
    refine lv_iload hx hb dX6_find_31 (lv_at hl 5 rfl) ?_
    refine lv_iconst (v := nI 2) hx hb dX6_find_33 (by decide) ?_
    refine lv_iload_n hx hb dX6_find_34 rfl (lv_at hl 3 rfl) ?_
    refine nr_imul hx hb dX6_find_35 ?_
    refine nr_gt (tgt := 61) hx hb (by omega) (by omega) dX6_find_36 (by decide) (fun c_1 => absurd c_1 (by omega)) (fun c_1 => ?_)
    refine lv_aload_n hx hb dX6_find_39 rfl (lv_at hl 0 rfl) ?_
    refine zk_get C Z in_X6 0 rfl rfl 1 (by decide) q138 rfl (v := .ref a2) rfl dX6_find_40 ?_
    refine zk_getN C Z in_X4 3 rfl rfl 0 (by decide) q85 rfl (v := .ref b2) rfl dX6_find_43 ?_
    refine lv_iload hx hb dX6_find_46 (lv_at hl 5 rfl) ?_
    refine lv_iconst (v := nI 1) hx hb dX6_find_48 (by decide) ?_
    refine nr_isub hx hb (by omega) dX6_find_49 ?_
    refine lv_aload_n hx hb dX6_find_50 rfl (lv_at hl 2 rfl) ?_
    refine lv_iload hx hb dX6_find_51 (lv_at hl 5 rfl) ?_
    refine zk_iald C Z 12 rfl (by decide) (by omega) dX6_find_53 ?_
    refine zk_iast C Z 4 rfl (by decide) (by omega) ll dX6_find_54 (fun H locs Z => ?_)
    have hlen_2 : (xl.set (j - 1) (S.getD j 0)).length = 8 := by rw [List.length_set]; exact ll
    have hbd_3 : zk_bd n (xl.set (j - 1) (S.getD j 0)) := zk_bd_set bl (bS j (by omega))
    have Z : zk_Z D A s H locs [(hv, .inr (5, [.ref a1, .ref a2, .ref a3, .ref a4])), (a1, .inr (3, [.ref b1])), (b1, .inl (g.1, 8, .inl (zk_ia xh))), (a2, .inr (3, [.ref b2])), (b2, .inl (g.1, 8, .inl (zk_ia (xl.set (j - 1) (S.getD j 0))))), (a3, .inr (3, [.ref b3])), (b3, .inl (g.1, 8, .inl (zk_ia xb))), (a4, .inr (3, [.ref b4])), (b4, .inl (g.1, 8, .inl (zk_ia xn))), (h0, .inr (2, [.int (nI n), .ref hp, .ref hq])), (hp, .inl (g.1, 62, .inl (zk_ia P))), (hq, .inl (g.1, 32, .inl (zk_ia L))), (hs, .inl (g.1, 7, .inl (zk_ia S))), (hw, .inr (3, [.ref hwc])), (hwc, .inl (g.1, 8, .inl (zk_ia c)))] := Z
    refine nr_iinc (n := 1) (lv' := [(5, .int (nI (j + 1))), (0, .ref hv), (1, .ref h0), (2, .ref hs), (3, .int (nI t)), (4, .ref hw)]) hx hb (by decide) dX6_find_55 hl (k := 5) rfl (by decide) rfl (fun ls hl => ?_)
    refine lv_goto (tgt := 31) hx hb dX6_find_58 (by decide) ?_
    exact ih (j + 1) (xl.set (j - 1) (S.getD j 0)) H locs ls (by omega) (by omega) hlen_2 hbd_3 hfin Z (lv_sub hl [1, 2, 3, 4, 5, 0] rfl)

set_option maxHeartbeats 4000000 in
theorem lp6_find {pg : Program} {l : Launch} {ev : Env} {s : State} {mm : MethodId} {args : Array Value} {below : List Frame} {meth : Method} {cd : Code} {Q : State → Prop} {D : va_G} {g : G4} {A : Nat → Prop} (C : zk_C pg s mm cd args cX6_find 6 RX6 D g A) (hv hs hw hwc t : Nat) (h0 hp hq p n : Nat) (P L : List Nat) (S : List Nat) (F : zk_F p n P L) (bS : zk_bs n t S) (t1 : 1 ≤ t) (t3 : t ≤ 3) (c : List Nat) (fin : List Nat) (kk : ∀ (a1 b1 a2 b2 a3 b3 a4 b4 : Nat) (xh xl xb xn : List Nat) (H : Heap) (locs : List Loc) (ls : Array Slot), xn = fin → xh.length = 8 → xl.length = 8 → xb.length = 8 → xn.length = 8 → zk_bd n xn → zk_Z D A s H locs [(hv, .inr (5, [.ref a1, .ref a2, .ref a3, .ref a4])), (a1, .inr (3, [.ref b1])), (b1, .inl (g.1, 8, .inl (zk_ia xh))), (a2, .inr (3, [.ref b2])), (b2, .inl (g.1, 8, .inl (zk_ia xl))), (a3, .inr (3, [.ref b3])), (b3, .inl (g.1, 8, .inl (zk_ia xb))), (a4, .inr (3, [.ref b4])), (b4, .inl (g.1, 8, .inl (zk_ia xn))), (h0, .inr (2, [.int (nI n), .ref hp, .ref hq])), (hp, .inl (g.1, 62, .inl (zk_ia P))), (hq, .inl (g.1, 32, .inl (zk_ia L))), (hs, .inl (g.1, 7, .inl (zk_ia S))), (hw, .inr (3, [.ref hwc])), (hwc, .inl (g.1, 8, .inl (zk_ia c)))] → lv_has ls 6 [(0, .ref hv), (1, .ref h0), (2, .ref hs), (3, .int (nI t)), (4, .ref hw)] → W pg l ev (zk_R 3 0 0) s mm args below meth cd H locs 0 0 Q (F0 mm 106 ls [])) :
    ∀ (k : Nat) (a1 b1 a2 b2 a3 b3 a4 b4 : Nat) (xh xl xb xn : List Nat) (H : Heap) (locs : List Loc) (ls : Array Slot), (dgn xl 8 ≤ t + k) → (xh.length = 8) → (xl.length = 8) → (xb.length = 8) → (xn.length = 8) → (zk_bd n xh) → (zk_bd n xl) → (zk_bd n xb) → (zk_bd n xn) → (dvs p t k xh xl xb xn = fin) → zk_Z D A s H locs [(hv, .inr (5, [.ref a1, .ref a2, .ref a3, .ref a4])), (a1, .inr (3, [.ref b1])), (b1, .inl (g.1, 8, .inl (zk_ia xh))), (a2, .inr (3, [.ref b2])), (b2, .inl (g.1, 8, .inl (zk_ia xl))), (a3, .inr (3, [.ref b3])), (b3, .inl (g.1, 8, .inl (zk_ia xb))), (a4, .inr (3, [.ref b4])), (b4, .inl (g.1, 8, .inl (zk_ia xn))), (h0, .inr (2, [.int (nI n), .ref hp, .ref hq])), (hp, .inl (g.1, 62, .inl (zk_ia P))), (hq, .inl (g.1, 32, .inl (zk_ia L))), (hs, .inl (g.1, 7, .inl (zk_ia S))), (hw, .inr (3, [.ref hwc])), (hwc, .inl (g.1, 8, .inl (zk_ia c)))] → lv_has ls 6 [(0, .ref hv), (1, .ref h0), (2, .ref hs), (3, .int (nI t)), (4, .ref hw)] → W pg l ev (zk_R 3 0 0) s mm args below meth cd H locs 0 0 Q (F0 mm 87 ls []) := by
  have hx := C.1.1
  have hb := C.1.2.1
  have hml := C.1.2.2.1
  have hown := C.1.2.2.2.1
  have hts := C.1.2.2.2.2
  have hn := F.n31
  intro k
  induction k with
  | zero =>
    intro a1 b1 a2 b2 a3 b3 a4 b4 xh xl xb xn H locs ls hf lh ll lb ln bh bl bb bn hfin Z hl
    have hfin : xn = fin := hfin
    refine lv_aload_n hx hb dX6_find_87 rfl (lv_at hl 0 rfl) ?_
    refine zk_get C Z in_X6 0 rfl rfl 1 (by decide) q138 rfl (v := .ref a2) rfl dX6_find_88 ?_
    refine zk_callV (cells' := 0) (slots' := 0) (rest := []) (n := 0) (wr := [(hv, .inr (5, [.ref a1, .ref a2, .ref a3, .ref a4])), (a1, .inr (3, [.ref b1])), (b1, .inl (g.1, 8, .inl (zk_ia xh))), (a3, .inr (3, [.ref b3])), (b3, .inl (g.1, 8, .inl (zk_ia xb))), (a4, .inr (3, [.ref b4])), (b4, .inl (g.1, 8, .inl (zk_ia xn))), (h0, .inr (2, [.int (nI n), .ref hp, .ref hq])), (hp, .inl (g.1, 62, .inl (zk_ia P))), (hq, .inl (g.1, 32, .inl (zk_ia L))), (hs, .inl (g.1, 7, .inl (zk_ia S))), (hw, .inr (3, [.ref hwc])), (hwc, .inl (g.1, 8, .inl (zk_ia c)))]) C Z (m4_degree l D g a2 b2 xl ll (zk_bd_mono bl (by omega))) [3, 4] [0, 1, 2, 5, 6, 7, 8, 9, 10, 11, 12, 13, 14] rfl rfl (by decide) (by decide) (by decide) 3 3 rfl rfl rfl q517 q518 q519 q22 q520 (by decide +kernel) rfl (Nat.le_of_ble_eq_true rfl) (Nat.le_of_ble_eq_true rfl) (Nat.le_of_ble_eq_true rfl) (Nat.le_of_ble_eq_true rfl) rfl rfl hl.1 rfl (Nat.le_of_ble_eq_true rfl) dX6_find_91 (fun v w1 H locs hq Z => ?_)
    obtain ⟨rfl, rfl⟩ := hq
    have Z : zk_Z D A s H locs [(hv, .inr (5, [.ref a1, .ref a2, .ref a3, .ref a4])), (a1, .inr (3, [.ref b1])), (b1, .inl (g.1, 8, .inl (zk_ia xh))), (a2, .inr (3, [.ref b2])), (b2, .inl (g.1, 8, .inl (zk_ia xl))), (a3, .inr (3, [.ref b3])), (b3, .inl (g.1, 8, .inl (zk_ia xb))), (a4, .inr (3, [.ref b4])), (b4, .inl (g.1, 8, .inl (zk_ia xn))), (h0, .inr (2, [.int (nI n), .ref hp, .ref hq])), (hp, .inl (g.1, 62, .inl (zk_ia P))), (hq, .inl (g.1, 32, .inl (zk_ia L))), (hs, .inl (g.1, 7, .inl (zk_ia S))), (hw, .inr (3, [.ref hwc])), (hwc, .inl (g.1, 8, .inl (zk_ia c)))] := Z.sub [0, 1, 2, 13, 14, 3, 4, 5, 6, 7, 8, 9, 10, 11, 12] (by decide) rfl
    refine W.eq (g2 := F0 mm 94 ls [.int (nI (dgn xl 8) + (-1))]) rfl ?_
    refine lv_iload_n hx hb dX6_find_94 rfl (lv_at hl 3 rfl) ?_
    refine lv_icmp_lt (tgt := 106) hx hb dX6_find_95 (by decide) (fun c_1 => ?_) (fun c_1 => absurd c_1 (fun q => q ((zk_dlt (dgn_le xl 8) (by omega)).mpr (by omega))))
    exact kk a1 b1 a2 b2 a3 b3 a4 b4 xh xl xb xn H locs ls hfin lh ll lb ln bn Z (lv_sub hl [0, 1, 2, 3, 4] rfl)
  | succ k ih =>
    intro a1 b1 a2 b2 a3 b3 a4 b4 xh xl xb xn H locs ls hf lh ll lb ln bh bl bb bn hfin Z hl
    refine lv_aload_n hx hb dX6_find_87 rfl (lv_at hl 0 rfl) ?_
    refine zk_get C Z in_X6 0 rfl rfl 1 (by decide) q138 rfl (v := .ref a2) rfl dX6_find_88 ?_
    refine zk_callV (cells' := 0) (slots' := 0) (rest := []) (n := 0) (wr := [(hv, .inr (5, [.ref a1, .ref a2, .ref a3, .ref a4])), (a1, .inr (3, [.ref b1])), (b1, .inl (g.1, 8, .inl (zk_ia xh))), (a3, .inr (3, [.ref b3])), (b3, .inl (g.1, 8, .inl (zk_ia xb))), (a4, .inr (3, [.ref b4])), (b4, .inl (g.1, 8, .inl (zk_ia xn))), (h0, .inr (2, [.int (nI n), .ref hp, .ref hq])), (hp, .inl (g.1, 62, .inl (zk_ia P))), (hq, .inl (g.1, 32, .inl (zk_ia L))), (hs, .inl (g.1, 7, .inl (zk_ia S))), (hw, .inr (3, [.ref hwc])), (hwc, .inl (g.1, 8, .inl (zk_ia c)))]) C Z (m4_degree l D g a2 b2 xl ll (zk_bd_mono bl (by omega))) [3, 4] [0, 1, 2, 5, 6, 7, 8, 9, 10, 11, 12, 13, 14] rfl rfl (by decide) (by decide) (by decide) 3 3 rfl rfl rfl q517 q518 q519 q22 q520 (by decide +kernel) rfl (Nat.le_of_ble_eq_true rfl) (Nat.le_of_ble_eq_true rfl) (Nat.le_of_ble_eq_true rfl) (Nat.le_of_ble_eq_true rfl) rfl rfl hl.1 rfl (Nat.le_of_ble_eq_true rfl) dX6_find_91 (fun v w1 H locs hq Z => ?_)
    obtain ⟨rfl, rfl⟩ := hq
    have Z : zk_Z D A s H locs [(hv, .inr (5, [.ref a1, .ref a2, .ref a3, .ref a4])), (a1, .inr (3, [.ref b1])), (b1, .inl (g.1, 8, .inl (zk_ia xh))), (a2, .inr (3, [.ref b2])), (b2, .inl (g.1, 8, .inl (zk_ia xl))), (a3, .inr (3, [.ref b3])), (b3, .inl (g.1, 8, .inl (zk_ia xb))), (a4, .inr (3, [.ref b4])), (b4, .inl (g.1, 8, .inl (zk_ia xn))), (h0, .inr (2, [.int (nI n), .ref hp, .ref hq])), (hp, .inl (g.1, 62, .inl (zk_ia P))), (hq, .inl (g.1, 32, .inl (zk_ia L))), (hs, .inl (g.1, 7, .inl (zk_ia S))), (hw, .inr (3, [.ref hwc])), (hwc, .inl (g.1, 8, .inl (zk_ia c)))] := Z.sub [0, 1, 2, 13, 14, 3, 4, 5, 6, 7, 8, 9, 10, 11, 12] (by decide) rfl
    refine W.eq (g2 := F0 mm 94 ls [.int (nI (dgn xl 8) + (-1))]) rfl ?_
    refine lv_iload_n hx hb dX6_find_94 rfl (lv_at hl 3 rfl) ?_
    refine lv_icmp_lt (tgt := 106) hx hb dX6_find_95 (by decide) (fun c_1 => ?_) (fun c_1 => ?_)
    · have c_1 := (zk_dlt (dgn_le xl 8) (by omega)).mp c_1
      rw [dvs_e c_1] at hfin
      exact kk a1 b1 a2 b2 a3 b3 a4 b4 xh xl xb xn H locs ls hfin lh ll lb ln bn Z (lv_sub hl [0, 1, 2, 3, 4] rfl)
    · have c_1 : ¬ dgn xl 8 ≤ t := fun q => c_1 ((zk_dlt (dgn_le xl 8) (by omega)).mpr q)
      obtain ⟨d, hd⟩ : ∃ d, dgn xl 8 = d + 1 := ⟨dgn xl 8 - 1, by omega⟩
      rw [dvs_s hd (by omega)] at hfin
      have hfa := dvl_facts F ll ln bl bn hd 8 xh xb (by have := dgn_le xh 8; omega) lh lb bh bb
      refine lv_aload_n hx hb dX6_find_98 rfl (lv_at hl 0 rfl) ?_
      refine lv_aload_n hx hb dX6_find_99 rfl (lv_at hl 1 rfl) ?_
      refine zk_callV (cells' := 0) (slots' := 0) (rest := []) (n := 1) (wr := [(hs, .inl (g.1, 7, .inl (zk_ia S))), (hw, .inr (3, [.ref hwc])), (hwc, .inl (g.1, 8, .inl (zk_ia c)))]) C Z (m6_divide l D g hv a1 b1 a2 b2 a3 b3 a4 b4 h0 hp hq p n P L F xh xl xb xn lh lb bh bb ll ln bl bn d hd) [0, 1, 2, 3, 4, 5, 6, 7, 8, 9, 10, 11] [12, 13, 14] rfl rfl (by decide) (by decide) (by decide) 0 5 rfl rfl rfl q521 q523 qs5 q24 q524 (by decide +kernel) rfl (Nat.le_of_ble_eq_true rfl) (Nat.le_of_ble_eq_true rfl) (Nat.le_of_ble_eq_true rfl) (Nat.le_of_ble_eq_true rfl) rfl rfl hl.1 rfl (Nat.le_of_ble_eq_true rfl) dX6_find_100 (fun v w1 H locs hq Z => ?_)
      obtain ⟨rfl, rfl⟩ := hq
      have Z : zk_Z D A s H locs [(hv, .inr (5, [.ref a2, .ref a1, .ref a4, .ref a3])), (a1, .inr (3, [.ref b1])), (b1, .inl (g.1, 8, .inl (zk_ia ((dvl p d (xl.getD d 0) xl xn 8 xh xb).1)))), (a2, .inr (3, [.ref b2])), (b2, .inl (g.1, 8, .inl (zk_ia xl))), (a3, .inr (3, [.ref b3])), (b3, .inl (g.1, 8, .inl (zk_ia ((dvl p d (xl.getD d 0) xl xn 8 xh xb).2)))), (a4, .inr (3, [.ref b4])), (b4, .inl (g.1, 8, .inl (zk_ia xn))), (h0, .inr (2, [.int (nI n), .ref hp, .ref hq])), (hp, .inl (g.1, 62, .inl (zk_ia P))), (hq, .inl (g.1, 32, .inl (zk_ia L))), (hs, .inl (g.1, 7, .inl (zk_ia S))), (hw, .inr (3, [.ref hwc])), (hwc, .inl (g.1, 8, .inl (zk_ia c)))] := Z.sub [3, 4, 5, 6, 7, 8, 9, 10, 11, 12, 13, 14, 0, 1, 2] (by decide) rfl
      refine W.eq (g2 := F0 mm 103 ls []) rfl ?_
      refine lv_goto (tgt := 87) hx hb dX6_find_103 (by decide) ?_
      exact ih a2 b2 a1 b1 a4 b4 a3 b3 xl _ xn _ H locs ls (by omega) ll hfa.1 ln hfa.2.1 bl hfa.2.2.1 bn hfa.2.2.2.1 hfin (Z.sub [0, 3, 4, 1, 2, 7, 8, 5, 6, 9, 10, 11, 12, 13, 14] (by decide) rfl) (lv_sub hl [0, 1, 2, 3, 4] rfl)

set_option maxHeartbeats 4000000 in
/-- Division.find -/
theorem m6_find (l : Launch) (D : va_G) (g : G4) (hv hs hw hwc t : Nat) (h0 hp hq p n : Nat) (P L : List Nat) (S : List Nat) (F : zk_F p n P L) (bS : zk_bs n t S) (t1 : 1 ≤ t) (t3 : t ≤ 3) (a1 b1 a2 b2 a3 b3 a4 b4 : Nat) (xh xl xb xn c : List Nat) (lh : xh.length = 8) (ll : xl.length = 8) (lb : xb.length = 8) (ln : xn.length = 8) (hc : c.length = 8) : zk_M l yX6_find (ws_ yX6_find cX6_find 6 none) (zk_R 3 0 0) D g [.ref hv, .ref h0, .ref hs, .int (nI t), .ref hw] [(hv, .inr (5, [.ref a1, .ref a2, .ref a3, .ref a4])), (a1, .inr (3, [.ref b1])), (b1, .inl (g.1, 8, .inl (zk_ia xh))), (a2, .inr (3, [.ref b2])), (b2, .inl (g.1, 8, .inl (zk_ia xl))), (a3, .inr (3, [.ref b3])), (b3, .inl (g.1, 8, .inl (zk_ia xb))), (a4, .inr (3, [.ref b4])), (b4, .inl (g.1, 8, .inl (zk_ia xn))), (h0, .inr (2, [.int (nI n), .ref hp, .ref hq])), (hp, .inl (g.1, 62, .inl (zk_ia P))), (hq, .inl (g.1, 32, .inl (zk_ia L))), (hs, .inl (g.1, 7, .inl (zk_ia S))), (hw, .inr (3, [.ref hwc])), (hwc, .inl (g.1, 8, .inl (zk_ia c)))] (fun v w => v = none ∧ ∃ (c1 d1 c2 d2 c3 d3 c4 d4 : Nat) (y1 y2 y3 y4 : List Nat), y1.length = 8 ∧ y2.length = 8 ∧ y3.length = 8 ∧ y4.length = 8 ∧ w = [(hv, .inr (5, [.ref c1, .ref c2, .ref c3, .ref c4])), (c1, .inr (3, [.ref d1])), (d1, .inl (g.1, 8, .inl (zk_ia y1))), (c2, .inr (3, [.ref d2])), (d2, .inl (g.1, 8, .inl (zk_ia y2))), (c3, .inr (3, [.ref d3])), (d3, .inl (g.1, 8, .inl (zk_ia y3))), (c4, .inr (3, [.ref d4])), (d4, .inl (g.1, 8, .inl (zk_ia y4))), (h0, .inr (2, [.int (nI n), .ref hp, .ref hq])), (hp, .inl (g.1, 62, .inl (zk_ia P))), (hq, .inl (g.1, 32, .inl (zk_ia L))), (hs, .inl (g.1, 7, .inl (zk_ia S))), (hw, .inr (3, [.ref hwc])), (hwc, .inl (g.1, 8, .inl (zk_ia (divi p t S))))]) := by
  refine zk_ofW (by decide) (Nat.le_of_ble_eq_true rfl) ?_
  intro pg ev s mm below meth cd A C hr hlocks hname Z ls hl
  have hx := C.1.1
  have hb := C.1.2.1
  have hml := C.1.2.2.1
  have hown := C.1.2.2.2.1
  have hts := C.1.2.2.2.2
  have hl : lv_has ls 6 [(0, .ref hv), (1, .ref h0), (2, .ref hs), (3, .int (nI t)), (4, .ref hw)] := hl
  have hn := F.n31
  obtain ⟨H, hH⟩ : ∃ H, H = s.heap := ⟨_, rfl⟩
  obtain ⟨locs, hlocs⟩ : ∃ q : List Loc, q = [] := ⟨_, rfl⟩
  rw [← hH, ← hlocs] at Z ⊢
  refine lv_aload_n hx hb dX6_find_0 rfl (lv_at hl 0 rfl) ?_
  refine zk_get C Z in_X6 0 rfl rfl 0 (by decide) q137 rfl (v := .ref a1) rfl dX6_find_1 ?_
  refine zk_callV (cells' := 0) (slots' := 0) (rest := []) (n := 0) (wr := [(hv, .inr (5, [.ref a1, .ref a2, .ref a3, .ref a4])), (a2, .inr (3, [.ref b2])), (b2, .inl (g.1, 8, .inl (zk_ia xl))), (a3, .inr (3, [.ref b3])), (b3, .inl (g.1, 8, .inl (zk_ia xb))), (a4, .inr (3, [.ref b4])), (b4, .inl (g.1, 8, .inl (zk_ia xn))), (h0, .inr (2, [.int (nI n), .ref hp, .ref hq])), (hp, .inl (g.1, 62, .inl (zk_ia P))), (hq, .inl (g.1, 32, .inl (zk_ia L))), (hs, .inl (g.1, 7, .inl (zk_ia S))), (hw, .inr (3, [.ref hwc])), (hwc, .inl (g.1, 8, .inl (zk_ia c)))]) C Z (m4_clear l D g a1 b1 xh lh) [1, 2] [0, 3, 4, 5, 6, 7, 8, 9, 10, 11, 12, 13, 14] rfl rfl (by decide) (by decide) (by decide) 1 3 rfl rfl rfl q516 q316 q317 q22 q318 (by decide +kernel) rfl (Nat.le_of_ble_eq_true rfl) (Nat.le_of_ble_eq_true rfl) (Nat.le_of_ble_eq_true rfl) (Nat.le_of_ble_eq_true rfl) rfl rfl hl.1 rfl (Nat.le_of_ble_eq_true rfl) dX6_find_4 (fun v w1 H locs hq Z => ?_)
  obtain ⟨rfl, rfl⟩ := hq
  have Z : zk_Z D A s H locs [(hv, .inr (5, [.ref a1, .ref a2, .ref a3, .ref a4])), (a1, .inr (3, [.ref b1])), (b1, .inl (g.1, 8, .inl (zk_ia ([0, 0, 0, 0, 0, 0, 0, 0])))), (a2, .inr (3, [.ref b2])), (b2, .inl (g.1, 8, .inl (zk_ia xl))), (a3, .inr (3, [.ref b3])), (b3, .inl (g.1, 8, .inl (zk_ia xb))), (a4, .inr (3, [.ref b4])), (b4, .inl (g.1, 8, .inl (zk_ia xn))), (h0, .inr (2, [.int (nI n), .ref hp, .ref hq])), (hp, .inl (g.1, 62, .inl (zk_ia P))), (hq, .inl (g.1, 32, .inl (zk_ia L))), (hs, .inl (g.1, 7, .inl (zk_ia S))), (hw, .inr (3, [.ref hwc])), (hwc, .inl (g.1, 8, .inl (zk_ia c)))] := Z.sub [0, 13, 14, 1, 2, 3, 4, 5, 6, 7, 8, 9, 10, 11, 12] (by decide) rfl
  refine W.eq (g2 := F0 mm 7 ls [.ref a1]) rfl ?_
  refine lv_pop hx hb dX6_find_7 rfl ?_
  refine lv_aload_n hx hb dX6_find_8 rfl (lv_at hl 0 rfl) ?_
  refine zk_get C Z in_X6 0 rfl rfl 0 (by decide) q137 rfl (v := .ref a1) rfl dX6_find_9 ?_
  refine zk_getN C Z in_X4 1 rfl rfl 0 (by decide) q85 rfl (v := .ref b1) rfl dX6_find_12 ?_
  refine lv_iconst (v := nI 2) hx hb dX6_find_15 (by decide) ?_
  refine lv_iload_n hx hb dX6_find_16 rfl (lv_at hl 3 rfl) ?_
  refine nr_imul hx hb dX6_find_17 ?_
  refine lv_iconst (v := nI 1) hx hb dX6_find_18 (by decide) ?_
  refine zk_iast C Z 2 rfl (by decide) (by omega) (show ([0, 0, 0, 0, 0, 0, 0, 0] : List Nat).length = 8 from rfl) dX6_find_19 (fun H locs Z => ?_)
  have hlen_1 : (([0, 0, 0, 0, 0, 0, 0, 0]).set (2 * t) 1).length = 8 := by rw [List.length_set]; exact (show ([0, 0, 0, 0, 0, 0, 0, 0] : List Nat).length = 8 from rfl)
  have hbd_2 : zk_bd n (([0, 0, 0, 0, 0, 0, 0, 0]).set (2 * t) 1) := zk_bd_set zk_bd_z8 (by omega)
  have Z : zk_Z D A s H locs [(hv, .inr (5, [.ref a1, .ref a2, .ref a3, .ref a4])), (a1, .inr (3, [.ref b1])), (b1, .inl (g.1, 8, .inl (zk_ia (([0, 0, 0, 0, 0, 0, 0, 0]).set (2 * t) 1)))), (a2, .inr (3, [.ref b2])), (b2, .inl (g.1, 8, .inl (zk_ia xl))), (a3, .inr (3, [.ref b3])), (b3, .inl (g.1, 8, .inl (zk_ia xb))), (a4, .inr (3, [.ref b4])), (b4, .inl (g.1, 8, .inl (zk_ia xn))), (h0, .inr (2, [.int (nI n), .ref hp, .ref hq])), (hp, .inl (g.1, 62, .inl (zk_ia P))), (hq, .inl (g.1, 32, .inl (zk_ia L))), (hs, .inl (g.1, 7, .inl (zk_ia S))), (hw, .inr (3, [.ref hwc])), (hwc, .inl (g.1, 8, .inl (zk_ia c)))] := Z
  refine lv_aload_n hx hb dX6_find_20 rfl (lv_at hl 0 rfl) ?_
  refine zk_get C Z in_X6 0 rfl rfl 1 (by decide) q138 rfl (v := .ref a2) rfl dX6_find_21 ?_
  refine zk_callV (cells' := 0) (slots' := 0) (rest := []) (n := 0) (wr := [(hv, .inr (5, [.ref a1, .ref a2, .ref a3, .ref a4])), (a1, .inr (3, [.ref b1])), (b1, .inl (g.1, 8, .inl (zk_ia (([0, 0, 0, 0, 0, 0, 0, 0]).set (2 * t) 1)))), (a3, .inr (3, [.ref b3])), (b3, .inl (g.1, 8, .inl (zk_ia xb))), (a4, .inr (3, [.ref b4])), (b4, .inl (g.1, 8, .inl (zk_ia xn))), (h0, .inr (2, [.int (nI n), .ref hp, .ref hq])), (hp, .inl (g.1, 62, .inl (zk_ia P))), (hq, .inl (g.1, 32, .inl (zk_ia L))), (hs, .inl (g.1, 7, .inl (zk_ia S))), (hw, .inr (3, [.ref hwc])), (hwc, .inl (g.1, 8, .inl (zk_ia c)))]) C Z (m4_clear l D g a2 b2 xl ll) [3, 4] [0, 1, 2, 5, 6, 7, 8, 9, 10, 11, 12, 13, 14] rfl rfl (by decide) (by decide) (by decide) 3 3 rfl rfl rfl q516 q316 q317 q22 q318 (by decide +kernel) rfl (Nat.le_of_ble_eq_true rfl) (Nat.le_of_ble_eq_true rfl) (Nat.le_of_ble_eq_true rfl) (Nat.le_of_ble_eq_true rfl) rfl rfl hl.1 rfl (Nat.le_of_ble_eq_true rfl) dX6_find_24 (fun v w1 H locs hq Z => ?_)
  obtain ⟨rfl, rfl⟩ := hq
  have Z : zk_Z D A s H locs [(hv, .inr (5, [.ref a1, .ref a2, .ref a3, .ref a4])), (a1, .inr (3, [.ref b1])), (b1, .inl (g.1, 8, .inl (zk_ia (([0, 0, 0, 0, 0, 0, 0, 0]).set (2 * t) 1)))), (a2, .inr (3, [.ref b2])), (b2, .inl (g.1, 8, .inl (zk_ia ([0, 0, 0, 0, 0, 0, 0, 0])))), (a3, .inr (3, [.ref b3])), (b3, .inl (g.1, 8, .inl (zk_ia xb))), (a4, .inr (3, [.ref b4])), (b4, .inl (g.1, 8, .inl (zk_ia xn))), (h0, .inr (2, [.int (nI n), .ref hp, .ref hq])), (hp, .inl (g.1, 62, .inl (zk_ia P))), (hq, .inl (g.1, 32, .inl (zk_ia L))), (hs, .inl (g.1, 7, .inl (zk_ia S))), (hw, .inr (3, [.ref hwc])), (hwc, .inl (g.1, 8, .inl (zk_ia c)))] := Z.sub [0, 1, 2, 13, 14, 3, 4, 5, 6, 7, 8, 9, 10, 11, 12] (by decide) rfl
  refine W.eq (g2 := F0 mm 27 ls [.ref a2]) rfl ?_
  refine lv_pop hx hb dX6_find_27 rfl ?_
  refine lv_iconst (v := nI 1) hx hb dX6_find_28 (by decide) ?_
  refine lv_istore (lv' := [(5, .int (nI 1)), (0, .ref hv), (1, .ref h0), (2, .ref hs), (3, .int (nI t)), (4, .ref hw)]) hx hb dX6_find_29 hl (by decide) rfl (fun ls hl => ?_)
  refine lp6_low C hv hs hw hwc t h0 hp hq p n P L S F bS t1 t3 a1 b1 a2 b2 a3 b3 a4 b4 _ _ _ c _ (fun xl1 H locs ls e1 ll1 bl1 Z hl => ?_) (2 * t) 1 _ H locs ls (by omega) (by omega) (show ([0, 0, 0, 0, 0, 0, 0, 0] : List Nat).length = 8 from rfl) zk_bd_z8 rfl Z (lv_sub hl [1, 2, 3, 4, 5, 0] rfl)
  refine lv_aload_n hx hb dX6_find_61 rfl (lv_at hl 0 rfl) ?_
  refine zk_get C Z in_X6 0 rfl rfl 2 (by decide) q139 rfl (v := .ref a3) rfl dX6_find_62 ?_
  refine zk_callV (cells' := 0) (slots' := 0) (rest := []) (n := 0) (wr := [(hv, .inr (5, [.ref a1, .ref a2, .ref a3, .ref a4])), (a1, .inr (3, [.ref b1])), (b1, .inl (g.1, 8, .inl (zk_ia (([0, 0, 0, 0, 0, 0, 0, 0]).set (2 * t) 1)))), (a2, .inr (3, [.ref b2])), (b2, .inl (g.1, 8, .inl (zk_ia xl1))), (a4, .inr (3, [.ref b4])), (b4, .inl (g.1, 8, .inl (zk_ia xn))), (h0, .inr (2, [.int (nI n), .ref hp, .ref hq])), (hp, .inl (g.1, 62, .inl (zk_ia P))), (hq, .inl (g.1, 32, .inl (zk_ia L))), (hs, .inl (g.1, 7, .inl (zk_ia S))), (hw, .inr (3, [.ref hwc])), (hwc, .inl (g.1, 8, .inl (zk_ia c)))]) C Z (m4_clear l D g a3 b3 xb lb) [5, 6] [0, 1, 2, 3, 4, 7, 8, 9, 10, 11, 12, 13, 14] rfl rfl (by decide) (by decide) (by decide) 5 3 rfl rfl rfl q516 q316 q317 q22 q318 (by decide +kernel) rfl (Nat.le_of_ble_eq_true rfl) (Nat.le_of_ble_eq_true rfl) (Nat.le_of_ble_eq_true rfl) (Nat.le_of_ble_eq_true rfl) rfl rfl hl.1 rfl (Nat.le_of_ble_eq_true rfl) dX6_find_65 (fun v w1 H locs hq Z => ?_)
  obtain ⟨rfl, rfl⟩ := hq
  have Z : zk_Z D A s H locs [(hv, .inr (5, [.ref a1, .ref a2, .ref a3, .ref a4])), (a1, .inr (3, [.ref b1])), (b1, .inl (g.1, 8, .inl (zk_ia (([0, 0, 0, 0, 0, 0, 0, 0]).set (2 * t) 1)))), (a2, .inr (3, [.ref b2])), (b2, .inl (g.1, 8, .inl (zk_ia xl1))), (a3, .inr (3, [.ref b3])), (b3, .inl (g.1, 8, .inl (zk_ia ([0, 0, 0, 0, 0, 0, 0, 0])))), (a4, .inr (3, [.ref b4])), (b4, .inl (g.1, 8, .inl (zk_ia xn))), (h0, .inr (2, [.int (nI n), .ref hp, .ref hq])), (hp, .inl (g.1, 62, .inl (zk_ia P))), (hq, .inl (g.1, 32, .inl (zk_ia L))), (hs, .inl (g.1, 7, .inl (zk_ia S))), (hw, .inr (3, [.ref hwc])), (hwc, .inl (g.1, 8, .inl (zk_ia c)))] := Z.sub [0, 1, 2, 3, 4, 13, 14, 5, 6, 7, 8, 9, 10, 11, 12] (by decide) rfl
  refine W.eq (g2 := F0 mm 68 ls [.ref a3]) rfl ?_
  refine lv_pop hx hb dX6_find_68 rfl ?_
  refine lv_aload_n hx hb dX6_find_69 rfl (lv_at hl 0 rfl) ?_
  refine zk_get C Z in_X6 0 rfl rfl 3 (by decide) q140 rfl (v := .ref a4) rfl dX6_find_70 ?_
  refine zk_callV (cells' := 0) (slots' := 0) (rest := []) (n := 0) (wr := [(hv, .inr (5, [.ref a1, .ref a2, .ref a3, .ref a4])), (a1, .inr (3, [.ref b1])), (b1, .inl (g.1, 8, .inl (zk_ia (([0, 0, 0, 0, 0, 0, 0, 0]).set (2 * t) 1)))), (a2, .inr (3, [.ref b2])), (b2, .inl (g.1, 8, .inl (zk_ia xl1))), (a3, .inr (3, [.ref b3])), (b3, .inl (g.1, 8, .inl (zk_ia ([0, 0, 0, 0, 0, 0, 0, 0])))), (h0, .inr (2, [.int (nI n), .ref hp, .ref hq])), (hp, .inl (g.1, 62, .inl (zk_ia P))), (hq, .inl (g.1, 32, .inl (zk_ia L))), (hs, .inl (g.1, 7, .inl (zk_ia S))), (hw, .inr (3, [.ref hwc])), (hwc, .inl (g.1, 8, .inl (zk_ia c)))]) C Z (m4_clear l D g a4 b4 xn ln) [7, 8] [0, 1, 2, 3, 4, 5, 6, 9, 10, 11, 12, 13, 14] rfl rfl (by decide) (by decide) (by decide) 7 3 rfl rfl rfl q516 q316 q317 q22 q318 (by decide +kernel) rfl (Nat.le_of_ble_eq_true rfl) (Nat.le_of_ble_eq_true rfl) (Nat.le_of_ble_eq_true rfl) (Nat.le_of_ble_eq_true rfl) rfl rfl hl.1 rfl (Nat.le_of_ble_eq_true rfl) dX6_find_73 (fun v w1 H locs hq Z => ?_)
  obtain ⟨rfl, rfl⟩ := hq
  have Z : zk_Z D A s H locs [(hv, .inr (5, [.ref a1, .ref a2, .ref a3, .ref a4])), (a1, .inr (3, [.ref b1])), (b1, .inl (g.1, 8, .inl (zk_ia (([0, 0, 0, 0, 0, 0, 0, 0]).set (2 * t) 1)))), (a2, .inr (3, [.ref b2])), (b2, .inl (g.1, 8, .inl (zk_ia xl1))), (a3, .inr (3, [.ref b3])), (b3, .inl (g.1, 8, .inl (zk_ia ([0, 0, 0, 0, 0, 0, 0, 0])))), (a4, .inr (3, [.ref b4])), (b4, .inl (g.1, 8, .inl (zk_ia ([0, 0, 0, 0, 0, 0, 0, 0])))), (h0, .inr (2, [.int (nI n), .ref hp, .ref hq])), (hp, .inl (g.1, 62, .inl (zk_ia P))), (hq, .inl (g.1, 32, .inl (zk_ia L))), (hs, .inl (g.1, 7, .inl (zk_ia S))), (hw, .inr (3, [.ref hwc])), (hwc, .inl (g.1, 8, .inl (zk_ia c)))] := Z.sub [0, 1, 2, 3, 4, 5, 6, 13, 14, 7, 8, 9, 10, 11, 12] (by decide) rfl
  refine W.eq (g2 := F0 mm 76 ls [.ref a4]) rfl ?_
  refine lv_pop hx hb dX6_find_76 rfl ?_
  refine lv_aload_n hx hb dX6_find_77 rfl (lv_at hl 0 rfl) ?_
  refine zk_get C Z in_X6 0 rfl rfl 3 (by decide) q140 rfl (v := .ref a4) rfl dX6_find_78 ?_
  refine zk_getN C Z in_X4 7 rfl rfl 0 (by decide) q85 rfl (v := .ref b4) rfl dX6_find_81 ?_
  refine lv_iconst (v := nI 0) hx hb dX6_find_84 (by decide) ?_
  refine lv_iconst (v := nI 1) hx hb dX6_find_85 (by decide) ?_
  refine zk_iast C Z 8 rfl (by decide) (by omega) (show ([0, 0, 0, 0, 0, 0, 0, 0] : List Nat).length = 8 from rfl) dX6_find_86 (fun H locs Z => ?_)
  have hlen_3 : (([0, 0, 0, 0, 0, 0, 0, 0]).set 0 1).length = 8 := by rw [List.length_set]; exact (show ([0, 0, 0, 0, 0, 0, 0, 0] : List Nat).length = 8 from rfl)
  have hbd_4 : zk_bd n (([0, 0, 0, 0, 0, 0, 0, 0]).set 0 1) := zk_bd_set zk_bd_z8 (by omega)
  have Z : zk_Z D A s H locs [(hv, .inr (5, [.ref a1, .ref a2, .ref a3, .ref a4])), (a1, .inr (3, [.ref b1])), (b1, .inl (g.1, 8, .inl (zk_ia (([0, 0, 0, 0, 0, 0, 0, 0]).set (2 * t) 1)))), (a2, .inr (3, [.ref b2])), (b2, .inl (g.1, 8, .inl (zk_ia xl1))), (a3, .inr (3, [.ref b3])), (b3, .inl (g.1, 8, .inl (zk_ia ([0, 0, 0, 0, 0, 0, 0, 0])))), (a4, .inr (3, [.ref b4])), (b4, .inl (g.1, 8, .inl (zk_ia (([0, 0, 0, 0, 0, 0, 0, 0]).set 0 1)))), (h0, .inr (2, [.int (nI n), .ref hp, .ref hq])), (hp, .inl (g.1, 62, .inl (zk_ia P))), (hq, .inl (g.1, 32, .inl (zk_ia L))), (hs, .inl (g.1, 7, .inl (zk_ia S))), (hw, .inr (3, [.ref hwc])), (hwc, .inl (g.1, 8, .inl (zk_ia c)))] := Z
  refine lp6_find C hv hs hw hwc t h0 hp hq p n P L S F bS t1 t3 c _ (fun c1 d1 c2 d2 c3 d3 c4 d4 xh2 xl2 xb2 xn2 H locs ls e2 lh2 ll2 lb2 ln2 bn2 Z hl => ?_) 8 a1 b1 a2 b2 a3 b3 a4 b4 _ _ _ _ H locs ls (by have := dgn_le xl1 8; omega) hlen_1 ll1 (show ([0, 0, 0, 0, 0, 0, 0, 0] : List Nat).length = 8 from rfl) hlen_3 hbd_2 bl1 zk_bd_z8 hbd_4 rfl Z (lv_sub hl [0, 1, 2, 3, 4] rfl)
  have e2 : xn2 = dnow p t S := by rw [e2, e1]; rfl
  refine lv_aload_n hx hb dX6_find_106 rfl (lv_at hl 0 rfl) ?_
  refine zk_get C Z in_X6 0 rfl rfl 3 (by decide) q140 rfl (v := .ref c4) rfl dX6_find_107 ?_
  refine zk_getN C Z in_X4 7 rfl rfl 0 (by decide) q85 rfl (v := .ref d4) rfl dX6_find_110 ?_
  refine lv_iconst (v := nI 0) hx hb dX6_find_113 (by decide) ?_
  refine zk_iald C Z 8 rfl (by decide) (by omega) dX6_find_114 ?_
  refine lv_istore (lv' := [(5, .int (nI (xn2.getD 0 0))), (0, .ref hv), (1, .ref h0), (2, .ref hs), (3, .int (nI t)), (4, .ref hw)]) hx hb dX6_find_115 hl (by decide) rfl (fun ls hl => ?_)
  refine lv_aload hx hb dX6_find_117 (lv_at hl 5 rfl) ?_
  refine zk_callV (cells' := 0) (slots' := 0) (rest := []) (n := 0) (wr := [(hv, .inr (5, [.ref c1, .ref c2, .ref c3, .ref c4])), (c1, .inr (3, [.ref d1])), (d1, .inl (g.1, 8, .inl (zk_ia xh2))), (c2, .inr (3, [.ref d2])), (d2, .inl (g.1, 8, .inl (zk_ia xl2))), (c3, .inr (3, [.ref d3])), (d3, .inl (g.1, 8, .inl (zk_ia xb2))), (c4, .inr (3, [.ref d4])), (d4, .inl (g.1, 8, .inl (zk_ia xn2))), (h0, .inr (2, [.int (nI n), .ref hp, .ref hq])), (hp, .inl (g.1, 62, .inl (zk_ia P))), (hq, .inl (g.1, 32, .inl (zk_ia L))), (hs, .inl (g.1, 7, .inl (zk_ia S)))]) C Z (m4_clear l D g hw hwc c hc) [13, 14] [0, 1, 2, 3, 4, 5, 6, 7, 8, 9, 10, 11, 12] rfl rfl (by decide) (by decide) (by decide) 13 3 rfl rfl rfl q516 q316 q317 q22 q318 (by decide +kernel) rfl (Nat.le_of_ble_eq_true rfl) (Nat.le_of_ble_eq_true rfl) (Nat.le_of_ble_eq_true rfl) (Nat.le_of_ble_eq_true rfl) rfl rfl hl.1 rfl (Nat.le_of_ble_eq_true rfl) dX6_find_119 (fun v w1 H locs hq Z => ?_)
  obtain ⟨rfl, rfl⟩ := hq
  have Z : zk_Z D A s H locs [(hv, .inr (5, [.ref c1, .ref c2, .ref c3, .ref c4])), (c1, .inr (3, [.ref d1])), (d1, .inl (g.1, 8, .inl (zk_ia xh2))), (c2, .inr (3, [.ref d2])), (d2, .inl (g.1, 8, .inl (zk_ia xl2))), (c3, .inr (3, [.ref d3])), (d3, .inl (g.1, 8, .inl (zk_ia xb2))), (c4, .inr (3, [.ref d4])), (d4, .inl (g.1, 8, .inl (zk_ia xn2))), (h0, .inr (2, [.int (nI n), .ref hp, .ref hq])), (hp, .inl (g.1, 62, .inl (zk_ia P))), (hq, .inl (g.1, 32, .inl (zk_ia L))), (hs, .inl (g.1, 7, .inl (zk_ia S))), (hw, .inr (3, [.ref hwc])), (hwc, .inl (g.1, 8, .inl (zk_ia ([0, 0, 0, 0, 0, 0, 0, 0]))))] := Z.sub [0, 1, 2, 3, 4, 5, 6, 7, 8, 9, 10, 11, 12, 13, 14] (by decide) rfl
  refine W.eq (g2 := F0 mm 122 ls [.ref hw]) rfl ?_
  refine lv_pop hx hb dX6_find_122 rfl ?_
  refine lv_iload hx hb dX6_find_123 (lv_at hl 0 rfl) ?_
  refine nr_eq0 (tgt := 146) hx hb (by have := bn2 0; omega) dX6_find_125 (by decide) (fun c_9 => ?_) (fun c_9 => ?_)
  · exact zk_vret C hr hlocks Z ⟨rfl, c1, d1, c2, d2, c3, d3, c4, d4, xh2, xl2, xb2, xn2, lh2, ll2, lb2, ln2, by unfold divi; rw [← e2, if_pos c_9]⟩ (Nat.le_of_ble_eq_true rfl) (Nat.le_of_ble_eq_true rfl) dX6_find_146
  · refine lv_aload hx hb dX6_find_128 (lv_at hl 5 rfl) ?_
    refine lv_aload_n hx hb dX6_find_130 rfl (lv_at hl 2 rfl) ?_
    refine lv_aload_n hx hb dX6_find_131 rfl (lv_at hl 1 rfl) ?_
    refine zk_get C Z in_X6 0 rfl rfl 3 (by decide) q140 rfl (v := .ref c4) rfl dX6_find_132 ?_
    refine lv_aload_n hx hb dX6_find_135 rfl (lv_at hl 2 rfl) ?_
    refine lv_iconst (v := nI 1) hx hb dX6_find_136 (by decide) ?_
    refine lv_iload hx hb dX6_find_137 (lv_at hl 0 rfl) ?_
    refine zk_callV (cells' := 0) (slots' := 0) (rest := [.ref c4, .ref h0, .ref hw]) (n := 2) (wr := [(hv, .inr (5, [.ref c1, .ref c2, .ref c3, .ref c4])), (c1, .inr (3, [.ref d1])), (d1, .inl (g.1, 8, .inl (zk_ia xh2))), (c2, .inr (3, [.ref d2])), (d2, .inl (g.1, 8, .inl (zk_ia xl2))), (c3, .inr (3, [.ref d3])), (d3, .inl (g.1, 8, .inl (zk_ia xb2))), (c4, .inr (3, [.ref d4])), (d4, .inl (g.1, 8, .inl (zk_ia xn2))), (hs, .inl (g.1, 7, .inl (zk_ia S))), (hw, .inr (3, [.ref hwc])), (hwc, .inl (g.1, 8, .inl (zk_ia ([0, 0, 0, 0, 0, 0, 0, 0]))))]) C Z (m3_over l D g h0 hp hq p n P L 1 (xn2.getD 0 0) F (by omega) (bn2 0) c_9) [9, 10, 11] [0, 1, 2, 3, 4, 5, 6, 7, 8, 12, 13, 14] rfl rfl (by decide) (by decide) (by decide) 9 2 rfl rfl rfl q525 q526 q527 q21 q528 (by decide +kernel) rfl (Nat.le_of_ble_eq_true rfl) (Nat.le_of_ble_eq_true rfl) (Nat.le_of_ble_eq_true rfl) (Nat.le_of_ble_eq_true rfl) rfl rfl hl.1 rfl (Nat.le_of_ble_eq_true rfl) dX6_find_139 (fun v w1 H locs hq Z => ?_)
    obtain ⟨rfl, rfl⟩ := hq
    have Z : zk_Z D A s H locs [(hv, .inr (5, [.ref c1, .ref c2, .ref c3, .ref c4])), (c1, .inr (3, [.ref d1])), (d1, .inl (g.1, 8, .inl (zk_ia xh2))), (c2, .inr (3, [.ref d2])), (d2, .inl (g.1, 8, .inl (zk_ia xl2))), (c3, .inr (3, [.ref d3])), (d3, .inl (g.1, 8, .inl (zk_ia xb2))), (c4, .inr (3, [.ref d4])), (d4, .inl (g.1, 8, .inl (zk_ia xn2))), (h0, .inr (2, [.int (nI n), .ref hp, .ref hq])), (hp, .inl (g.1, 62, .inl (zk_ia P))), (hq, .inl (g.1, 32, .inl (zk_ia L))), (hs, .inl (g.1, 7, .inl (zk_ia S))), (hw, .inr (3, [.ref hwc])), (hwc, .inl (g.1, 8, .inl (zk_ia ([0, 0, 0, 0, 0, 0, 0, 0]))))] := Z.sub [0, 1, 2, 3, 4, 5, 6, 7, 8, 12, 13, 14, 9, 10, 11] (by decide) rfl
    refine W.eq (g2 := F0 mm 142 ls [.int (nI (gd p 1 (xn2.getD 0 0))), .ref c4, .ref h0, .ref hw]) rfl ?_
    refine lv_iconst (v := nI 0) hx hb dX6_find_142 (by decide) ?_
    have hlen_5 : (padd p (gd p 1 (xn2.getD 0 0)) 0 xn2 ([0, 0, 0, 0, 0, 0, 0, 0])).length = 8 := by rw [padd_len]; exact (show ([0, 0, 0, 0, 0, 0, 0, 0] : List Nat).length = 8 from rfl)
    have hbd_6 : zk_bd n (padd p (gd p 1 (xn2.getD 0 0)) 0 xn2 ([0, 0, 0, 0, 0, 0, 0, 0])) := padd_bd F bn2 (F.gdl (by omega) (bn2 0) c_9) zk_bd_z8
    refine zk_callV (cells' := 0) (slots' := 0) (rest := []) (n := 4) (wr := [(hv, .inr (5, [.ref c1, .ref c2, .ref c3, .ref c4])), (c1, .inr (3, [.ref d1])), (d1, .inl (g.1, 8, .inl (zk_ia xh2))), (c2, .inr (3, [.ref d2])), (d2, .inl (g.1, 8, .inl (zk_ia xl2))), (c3, .inr (3, [.ref d3])), (d3, .inl (g.1, 8, .inl (zk_ia xb2))), (hs, .inl (g.1, 7, .inl (zk_ia S)))]) C Z (m4_add l D g hw hwc c4 d4 (gd p 1 (xn2.getD 0 0)) 0 h0 hp hq p n P L xn2 F bn2 (F.gdl (by omega) (bn2 0) c_9) (by omega) ([0, 0, 0, 0, 0, 0, 0, 0]) (show ([0, 0, 0, 0, 0, 0, 0, 0] : List Nat).length = 8 from rfl)) [13, 14, 9, 10, 11, 7, 8] [0, 1, 2, 3, 4, 5, 6, 12] rfl rfl (by decide) (by decide) (by decide) 13 3 rfl rfl rfl q529 q530 q531 q22 q532 (by decide +kernel) rfl (Nat.le_of_ble_eq_true rfl) (Nat.le_of_ble_eq_true rfl) (Nat.le_of_ble_eq_true rfl) (Nat.le_of_ble_eq_true rfl) rfl rfl hl.1 rfl (Nat.le_of_ble_eq_true rfl) dX6_find_143 (fun v w1 H locs hq Z => ?_)
    obtain ⟨rfl, rfl⟩ := hq
    have Z : zk_Z D A s H locs [(hv, .inr (5, [.ref c1, .ref c2, .ref c3, .ref c4])), (c1, .inr (3, [.ref d1])), (d1, .inl (g.1, 8, .inl (zk_ia xh2))), (c2, .inr (3, [.ref d2])), (d2, .inl (g.1, 8, .inl (zk_ia xl2))), (c3, .inr (3, [.ref d3])), (d3, .inl (g.1, 8, .inl (zk_ia xb2))), (c4, .inr (3, [.ref d4])), (d4, .inl (g.1, 8, .inl (zk_ia xn2))), (h0, .inr (2, [.int (nI n), .ref hp, .ref hq])), (hp, .inl (g.1, 62, .inl (zk_ia P))), (hq, .inl (g.1, 32, .inl (zk_ia L))), (hs, .inl (g.1, 7, .inl (zk_ia S))), (hw, .inr (3, [.ref hwc])), (hwc, .inl (g.1, 8, .inl (zk_ia (padd p (gd p 1 (xn2.getD 0 0)) 0 xn2 ([0, 0, 0, 0, 0, 0, 0, 0])))))] := Z.sub [0, 1, 2, 3, 4, 5, 6, 13, 14, 10, 11, 12, 7, 8, 9] (by decide) rfl
    refine W.eq (g2 := F0 mm 146 ls []) rfl ?_
    exact zk_vret C hr hlocks Z ⟨rfl, c1, d1, c2, d2, c3, d3, c4, d4, xh2, xl2, xb2, xn2, lh2, ll2, lb2, ln2, by unfold divi; rw [← e2, if_neg c_9]⟩ (Nat.le_of_ble_eq_true rfl) (Nat.le_of_ble_eq_true rfl) dX6_find_146

