/-! ===== Field, degreeOf ===== -/
set_option maxRecDepth 100000
set_option maxHeartbeats 4000000 in
/-- Field.times -/
theorem m3_times (l : Launch) (D : va_G) (g : G4) (h0 hp hq p n : Nat) (P L : List Nat) (a b : Nat) (F : zk_F p n P L) (an : a ≤ n) (bn : b ≤ n) : zk_M l yX3_times (ws_ yX3_times cX3_times 3 (some .int)) (zk_R 0 0 0) D g [.ref h0, .int (nI a), .int (nI b)] [(h0, .inr (2, [.int (nI n), .ref hp, .ref hq])), (hp, .inl (g.1, 62, .inl (zk_ia P))), (hq, .inl (g.1, 32, .inl (zk_ia L)))] (zk_D (some (.int (nI (gm p a b)))) [(h0, .inr (2, [.int (nI n), .ref hp, .ref hq])), (hp, .inl (g.1, 62, .inl (zk_ia P))), (hq, .inl (g.1, 32, .inl (zk_ia L)))]) := by
  refine zk_ofW (by decide) (Nat.le_of_ble_eq_true rfl) ?_
  intro pg ev s mm below meth cd A C hr hlocks hname Z ls hl
  have hx := C.1.1
  have hb := C.1.2.1
  have hml := C.1.2.2.1
  have hown := C.1.2.2.2.1
  have hts := C.1.2.2.2.2
  have hl : lv_has ls 3 [(0, .ref h0), (1, .int (nI a)), (2, .int (nI b))] := hl
  have hn := F.n31
  refine lv_iload_n hx hb dX3_times_0 rfl (lv_at hl 1 rfl) ?_
  refine nr_eq0 (tgt := 8) hx hb (by omega) dX3_times_1 (by decide) (fun c_1 => ?_) (fun c_1 => ?_)
  · refine lv_iconst (v := nI 0) hx hb dX3_times_8 (by decide) ?_
    refine lv_goto (tgt := 30) hx hb dX3_times_9 (by decide) ?_
    exact zk_iret C hr hlocks Z ⟨congrArg (fun x => some (Value.int (nI x))) (by first | exact F.gm0l c_1 bn | exact F.gm0r an c_2), rfl⟩ (Nat.le_of_ble_eq_true rfl) (Nat.le_of_ble_eq_true rfl) dX3_times_30
  · refine lv_iload_n hx hb dX3_times_4 rfl (lv_at hl 2 rfl) ?_
    refine nr_ne0 (tgt := 12) hx hb (by omega) dX3_times_5 (by decide) (fun c_2 => ?_) (fun c_2 => ?_)
    · refine lv_aload_n hx hb dX3_times_12 rfl (lv_at hl 0 rfl) ?_
      refine zk_get C Z in_X3 0 rfl rfl 1 (by decide) q62 rfl (v := .ref hp) rfl dX3_times_13 ?_
      refine lv_aload_n hx hb dX3_times_16 rfl (lv_at hl 0 rfl) ?_
      refine zk_get C Z in_X3 0 rfl rfl 2 (by decide) q66 rfl (v := .ref hq) rfl dX3_times_17 ?_
      refine lv_iload_n hx hb dX3_times_20 rfl (lv_at hl 1 rfl) ?_
      refine zk_iald C Z 2 rfl (by decide) (by omega) dX3_times_21 ?_
      refine lv_aload_n hx hb dX3_times_22 rfl (lv_at hl 0 rfl) ?_
      refine zk_get C Z in_X3 0 rfl rfl 2 (by decide) q66 rfl (v := .ref hq) rfl dX3_times_23 ?_
      refine lv_iload_n hx hb dX3_times_26 rfl (lv_at hl 2 rfl) ?_
      refine zk_iald C Z 2 rfl (by decide) (by omega) dX3_times_27 ?_
      refine nr_iadd hx hb dX3_times_28 ?_
      have h1 := F.lgl c_1 an
      have h2 := F.lgl c_2 bn
      refine zk_iald C Z 1 rfl (by decide) (by omega) dX3_times_29 ?_
      exact zk_iret C hr hlocks Z ⟨congrArg (fun x => some (Value.int (nI x))) (F.gm1 an bn c_1 c_2), rfl⟩ (Nat.le_of_ble_eq_true rfl) (Nat.le_of_ble_eq_true rfl) dX3_times_30
    · refine lv_iconst (v := nI 0) hx hb dX3_times_8 (by decide) ?_
      refine lv_goto (tgt := 30) hx hb dX3_times_9 (by decide) ?_
      exact zk_iret C hr hlocks Z ⟨congrArg (fun x => some (Value.int (nI x))) (by first | exact F.gm0l c_1 bn | exact F.gm0r an c_2), rfl⟩ (Nat.le_of_ble_eq_true rfl) (Nat.le_of_ble_eq_true rfl) dX3_times_30

set_option maxHeartbeats 4000000 in
/-- Field.over -/
theorem m3_over (l : Launch) (D : va_G) (g : G4) (h0 hp hq p n : Nat) (P L : List Nat) (a b : Nat) (F : zk_F p n P L) (an : a ≤ n) (bn : b ≤ n) (b0 : b ≠ 0) : zk_M l yX3_over (ws_ yX3_over cX3_over 3 (some .int)) (zk_R 0 0 0) D g [.ref h0, .int (nI a), .int (nI b)] [(h0, .inr (2, [.int (nI n), .ref hp, .ref hq])), (hp, .inl (g.1, 62, .inl (zk_ia P))), (hq, .inl (g.1, 32, .inl (zk_ia L)))] (zk_D (some (.int (nI (gd p a b)))) [(h0, .inr (2, [.int (nI n), .ref hp, .ref hq])), (hp, .inl (g.1, 62, .inl (zk_ia P))), (hq, .inl (g.1, 32, .inl (zk_ia L)))]) := by
  refine zk_ofW (by decide) (Nat.le_of_ble_eq_true rfl) ?_
  intro pg ev s mm below meth cd A C hr hlocks hname Z ls hl
  have hx := C.1.1
  have hb := C.1.2.1
  have hml := C.1.2.2.1
  have hown := C.1.2.2.2.1
  have hts := C.1.2.2.2.2
  have hl : lv_has ls 3 [(0, .ref h0), (1, .int (nI a)), (2, .int (nI b))] := hl
  have hn := F.n31
  refine lv_iload_n hx hb dX3_over_0 rfl (lv_at hl 1 rfl) ?_
  refine nr_ne0 (tgt := 8) hx hb (by omega) dX3_over_1 (by decide) (fun c_1 => ?_) (fun c_1 => ?_)
  · refine lv_aload_n hx hb dX3_over_8 rfl (lv_at hl 0 rfl) ?_
    refine zk_get C Z in_X3 0 rfl rfl 1 (by decide) q62 rfl (v := .ref hp) rfl dX3_over_9 ?_
    refine lv_aload_n hx hb dX3_over_12 rfl (lv_at hl 0 rfl) ?_
    refine zk_get C Z in_X3 0 rfl rfl 2 (by decide) q66 rfl (v := .ref hq) rfl dX3_over_13 ?_
    refine lv_iload_n hx hb dX3_over_16 rfl (lv_at hl 1 rfl) ?_
    refine zk_iald C Z 2 rfl (by decide) (by omega) dX3_over_17 ?_
    refine lv_aload_n hx hb dX3_over_18 rfl (lv_at hl 0 rfl) ?_
    refine zk_get C Z in_X3 0 rfl rfl 0 (by decide) q58 rfl (v := .int (nI n)) rfl dX3_over_19 ?_
    refine nr_iadd hx hb dX3_over_22 ?_
    refine lv_aload_n hx hb dX3_over_23 rfl (lv_at hl 0 rfl) ?_
    refine zk_get C Z in_X3 0 rfl rfl 2 (by decide) q66 rfl (v := .ref hq) rfl dX3_over_24 ?_
    refine lv_iload_n hx hb dX3_over_27 rfl (lv_at hl 2 rfl) ?_
    refine zk_iald C Z 2 rfl (by decide) (by omega) dX3_over_28 ?_
    have h1 := F.lgl c_1 an
    have h2 := F.lgl b0 bn
    refine nr_isub hx hb (by omega) dX3_over_29 ?_
    refine zk_iald C Z 1 rfl (by decide) (by omega) dX3_over_30 ?_
    exact zk_iret C hr hlocks Z ⟨congrArg (fun x => some (Value.int (nI x))) (F.gd1 an bn c_1 b0), rfl⟩ (Nat.le_of_ble_eq_true rfl) (Nat.le_of_ble_eq_true rfl) dX3_over_31
  · refine lv_iconst (v := nI 0) hx hb dX3_over_4 (by decide) ?_
    refine lv_goto (tgt := 31) hx hb dX3_over_5 (by decide) ?_
    exact zk_iret C hr hlocks Z ⟨congrArg (fun x => some (Value.int (nI x))) (F.gd0 c_1 bn b0), rfl⟩ (Nat.le_of_ble_eq_true rfl) (Nat.le_of_ble_eq_true rfl) dX3_over_31

set_option maxHeartbeats 4000000 in
/-- the loop of Field.at -/
theorem lp3_at {pg : Program} {l : Launch} {ev : Env} {s : State} {mm : MethodId} {args : Array Value} {below : List Frame} {meth : Method} {cd : Code} {Q : State → Prop} {D : va_G} {g : G4} {A : Nat → Prop} (C : zk_C pg s mm cd args cX3_at 5 RX3 D g A) (h0 hp hq p n : Nat) (P L : List Nat) (wd x fin : Nat) (F : zk_F p n P L) (hwd : wd < 2 ^ 31) (hx6 : x < 64) (kk : ∀ (H : Heap) (locs : List Loc) (ls : Array Slot), zk_Z D A s H locs [(h0, .inr (2, [.int (nI n), .ref hp, .ref hq])), (hp, .inl (g.1, 62, .inl (zk_ia P))), (hq, .inl (g.1, 32, .inl (zk_ia L)))] → lv_has ls 5 [(0, .ref h0), (1, .int (nI wd)), (2, .int (nI x)), (3, .int (nI fin)), (4, .int (nI n))] → W pg l ev (zk_R 0 0 0) s mm args below meth cd H locs 0 0 Q (F0 mm 50 ls [])) :
    ∀ (k : Nat) (i sum : Nat) (H : Heap) (locs : List Loc) (ls : Array Slot), (i + k = n) → (zk_it (atF p n wd x) k i sum = fin) → zk_Z D A s H locs [(h0, .inr (2, [.int (nI n), .ref hp, .ref hq])), (hp, .inl (g.1, 62, .inl (zk_ia P))), (hq, .inl (g.1, 32, .inl (zk_ia L)))] → lv_has ls 5 [(0, .ref h0), (1, .int (nI wd)), (2, .int (nI x)), (3, .int (nI sum)), (4, .int (nI i))] → W pg l ev (zk_R 0 0 0) s mm args below meth cd H locs 0 0 Q (F0 mm 5 ls []) := by
  have hx := C.1.1
  have hb := C.1.2.1
  have hml := C.1.2.2.1
  have hown := C.1.2.2.2.1
  have hts := C.1.2.2.2.2
  have hn := F.n31
  intro k
  induction k with
  | zero =>
    intro i sum H locs ls hik hfin Z hl
    have hi : n = i := by omega
    subst hi
    have hfin : sum = fin := hfin
    subst hfin
    refine lv_iload hx hb dX3_at_5 (lv_at hl 4 rfl) ?_
    refine lv_aload_n hx hb dX3_at_7 rfl (lv_at hl 0 rfl) ?_
    refine zk_get C Z in_X3 0 rfl rfl 0 (by decide) q58 rfl (v := .int (nI n)) rfl dX3_at_8 ?_
    refine nr_ge (tgt := 50) hx hb (by omega) (by omega) dX3_at_11 (by decide) (fun c_1 => ?_) (fun c_1 => absurd c_1 (by omega))
    exact kk  H locs ls  Z (lv_sub hl [0, 1, 2, 3, 4] rfl)
  | succ k ih =>
    intro i sum H locs ls hik hfin Z hl
    have hie : i * x < 2 ^ 31 := by
      have := Nat.mul_le_mul (show i ≤ 31 by omega) (show x ≤ 64 by omega)
      omega
    refine lv_iload hx hb dX3_at_5 (lv_at hl 4 rfl) ?_
    refine lv_aload_n hx hb dX3_at_7 rfl (lv_at hl 0 rfl) ?_
    refine zk_get C Z in_X3 0 rfl rfl 0 (by decide) q58 rfl (v := .int (nI n)) rfl dX3_at_8 ?_
    refine nr_ge (tgt := 50) hx hb (by omega) (by omega) dX3_at_11 (by decide) (fun c_1 => absurd c_1 (by omega)) (fun c_1 => ?_)
    refine lv_iload_n hx hb dX3_at_14 rfl (lv_at hl 3 rfl) ?_
    refine lv_iload_n hx hb dX3_at_15 rfl (lv_at hl 1 rfl) ?_
    refine lv_iload hx hb dX3_at_16 (lv_at hl 4 rfl) ?_
    refine nr_ishr hx hb (by omega) (by omega) dX3_at_18 ?_
    refine lv_iconst (v := nI 1) hx hb dX3_at_19 (by decide) ?_
    refine nr_iand hx hb dX3_at_20 ?_
    refine nr_ne0 (tgt := 28) hx hb (zk_lt32 (zk_b1 _)) dX3_at_21 (by decide) (fun c_1 => ?_) (fun c_1 => ?_)
    · refine lv_aload_n hx hb dX3_at_28 rfl (lv_at hl 0 rfl) ?_
      refine zk_get C Z in_X3 0 rfl rfl 1 (by decide) q62 rfl (v := .ref hp) rfl dX3_at_29 ?_
      refine lv_iload hx hb dX3_at_32 (lv_at hl 4 rfl) ?_
      refine lv_iload_n hx hb dX3_at_34 rfl (lv_at hl 2 rfl) ?_
      refine nr_imul hx hb dX3_at_35 ?_
      refine lv_aload_n hx hb dX3_at_36 rfl (lv_at hl 0 rfl) ?_
      refine zk_get C Z in_X3 0 rfl rfl 0 (by decide) q58 rfl (v := .int (nI n)) rfl dX3_at_37 ?_
      refine nr_irem hx hb hie (by omega) (by omega) dX3_at_40 ?_
      refine zk_iald C Z 1 rfl (by decide) (Nat.lt_of_lt_of_le (Nat.mod_lt _ (by omega)) (by omega)) dX3_at_41 ?_
      refine nr_ixor hx hb dX3_at_42 ?_
      refine lv_istore_n (lv' := [(3, .int (nI (sum ^^^ (P.getD ((i * x) % n) 0)))), (0, .ref h0), (1, .int (nI wd)), (2, .int (nI x)), (4, .int (nI i))]) hx hb dX3_at_43 rfl hl (by decide) rfl (fun ls hl => ?_)
      refine nr_iinc (n := 1) (lv' := [(4, .int (nI (i + 1))), (3, .int (nI (sum ^^^ (P.getD ((i * x) % n) 0)))), (0, .ref h0), (1, .int (nI wd)), (2, .int (nI x))]) hx hb (by decide) dX3_at_44 hl (k := 4) rfl (by decide) rfl (fun ls hl => ?_)
      refine lv_goto (tgt := 5) hx hb dX3_at_47 (by decide) ?_
      exact ih (i + 1) (sum ^^^ (P.getD ((i * x) % n) 0)) H locs ls (by omega) ((congrArg (zk_it (atF p n wd x) k (i + 1)) (atF_1 F (by omega) c_1)).trans hfin) Z (lv_sub hl [2, 3, 4, 1, 0] rfl)
    · refine lv_iconst (v := nI 0) hx hb dX3_at_24 (by decide) ?_
      refine lv_goto (tgt := 42) hx hb dX3_at_25 (by decide) ?_
      refine nr_ixor hx hb dX3_at_42 ?_
      refine lv_istore_n (lv' := [(3, .int (nI (sum ^^^ 0))), (0, .ref h0), (1, .int (nI wd)), (2, .int (nI x)), (4, .int (nI i))]) hx hb dX3_at_43 rfl hl (by decide) rfl (fun ls hl => ?_)
      refine nr_iinc (n := 1) (lv' := [(4, .int (nI (i + 1))), (3, .int (nI (sum ^^^ 0))), (0, .ref h0), (1, .int (nI wd)), (2, .int (nI x))]) hx hb (by decide) dX3_at_44 hl (k := 4) rfl (by decide) rfl (fun ls hl => ?_)
      refine lv_goto (tgt := 5) hx hb dX3_at_47 (by decide) ?_
      exact ih (i + 1) (sum ^^^ 0) H locs ls (by omega) ((congrArg (zk_it (atF p n wd x) k (i + 1)) (atF_0 c_1)).trans hfin) Z (lv_sub hl [2, 3, 4, 1, 0] rfl)

set_option maxHeartbeats 4000000 in
/-- Field.at -/
theorem m3_at (l : Launch) (D : va_G) (g : G4) (h0 hp hq p n : Nat) (P L : List Nat) (wd x : Nat) (F : zk_F p n P L) (hwd : wd < 2 ^ 31) (hx6 : x < 64) : zk_M l yX3_at (ws_ yX3_at cX3_at 5 (some .int)) (zk_R 0 0 0) D g [.ref h0, .int (nI wd), .int (nI x)] [(h0, .inr (2, [.int (nI n), .ref hp, .ref hq])), (hp, .inl (g.1, 62, .inl (zk_ia P))), (hq, .inl (g.1, 32, .inl (zk_ia L)))] (zk_D (some (.int (nI (atv p n wd x)))) [(h0, .inr (2, [.int (nI n), .ref hp, .ref hq])), (hp, .inl (g.1, 62, .inl (zk_ia P))), (hq, .inl (g.1, 32, .inl (zk_ia L)))]) := by
  refine zk_ofW (by decide) (Nat.le_of_ble_eq_true rfl) ?_
  intro pg ev s mm below meth cd A C hr hlocks hname Z ls hl
  have hx := C.1.1
  have hb := C.1.2.1
  have hml := C.1.2.2.1
  have hown := C.1.2.2.2.1
  have hts := C.1.2.2.2.2
  have hl : lv_has ls 5 [(0, .ref h0), (1, .int (nI wd)), (2, .int (nI x))] := hl
  have hn := F.n31
  obtain ⟨H, hH⟩ : ∃ H, H = s.heap := ⟨_, rfl⟩
  obtain ⟨locs, hlocs⟩ : ∃ q : List Loc, q = [] := ⟨_, rfl⟩
  rw [← hH, ← hlocs] at Z ⊢
  refine lv_iconst (v := nI 0) hx hb dX3_at_0 (by decide) ?_
  refine lv_istore_n (lv' := [(3, .int (nI 0)), (0, .ref h0), (1, .int (nI wd)), (2, .int (nI x))]) hx hb dX3_at_1 rfl hl (by decide) rfl (fun ls hl => ?_)
  refine lv_iconst (v := nI 0) hx hb dX3_at_2 (by decide) ?_
  refine lv_istore (lv' := [(4, .int (nI 0)), (3, .int (nI 0)), (0, .ref h0), (1, .int (nI wd)), (2, .int (nI x))]) hx hb dX3_at_3 hl (by decide) rfl (fun ls hl => ?_)
  refine lp3_at C h0 hp hq p n P L wd x _ F hwd hx6 (fun H locs ls Z hl => ?_) n 0 0 H locs ls (by omega) rfl Z (lv_sub hl [2, 3, 4, 1, 0] rfl)
  refine lv_iload_n hx hb dX3_at_50 rfl (lv_at hl 3 rfl) ?_
  exact zk_iret C hr hlocks Z ⟨rfl, rfl⟩ (Nat.le_of_ble_eq_true rfl) (Nat.le_of_ble_eq_true rfl) dX3_at_51

