/-! ===== model: isZero, remainder, ones, the field, message and channel ===== -/
set_option maxRecDepth 100000
def puto (m j b : Nat) : Nat := if b = 1 then m ||| 1 <<< j else m &&& (1 <<< j ^^^ 4294967295)
set_option maxHeartbeats 4000000 in
/-- model: thrown -/
theorem m8_thrown (l : Launch) (D : va_G) (g : G4) (hm ms ch kp md rs pr : Nat) (km bg p dg n t dep gn ck : Nat) : zk_M l yX8_thrown (ws_ yX8_thrown cX8_thrown 1 (some .int)) (zk_R 0 0 0) D g [.ref hm] [(hm, .inr (7, [.int (nI km), .int (nI bg), .int (nI p), .int (nI dg), .int (nI n), .int (nI t), .int (nI dep), .int (nI gn), .int (nI ck), .ref ms, .ref ch, .ref kp, .ref md, .ref rs, .ref pr]))] (zk_D (some (.int (nI km))) [(hm, .inr (7, [.int (nI km), .int (nI bg), .int (nI p), .int (nI dg), .int (nI n), .int (nI t), .int (nI dep), .int (nI gn), .int (nI ck), .ref ms, .ref ch, .ref kp, .ref md, .ref rs, .ref pr]))]) := by
  refine zk_ofW (by decide) (Nat.le_of_ble_eq_true rfl) ?_
  intro pg ev s mm below meth cd A C hr hlocks hname Z ls hl
  have hx := C.1.1
  have hb := C.1.2.1
  have hml := C.1.2.2.1
  have hown := C.1.2.2.2.1
  have hts := C.1.2.2.2.2
  have hl : lv_has ls 1 [(0, .ref hm)] := hl
  refine lv_aload_n hx hb dX8_thrown_0 rfl (lv_at hl 0 rfl) ?_
  refine zk_get C Z in_X8 0 rfl rfl 0 (by decide) q597 rfl (v := .int (nI km)) rfl dX8_thrown_1 ?_
  exact zk_iret C hr hlocks Z ⟨rfl, rfl⟩ (Nat.le_of_ble_eq_true rfl) (Nat.le_of_ble_eq_true rfl) dX8_thrown_4

set_option maxHeartbeats 4000000 in
theorem lp8_iz {pg : Program} {l : Launch} {ev : Env} {s : State} {mm : MethodId} {args : Array Value} {below : List Frame} {meth : Method} {cd : Code} {Q : State → Prop} {D : va_G} {g : G4} {A : Nat → Prop} (C : zk_C pg s mm cd args cX8_isZero 5 RX8 D g A) (hm ms ch kp md rs pr : Nat) (km bg p dg n t dep gn ck e : Nat) (n0 : 0 < n) (n31 : n ≤ 31) (t3 : t ≤ 3) (d5 : dg ≤ 5) (fin : Nat × Nat) (kk : ∀ (v f : Nat) (H : Heap) (locs : List Loc) (ls : Array Slot), f < 2 → (v, f) = fin → zk_Z D A s H locs [(hm, .inr (7, [.int (nI km), .int (nI bg), .int (nI p), .int (nI dg), .int (nI n), .int (nI t), .int (nI dep), .int (nI gn), .int (nI ck), .ref ms, .ref ch, .ref kp, .ref md, .ref rs, .ref pr]))] → lv_has ls 5 [(0, .ref hm), (3, .int (nI f))] → W pg l ev (zk_R 1 0 0) s mm args below meth cd H locs 0 0 Q (F0 mm 55 ls [])) :
    ∀ (k : Nat) (i v f : Nat) (H : Heap) (locs : List Loc) (ls : Array Slot), (i + k = dg) → (v ≤ 62) → (f < 2) → (zk_it (izF n t) k i (v, f) = fin) → zk_Z D A s H locs [(hm, .inr (7, [.int (nI km), .int (nI bg), .int (nI p), .int (nI dg), .int (nI n), .int (nI t), .int (nI dep), .int (nI gn), .int (nI ck), .ref ms, .ref ch, .ref kp, .ref md, .ref rs, .ref pr]))] → lv_has ls 5 [(0, .ref hm), (1, .int (nI e)), (2, .int (nI v)), (3, .int (nI f)), (4, .int (nI i))] → W pg l ev (zk_R 1 0 0) s mm args below meth cd H locs 0 0 Q (F0 mm 7 ls []) := by
  have hx := C.1.1
  have hb := C.1.2.1
  have hml := C.1.2.2.1
  have hown := C.1.2.2.2.1
  have hts := C.1.2.2.2.2
  intro k
  induction k with
  | zero =>
    intro i v f H locs ls hik hv32 hf2 hfin Z hl
    refine lv_iload hx hb dX8_isZero_7 (lv_at hl 4 rfl) ?_
    refine lv_aload_n hx hb dX8_isZero_9 rfl (lv_at hl 0 rfl) ?_
    refine zk_get C Z in_X8 0 rfl rfl 3 (by decide) q600 rfl (v := .int (nI dg)) rfl dX8_isZero_10 ?_
    refine nr_ge (tgt := 55) hx hb (by omega) (by omega) dX8_isZero_13 (by decide) (fun c_1 => ?_) (fun c_1 => absurd c_1 (by omega))
    exact kk v f H locs ls hf2 hfin Z (lv_sub hl [0, 3] rfl)
  | succ k ih =>
    intro i v f H locs ls hik hv32 hf2 hfin Z hl
    refine lv_iload hx hb dX8_isZero_7 (lv_at hl 4 rfl) ?_
    refine lv_aload_n hx hb dX8_isZero_9 rfl (lv_at hl 0 rfl) ?_
    refine zk_get C Z in_X8 0 rfl rfl 3 (by decide) q600 rfl (v := .int (nI dg)) rfl dX8_isZero_10 ?_
    refine nr_ge (tgt := 55) hx hb (by omega) (by omega) dX8_isZero_13 (by decide) (fun c_1 => absurd c_1 (by omega)) (fun c_1 => ?_)
    refine lv_iload_n hx hb dX8_isZero_16 rfl (lv_at hl 3 rfl) ?_
    refine nr_ne0 (tgt := 34) hx hb (by omega) dX8_isZero_17 (by decide) (fun c_1 => ?_) (fun c_1 => ?_)
    · refine lv_iconst (v := nI 1) hx hb dX8_isZero_34 (by decide) ?_
      refine lv_goto (tgt := 39) hx hb dX8_isZero_35 (by decide) ?_
      refine lv_istore_n (lv' := [(3, .int (nI 1)), (0, .ref hm), (1, .int (nI e)), (2, .int (nI v)), (4, .int (nI i))]) hx hb dX8_isZero_39 rfl hl (by decide) rfl (fun ls hl => ?_)
      refine lv_iconst (v := nI 2) hx hb dX8_isZero_40 (by decide) ?_
      refine lv_iload_n hx hb dX8_isZero_41 rfl (lv_at hl 3 rfl) ?_
      refine nr_imul hx hb dX8_isZero_42 ?_
      refine lv_aload_n hx hb dX8_isZero_43 rfl (lv_at hl 1 rfl) ?_
      refine zk_get C Z in_X8 0 rfl rfl 4 (by decide) q601 rfl (v := .int (nI n)) rfl dX8_isZero_44 ?_
      refine nr_irem hx hb (by omega) n0 (by omega) dX8_isZero_47 ?_
      refine lv_istore_n (lv' := [(2, .int (nI ((2 * v) % n))), (3, .int (nI 1)), (0, .ref hm), (1, .int (nI e)), (4, .int (nI i))]) hx hb dX8_isZero_48 rfl hl (by decide) rfl (fun ls hl => ?_)
      refine nr_iinc (n := 1) (lv' := [(4, .int (nI (i + 1))), (2, .int (nI ((2 * v) % n))), (3, .int (nI 1)), (0, .ref hm), (1, .int (nI e))]) hx hb (by decide) dX8_isZero_49 hl (k := 4) rfl (by decide) rfl (fun ls hl => ?_)
      refine lv_goto (tgt := 7) hx hb dX8_isZero_52 (by decide) ?_
      exact ih (i + 1) (2 * v % n) 1 H locs ls (by omega) (by have := Nat.mod_lt (2 * v) n0; omega) (by decide) ((congrArg (zk_it (izF n t) k (i + 1)) (show (2 * v % n, 1) = izF n t i (v, f) from by unfold izF; rw [if_pos c_1])).trans hfin) Z (lv_sub hl [3, 4, 1, 2, 0] rfl)
    · refine lv_iload_n hx hb dX8_isZero_20 rfl (lv_at hl 2 rfl) ?_
      refine lv_iconst (v := nI 1) hx hb dX8_isZero_21 (by decide) ?_
      refine lv_iconst (v := nI 2) hx hb dX8_isZero_22 (by decide) ?_
      refine lv_aload_n hx hb dX8_isZero_23 rfl (lv_at hl 0 rfl) ?_
      refine zk_get C Z in_X8 0 rfl rfl 5 (by decide) q602 rfl (v := .int (nI t)) rfl dX8_isZero_24 ?_
      refine nr_imul hx hb dX8_isZero_27 ?_
      refine zk_callS (cells' := 0) (slots' := 0) (rest := []) (n := 3) (wr := [(hm, .inr (7, [.int (nI km), .int (nI bg), .int (nI p), .int (nI dg), .int (nI n), .int (nI t), .int (nI dep), .int (nI gn), .int (nI ck), .ref ms, .ref ch, .ref kp, .ref md, .ref rs, .ref pr]))]) C Z (m8_in l D g (nI v) (nI 1) (nI (2 * t))) [] [0] rfl rfl (by decide) (by decide) (by decide) q651 q652 q26 q653 (by decide +kernel) rfl (Nat.le_of_ble_eq_true rfl) (Nat.le_of_ble_eq_true rfl) (Nat.le_of_ble_eq_true rfl) (Nat.le_of_ble_eq_true rfl) rfl rfl hl.1 rfl (Nat.le_of_ble_eq_true rfl) dX8_isZero_28 (fun v w1 H locs hq Z => ?_)
      obtain ⟨rfl, rfl⟩ := hq
      have Z : zk_Z D A s H locs [(hm, .inr (7, [.int (nI km), .int (nI bg), .int (nI p), .int (nI dg), .int (nI n), .int (nI t), .int (nI dep), .int (nI gn), .int (nI ck), .ref ms, .ref ch, .ref kp, .ref md, .ref rs, .ref pr]))] := Z.sub [0] (by decide) rfl
      refine W.eq (g2 := F0 mm 31 ls [.int (nI (zk_wi (nI v) (nI 1) (nI (2 * t))))]) rfl ?_
      refine nr_eq0 (tgt := 38) hx hb (by have := zk_wi_lt (nI v) (nI 1) (nI (2 * t)); omega) dX8_isZero_31 (by decide) (fun c_2 => ?_) (fun c_2 => ?_)
      · refine lv_iconst (v := nI 0) hx hb dX8_isZero_38 (by decide) ?_
        refine lv_istore_n (lv' := [(3, .int (nI 0)), (0, .ref hm), (1, .int (nI e)), (2, .int (nI v)), (4, .int (nI i))]) hx hb dX8_isZero_39 rfl hl (by decide) rfl (fun ls hl => ?_)
        refine lv_iconst (v := nI 2) hx hb dX8_isZero_40 (by decide) ?_
        refine lv_iload_n hx hb dX8_isZero_41 rfl (lv_at hl 3 rfl) ?_
        refine nr_imul hx hb dX8_isZero_42 ?_
        refine lv_aload_n hx hb dX8_isZero_43 rfl (lv_at hl 1 rfl) ?_
        refine zk_get C Z in_X8 0 rfl rfl 4 (by decide) q601 rfl (v := .int (nI n)) rfl dX8_isZero_44 ?_
        refine nr_irem hx hb (by omega) n0 (by omega) dX8_isZero_47 ?_
        refine lv_istore_n (lv' := [(2, .int (nI ((2 * v) % n))), (3, .int (nI 0)), (0, .ref hm), (1, .int (nI e)), (4, .int (nI i))]) hx hb dX8_isZero_48 rfl hl (by decide) rfl (fun ls hl => ?_)
        refine nr_iinc (n := 1) (lv' := [(4, .int (nI (i + 1))), (2, .int (nI ((2 * v) % n))), (3, .int (nI 0)), (0, .ref hm), (1, .int (nI e))]) hx hb (by decide) dX8_isZero_49 hl (k := 4) rfl (by decide) rfl (fun ls hl => ?_)
        refine lv_goto (tgt := 7) hx hb dX8_isZero_52 (by decide) ?_
        exact ih (i + 1) (2 * v % n) 0 H locs ls (by omega) (by have := Nat.mod_lt (2 * v) n0; omega) (by decide) ((congrArg (zk_it (izF n t) k (i + 1)) (show (2 * v % n, 0) = izF n t i (v, f) from by unfold izF; rw [if_neg (fun q => q c_1), if_neg (fun q => q c_2)])).trans hfin) Z (lv_sub hl [3, 4, 1, 2, 0] rfl)
      · refine lv_iconst (v := nI 1) hx hb dX8_isZero_34 (by decide) ?_
        refine lv_goto (tgt := 39) hx hb dX8_isZero_35 (by decide) ?_
        refine lv_istore_n (lv' := [(3, .int (nI 1)), (0, .ref hm), (1, .int (nI e)), (2, .int (nI v)), (4, .int (nI i))]) hx hb dX8_isZero_39 rfl hl (by decide) rfl (fun ls hl => ?_)
        refine lv_iconst (v := nI 2) hx hb dX8_isZero_40 (by decide) ?_
        refine lv_iload_n hx hb dX8_isZero_41 rfl (lv_at hl 3 rfl) ?_
        refine nr_imul hx hb dX8_isZero_42 ?_
        refine lv_aload_n hx hb dX8_isZero_43 rfl (lv_at hl 1 rfl) ?_
        refine zk_get C Z in_X8 0 rfl rfl 4 (by decide) q601 rfl (v := .int (nI n)) rfl dX8_isZero_44 ?_
        refine nr_irem hx hb (by omega) n0 (by omega) dX8_isZero_47 ?_
        refine lv_istore_n (lv' := [(2, .int (nI ((2 * v) % n))), (3, .int (nI 1)), (0, .ref hm), (1, .int (nI e)), (4, .int (nI i))]) hx hb dX8_isZero_48 rfl hl (by decide) rfl (fun ls hl => ?_)
        refine nr_iinc (n := 1) (lv' := [(4, .int (nI (i + 1))), (2, .int (nI ((2 * v) % n))), (3, .int (nI 1)), (0, .ref hm), (1, .int (nI e))]) hx hb (by decide) dX8_isZero_49 hl (k := 4) rfl (by decide) rfl (fun ls hl => ?_)
        refine lv_goto (tgt := 7) hx hb dX8_isZero_52 (by decide) ?_
        exact ih (i + 1) (2 * v % n) 1 H locs ls (by omega) (by have := Nat.mod_lt (2 * v) n0; omega) (by decide) ((congrArg (zk_it (izF n t) k (i + 1)) (show (2 * v % n, 1) = izF n t i (v, f) from by unfold izF; rw [if_neg (fun q => q c_1), if_pos c_2])).trans hfin) Z (lv_sub hl [3, 4, 1, 2, 0] rfl)

set_option maxHeartbeats 4000000 in
/-- model: isZero -/
theorem m8_iz (l : Launch) (D : va_G) (g : G4) (hm ms ch kp md rs pr : Nat) (km bg p dg n t dep gn ck e : Nat) (n0 : 0 < n) (n31 : n ≤ 31) (t3 : t ≤ 3) (d5 : dg ≤ 5) (e62 : e ≤ 62) : zk_M l yX8_isZero (ws_ yX8_isZero cX8_isZero 5 (some .boolean)) (zk_R 1 0 0) D g [.ref hm, .int (nI e)] [(hm, .inr (7, [.int (nI km), .int (nI bg), .int (nI p), .int (nI dg), .int (nI n), .int (nI t), .int (nI dep), .int (nI gn), .int (nI ck), .ref ms, .ref ch, .ref kp, .ref md, .ref rs, .ref pr]))] (zk_D (some (.int (nI (izr n t dg e)))) [(hm, .inr (7, [.int (nI km), .int (nI bg), .int (nI p), .int (nI dg), .int (nI n), .int (nI t), .int (nI dep), .int (nI gn), .int (nI ck), .ref ms, .ref ch, .ref kp, .ref md, .ref rs, .ref pr]))]) := by
  refine zk_ofW (by decide) (Nat.le_of_ble_eq_true rfl) ?_
  intro pg ev s mm below meth cd A C hr hlocks hname Z ls hl
  have hx := C.1.1
  have hb := C.1.2.1
  have hml := C.1.2.2.1
  have hown := C.1.2.2.2.1
  have hts := C.1.2.2.2.2
  have hl : lv_has ls 5 [(0, .ref hm), (1, .int (nI e))] := hl
  obtain ⟨H, hH⟩ : ∃ H, H = s.heap := ⟨_, rfl⟩
  obtain ⟨locs, hlocs⟩ : ∃ q : List Loc, q = [] := ⟨_, rfl⟩
  rw [← hH, ← hlocs] at Z ⊢
  refine lv_iload_n hx hb dX8_isZero_0 rfl (lv_at hl 1 rfl) ?_
  refine lv_istore_n (lv' := [(2, .int (nI e)), (0, .ref hm), (1, .int (nI e))]) hx hb dX8_isZero_1 rfl hl (by decide) rfl (fun ls hl => ?_)
  refine lv_iconst (v := nI 0) hx hb dX8_isZero_2 (by decide) ?_
  refine lv_istore_n (lv' := [(3, .int (nI 0)), (2, .int (nI e)), (0, .ref hm), (1, .int (nI e))]) hx hb dX8_isZero_3 rfl hl (by decide) rfl (fun ls hl => ?_)
  refine lv_iconst (v := nI 0) hx hb dX8_isZero_4 (by decide) ?_
  refine lv_istore (lv' := [(4, .int (nI 0)), (3, .int (nI 0)), (2, .int (nI e)), (0, .ref hm), (1, .int (nI e))]) hx hb dX8_isZero_5 hl (by decide) rfl (fun ls hl => ?_)
  refine lp8_iz C hm ms ch kp md rs pr km bg p dg n t dep gn ck e n0 n31 t3 d5 _ (fun v f H locs ls hf2 e1 Z hl => ?_) dg 0 e 0 H locs ls (by omega) e62 (by decide) rfl Z (lv_sub hl [3, 4, 2, 1, 0] rfl)
  refine lv_iload_n hx hb dX8_isZero_55 rfl (lv_at hl 1 rfl) ?_
  exact zk_zret C hr hlocks Z (zk_nar hf2) ⟨by unfold izr; rw [← e1], rfl⟩ (Nat.le_of_ble_eq_true rfl) (Nat.le_of_ble_eq_true rfl) dX8_isZero_56

set_option maxHeartbeats 4000000 in
theorem lp8_rem {pg : Program} {l : Launch} {ev : Env} {s : State} {mm : MethodId} {args : Array Value} {below : List Frame} {meth : Method} {cd : Code} {Q : State → Prop} {D : va_G} {g : G4} {A : Nat → Prop} (C : zk_C pg s mm cd args cX8_remainder 4 RX8 D g A) (hm ms ch kp md rs pr : Nat) (km bg p dg n t dep gn ck wd : Nat) (Rs : List Nat) (hRs : Rs.length = 31) (R_ : Nat → Nat) (hR : ∀ i, i < n → Rs.getD i 0 = R_ i) (n31 : n ≤ 31) (wd31 : wd < 2 ^ 31) (fin : Nat) (kk : ∀ (H : Heap) (locs : List Loc) (ls : Array Slot), zk_Z D A s H locs [(hm, .inr (7, [.int (nI km), .int (nI bg), .int (nI p), .int (nI dg), .int (nI n), .int (nI t), .int (nI dep), .int (nI gn), .int (nI ck), .ref ms, .ref ch, .ref kp, .ref md, .ref rs, .ref pr])), (rs, .inl (g.1, 31, .inl (zk_ia Rs)))] → lv_has ls 4 [(0, .ref hm), (2, .int (nI fin))] → W pg l ev (zk_R 0 0 0) s mm args below meth cd H locs 0 0 Q (F0 mm 40 ls [])) :
    ∀ (k : Nat) (i sm : Nat) (H : Heap) (locs : List Loc) (ls : Array Slot), (i + k = n) → (zk_it (rmF R_ wd) k i sm = fin) → zk_Z D A s H locs [(hm, .inr (7, [.int (nI km), .int (nI bg), .int (nI p), .int (nI dg), .int (nI n), .int (nI t), .int (nI dep), .int (nI gn), .int (nI ck), .ref ms, .ref ch, .ref kp, .ref md, .ref rs, .ref pr])), (rs, .inl (g.1, 31, .inl (zk_ia Rs)))] → lv_has ls 4 [(0, .ref hm), (1, .int (nI wd)), (2, .int (nI sm)), (3, .int (nI i))] → W pg l ev (zk_R 0 0 0) s mm args below meth cd H locs 0 0 Q (F0 mm 4 ls []) := by
  have hx := C.1.1
  have hb := C.1.2.1
  have hml := C.1.2.2.1
  have hown := C.1.2.2.2.1
  have hts := C.1.2.2.2.2
  intro k
  induction k with
  | zero =>
    intro i sm H locs ls hik hfin Z hl
    have hfin : sm = fin := hfin
    subst hfin
    refine lv_iload_n hx hb dX8_remainder_4 rfl (lv_at hl 3 rfl) ?_
    refine lv_aload_n hx hb dX8_remainder_5 rfl (lv_at hl 0 rfl) ?_
    refine zk_get C Z in_X8 0 rfl rfl 4 (by decide) q601 rfl (v := .int (nI n)) rfl dX8_remainder_6 ?_
    refine nr_ge (tgt := 40) hx hb (by omega) (by omega) dX8_remainder_9 (by decide) (fun c_1 => ?_) (fun c_1 => absurd c_1 (by omega))
    exact kk  H locs ls  Z (lv_sub hl [0, 2] rfl)
  | succ k ih =>
    intro i sm H locs ls hik hfin Z hl
    refine lv_iload_n hx hb dX8_remainder_4 rfl (lv_at hl 3 rfl) ?_
    refine lv_aload_n hx hb dX8_remainder_5 rfl (lv_at hl 0 rfl) ?_
    refine zk_get C Z in_X8 0 rfl rfl 4 (by decide) q601 rfl (v := .int (nI n)) rfl dX8_remainder_6 ?_
    refine nr_ge (tgt := 40) hx hb (by omega) (by omega) dX8_remainder_9 (by decide) (fun c_1 => absurd c_1 (by omega)) (fun c_1 => ?_)
    refine lv_iload_n hx hb dX8_remainder_12 rfl (lv_at hl 1 rfl) ?_
    refine lv_iload_n hx hb dX8_remainder_13 rfl (lv_at hl 3 rfl) ?_
    refine nr_ishr hx hb wd31 (by omega) dX8_remainder_14 ?_
    refine lv_iconst (v := nI 1) hx hb dX8_remainder_15 (by decide) ?_
    refine nr_iand hx hb dX8_remainder_16 ?_
    refine lv_iconst (v := nI 1) hx hb dX8_remainder_17 (by decide) ?_
    refine nr_ne (tgt := 32) hx hb (zk_lt31 (zk_b1 _)) (by decide) dX8_remainder_18 (by decide) (fun c_1 => ?_) (fun c_1 => ?_)
    · refine lv_iload_n hx hb dX8_remainder_32 rfl (lv_at hl 2 rfl) ?_
      refine lv_istore_n (lv' := [(2, .int (nI sm)), (0, .ref hm), (1, .int (nI wd)), (3, .int (nI i))]) hx hb dX8_remainder_33 rfl hl (by decide) rfl (fun ls hl => ?_)
      refine nr_iinc (n := 1) (lv' := [(3, .int (nI (i + 1))), (2, .int (nI sm)), (0, .ref hm), (1, .int (nI wd))]) hx hb (by decide) dX8_remainder_34 hl (k := 3) rfl (by decide) rfl (fun ls hl => ?_)
      refine lv_goto (tgt := 4) hx hb dX8_remainder_37 (by decide) ?_
      exact ih (i + 1) (sm) H locs ls (by omega) ((congrArg (zk_it (rmF R_ wd) k (i + 1)) (show sm = rmF R_ wd i sm from by unfold rmF; rw [if_neg c_1])).trans hfin) Z (lv_sub hl [2, 3, 1, 0] rfl)
    · refine lv_iload_n hx hb dX8_remainder_21 rfl (lv_at hl 2 rfl) ?_
      refine lv_aload_n hx hb dX8_remainder_22 rfl (lv_at hl 0 rfl) ?_
      refine zk_get C Z in_X8 0 rfl rfl 13 (by decide) q610 rfl (v := .ref rs) rfl dX8_remainder_23 ?_
      refine lv_iload_n hx hb dX8_remainder_26 rfl (lv_at hl 3 rfl) ?_
      refine zk_iald C Z 1 rfl (by decide) (by omega) dX8_remainder_27 ?_
      rw [hR i (by omega)]
      refine nr_ixor hx hb dX8_remainder_28 ?_
      refine lv_goto (tgt := 33) hx hb dX8_remainder_29 (by decide) ?_
      refine lv_istore_n (lv' := [(2, .int (nI (sm ^^^ (R_ i)))), (0, .ref hm), (1, .int (nI wd)), (3, .int (nI i))]) hx hb dX8_remainder_33 rfl hl (by decide) rfl (fun ls hl => ?_)
      refine nr_iinc (n := 1) (lv' := [(3, .int (nI (i + 1))), (2, .int (nI (sm ^^^ (R_ i)))), (0, .ref hm), (1, .int (nI wd))]) hx hb (by decide) dX8_remainder_34 hl (k := 3) rfl (by decide) rfl (fun ls hl => ?_)
      refine lv_goto (tgt := 4) hx hb dX8_remainder_37 (by decide) ?_
      exact ih (i + 1) (sm ^^^ (R_ i)) H locs ls (by omega) ((congrArg (zk_it (rmF R_ wd) k (i + 1)) (show sm ^^^ (R_ i) = rmF R_ wd i sm from by unfold rmF; rw [if_pos c_1])).trans hfin) Z (lv_sub hl [2, 3, 1, 0] rfl)

set_option maxHeartbeats 4000000 in
/-- model: remainder -/
theorem m8_rem (l : Launch) (D : va_G) (g : G4) (hm ms ch kp md rs pr : Nat) (km bg p dg n t dep gn ck wd : Nat) (Rs : List Nat) (hRs : Rs.length = 31) (R_ : Nat → Nat) (hR : ∀ i, i < n → Rs.getD i 0 = R_ i) (n31 : n ≤ 31) (wd31 : wd < 2 ^ 31) : zk_M l yX8_remainder (ws_ yX8_remainder cX8_remainder 4 (some .int)) (zk_R 0 0 0) D g [.ref hm, .int (nI wd)] [(hm, .inr (7, [.int (nI km), .int (nI bg), .int (nI p), .int (nI dg), .int (nI n), .int (nI t), .int (nI dep), .int (nI gn), .int (nI ck), .ref ms, .ref ch, .ref kp, .ref md, .ref rs, .ref pr])), (rs, .inl (g.1, 31, .inl (zk_ia Rs)))] (zk_D (some (.int (nI (rmd R_ n wd)))) [(hm, .inr (7, [.int (nI km), .int (nI bg), .int (nI p), .int (nI dg), .int (nI n), .int (nI t), .int (nI dep), .int (nI gn), .int (nI ck), .ref ms, .ref ch, .ref kp, .ref md, .ref rs, .ref pr])), (rs, .inl (g.1, 31, .inl (zk_ia Rs)))]) := by
  refine zk_ofW (by decide) (Nat.le_of_ble_eq_true rfl) ?_
  intro pg ev s mm below meth cd A C hr hlocks hname Z ls hl
  have hx := C.1.1
  have hb := C.1.2.1
  have hml := C.1.2.2.1
  have hown := C.1.2.2.2.1
  have hts := C.1.2.2.2.2
  have hl : lv_has ls 4 [(0, .ref hm), (1, .int (nI wd))] := hl
  obtain ⟨H, hH⟩ : ∃ H, H = s.heap := ⟨_, rfl⟩
  obtain ⟨locs, hlocs⟩ : ∃ q : List Loc, q = [] := ⟨_, rfl⟩
  rw [← hH, ← hlocs] at Z ⊢
  refine lv_iconst (v := nI 0) hx hb dX8_remainder_0 (by decide) ?_
  refine lv_istore_n (lv' := [(2, .int (nI 0)), (0, .ref hm), (1, .int (nI wd))]) hx hb dX8_remainder_1 rfl hl (by decide) rfl (fun ls hl => ?_)
  refine lv_iconst (v := nI 0) hx hb dX8_remainder_2 (by decide) ?_
  refine lv_istore_n (lv' := [(3, .int (nI 0)), (2, .int (nI 0)), (0, .ref hm), (1, .int (nI wd))]) hx hb dX8_remainder_3 rfl hl (by decide) rfl (fun ls hl => ?_)
  refine lp8_rem C hm ms ch kp md rs pr km bg p dg n t dep gn ck wd Rs hRs R_ hR n31 wd31 _ (fun H locs ls Z hl => ?_) n 0 0 H locs ls (by omega) rfl Z (lv_sub hl [2, 3, 1, 0] rfl)
  refine lv_iload_n hx hb dX8_remainder_40 rfl (lv_at hl 1 rfl) ?_
  exact zk_iret C hr hlocks Z ⟨rfl, rfl⟩ (Nat.le_of_ble_eq_true rfl) (Nat.le_of_ble_eq_true rfl) dX8_remainder_41

set_option maxHeartbeats 4000000 in
theorem lp8_ones {pg : Program} {l : Launch} {ev : Env} {s : State} {mm : MethodId} {args : Array Value} {below : List Frame} {meth : Method} {cd : Code} {Q : State → Prop} {D : va_G} {g : G4} {A : Nat → Prop} (C : zk_C pg s mm cd args cX8_ones 3 RX8 D g A) (wd : Nat) (wd31 : wd < 2 ^ 31) (fin : Nat) (kk : ∀ (H : Heap) (locs : List Loc) (ls : Array Slot), zk_Z D A s H locs [] → lv_has ls 3 [(1, .int (nI fin))] → W pg l ev (zk_R 0 0 0) s mm args below meth cd H locs 0 0 Q (F0 mm 24 ls [])) :
    ∀ (k : Nat) (i sm : Nat) (H : Heap) (locs : List Loc) (ls : Array Slot), (i + k = 31) → (zk_it (onF wd) k i sm = fin) → zk_Z D A s H locs [] → lv_has ls 3 [(0, .int (nI wd)), (1, .int (nI sm)), (2, .int (nI i))] → W pg l ev (zk_R 0 0 0) s mm args below meth cd H locs 0 0 Q (F0 mm 4 ls []) := by
  have hx := C.1.1
  have hb := C.1.2.1
  have hml := C.1.2.2.1
  have hown := C.1.2.2.2.1
  have hts := C.1.2.2.2.2
  intro k
  induction k with
  | zero =>
    intro i sm H locs ls hik hfin Z hl
    have hfin : sm = fin := hfin
    subst hfin
    refine lv_iload_n hx hb dX8_ones_4 rfl (lv_at hl 2 rfl) ?_
    refine lv_bipush (v := nI 31) hx hb dX8_ones_5 (by decide) ?_
    refine nr_ge (tgt := 24) hx hb (by omega) (by omega) dX8_ones_7 (by decide) (fun c_1 => ?_) (fun c_1 => absurd c_1 (by omega))
    exact kk  H locs ls  Z (lv_sub hl [1] rfl)
  | succ k ih =>
    intro i sm H locs ls hik hfin Z hl
    refine lv_iload_n hx hb dX8_ones_4 rfl (lv_at hl 2 rfl) ?_
    refine lv_bipush (v := nI 31) hx hb dX8_ones_5 (by decide) ?_
    refine nr_ge (tgt := 24) hx hb (by omega) (by omega) dX8_ones_7 (by decide) (fun c_1 => absurd c_1 (by omega)) (fun c_1 => ?_)
    refine lv_iload_n hx hb dX8_ones_10 rfl (lv_at hl 1 rfl) ?_
    refine lv_iload_n hx hb dX8_ones_11 rfl (lv_at hl 0 rfl) ?_
    refine lv_iload_n hx hb dX8_ones_12 rfl (lv_at hl 2 rfl) ?_
    refine nr_ishr hx hb wd31 (by omega) dX8_ones_13 ?_
    refine lv_iconst (v := nI 1) hx hb dX8_ones_14 (by decide) ?_
    refine nr_iand hx hb dX8_ones_15 ?_
    refine nr_iadd hx hb dX8_ones_16 ?_
    refine lv_istore_n (lv' := [(1, .int (nI (sm + ((wd >>> i) &&& 1)))), (0, .int (nI wd)), (2, .int (nI i))]) hx hb dX8_ones_17 rfl hl (by decide) rfl (fun ls hl => ?_)
    refine nr_iinc (n := 1) (lv' := [(2, .int (nI (i + 1))), (1, .int (nI (sm + ((wd >>> i) &&& 1)))), (0, .int (nI wd))]) hx hb (by decide) dX8_ones_18 hl (k := 2) rfl (by decide) rfl (fun ls hl => ?_)
    refine lv_goto (tgt := 4) hx hb dX8_ones_21 (by decide) ?_
    exact ih (i + 1) (sm + ((wd >>> i) &&& 1)) H locs ls (by omega) hfin Z (lv_sub hl [2, 1, 0] rfl)

set_option maxHeartbeats 4000000 in
/-- model: ones -/
theorem m8_ones (l : Launch) (D : va_G) (g : G4) (wd : Nat) (wd31 : wd < 2 ^ 31) : zk_M l yX8_ones (ws_ yX8_ones cX8_ones 3 (some .int)) (zk_R 0 0 0) D g [.int (nI wd)] [] (zk_D (some (.int (nI (one wd)))) []) := by
  refine zk_ofW (by decide) (Nat.le_of_ble_eq_true rfl) ?_
  intro pg ev s mm below meth cd A C hr hlocks hname Z ls hl
  have hx := C.1.1
  have hb := C.1.2.1
  have hml := C.1.2.2.1
  have hown := C.1.2.2.2.1
  have hts := C.1.2.2.2.2
  have hl : lv_has ls 3 [(0, .int (nI wd))] := hl
  obtain ⟨H, hH⟩ : ∃ H, H = s.heap := ⟨_, rfl⟩
  obtain ⟨locs, hlocs⟩ : ∃ q : List Loc, q = [] := ⟨_, rfl⟩
  rw [← hH, ← hlocs] at Z ⊢
  refine lv_iconst (v := nI 0) hx hb dX8_ones_0 (by decide) ?_
  refine lv_istore_n (lv' := [(1, .int (nI 0)), (0, .int (nI wd))]) hx hb dX8_ones_1 rfl hl (by decide) rfl (fun ls hl => ?_)
  refine lv_iconst (v := nI 0) hx hb dX8_ones_2 (by decide) ?_
  refine lv_istore_n (lv' := [(2, .int (nI 0)), (1, .int (nI 0)), (0, .int (nI wd))]) hx hb dX8_ones_3 rfl hl (by decide) rfl (fun ls hl => ?_)
  refine lp8_ones C wd wd31 _ (fun H locs ls Z hl => ?_) 31 0 0 H locs ls rfl rfl Z (lv_sub hl [2, 1, 0] rfl)
  refine lv_iload_n hx hb dX8_ones_24 rfl (lv_at hl 0 rfl) ?_
  exact zk_iret C hr hlocks Z ⟨rfl, rfl⟩ (Nat.le_of_ble_eq_true rfl) (Nat.le_of_ble_eq_true rfl) dX8_ones_25

set_option maxHeartbeats 4000000 in
/-- model: messageBits -/
theorem m8_mb (l : Launch) (D : va_G) (g : G4) (hm ms ch kp md rs pr : Nat) (km p dg n t dep gn ck : Nat) (ckn : ck ≤ n) : zk_M l yX8_messageBits (ws_ yX8_messageBits cX8_messageBits 1 (some .int)) (zk_R 0 0 0) D g [.ref hm] [(hm, .inr (7, [.int (nI km), .int (nI 1), .int (nI p), .int (nI dg), .int (nI n), .int (nI t), .int (nI dep), .int (nI gn), .int (nI ck), .ref ms, .ref ch, .ref kp, .ref md, .ref rs, .ref pr]))] (zk_D (some (.int (nI (dep * (n - ck))))) [(hm, .inr (7, [.int (nI km), .int (nI 1), .int (nI p), .int (nI dg), .int (nI n), .int (nI t), .int (nI dep), .int (nI gn), .int (nI ck), .ref ms, .ref ch, .ref kp, .ref md, .ref rs, .ref pr]))]) := by
  refine zk_ofW (by decide) (Nat.le_of_ble_eq_true rfl) ?_
  intro pg ev s mm below meth cd A C hr hlocks hname Z ls hl
  have hx := C.1.1
  have hb := C.1.2.1
  have hml := C.1.2.2.1
  have hown := C.1.2.2.2.1
  have hts := C.1.2.2.2.2
  have hl : lv_has ls 1 [(0, .ref hm)] := hl
  refine lv_aload_n hx hb dX8_messageBits_0 rfl (lv_at hl 0 rfl) ?_
  refine zk_get C Z in_X8 0 rfl rfl 1 (by decide) q598 rfl (v := .int (nI 1)) rfl dX8_messageBits_1 ?_
  refine nr_eq0 (tgt := 24) hx hb (by omega) dX8_messageBits_4 (by decide) (fun c_1 => absurd c_1 (by decide)) (fun c_1 => ?_)
  refine lv_aload_n hx hb dX8_messageBits_7 rfl (lv_at hl 0 rfl) ?_
  refine zk_get C Z in_X8 0 rfl rfl 6 (by decide) q603 rfl (v := .int (nI dep)) rfl dX8_messageBits_8 ?_
  refine lv_aload_n hx hb dX8_messageBits_11 rfl (lv_at hl 0 rfl) ?_
  refine zk_get C Z in_X8 0 rfl rfl 4 (by decide) q601 rfl (v := .int (nI n)) rfl dX8_messageBits_12 ?_
  refine lv_aload_n hx hb dX8_messageBits_15 rfl (lv_at hl 0 rfl) ?_
  refine zk_get C Z in_X8 0 rfl rfl 8 (by decide) q605 rfl (v := .int (nI ck)) rfl dX8_messageBits_16 ?_
  refine nr_isub hx hb ckn dX8_messageBits_19 ?_
  refine nr_imul hx hb dX8_messageBits_20 ?_
  refine lv_goto (tgt := 25) hx hb dX8_messageBits_21 (by decide) ?_
  exact zk_iret C hr hlocks Z ⟨rfl, rfl⟩ (Nat.le_of_ble_eq_true rfl) (Nat.le_of_ble_eq_true rfl) dX8_messageBits_25

set_option maxHeartbeats 4000000 in
/-- model: channelBits -/
theorem m8_cb (l : Launch) (D : va_G) (g : G4) (hm ms ch kp md rs pr : Nat) (km p dg n t dep gn ck : Nat) : zk_M l yX8_channelBits (ws_ yX8_channelBits cX8_channelBits 1 (some .int)) (zk_R 0 0 0) D g [.ref hm] [(hm, .inr (7, [.int (nI km), .int (nI 1), .int (nI p), .int (nI dg), .int (nI n), .int (nI t), .int (nI dep), .int (nI gn), .int (nI ck), .ref ms, .ref ch, .ref kp, .ref md, .ref rs, .ref pr]))] (zk_D (some (.int (nI (dep * n)))) [(hm, .inr (7, [.int (nI km), .int (nI 1), .int (nI p), .int (nI dg), .int (nI n), .int (nI t), .int (nI dep), .int (nI gn), .int (nI ck), .ref ms, .ref ch, .ref kp, .ref md, .ref rs, .ref pr]))]) := by
  refine zk_ofW (by decide) (Nat.le_of_ble_eq_true rfl) ?_
  intro pg ev s mm below meth cd A C hr hlocks hname Z ls hl
  have hx := C.1.1
  have hb := C.1.2.1
  have hml := C.1.2.2.1
  have hown := C.1.2.2.2.1
  have hts := C.1.2.2.2.2
  have hl : lv_has ls 1 [(0, .ref hm)] := hl
  refine lv_aload_n hx hb dX8_channelBits_0 rfl (lv_at hl 0 rfl) ?_
  refine zk_get C Z in_X8 0 rfl rfl 1 (by decide) q598 rfl (v := .int (nI 1)) rfl dX8_channelBits_1 ?_
  refine nr_eq0 (tgt := 19) hx hb (by omega) dX8_channelBits_4 (by decide) (fun c_1 => absurd c_1 (by decide)) (fun c_1 => ?_)
  refine lv_aload_n hx hb dX8_channelBits_7 rfl (lv_at hl 0 rfl) ?_
  refine zk_get C Z in_X8 0 rfl rfl 6 (by decide) q603 rfl (v := .int (nI dep)) rfl dX8_channelBits_8 ?_
  refine lv_aload_n hx hb dX8_channelBits_11 rfl (lv_at hl 0 rfl) ?_
  refine zk_get C Z in_X8 0 rfl rfl 4 (by decide) q601 rfl (v := .int (nI n)) rfl dX8_channelBits_12 ?_
  refine nr_imul hx hb dX8_channelBits_15 ?_
  refine lv_goto (tgt := 20) hx hb dX8_channelBits_16 (by decide) ?_
  exact zk_iret C hr hlocks Z ⟨rfl, rfl⟩ (Nat.le_of_ble_eq_true rfl) (Nat.le_of_ble_eq_true rfl) dX8_channelBits_20

set_option maxHeartbeats 4000000 in
/-- model: channelBits, not begun -/
theorem m8_cbU (l : Launch) (D : va_G) (g : G4) (hm ms ch kp md rs pr : Nat) (km : Nat) : zk_M l yX8_channelBits (ws_ yX8_channelBits cX8_channelBits 1 (some .int)) (zk_R 0 0 0) D g [.ref hm] [(hm, .inr (7, [.int (nI km), .int (nI 0), .int (nI 0), .int (nI 0), .int (nI 0), .int (nI 0), .int (nI 0), .int (nI 0), .int (nI 0), .ref ms, .ref ch, .ref kp, .ref md, .ref rs, .ref pr]))] (zk_D (some (.int (nI 0))) [(hm, .inr (7, [.int (nI km), .int (nI 0), .int (nI 0), .int (nI 0), .int (nI 0), .int (nI 0), .int (nI 0), .int (nI 0), .int (nI 0), .ref ms, .ref ch, .ref kp, .ref md, .ref rs, .ref pr]))]) := by
  refine zk_ofW (by decide) (Nat.le_of_ble_eq_true rfl) ?_
  intro pg ev s mm below meth cd A C hr hlocks hname Z ls hl
  have hx := C.1.1
  have hb := C.1.2.1
  have hml := C.1.2.2.1
  have hown := C.1.2.2.2.1
  have hts := C.1.2.2.2.2
  have hl : lv_has ls 1 [(0, .ref hm)] := hl
  refine lv_aload_n hx hb dX8_channelBits_0 rfl (lv_at hl 0 rfl) ?_
  refine zk_get C Z in_X8 0 rfl rfl 1 (by decide) q598 rfl (v := .int (nI 0)) rfl dX8_channelBits_1 ?_
  refine nr_eq0 (tgt := 19) hx hb (by omega) dX8_channelBits_4 (by decide) (fun c_1 => ?_) (fun c_1 => absurd c_1 (fun q => q rfl))
  refine lv_iconst (v := nI 0) hx hb dX8_channelBits_19 (by decide) ?_
  exact zk_iret C hr hlocks Z ⟨rfl, rfl⟩ (Nat.le_of_ble_eq_true rfl) (Nat.le_of_ble_eq_true rfl) dX8_channelBits_20

set_option maxHeartbeats 4000000 in
/-- model: length -/
theorem m8_length (l : Launch) (D : va_G) (g : G4) (hm ms ch kp md rs pr : Nat) (km p dg n t dep gn ck : Nat) : zk_M l yX8_length (ws_ yX8_length cX8_length 1 (some .int)) (zk_R 0 0 0) D g [.ref hm] [(hm, .inr (7, [.int (nI km), .int (nI 1), .int (nI p), .int (nI dg), .int (nI n), .int (nI t), .int (nI dep), .int (nI gn), .int (nI ck), .ref ms, .ref ch, .ref kp, .ref md, .ref rs, .ref pr]))] (zk_D (some (.int (nI n))) [(hm, .inr (7, [.int (nI 0), .int (nI 1), .int (nI p), .int (nI dg), .int (nI n), .int (nI t), .int (nI dep), .int (nI gn), .int (nI ck), .ref ms, .ref ch, .ref kp, .ref md, .ref rs, .ref pr]))]) := by
  refine zk_ofW (by decide) (Nat.le_of_ble_eq_true rfl) ?_
  intro pg ev s mm below meth cd A C hr hlocks hname Z ls hl
  have hx := C.1.1
  have hb := C.1.2.1
  have hml := C.1.2.2.1
  have hown := C.1.2.2.2.1
  have hts := C.1.2.2.2.2
  have hl : lv_has ls 1 [(0, .ref hm)] := hl
  refine lv_aload_n hx hb dX8_length_0 rfl (lv_at hl 0 rfl) ?_
  refine lv_aload_n hx hb dX8_length_1 rfl (lv_at hl 0 rfl) ?_
  refine zk_get C Z in_X8 0 rfl rfl 1 (by decide) q598 rfl (v := .int (nI 1)) rfl dX8_length_2 ?_
  refine nr_eq0 (tgt := 12) hx hb (by omega) dX8_length_5 (by decide) (fun c_1 => absurd c_1 (by decide)) (fun c_1 => ?_)
  refine lv_iconst (v := nI 0) hx hb dX8_length_8 (by decide) ?_
  refine lv_goto (tgt := 13) hx hb dX8_length_9 (by decide) ?_
  refine zk_put C Z in_X8 tyX8 tyX8_ok nmX8 0 rfl rfl 0 (by decide) q597 rfl rfl (v := .int (nI 0)) rfl rfl (Nat.le_of_ble_eq_true rfl) dX8_length_13 (fun H locs Z => ?_)
  have Z : zk_Z D A s H locs [(hm, .inr (7, [.int (nI 0), .int (nI 1), .int (nI p), .int (nI dg), .int (nI n), .int (nI t), .int (nI dep), .int (nI gn), .int (nI ck), .ref ms, .ref ch, .ref kp, .ref md, .ref rs, .ref pr]))] := Z
  refine lv_aload_n hx hb dX8_length_16 rfl (lv_at hl 0 rfl) ?_
  refine zk_get C Z in_X8 0 rfl rfl 1 (by decide) q598 rfl (v := .int (nI 1)) rfl dX8_length_17 ?_
  refine nr_eq0 (tgt := 30) hx hb (by omega) dX8_length_20 (by decide) (fun c_2 => absurd c_2 (by decide)) (fun c_2 => ?_)
  refine lv_aload_n hx hb dX8_length_23 rfl (lv_at hl 0 rfl) ?_
  refine zk_get C Z in_X8 0 rfl rfl 4 (by decide) q601 rfl (v := .int (nI n)) rfl dX8_length_24 ?_
  refine lv_goto (tgt := 31) hx hb dX8_length_27 (by decide) ?_
  exact zk_iret C hr hlocks Z ⟨rfl, rfl⟩ (Nat.le_of_ble_eq_true rfl) (Nat.le_of_ble_eq_true rfl) dX8_length_31

set_option maxHeartbeats 4000000 in
/-- model: length, not begun -/
theorem v8_length (l : Launch) (D : va_G) (g : G4) (hm ms ch kp md rs pr : Nat) (km : Nat) : zk_M l yX8_length (ws_ yX8_length cX8_length 1 (some .int)) (zk_R 0 0 0) D g [.ref hm] [(hm, .inr (7, [.int (nI km), .int (nI 0), .int (nI 0), .int (nI 0), .int (nI 0), .int (nI 0), .int (nI 0), .int (nI 0), .int (nI 0), .ref ms, .ref ch, .ref kp, .ref md, .ref rs, .ref pr]))] (zk_D (some (.int (nI 0))) [(hm, .inr (7, [.int (nI 1), .int (nI 0), .int (nI 0), .int (nI 0), .int (nI 0), .int (nI 0), .int (nI 0), .int (nI 0), .int (nI 0), .ref ms, .ref ch, .ref kp, .ref md, .ref rs, .ref pr]))]) := by
  refine zk_ofW (by decide) (Nat.le_of_ble_eq_true rfl) ?_
  intro pg ev s mm below meth cd A C hr hlocks hname Z ls hl
  have hx := C.1.1
  have hb := C.1.2.1
  have hml := C.1.2.2.1
  have hown := C.1.2.2.2.1
  have hts := C.1.2.2.2.2
  have hl : lv_has ls 1 [(0, .ref hm)] := hl
  refine lv_aload_n hx hb dX8_length_0 rfl (lv_at hl 0 rfl) ?_
  refine lv_aload_n hx hb dX8_length_1 rfl (lv_at hl 0 rfl) ?_
  refine zk_get C Z in_X8 0 rfl rfl 1 (by decide) q598 rfl (v := .int (nI 0)) rfl dX8_length_2 ?_
  refine nr_eq0 (tgt := 12) hx hb (by omega) dX8_length_5 (by decide) (fun c_1 => ?_) (fun c_1 => absurd c_1 (fun q => q rfl))
  refine lv_iconst (v := nI 1) hx hb dX8_length_12 (by decide) ?_
  refine zk_put C Z in_X8 tyX8 tyX8_ok nmX8 0 rfl rfl 0 (by decide) q597 rfl rfl (v := .int (nI 1)) rfl rfl (Nat.le_of_ble_eq_true rfl) dX8_length_13 (fun H locs Z => ?_)
  have Z : zk_Z D A s H locs [(hm, .inr (7, [.int (nI 1), .int (nI 0), .int (nI 0), .int (nI 0), .int (nI 0), .int (nI 0), .int (nI 0), .int (nI 0), .int (nI 0), .ref ms, .ref ch, .ref kp, .ref md, .ref rs, .ref pr]))] := Z
  refine lv_aload_n hx hb dX8_length_16 rfl (lv_at hl 0 rfl) ?_
  refine zk_get C Z in_X8 0 rfl rfl 1 (by decide) q598 rfl (v := .int (nI 0)) rfl dX8_length_17 ?_
  refine nr_eq0 (tgt := 30) hx hb (by omega) dX8_length_20 (by decide) (fun c_2 => ?_) (fun c_2 => absurd c_2 (fun q => q rfl))
  refine lv_iconst (v := nI 0) hx hb dX8_length_30 (by decide) ?_
  exact zk_iret C hr hlocks Z ⟨rfl, rfl⟩ (Nat.le_of_ble_eq_true rfl) (Nat.le_of_ble_eq_true rfl) dX8_length_31

set_option maxHeartbeats 4000000 in
/-- model: gen -/
theorem m8_gen (l : Launch) (D : va_G) (g : G4) (hm ms ch kp md rs pr : Nat) (km p dg n t dep gn ck : Nat) : zk_M l yX8_generator (ws_ yX8_generator cX8_generator 1 (some .int)) (zk_R 0 0 0) D g [.ref hm] [(hm, .inr (7, [.int (nI km), .int (nI 1), .int (nI p), .int (nI dg), .int (nI n), .int (nI t), .int (nI dep), .int (nI gn), .int (nI ck), .ref ms, .ref ch, .ref kp, .ref md, .ref rs, .ref pr]))] (zk_D (some (.int (nI gn))) [(hm, .inr (7, [.int (nI 0), .int (nI 1), .int (nI p), .int (nI dg), .int (nI n), .int (nI t), .int (nI dep), .int (nI gn), .int (nI ck), .ref ms, .ref ch, .ref kp, .ref md, .ref rs, .ref pr]))]) := by
  refine zk_ofW (by decide) (Nat.le_of_ble_eq_true rfl) ?_
  intro pg ev s mm below meth cd A C hr hlocks hname Z ls hl
  have hx := C.1.1
  have hb := C.1.2.1
  have hml := C.1.2.2.1
  have hown := C.1.2.2.2.1
  have hts := C.1.2.2.2.2
  have hl : lv_has ls 1 [(0, .ref hm)] := hl
  refine lv_aload_n hx hb dX8_generator_0 rfl (lv_at hl 0 rfl) ?_
  refine lv_aload_n hx hb dX8_generator_1 rfl (lv_at hl 0 rfl) ?_
  refine zk_get C Z in_X8 0 rfl rfl 1 (by decide) q598 rfl (v := .int (nI 1)) rfl dX8_generator_2 ?_
  refine nr_eq0 (tgt := 12) hx hb (by omega) dX8_generator_5 (by decide) (fun c_1 => absurd c_1 (by decide)) (fun c_1 => ?_)
  refine lv_iconst (v := nI 0) hx hb dX8_generator_8 (by decide) ?_
  refine lv_goto (tgt := 13) hx hb dX8_generator_9 (by decide) ?_
  refine zk_put C Z in_X8 tyX8 tyX8_ok nmX8 0 rfl rfl 0 (by decide) q597 rfl rfl (v := .int (nI 0)) rfl rfl (Nat.le_of_ble_eq_true rfl) dX8_generator_13 (fun H locs Z => ?_)
  have Z : zk_Z D A s H locs [(hm, .inr (7, [.int (nI 0), .int (nI 1), .int (nI p), .int (nI dg), .int (nI n), .int (nI t), .int (nI dep), .int (nI gn), .int (nI ck), .ref ms, .ref ch, .ref kp, .ref md, .ref rs, .ref pr]))] := Z
  refine lv_aload_n hx hb dX8_generator_16 rfl (lv_at hl 0 rfl) ?_
  refine zk_get C Z in_X8 0 rfl rfl 1 (by decide) q598 rfl (v := .int (nI 1)) rfl dX8_generator_17 ?_
  refine nr_eq0 (tgt := 30) hx hb (by omega) dX8_generator_20 (by decide) (fun c_2 => absurd c_2 (by decide)) (fun c_2 => ?_)
  refine lv_aload_n hx hb dX8_generator_23 rfl (lv_at hl 0 rfl) ?_
  refine zk_get C Z in_X8 0 rfl rfl 7 (by decide) q604 rfl (v := .int (nI gn)) rfl dX8_generator_24 ?_
  refine lv_goto (tgt := 31) hx hb dX8_generator_27 (by decide) ?_
  exact zk_iret C hr hlocks Z ⟨rfl, rfl⟩ (Nat.le_of_ble_eq_true rfl) (Nat.le_of_ble_eq_true rfl) dX8_generator_31

set_option maxHeartbeats 4000000 in
/-- model: gen, not begun -/
theorem v8_gen (l : Launch) (D : va_G) (g : G4) (hm ms ch kp md rs pr : Nat) (km : Nat) : zk_M l yX8_generator (ws_ yX8_generator cX8_generator 1 (some .int)) (zk_R 0 0 0) D g [.ref hm] [(hm, .inr (7, [.int (nI km), .int (nI 0), .int (nI 0), .int (nI 0), .int (nI 0), .int (nI 0), .int (nI 0), .int (nI 0), .int (nI 0), .ref ms, .ref ch, .ref kp, .ref md, .ref rs, .ref pr]))] (zk_D (some (.int (nI 0))) [(hm, .inr (7, [.int (nI 1), .int (nI 0), .int (nI 0), .int (nI 0), .int (nI 0), .int (nI 0), .int (nI 0), .int (nI 0), .int (nI 0), .ref ms, .ref ch, .ref kp, .ref md, .ref rs, .ref pr]))]) := by
  refine zk_ofW (by decide) (Nat.le_of_ble_eq_true rfl) ?_
  intro pg ev s mm below meth cd A C hr hlocks hname Z ls hl
  have hx := C.1.1
  have hb := C.1.2.1
  have hml := C.1.2.2.1
  have hown := C.1.2.2.2.1
  have hts := C.1.2.2.2.2
  have hl : lv_has ls 1 [(0, .ref hm)] := hl
  refine lv_aload_n hx hb dX8_generator_0 rfl (lv_at hl 0 rfl) ?_
  refine lv_aload_n hx hb dX8_generator_1 rfl (lv_at hl 0 rfl) ?_
  refine zk_get C Z in_X8 0 rfl rfl 1 (by decide) q598 rfl (v := .int (nI 0)) rfl dX8_generator_2 ?_
  refine nr_eq0 (tgt := 12) hx hb (by omega) dX8_generator_5 (by decide) (fun c_1 => ?_) (fun c_1 => absurd c_1 (fun q => q rfl))
  refine lv_iconst (v := nI 1) hx hb dX8_generator_12 (by decide) ?_
  refine zk_put C Z in_X8 tyX8 tyX8_ok nmX8 0 rfl rfl 0 (by decide) q597 rfl rfl (v := .int (nI 1)) rfl rfl (Nat.le_of_ble_eq_true rfl) dX8_generator_13 (fun H locs Z => ?_)
  have Z : zk_Z D A s H locs [(hm, .inr (7, [.int (nI 1), .int (nI 0), .int (nI 0), .int (nI 0), .int (nI 0), .int (nI 0), .int (nI 0), .int (nI 0), .int (nI 0), .ref ms, .ref ch, .ref kp, .ref md, .ref rs, .ref pr]))] := Z
  refine lv_aload_n hx hb dX8_generator_16 rfl (lv_at hl 0 rfl) ?_
  refine zk_get C Z in_X8 0 rfl rfl 1 (by decide) q598 rfl (v := .int (nI 0)) rfl dX8_generator_17 ?_
  refine nr_eq0 (tgt := 30) hx hb (by omega) dX8_generator_20 (by decide) (fun c_2 => ?_) (fun c_2 => absurd c_2 (fun q => q rfl))
  refine lv_iconst (v := nI 0) hx hb dX8_generator_30 (by decide) ?_
  exact zk_iret C hr hlocks Z ⟨rfl, rfl⟩ (Nat.le_of_ble_eq_true rfl) (Nat.le_of_ble_eq_true rfl) dX8_generator_31

set_option maxHeartbeats 4000000 in
/-- model: power -/
theorem m8_power (l : Launch) (D : va_G) (g : G4) (hm ms ch kp md rs pr : Nat) (km p n t dep gn ck : Nat) (hpn : (p, n) ∈ zk_pr) (x : Nat) (x31 : x < 2 ^ 31) : zk_M l yX8_power (ws_ yX8_power cX8_power 2 (some .int)) (zk_R 2 0 0) D g [.ref hm, .int (nI x)] [(hm, .inr (7, [.int (nI km), .int (nI 1), .int (nI p), .int (nI (mdg p)), .int (nI n), .int (nI t), .int (nI dep), .int (nI gn), .int (nI ck), .ref ms, .ref ch, .ref kp, .ref md, .ref rs, .ref pr]))] (zk_D (some (.int (nI (pw p (x % n))))) [(hm, .inr (7, [.int (nI 0), .int (nI 1), .int (nI p), .int (nI (mdg p)), .int (nI n), .int (nI t), .int (nI dep), .int (nI gn), .int (nI ck), .ref ms, .ref ch, .ref kp, .ref md, .ref rs, .ref pr]))]) := by
  refine zk_ofW (by decide) (Nat.le_of_ble_eq_true rfl) ?_
  intro pg ev s mm below meth cd A C hr hlocks hname Z ls hl
  have hx := C.1.1
  have hb := C.1.2.1
  have hml := C.1.2.2.1
  have hown := C.1.2.2.2.1
  have hts := C.1.2.2.2.2
  have hl : lv_has ls 2 [(0, .ref hm), (1, .int (nI x))] := hl
  refine lv_aload_n hx hb dX8_power_0 rfl (lv_at hl 0 rfl) ?_
  refine lv_aload_n hx hb dX8_power_1 rfl (lv_at hl 0 rfl) ?_
  refine zk_get C Z in_X8 0 rfl rfl 1 (by decide) q598 rfl (v := .int (nI 1)) rfl dX8_power_2 ?_
  refine nr_ne0 (tgt := 12) hx hb (by omega) dX8_power_5 (by decide) (fun c_1 => ?_) (fun c_1 => absurd c_1 (by decide))
  refine lv_iload_n hx hb dX8_power_12 rfl (lv_at hl 1 rfl) ?_
  refine nr_ge0 (tgt := 20) hx hb x31 dX8_power_13 (by decide) ?_
  refine lv_iconst (v := nI 0) hx hb dX8_power_20 (by decide) ?_
  refine zk_put C Z in_X8 tyX8 tyX8_ok nmX8 0 rfl rfl 0 (by decide) q597 rfl rfl (v := .int (nI 0)) rfl rfl (Nat.le_of_ble_eq_true rfl) dX8_power_21 (fun H locs Z => ?_)
  have Z : zk_Z D A s H locs [(hm, .inr (7, [.int (nI 0), .int (nI 1), .int (nI p), .int (nI (mdg p)), .int (nI n), .int (nI t), .int (nI dep), .int (nI gn), .int (nI ck), .ref ms, .ref ch, .ref kp, .ref md, .ref rs, .ref pr]))] := Z
  refine lv_aload_n hx hb dX8_power_24 rfl (lv_at hl 0 rfl) ?_
  refine zk_get C Z in_X8 0 rfl rfl 0 (by decide) q597 rfl (v := .int (nI 0)) rfl dX8_power_25 ?_
  refine nr_le0 (tgt := 35) hx hb (by decide) dX8_power_28 (by decide) (fun c_3 => ?_) (fun c_3 => absurd c_3 (by decide))
  refine lv_aload_n hx hb dX8_power_35 rfl (lv_at hl 0 rfl) ?_
  refine lv_iload_n hx hb dX8_power_36 rfl (lv_at hl 1 rfl) ?_
  refine zk_callV (cells' := 0) (slots' := 0) (rest := []) (n := 1) (wr := []) C Z (m8_pw l D g hm ms ch kp md rs pr 0 1 p n t dep gn ck hpn x (by omega)) [0] [] rfl rfl (by decide) (by decide) (by decide) 0 7 rfl rfl rfl q668 q670 qs10 q26 q671 (by decide +kernel) rfl (Nat.le_of_ble_eq_true rfl) (Nat.le_of_ble_eq_true rfl) (Nat.le_of_ble_eq_true rfl) (Nat.le_of_ble_eq_true rfl) rfl rfl hl.1 rfl (Nat.le_of_ble_eq_true rfl) dX8_power_37 (fun v w1 H locs hq Z => ?_)
  obtain ⟨rfl, rfl⟩ := hq
  have Z : zk_Z D A s H locs [(hm, .inr (7, [.int (nI 0), .int (nI 1), .int (nI p), .int (nI (mdg p)), .int (nI n), .int (nI t), .int (nI dep), .int (nI gn), .int (nI ck), .ref ms, .ref ch, .ref kp, .ref md, .ref rs, .ref pr]))] := Z.sub [0] (by decide) rfl
  refine W.eq (g2 := F0 mm 40 ls [.int (nI (pw p (x % n)))]) rfl ?_
  exact zk_iret C hr hlocks Z ⟨rfl, rfl⟩ (Nat.le_of_ble_eq_true rfl) (Nat.le_of_ble_eq_true rfl) dX8_power_40

set_option maxHeartbeats 4000000 in
/-- model: power, not begun -/
theorem v8_power (l : Launch) (D : va_G) (g : G4) (hm ms ch kp md rs pr : Nat) (km : Nat) (x : Int32) : zk_M l yX8_power (ws_ yX8_power cX8_power 2 (some .int)) (zk_R 0 0 0) D g [.ref hm, .int x] [(hm, .inr (7, [.int (nI km), .int (nI 0), .int (nI 0), .int (nI 0), .int (nI 0), .int (nI 0), .int (nI 0), .int (nI 0), .int (nI 0), .ref ms, .ref ch, .ref kp, .ref md, .ref rs, .ref pr]))] (zk_D (some (.int (nI 0))) [(hm, .inr (7, [.int (nI 1), .int (nI 0), .int (nI 0), .int (nI 0), .int (nI 0), .int (nI 0), .int (nI 0), .int (nI 0), .int (nI 0), .ref ms, .ref ch, .ref kp, .ref md, .ref rs, .ref pr]))]) := by
  refine zk_ofW (by decide) (Nat.le_of_ble_eq_true rfl) ?_
  intro pg ev s mm below meth cd A C hr hlocks hname Z ls hl
  have hx := C.1.1
  have hb := C.1.2.1
  have hml := C.1.2.2.1
  have hown := C.1.2.2.2.1
  have hts := C.1.2.2.2.2
  have hl : lv_has ls 2 [(0, .ref hm), (1, .int x)] := hl
  refine lv_aload_n hx hb dX8_power_0 rfl (lv_at hl 0 rfl) ?_
  refine lv_aload_n hx hb dX8_power_1 rfl (lv_at hl 0 rfl) ?_
  refine zk_get C Z in_X8 0 rfl rfl 1 (by decide) q598 rfl (v := .int (nI 0)) rfl dX8_power_2 ?_
  refine nr_ne0 (tgt := 12) hx hb (by omega) dX8_power_5 (by decide) (fun c_1 => absurd c_1 (fun q => q rfl)) (fun c_1 => ?_)
  refine lv_iconst (v := nI 1) hx hb dX8_power_8 (by decide) ?_
  refine lv_goto (tgt := 21) hx hb dX8_power_9 (by decide) ?_
  refine zk_put C Z in_X8 tyX8 tyX8_ok nmX8 0 rfl rfl 0 (by decide) q597 rfl rfl (v := .int (nI 1)) rfl rfl (Nat.le_of_ble_eq_true rfl) dX8_power_21 (fun H locs Z => ?_)
  have Z : zk_Z D A s H locs [(hm, .inr (7, [.int (nI 1), .int (nI 0), .int (nI 0), .int (nI 0), .int (nI 0), .int (nI 0), .int (nI 0), .int (nI 0), .int (nI 0), .ref ms, .ref ch, .ref kp, .ref md, .ref rs, .ref pr]))] := Z
  refine lv_aload_n hx hb dX8_power_24 rfl (lv_at hl 0 rfl) ?_
  refine zk_get C Z in_X8 0 rfl rfl 0 (by decide) q597 rfl (v := .int (nI 1)) rfl dX8_power_25 ?_
  refine nr_le0 (tgt := 35) hx hb (by decide) dX8_power_28 (by decide) (fun c_2 => absurd c_2 (by decide)) (fun c_2 => ?_)
  refine lv_iconst (v := nI 0) hx hb dX8_power_31 (by decide) ?_
  refine lv_goto (tgt := 40) hx hb dX8_power_32 (by decide) ?_
  exact zk_iret C hr hlocks Z ⟨rfl, rfl⟩ (Nat.le_of_ble_eq_true rfl) (Nat.le_of_ble_eq_true rfl) dX8_power_40

set_option maxHeartbeats 4000000 in
/-- model: power, out of bounds -/
theorem w8_power (l : Launch) (D : va_G) (g : G4) (hm ms ch kp md rs pr : Nat) (km p dg n t dep gn ck : Nat) (x : Int32) (hx0 : x < 0) : zk_M l yX8_power (ws_ yX8_power cX8_power 2 (some .int)) (zk_R 0 0 0) D g [.ref hm, .int x] [(hm, .inr (7, [.int (nI km), .int (nI 1), .int (nI p), .int (nI dg), .int (nI n), .int (nI t), .int (nI dep), .int (nI gn), .int (nI ck), .ref ms, .ref ch, .ref kp, .ref md, .ref rs, .ref pr]))] (zk_D (some (.int (nI 0))) [(hm, .inr (7, [.int (nI 2), .int (nI 1), .int (nI p), .int (nI dg), .int (nI n), .int (nI t), .int (nI dep), .int (nI gn), .int (nI ck), .ref ms, .ref ch, .ref kp, .ref md, .ref rs, .ref pr]))]) := by
  refine zk_ofW (by decide) (Nat.le_of_ble_eq_true rfl) ?_
  intro pg ev s mm below meth cd A C hr hlocks hname Z ls hl
  have hx := C.1.1
  have hb := C.1.2.1
  have hml := C.1.2.2.1
  have hown := C.1.2.2.2.1
  have hts := C.1.2.2.2.2
  have hl : lv_has ls 2 [(0, .ref hm), (1, .int x)] := hl
  refine lv_aload_n hx hb dX8_power_0 rfl (lv_at hl 0 rfl) ?_
  refine lv_aload_n hx hb dX8_power_1 rfl (lv_at hl 0 rfl) ?_
  refine zk_get C Z in_X8 0 rfl rfl 1 (by decide) q598 rfl (v := .int (nI 1)) rfl dX8_power_2 ?_
  refine nr_ne0 (tgt := 12) hx hb (by omega) dX8_power_5 (by decide) (fun c_1 => ?_) (fun c_1 => absurd c_1 (by decide))
  refine lv_iload_n hx hb dX8_power_12 rfl (lv_at hl 1 rfl) ?_
  refine lv_if_ge (tgt := 20) hx hb dX8_power_13 (by decide) (fun c_2 => absurd hx0 (Int32.not_lt.mpr c_2)) (fun c_2 => ?_)
  refine lv_iconst (v := nI 2) hx hb dX8_power_16 (by decide) ?_
  refine lv_goto (tgt := 21) hx hb dX8_power_17 (by decide) ?_
  refine zk_put C Z in_X8 tyX8 tyX8_ok nmX8 0 rfl rfl 0 (by decide) q597 rfl rfl (v := .int (nI 2)) rfl rfl (Nat.le_of_ble_eq_true rfl) dX8_power_21 (fun H locs Z => ?_)
  have Z : zk_Z D A s H locs [(hm, .inr (7, [.int (nI 2), .int (nI 1), .int (nI p), .int (nI dg), .int (nI n), .int (nI t), .int (nI dep), .int (nI gn), .int (nI ck), .ref ms, .ref ch, .ref kp, .ref md, .ref rs, .ref pr]))] := Z
  refine lv_aload_n hx hb dX8_power_24 rfl (lv_at hl 0 rfl) ?_
  refine zk_get C Z in_X8 0 rfl rfl 0 (by decide) q597 rfl (v := .int (nI 2)) rfl dX8_power_25 ?_
  refine nr_le0 (tgt := 35) hx hb (by decide) dX8_power_28 (by decide) (fun c_3 => absurd c_3 (by decide)) (fun c_3 => ?_)
  refine lv_iconst (v := nI 0) hx hb dX8_power_31 (by decide) ?_
  refine lv_goto (tgt := 40) hx hb dX8_power_32 (by decide) ?_
  exact zk_iret C hr hlocks Z ⟨rfl, rfl⟩ (Nat.le_of_ble_eq_true rfl) (Nat.le_of_ble_eq_true rfl) dX8_power_40

set_option maxHeartbeats 4000000 in
theorem lp8_log {pg : Program} {l : Launch} {ev : Env} {s : State} {mm : MethodId} {args : Array Value} {below : List Frame} {meth : Method} {cd : Code} {Q : State → Prop} {D : va_G} {g : G4} {A : Nat → Prop} (C : zk_C pg s mm cd args cX8_log 3 RX8 D g A) (hm ms ch kp md rs pr : Nat) (km p n t dep gn ck : Nat) (hpn : (p, n) ∈ zk_pr) (x : Nat) (x1 : 1 ≤ x) (xn : x ≤ n) (kk : ∀ (H : Heap) (locs : List Loc) (ls : Array Slot), zk_Z D A s H locs [(hm, .inr (7, [.int (nI 0), .int (nI 1), .int (nI p), .int (nI (mdg p)), .int (nI n), .int (nI t), .int (nI dep), .int (nI gn), .int (nI ck), .ref ms, .ref ch, .ref kp, .ref md, .ref rs, .ref pr]))] → lv_has ls 3 [(0, .ref hm), (2, .int (nI (lg p x)))] → W pg l ev (zk_R 2 0 0) s mm args below meth cd H locs 0 0 Q (F0 mm 58 ls [])) :
    ∀ (k : Nat) (e : Nat) (H : Heap) (locs : List Loc) (ls : Array Slot), (e + k = lg p x) → zk_Z D A s H locs [(hm, .inr (7, [.int (nI 0), .int (nI 1), .int (nI p), .int (nI (mdg p)), .int (nI n), .int (nI t), .int (nI dep), .int (nI gn), .int (nI ck), .ref ms, .ref ch, .ref kp, .ref md, .ref rs, .ref pr]))] → lv_has ls 3 [(0, .ref hm), (1, .int (nI x)), (2, .int (nI e))] → W pg l ev (zk_R 2 0 0) s mm args below meth cd H locs 0 0 Q (F0 mm 43 ls []) := by
  have hx := C.1.1
  have hb := C.1.2.1
  have hml := C.1.2.2.1
  have hown := C.1.2.2.2.1
  have hts := C.1.2.2.2.2
  have hn := zk_n3 _ hpn
  dsimp only at hn
  obtain ⟨hp0, hnn, hp8, hp64⟩ := pw_0 _ hpn
  dsimp only at hp0 hnn hp8 hp64
  have hdg := mdg_5 p
  have hlgn := (zk_lg_all _ hpn x (by dsimp only; omega)).1
  dsimp only at hlgn
  intro k
  induction k with
  | zero =>
    intro e H locs ls hik Z hl
    have hlg := (zk_lg_all _ hpn x (by dsimp only; omega))
    dsimp only at hlg
    have hpe : pw p e ≤ n := (zk_pw_all _ hpn e (by dsimp only; omega)).1.2
    refine lv_aload_n hx hb dX8_log_43 rfl (lv_at hl 0 rfl) ?_
    refine lv_iload_n hx hb dX8_log_44 rfl (lv_at hl 2 rfl) ?_
    refine zk_callV (cells' := 0) (slots' := 0) (rest := []) (n := 1) (wr := []) C Z (m8_pw l D g hm ms ch kp md rs pr 0 1 p n t dep gn ck hpn e (by omega)) [0] [] rfl rfl (by decide) (by decide) (by decide) 0 7 rfl rfl rfl q668 q670 qs10 q26 q671 (by decide +kernel) rfl (Nat.le_of_ble_eq_true rfl) (Nat.le_of_ble_eq_true rfl) (Nat.le_of_ble_eq_true rfl) (Nat.le_of_ble_eq_true rfl) rfl rfl hl.1 rfl (Nat.le_of_ble_eq_true rfl) dX8_log_45 (fun v w1 H locs hq Z => ?_)
    obtain ⟨rfl, rfl⟩ := hq
    have Z : zk_Z D A s H locs [(hm, .inr (7, [.int (nI 0), .int (nI 1), .int (nI p), .int (nI (mdg p)), .int (nI n), .int (nI t), .int (nI dep), .int (nI gn), .int (nI ck), .ref ms, .ref ch, .ref kp, .ref md, .ref rs, .ref pr]))] := Z.sub [0] (by decide) rfl
    refine W.eq (g2 := F0 mm 48 ls [.int (nI (pw p (e % n)))]) rfl ?_
    rw [Nat.mod_eq_of_lt (show e < n by omega)]
    refine lv_iload_n hx hb dX8_log_48 rfl (lv_at hl 1 rfl) ?_
    refine nr_eq (tgt := 58) hx hb (by omega) (by omega) dX8_log_49 (by decide) (fun c_1 => ?_) (fun c_1 => absurd c_1 (fun q => q (by rw [show e = lg p x by omega]; exact hlg.2 (by omega))))
    rw [show e = lg p x by omega] at hl
    exact kk H locs ls Z (lv_sub hl [0, 2] rfl)
  | succ k ih =>
    intro e H locs ls hik Z hl
    have hlg := (zk_lg_all _ hpn x (by dsimp only; omega))
    dsimp only at hlg
    have hpe : pw p e ≤ n := (zk_pw_all _ hpn e (by dsimp only; omega)).1.2
    refine lv_aload_n hx hb dX8_log_43 rfl (lv_at hl 0 rfl) ?_
    refine lv_iload_n hx hb dX8_log_44 rfl (lv_at hl 2 rfl) ?_
    refine zk_callV (cells' := 0) (slots' := 0) (rest := []) (n := 1) (wr := []) C Z (m8_pw l D g hm ms ch kp md rs pr 0 1 p n t dep gn ck hpn e (by omega)) [0] [] rfl rfl (by decide) (by decide) (by decide) 0 7 rfl rfl rfl q668 q670 qs10 q26 q671 (by decide +kernel) rfl (Nat.le_of_ble_eq_true rfl) (Nat.le_of_ble_eq_true rfl) (Nat.le_of_ble_eq_true rfl) (Nat.le_of_ble_eq_true rfl) rfl rfl hl.1 rfl (Nat.le_of_ble_eq_true rfl) dX8_log_45 (fun v w1 H locs hq Z => ?_)
    obtain ⟨rfl, rfl⟩ := hq
    have Z : zk_Z D A s H locs [(hm, .inr (7, [.int (nI 0), .int (nI 1), .int (nI p), .int (nI (mdg p)), .int (nI n), .int (nI t), .int (nI dep), .int (nI gn), .int (nI ck), .ref ms, .ref ch, .ref kp, .ref md, .ref rs, .ref pr]))] := Z.sub [0] (by decide) rfl
    refine W.eq (g2 := F0 mm 48 ls [.int (nI (pw p (e % n)))]) rfl ?_
    rw [Nat.mod_eq_of_lt (show e < n by omega)]
    refine lv_iload_n hx hb dX8_log_48 rfl (lv_at hl 1 rfl) ?_
    refine nr_eq (tgt := 58) hx hb (by omega) (by omega) dX8_log_49 (by decide) (fun c_1 => absurd c_1 (pw_lg _ hpn x (by dsimp only; omega) x1 e (by dsimp only; omega))) (fun c_1 => ?_)
    refine nr_iinc (n := 1) (lv' := [(2, .int (nI (e + 1))), (0, .ref hm), (1, .int (nI x))]) hx hb (by decide) dX8_log_52 hl (k := 2) rfl (by decide) rfl (fun ls hl => ?_)
    refine lv_goto (tgt := 43) hx hb dX8_log_55 (by decide) ?_
    exact ih (e + 1) H locs ls (by omega) Z (lv_sub hl [1, 2, 0] rfl)

set_option maxHeartbeats 4000000 in
/-- model: log -/
theorem m8_log (l : Launch) (D : va_G) (g : G4) (hm ms ch kp md rs pr : Nat) (km p n t dep gn ck : Nat) (hpn : (p, n) ∈ zk_pr) (x : Nat) (x1 : 1 ≤ x) (xn : x ≤ n) : zk_M l yX8_log (ws_ yX8_log cX8_log 3 (some .int)) (zk_R 2 0 0) D g [.ref hm, .int (nI x)] [(hm, .inr (7, [.int (nI km), .int (nI 1), .int (nI p), .int (nI (mdg p)), .int (nI n), .int (nI t), .int (nI dep), .int (nI gn), .int (nI ck), .ref ms, .ref ch, .ref kp, .ref md, .ref rs, .ref pr]))] (zk_D (some (.int (nI (lg p x)))) [(hm, .inr (7, [.int (nI 0), .int (nI 1), .int (nI p), .int (nI (mdg p)), .int (nI n), .int (nI t), .int (nI dep), .int (nI gn), .int (nI ck), .ref ms, .ref ch, .ref kp, .ref md, .ref rs, .ref pr]))]) := by
  refine zk_ofW (by decide) (Nat.le_of_ble_eq_true rfl) ?_
  intro pg ev s mm below meth cd A C hr hlocks hname Z ls hl
  have hx := C.1.1
  have hb := C.1.2.1
  have hml := C.1.2.2.1
  have hown := C.1.2.2.2.1
  have hts := C.1.2.2.2.2
  have hl : lv_has ls 3 [(0, .ref hm), (1, .int (nI x))] := hl
  have hn := zk_n3 _ hpn
  dsimp only at hn
  obtain ⟨hp0, hnn, hp8, hp64⟩ := pw_0 _ hpn
  dsimp only at hp0 hnn hp8 hp64
  have hdg := mdg_5 p
  obtain ⟨H, hH⟩ : ∃ H, H = s.heap := ⟨_, rfl⟩
  obtain ⟨locs, hlocs⟩ : ∃ q : List Loc, q = [] := ⟨_, rfl⟩
  rw [← hH, ← hlocs] at Z ⊢
  refine lv_aload_n hx hb dX8_log_0 rfl (lv_at hl 0 rfl) ?_
  refine lv_aload_n hx hb dX8_log_1 rfl (lv_at hl 0 rfl) ?_
  refine zk_get C Z in_X8 0 rfl rfl 1 (by decide) q598 rfl (v := .int (nI 1)) rfl dX8_log_2 ?_
  refine nr_ne0 (tgt := 12) hx hb (by omega) dX8_log_5 (by decide) (fun c_1 => ?_) (fun c_1 => absurd c_1 (by decide))
  refine lv_iload_n hx hb dX8_log_12 rfl (lv_at hl 1 rfl) ?_
  refine lv_iconst (v := nI 1) hx hb dX8_log_13 (by decide) ?_
  refine lv_aload_n hx hb dX8_log_14 rfl (lv_at hl 0 rfl) ?_
  refine zk_get C Z in_X8 0 rfl rfl 4 (by decide) q601 rfl (v := .int (nI n)) rfl dX8_log_15 ?_
  refine zk_callS (cells' := 0) (slots' := 0) (rest := [.ref hm]) (n := 3) (wr := [(hm, .inr (7, [.int (nI km), .int (nI 1), .int (nI p), .int (nI (mdg p)), .int (nI n), .int (nI t), .int (nI dep), .int (nI gn), .int (nI ck), .ref ms, .ref ch, .ref kp, .ref md, .ref rs, .ref pr]))]) C Z (m8_in1 l D g (nI x) (nI 1) (nI n) (zk_le x1 (by omega)) (zk_le xn (by omega))) [] [0] rfl rfl (by decide) (by decide) (by decide) q651 q652 q26 q653 (by decide +kernel) rfl (Nat.le_of_ble_eq_true rfl) (Nat.le_of_ble_eq_true rfl) (Nat.le_of_ble_eq_true rfl) (Nat.le_of_ble_eq_true rfl) rfl rfl hl.1 rfl (Nat.le_of_ble_eq_true rfl) dX8_log_18 (fun v w1 H locs hq Z => ?_)
  obtain ⟨rfl, rfl⟩ := hq
  have Z : zk_Z D A s H locs [(hm, .inr (7, [.int (nI km), .int (nI 1), .int (nI p), .int (nI (mdg p)), .int (nI n), .int (nI t), .int (nI dep), .int (nI gn), .int (nI ck), .ref ms, .ref ch, .ref kp, .ref md, .ref rs, .ref pr]))] := Z.sub [0] (by decide) rfl
  refine W.eq (g2 := F0 mm 21 ls [.int (nI 1), .ref hm]) rfl ?_
  refine nr_eq0 (tgt := 28) hx hb (by omega) dX8_log_21 (by decide) (fun c_2 => absurd c_2 (by decide)) (fun c_2 => ?_)
  refine lv_iconst (v := nI 0) hx hb dX8_log_24 (by decide) ?_
  refine lv_goto (tgt := 29) hx hb dX8_log_25 (by decide) ?_
  refine zk_put C Z in_X8 tyX8 tyX8_ok nmX8 0 rfl rfl 0 (by decide) q597 rfl rfl (v := .int (nI 0)) rfl rfl (Nat.le_of_ble_eq_true rfl) dX8_log_29 (fun H locs Z => ?_)
  have Z : zk_Z D A s H locs [(hm, .inr (7, [.int (nI 0), .int (nI 1), .int (nI p), .int (nI (mdg p)), .int (nI n), .int (nI t), .int (nI dep), .int (nI gn), .int (nI ck), .ref ms, .ref ch, .ref kp, .ref md, .ref rs, .ref pr]))] := Z
  refine lv_aload_n hx hb dX8_log_32 rfl (lv_at hl 0 rfl) ?_
  refine zk_get C Z in_X8 0 rfl rfl 0 (by decide) q597 rfl (v := .int (nI 0)) rfl dX8_log_33 ?_
  refine nr_le0 (tgt := 41) hx hb (by decide) dX8_log_36 (by decide) (fun c_3 => ?_) (fun c_3 => absurd c_3 (by decide))
  refine lv_iconst (v := nI 0) hx hb dX8_log_41 (by decide) ?_
  refine lv_istore_n (lv' := [(2, .int (nI 0)), (0, .ref hm), (1, .int (nI x))]) hx hb dX8_log_42 rfl hl (by decide) rfl (fun ls hl => ?_)
  refine lp8_log C hm ms ch kp md rs pr km p n t dep gn ck hpn x x1 xn (fun H locs ls Z hl => ?_) (lg p x) 0 H locs ls (by omega) Z (lv_sub hl [1, 2, 0] rfl)
  refine lv_iload_n hx hb dX8_log_58 rfl (lv_at hl 1 rfl) ?_
  exact zk_iret C hr hlocks Z ⟨rfl, rfl⟩ (Nat.le_of_ble_eq_true rfl) (Nat.le_of_ble_eq_true rfl) dX8_log_59

set_option maxHeartbeats 4000000 in
/-- model: log, not begun -/
theorem v8_log (l : Launch) (D : va_G) (g : G4) (hm ms ch kp md rs pr : Nat) (km : Nat) (x : Int32) : zk_M l yX8_log (ws_ yX8_log cX8_log 3 (some .int)) (zk_R 0 0 0) D g [.ref hm, .int x] [(hm, .inr (7, [.int (nI km), .int (nI 0), .int (nI 0), .int (nI 0), .int (nI 0), .int (nI 0), .int (nI 0), .int (nI 0), .int (nI 0), .ref ms, .ref ch, .ref kp, .ref md, .ref rs, .ref pr]))] (zk_D (some (.int (nI 0))) [(hm, .inr (7, [.int (nI 1), .int (nI 0), .int (nI 0), .int (nI 0), .int (nI 0), .int (nI 0), .int (nI 0), .int (nI 0), .int (nI 0), .ref ms, .ref ch, .ref kp, .ref md, .ref rs, .ref pr]))]) := by
  refine zk_ofW (by decide) (Nat.le_of_ble_eq_true rfl) ?_
  intro pg ev s mm below meth cd A C hr hlocks hname Z ls hl
  have hx := C.1.1
  have hb := C.1.2.1
  have hml := C.1.2.2.1
  have hown := C.1.2.2.2.1
  have hts := C.1.2.2.2.2
  have hl : lv_has ls 3 [(0, .ref hm), (1, .int x)] := hl
  refine lv_aload_n hx hb dX8_log_0 rfl (lv_at hl 0 rfl) ?_
  refine lv_aload_n hx hb dX8_log_1 rfl (lv_at hl 0 rfl) ?_
  refine zk_get C Z in_X8 0 rfl rfl 1 (by decide) q598 rfl (v := .int (nI 0)) rfl dX8_log_2 ?_
  refine nr_ne0 (tgt := 12) hx hb (by omega) dX8_log_5 (by decide) (fun c_1 => absurd c_1 (fun q => q rfl)) (fun c_1 => ?_)
  refine lv_iconst (v := nI 1) hx hb dX8_log_8 (by decide) ?_
  refine lv_goto (tgt := 29) hx hb dX8_log_9 (by decide) ?_
  refine zk_put C Z in_X8 tyX8 tyX8_ok nmX8 0 rfl rfl 0 (by decide) q597 rfl rfl (v := .int (nI 1)) rfl rfl (Nat.le_of_ble_eq_true rfl) dX8_log_29 (fun H locs Z => ?_)
  have Z : zk_Z D A s H locs [(hm, .inr (7, [.int (nI 1), .int (nI 0), .int (nI 0), .int (nI 0), .int (nI 0), .int (nI 0), .int (nI 0), .int (nI 0), .int (nI 0), .ref ms, .ref ch, .ref kp, .ref md, .ref rs, .ref pr]))] := Z
  refine lv_aload_n hx hb dX8_log_32 rfl (lv_at hl 0 rfl) ?_
  refine zk_get C Z in_X8 0 rfl rfl 0 (by decide) q597 rfl (v := .int (nI 1)) rfl dX8_log_33 ?_
  refine nr_le0 (tgt := 41) hx hb (by decide) dX8_log_36 (by decide) (fun c_2 => absurd c_2 (by decide)) (fun c_2 => ?_)
  refine lv_iconst (v := nI 0) hx hb dX8_log_39 (by decide) ?_
  exact zk_iret C hr hlocks Z ⟨rfl, rfl⟩ (Nat.le_of_ble_eq_true rfl) (Nat.le_of_ble_eq_true rfl) dX8_log_40

set_option maxHeartbeats 4000000 in
/-- model: log, out of bounds -/
theorem w8_log (l : Launch) (D : va_G) (g : G4) (hm ms ch kp md rs pr : Nat) (km p dg n t dep gn ck : Nat) (x : Int32) (h0_ : ¬ (nI 1 ≤ x ∧ x ≤ nI n)) : zk_M l yX8_log (ws_ yX8_log cX8_log 3 (some .int)) (zk_R 1 0 0) D g [.ref hm, .int x] [(hm, .inr (7, [.int (nI km), .int (nI 1), .int (nI p), .int (nI dg), .int (nI n), .int (nI t), .int (nI dep), .int (nI gn), .int (nI ck), .ref ms, .ref ch, .ref kp, .ref md, .ref rs, .ref pr]))] (zk_D (some (.int (nI 0))) [(hm, .inr (7, [.int (nI 2), .int (nI 1), .int (nI p), .int (nI dg), .int (nI n), .int (nI t), .int (nI dep), .int (nI gn), .int (nI ck), .ref ms, .ref ch, .ref kp, .ref md, .ref rs, .ref pr]))]) := by
  refine zk_ofW (by decide) (Nat.le_of_ble_eq_true rfl) ?_
  intro pg ev s mm below meth cd A C hr hlocks hname Z ls hl
  have hx := C.1.1
  have hb := C.1.2.1
  have hml := C.1.2.2.1
  have hown := C.1.2.2.2.1
  have hts := C.1.2.2.2.2
  have hl : lv_has ls 3 [(0, .ref hm), (1, .int x)] := hl
  refine lv_aload_n hx hb dX8_log_0 rfl (lv_at hl 0 rfl) ?_
  refine lv_aload_n hx hb dX8_log_1 rfl (lv_at hl 0 rfl) ?_
  refine zk_get C Z in_X8 0 rfl rfl 1 (by decide) q598 rfl (v := .int (nI 1)) rfl dX8_log_2 ?_
  refine nr_ne0 (tgt := 12) hx hb (by omega) dX8_log_5 (by decide) (fun c_1 => ?_) (fun c_1 => absurd c_1 (by decide))
  refine lv_iload_n hx hb dX8_log_12 rfl (lv_at hl 1 rfl) ?_
  refine lv_iconst (v := nI 1) hx hb dX8_log_13 (by decide) ?_
  refine lv_aload_n hx hb dX8_log_14 rfl (lv_at hl 0 rfl) ?_
  refine zk_get C Z in_X8 0 rfl rfl 4 (by decide) q601 rfl (v := .int (nI n)) rfl dX8_log_15 ?_
  refine zk_callS (cells' := 0) (slots' := 0) (rest := [.ref hm]) (n := 3) (wr := [(hm, .inr (7, [.int (nI km), .int (nI 1), .int (nI p), .int (nI dg), .int (nI n), .int (nI t), .int (nI dep), .int (nI gn), .int (nI ck), .ref ms, .ref ch, .ref kp, .ref md, .ref rs, .ref pr]))]) C Z (m8_in0 l D g x (nI 1) (nI n) h0_) [] [0] rfl rfl (by decide) (by decide) (by decide) q651 q652 q26 q653 (by decide +kernel) rfl (Nat.le_of_ble_eq_true rfl) (Nat.le_of_ble_eq_true rfl) (Nat.le_of_ble_eq_true rfl) (Nat.le_of_ble_eq_true rfl) rfl rfl hl.1 rfl (Nat.le_of_ble_eq_true rfl) dX8_log_18 (fun v w1 H locs hq Z => ?_)
  obtain ⟨rfl, rfl⟩ := hq
  have Z : zk_Z D A s H locs [(hm, .inr (7, [.int (nI km), .int (nI 1), .int (nI p), .int (nI dg), .int (nI n), .int (nI t), .int (nI dep), .int (nI gn), .int (nI ck), .ref ms, .ref ch, .ref kp, .ref md, .ref rs, .ref pr]))] := Z.sub [0] (by decide) rfl
  refine W.eq (g2 := F0 mm 21 ls [.int (nI 0), .ref hm]) rfl ?_
  refine nr_eq0 (tgt := 28) hx hb (by omega) dX8_log_21 (by decide) (fun c_2 => ?_) (fun c_2 => absurd c_2 (fun q => q rfl))
  refine lv_iconst (v := nI 2) hx hb dX8_log_28 (by decide) ?_
  refine zk_put C Z in_X8 tyX8 tyX8_ok nmX8 0 rfl rfl 0 (by decide) q597 rfl rfl (v := .int (nI 2)) rfl rfl (Nat.le_of_ble_eq_true rfl) dX8_log_29 (fun H locs Z => ?_)
  have Z : zk_Z D A s H locs [(hm, .inr (7, [.int (nI 2), .int (nI 1), .int (nI p), .int (nI dg), .int (nI n), .int (nI t), .int (nI dep), .int (nI gn), .int (nI ck), .ref ms, .ref ch, .ref kp, .ref md, .ref rs, .ref pr]))] := Z
  refine lv_aload_n hx hb dX8_log_32 rfl (lv_at hl 0 rfl) ?_
  refine zk_get C Z in_X8 0 rfl rfl 0 (by decide) q597 rfl (v := .int (nI 2)) rfl dX8_log_33 ?_
  refine nr_le0 (tgt := 41) hx hb (by decide) dX8_log_36 (by decide) (fun c_3 => absurd c_3 (by decide)) (fun c_3 => ?_)
  refine lv_iconst (v := nI 0) hx hb dX8_log_39 (by decide) ?_
  exact zk_iret C hr hlocks Z ⟨rfl, rfl⟩ (Nat.le_of_ble_eq_true rfl) (Nat.le_of_ble_eq_true rfl) dX8_log_40

set_option maxHeartbeats 4000000 in
/-- model: times -/
theorem m8_times (l : Launch) (D : va_G) (g : G4) (hm ms ch kp md rs pr : Nat) (km p n t dep gn ck : Nat) (hpn : (p, n) ∈ zk_pr) (a b : Nat) (an : a ≤ n) (bn : b ≤ n) : zk_M l yX8_times (ws_ yX8_times cX8_times 3 (some .int)) (zk_R 1 0 0) D g [.ref hm, .int (nI a), .int (nI b)] [(hm, .inr (7, [.int (nI km), .int (nI 1), .int (nI p), .int (nI (mdg p)), .int (nI n), .int (nI t), .int (nI dep), .int (nI gn), .int (nI ck), .ref ms, .ref ch, .ref kp, .ref md, .ref rs, .ref pr]))] (zk_D (some (.int (nI (gm p a b)))) [(hm, .inr (7, [.int (nI 0), .int (nI 1), .int (nI p), .int (nI (mdg p)), .int (nI n), .int (nI t), .int (nI dep), .int (nI gn), .int (nI ck), .ref ms, .ref ch, .ref kp, .ref md, .ref rs, .ref pr]))]) := by
  refine zk_ofW (by decide) (Nat.le_of_ble_eq_true rfl) ?_
  intro pg ev s mm below meth cd A C hr hlocks hname Z ls hl
  have hx := C.1.1
  have hb := C.1.2.1
  have hml := C.1.2.2.1
  have hown := C.1.2.2.2.1
  have hts := C.1.2.2.2.2
  have hl : lv_has ls 3 [(0, .ref hm), (1, .int (nI a)), (2, .int (nI b))] := hl
  have hn := zk_n3 _ hpn
  dsimp only at hn
  obtain ⟨hp0, hnn, hp8, hp64⟩ := pw_0 _ hpn
  dsimp only at hp0 hnn hp8 hp64
  have hdg := mdg_5 p
  refine lv_aload_n hx hb dX8_times_0 rfl (lv_at hl 0 rfl) ?_
  refine lv_aload_n hx hb dX8_times_1 rfl (lv_at hl 0 rfl) ?_
  refine zk_get C Z in_X8 0 rfl rfl 1 (by decide) q598 rfl (v := .int (nI 1)) rfl dX8_times_2 ?_
  refine nr_ne0 (tgt := 12) hx hb (by omega) dX8_times_5 (by decide) (fun c_1 => ?_) (fun c_1 => absurd c_1 (by decide))
  refine lv_iload_n hx hb dX8_times_12 rfl (lv_at hl 1 rfl) ?_
  refine lv_iconst (v := nI 0) hx hb dX8_times_13 (by decide) ?_
  refine lv_aload_n hx hb dX8_times_14 rfl (lv_at hl 0 rfl) ?_
  refine zk_get C Z in_X8 0 rfl rfl 4 (by decide) q601 rfl (v := .int (nI n)) rfl dX8_times_15 ?_
  refine zk_callS (cells' := 0) (slots' := 0) (rest := [.ref hm]) (n := 3) (wr := [(hm, .inr (7, [.int (nI km), .int (nI 1), .int (nI p), .int (nI (mdg p)), .int (nI n), .int (nI t), .int (nI dep), .int (nI gn), .int (nI ck), .ref ms, .ref ch, .ref kp, .ref md, .ref rs, .ref pr]))]) C Z (m8_in1 l D g (nI a) (nI 0) (nI n) (zk_le (Nat.zero_le a) (by omega)) (zk_le an (by omega))) [] [0] rfl rfl (by decide) (by decide) (by decide) q651 q652 q26 q653 (by decide +kernel) rfl (Nat.le_of_ble_eq_true rfl) (Nat.le_of_ble_eq_true rfl) (Nat.le_of_ble_eq_true rfl) (Nat.le_of_ble_eq_true rfl) rfl rfl hl.1 rfl (Nat.le_of_ble_eq_true rfl) dX8_times_18 (fun v w1 H locs hq Z => ?_)
  obtain ⟨rfl, rfl⟩ := hq
  have Z : zk_Z D A s H locs [(hm, .inr (7, [.int (nI km), .int (nI 1), .int (nI p), .int (nI (mdg p)), .int (nI n), .int (nI t), .int (nI dep), .int (nI gn), .int (nI ck), .ref ms, .ref ch, .ref kp, .ref md, .ref rs, .ref pr]))] := Z.sub [0] (by decide) rfl
  refine W.eq (g2 := F0 mm 21 ls [.int (nI 1), .ref hm]) rfl ?_
  refine nr_eq0 (tgt := 40) hx hb (by omega) dX8_times_21 (by decide) (fun c_2 => absurd c_2 (by decide)) (fun c_2 => ?_)
  refine lv_iload_n hx hb dX8_times_24 rfl (lv_at hl 2 rfl) ?_
  refine lv_iconst (v := nI 0) hx hb dX8_times_25 (by decide) ?_
  refine lv_aload_n hx hb dX8_times_26 rfl (lv_at hl 0 rfl) ?_
  refine zk_get C Z in_X8 0 rfl rfl 4 (by decide) q601 rfl (v := .int (nI n)) rfl dX8_times_27 ?_
  refine zk_callS (cells' := 0) (slots' := 0) (rest := [.ref hm]) (n := 3) (wr := [(hm, .inr (7, [.int (nI km), .int (nI 1), .int (nI p), .int (nI (mdg p)), .int (nI n), .int (nI t), .int (nI dep), .int (nI gn), .int (nI ck), .ref ms, .ref ch, .ref kp, .ref md, .ref rs, .ref pr]))]) C Z (m8_in1 l D g (nI b) (nI 0) (nI n) (zk_le (Nat.zero_le b) (by omega)) (zk_le bn (by omega))) [] [0] rfl rfl (by decide) (by decide) (by decide) q651 q652 q26 q653 (by decide +kernel) rfl (Nat.le_of_ble_eq_true rfl) (Nat.le_of_ble_eq_true rfl) (Nat.le_of_ble_eq_true rfl) (Nat.le_of_ble_eq_true rfl) rfl rfl hl.1 rfl (Nat.le_of_ble_eq_true rfl) dX8_times_30 (fun v w1 H locs hq Z => ?_)
  obtain ⟨rfl, rfl⟩ := hq
  have Z : zk_Z D A s H locs [(hm, .inr (7, [.int (nI km), .int (nI 1), .int (nI p), .int (nI (mdg p)), .int (nI n), .int (nI t), .int (nI dep), .int (nI gn), .int (nI ck), .ref ms, .ref ch, .ref kp, .ref md, .ref rs, .ref pr]))] := Z.sub [0] (by decide) rfl
  refine W.eq (g2 := F0 mm 33 ls [.int (nI 1), .ref hm]) rfl ?_
  refine nr_eq0 (tgt := 40) hx hb (by omega) dX8_times_33 (by decide) (fun c_3 => absurd c_3 (by decide)) (fun c_3 => ?_)
  refine lv_iconst (v := nI 0) hx hb dX8_times_36 (by decide) ?_
  refine lv_goto (tgt := 41) hx hb dX8_times_37 (by decide) ?_
  refine zk_put C Z in_X8 tyX8 tyX8_ok nmX8 0 rfl rfl 0 (by decide) q597 rfl rfl (v := .int (nI 0)) rfl rfl (Nat.le_of_ble_eq_true rfl) dX8_times_41 (fun H locs Z => ?_)
  have Z : zk_Z D A s H locs [(hm, .inr (7, [.int (nI 0), .int (nI 1), .int (nI p), .int (nI (mdg p)), .int (nI n), .int (nI t), .int (nI dep), .int (nI gn), .int (nI ck), .ref ms, .ref ch, .ref kp, .ref md, .ref rs, .ref pr]))] := Z
  refine lv_aload_n hx hb dX8_times_44 rfl (lv_at hl 0 rfl) ?_
  refine zk_get C Z in_X8 0 rfl rfl 0 (by decide) q597 rfl (v := .int (nI 0)) rfl dX8_times_45 ?_
  refine nr_le0 (tgt := 55) hx hb (by decide) dX8_times_48 (by decide) (fun c_4 => ?_) (fun c_4 => absurd c_4 (by decide))
  refine lv_iload_n hx hb dX8_times_55 rfl (lv_at hl 1 rfl) ?_
  refine lv_iload_n hx hb dX8_times_56 rfl (lv_at hl 2 rfl) ?_
  refine lv_aload_n hx hb dX8_times_57 rfl (lv_at hl 0 rfl) ?_
  refine zk_get C Z in_X8 0 rfl rfl 2 (by decide) q599 rfl (v := .int (nI p)) rfl dX8_times_58 ?_
  refine lv_aload_n hx hb dX8_times_61 rfl (lv_at hl 0 rfl) ?_
  refine zk_get C Z in_X8 0 rfl rfl 3 (by decide) q600 rfl (v := .int (nI (mdg p))) rfl dX8_times_62 ?_
  refine zk_callS (cells' := 0) (slots' := 0) (rest := []) (n := 4) (wr := [(hm, .inr (7, [.int (nI 0), .int (nI 1), .int (nI p), .int (nI (mdg p)), .int (nI n), .int (nI t), .int (nI dep), .int (nI gn), .int (nI ck), .ref ms, .ref ch, .ref kp, .ref md, .ref rs, .ref pr]))]) C Z (m8_prd l D g a b p (mdg p) (by omega) hp64 (by omega) (by omega)) [] [0] rfl rfl (by decide) (by decide) (by decide) q657 q658 q26 q659 (by decide +kernel) rfl (Nat.le_of_ble_eq_true rfl) (Nat.le_of_ble_eq_true rfl) (Nat.le_of_ble_eq_true rfl) (Nat.le_of_ble_eq_true rfl) rfl rfl hl.1 rfl (Nat.le_of_ble_eq_true rfl) dX8_times_65 (fun v w1 H locs hq Z => ?_)
  obtain ⟨rfl, rfl⟩ := hq
  have Z : zk_Z D A s H locs [(hm, .inr (7, [.int (nI 0), .int (nI 1), .int (nI p), .int (nI (mdg p)), .int (nI n), .int (nI t), .int (nI dep), .int (nI gn), .int (nI ck), .ref ms, .ref ch, .ref kp, .ref md, .ref rs, .ref pr]))] := Z.sub [0] (by decide) rfl
  refine W.eq (g2 := F0 mm 68 ls [.int (nI (mprd a b p (mdg p)))]) rfl ?_
  rw [show mprd a b p (mdg p) = gm p a b from (mprd_gm _ hpn a (by dsimp only; omega) b (by dsimp only; omega))]
  exact zk_iret C hr hlocks Z ⟨rfl, rfl⟩ (Nat.le_of_ble_eq_true rfl) (Nat.le_of_ble_eq_true rfl) dX8_times_68

set_option maxHeartbeats 4000000 in
/-- model: times, not begun -/
theorem v8_times (l : Launch) (D : va_G) (g : G4) (hm ms ch kp md rs pr : Nat) (km : Nat) (a b : Int32) : zk_M l yX8_times (ws_ yX8_times cX8_times 3 (some .int)) (zk_R 0 0 0) D g [.ref hm, .int a, .int b] [(hm, .inr (7, [.int (nI km), .int (nI 0), .int (nI 0), .int (nI 0), .int (nI 0), .int (nI 0), .int (nI 0), .int (nI 0), .int (nI 0), .ref ms, .ref ch, .ref kp, .ref md, .ref rs, .ref pr]))] (zk_D (some (.int (nI 0))) [(hm, .inr (7, [.int (nI 1), .int (nI 0), .int (nI 0), .int (nI 0), .int (nI 0), .int (nI 0), .int (nI 0), .int (nI 0), .int (nI 0), .ref ms, .ref ch, .ref kp, .ref md, .ref rs, .ref pr]))]) := by
  refine zk_ofW (by decide) (Nat.le_of_ble_eq_true rfl) ?_
  intro pg ev s mm below meth cd A C hr hlocks hname Z ls hl
  have hx := C.1.1
  have hb := C.1.2.1
  have hml := C.1.2.2.1
  have hown := C.1.2.2.2.1
  have hts := C.1.2.2.2.2
  have hl : lv_has ls 3 [(0, .ref hm), (1, .int a), (2, .int b)] := hl
  refine lv_aload_n hx hb dX8_times_0 rfl (lv_at hl 0 rfl) ?_
  refine lv_aload_n hx hb dX8_times_1 rfl (lv_at hl 0 rfl) ?_
  refine zk_get C Z in_X8 0 rfl rfl 1 (by decide) q598 rfl (v := .int (nI 0)) rfl dX8_times_2 ?_
  refine nr_ne0 (tgt := 12) hx hb (by omega) dX8_times_5 (by decide) (fun c_1 => absurd c_1 (fun q => q rfl)) (fun c_1 => ?_)
  refine lv_iconst (v := nI 1) hx hb dX8_times_8 (by decide) ?_
  refine lv_goto (tgt := 41) hx hb dX8_times_9 (by decide) ?_
  refine zk_put C Z in_X8 tyX8 tyX8_ok nmX8 0 rfl rfl 0 (by decide) q597 rfl rfl (v := .int (nI 1)) rfl rfl (Nat.le_of_ble_eq_true rfl) dX8_times_41 (fun H locs Z => ?_)
  have Z : zk_Z D A s H locs [(hm, .inr (7, [.int (nI 1), .int (nI 0), .int (nI 0), .int (nI 0), .int (nI 0), .int (nI 0), .int (nI 0), .int (nI 0), .int (nI 0), .ref ms, .ref ch, .ref kp, .ref md, .ref rs, .ref pr]))] := Z
  refine lv_aload_n hx hb dX8_times_44 rfl (lv_at hl 0 rfl) ?_
  refine zk_get C Z in_X8 0 rfl rfl 0 (by decide) q597 rfl (v := .int (nI 1)) rfl dX8_times_45 ?_
  refine nr_le0 (tgt := 55) hx hb (by decide) dX8_times_48 (by decide) (fun c_2 => absurd c_2 (by decide)) (fun c_2 => ?_)
  refine lv_iconst (v := nI 0) hx hb dX8_times_51 (by decide) ?_
  refine lv_goto (tgt := 68) hx hb dX8_times_52 (by decide) ?_
  exact zk_iret C hr hlocks Z ⟨rfl, rfl⟩ (Nat.le_of_ble_eq_true rfl) (Nat.le_of_ble_eq_true rfl) dX8_times_68

set_option maxHeartbeats 4000000 in
/-- model: times, out of bounds -/
theorem w8_times_a (l : Launch) (D : va_G) (g : G4) (hm ms ch kp md rs pr : Nat) (km p dg n t dep gn ck : Nat) (a b : Int32) (h0_ : ¬ (nI 0 ≤ a ∧ a ≤ nI n)) : zk_M l yX8_times (ws_ yX8_times cX8_times 3 (some .int)) (zk_R 1 0 0) D g [.ref hm, .int a, .int b] [(hm, .inr (7, [.int (nI km), .int (nI 1), .int (nI p), .int (nI dg), .int (nI n), .int (nI t), .int (nI dep), .int (nI gn), .int (nI ck), .ref ms, .ref ch, .ref kp, .ref md, .ref rs, .ref pr]))] (zk_D (some (.int (nI 0))) [(hm, .inr (7, [.int (nI 2), .int (nI 1), .int (nI p), .int (nI dg), .int (nI n), .int (nI t), .int (nI dep), .int (nI gn), .int (nI ck), .ref ms, .ref ch, .ref kp, .ref md, .ref rs, .ref pr]))]) := by
  refine zk_ofW (by decide) (Nat.le_of_ble_eq_true rfl) ?_
  intro pg ev s mm below meth cd A C hr hlocks hname Z ls hl
  have hx := C.1.1
  have hb := C.1.2.1
  have hml := C.1.2.2.1
  have hown := C.1.2.2.2.1
  have hts := C.1.2.2.2.2
  have hl : lv_has ls 3 [(0, .ref hm), (1, .int a), (2, .int b)] := hl
  refine lv_aload_n hx hb dX8_times_0 rfl (lv_at hl 0 rfl) ?_
  refine lv_aload_n hx hb dX8_times_1 rfl (lv_at hl 0 rfl) ?_
  refine zk_get C Z in_X8 0 rfl rfl 1 (by decide) q598 rfl (v := .int (nI 1)) rfl dX8_times_2 ?_
  refine nr_ne0 (tgt := 12) hx hb (by omega) dX8_times_5 (by decide) (fun c_1 => ?_) (fun c_1 => absurd c_1 (by decide))
  refine lv_iload_n hx hb dX8_times_12 rfl (lv_at hl 1 rfl) ?_
  refine lv_iconst (v := nI 0) hx hb dX8_times_13 (by decide) ?_
  refine lv_aload_n hx hb dX8_times_14 rfl (lv_at hl 0 rfl) ?_
  refine zk_get C Z in_X8 0 rfl rfl 4 (by decide) q601 rfl (v := .int (nI n)) rfl dX8_times_15 ?_
  refine zk_callS (cells' := 0) (slots' := 0) (rest := [.ref hm]) (n := 3) (wr := [(hm, .inr (7, [.int (nI km), .int (nI 1), .int (nI p), .int (nI dg), .int (nI n), .int (nI t), .int (nI dep), .int (nI gn), .int (nI ck), .ref ms, .ref ch, .ref kp, .ref md, .ref rs, .ref pr]))]) C Z (m8_in0 l D g a (nI 0) (nI n) h0_) [] [0] rfl rfl (by decide) (by decide) (by decide) q651 q652 q26 q653 (by decide +kernel) rfl (Nat.le_of_ble_eq_true rfl) (Nat.le_of_ble_eq_true rfl) (Nat.le_of_ble_eq_true rfl) (Nat.le_of_ble_eq_true rfl) rfl rfl hl.1 rfl (Nat.le_of_ble_eq_true rfl) dX8_times_18 (fun v w1 H locs hq Z => ?_)
  obtain ⟨rfl, rfl⟩ := hq
  have Z : zk_Z D A s H locs [(hm, .inr (7, [.int (nI km), .int (nI 1), .int (nI p), .int (nI dg), .int (nI n), .int (nI t), .int (nI dep), .int (nI gn), .int (nI ck), .ref ms, .ref ch, .ref kp, .ref md, .ref rs, .ref pr]))] := Z.sub [0] (by decide) rfl
  refine W.eq (g2 := F0 mm 21 ls [.int (nI 0), .ref hm]) rfl ?_
  refine nr_eq0 (tgt := 40) hx hb (by omega) dX8_times_21 (by decide) (fun c_2 => ?_) (fun c_2 => absurd c_2 (fun q => q rfl))
  refine lv_iconst (v := nI 2) hx hb dX8_times_40 (by decide) ?_
  refine zk_put C Z in_X8 tyX8 tyX8_ok nmX8 0 rfl rfl 0 (by decide) q597 rfl rfl (v := .int (nI 2)) rfl rfl (Nat.le_of_ble_eq_true rfl) dX8_times_41 (fun H locs Z => ?_)
  have Z : zk_Z D A s H locs [(hm, .inr (7, [.int (nI 2), .int (nI 1), .int (nI p), .int (nI dg), .int (nI n), .int (nI t), .int (nI dep), .int (nI gn), .int (nI ck), .ref ms, .ref ch, .ref kp, .ref md, .ref rs, .ref pr]))] := Z
  refine lv_aload_n hx hb dX8_times_44 rfl (lv_at hl 0 rfl) ?_
  refine zk_get C Z in_X8 0 rfl rfl 0 (by decide) q597 rfl (v := .int (nI 2)) rfl dX8_times_45 ?_
  refine nr_le0 (tgt := 55) hx hb (by decide) dX8_times_48 (by decide) (fun c_3 => absurd c_3 (by decide)) (fun c_3 => ?_)
  refine lv_iconst (v := nI 0) hx hb dX8_times_51 (by decide) ?_
  refine lv_goto (tgt := 68) hx hb dX8_times_52 (by decide) ?_
  exact zk_iret C hr hlocks Z ⟨rfl, rfl⟩ (Nat.le_of_ble_eq_true rfl) (Nat.le_of_ble_eq_true rfl) dX8_times_68

set_option maxHeartbeats 4000000 in
/-- model: times, out of bounds -/
theorem w8_times_b (l : Launch) (D : va_G) (g : G4) (hm ms ch kp md rs pr : Nat) (km p dg n t dep gn ck : Nat) (a b : Int32) (ha_ : nI 0 ≤ a ∧ a ≤ nI n) (h0_ : ¬ (nI 0 ≤ b ∧ b ≤ nI n)) : zk_M l yX8_times (ws_ yX8_times cX8_times 3 (some .int)) (zk_R 1 0 0) D g [.ref hm, .int a, .int b] [(hm, .inr (7, [.int (nI km), .int (nI 1), .int (nI p), .int (nI dg), .int (nI n), .int (nI t), .int (nI dep), .int (nI gn), .int (nI ck), .ref ms, .ref ch, .ref kp, .ref md, .ref rs, .ref pr]))] (zk_D (some (.int (nI 0))) [(hm, .inr (7, [.int (nI 2), .int (nI 1), .int (nI p), .int (nI dg), .int (nI n), .int (nI t), .int (nI dep), .int (nI gn), .int (nI ck), .ref ms, .ref ch, .ref kp, .ref md, .ref rs, .ref pr]))]) := by
  refine zk_ofW (by decide) (Nat.le_of_ble_eq_true rfl) ?_
  intro pg ev s mm below meth cd A C hr hlocks hname Z ls hl
  have hx := C.1.1
  have hb := C.1.2.1
  have hml := C.1.2.2.1
  have hown := C.1.2.2.2.1
  have hts := C.1.2.2.2.2
  have hl : lv_has ls 3 [(0, .ref hm), (1, .int a), (2, .int b)] := hl
  refine lv_aload_n hx hb dX8_times_0 rfl (lv_at hl 0 rfl) ?_
  refine lv_aload_n hx hb dX8_times_1 rfl (lv_at hl 0 rfl) ?_
  refine zk_get C Z in_X8 0 rfl rfl 1 (by decide) q598 rfl (v := .int (nI 1)) rfl dX8_times_2 ?_
  refine nr_ne0 (tgt := 12) hx hb (by omega) dX8_times_5 (by decide) (fun c_1 => ?_) (fun c_1 => absurd c_1 (by decide))
  refine lv_iload_n hx hb dX8_times_12 rfl (lv_at hl 1 rfl) ?_
  refine lv_iconst (v := nI 0) hx hb dX8_times_13 (by decide) ?_
  refine lv_aload_n hx hb dX8_times_14 rfl (lv_at hl 0 rfl) ?_
  refine zk_get C Z in_X8 0 rfl rfl 4 (by decide) q601 rfl (v := .int (nI n)) rfl dX8_times_15 ?_
  refine zk_callS (cells' := 0) (slots' := 0) (rest := [.ref hm]) (n := 3) (wr := [(hm, .inr (7, [.int (nI km), .int (nI 1), .int (nI p), .int (nI dg), .int (nI n), .int (nI t), .int (nI dep), .int (nI gn), .int (nI ck), .ref ms, .ref ch, .ref kp, .ref md, .ref rs, .ref pr]))]) C Z (m8_in1 l D g a (nI 0) (nI n) ha_.1 ha_.2) [] [0] rfl rfl (by decide) (by decide) (by decide) q651 q652 q26 q653 (by decide +kernel) rfl (Nat.le_of_ble_eq_true rfl) (Nat.le_of_ble_eq_true rfl) (Nat.le_of_ble_eq_true rfl) (Nat.le_of_ble_eq_true rfl) rfl rfl hl.1 rfl (Nat.le_of_ble_eq_true rfl) dX8_times_18 (fun v w1 H locs hq Z => ?_)
  obtain ⟨rfl, rfl⟩ := hq
  have Z : zk_Z D A s H locs [(hm, .inr (7, [.int (nI km), .int (nI 1), .int (nI p), .int (nI dg), .int (nI n), .int (nI t), .int (nI dep), .int (nI gn), .int (nI ck), .ref ms, .ref ch, .ref kp, .ref md, .ref rs, .ref pr]))] := Z.sub [0] (by decide) rfl
  refine W.eq (g2 := F0 mm 21 ls [.int (nI 1), .ref hm]) rfl ?_
  refine nr_eq0 (tgt := 40) hx hb (by omega) dX8_times_21 (by decide) (fun c_2 => absurd c_2 (by decide)) (fun c_2 => ?_)
  refine lv_iload_n hx hb dX8_times_24 rfl (lv_at hl 2 rfl) ?_
  refine lv_iconst (v := nI 0) hx hb dX8_times_25 (by decide) ?_
  refine lv_aload_n hx hb dX8_times_26 rfl (lv_at hl 0 rfl) ?_
  refine zk_get C Z in_X8 0 rfl rfl 4 (by decide) q601 rfl (v := .int (nI n)) rfl dX8_times_27 ?_
  refine zk_callS (cells' := 0) (slots' := 0) (rest := [.ref hm]) (n := 3) (wr := [(hm, .inr (7, [.int (nI km), .int (nI 1), .int (nI p), .int (nI dg), .int (nI n), .int (nI t), .int (nI dep), .int (nI gn), .int (nI ck), .ref ms, .ref ch, .ref kp, .ref md, .ref rs, .ref pr]))]) C Z (m8_in0 l D g b (nI 0) (nI n) h0_) [] [0] rfl rfl (by decide) (by decide) (by decide) q651 q652 q26 q653 (by decide +kernel) rfl (Nat.le_of_ble_eq_true rfl) (Nat.le_of_ble_eq_true rfl) (Nat.le_of_ble_eq_true rfl) (Nat.le_of_ble_eq_true rfl) rfl rfl hl.1 rfl (Nat.le_of_ble_eq_true rfl) dX8_times_30 (fun v w1 H locs hq Z => ?_)
  obtain ⟨rfl, rfl⟩ := hq
  have Z : zk_Z D A s H locs [(hm, .inr (7, [.int (nI km), .int (nI 1), .int (nI p), .int (nI dg), .int (nI n), .int (nI t), .int (nI dep), .int (nI gn), .int (nI ck), .ref ms, .ref ch, .ref kp, .ref md, .ref rs, .ref pr]))] := Z.sub [0] (by decide) rfl
  refine W.eq (g2 := F0 mm 33 ls [.int (nI 0), .ref hm]) rfl ?_
  refine nr_eq0 (tgt := 40) hx hb (by omega) dX8_times_33 (by decide) (fun c_3 => ?_) (fun c_3 => absurd c_3 (fun q => q rfl))
  refine lv_iconst (v := nI 2) hx hb dX8_times_40 (by decide) ?_
  refine zk_put C Z in_X8 tyX8 tyX8_ok nmX8 0 rfl rfl 0 (by decide) q597 rfl rfl (v := .int (nI 2)) rfl rfl (Nat.le_of_ble_eq_true rfl) dX8_times_41 (fun H locs Z => ?_)
  have Z : zk_Z D A s H locs [(hm, .inr (7, [.int (nI 2), .int (nI 1), .int (nI p), .int (nI dg), .int (nI n), .int (nI t), .int (nI dep), .int (nI gn), .int (nI ck), .ref ms, .ref ch, .ref kp, .ref md, .ref rs, .ref pr]))] := Z
  refine lv_aload_n hx hb dX8_times_44 rfl (lv_at hl 0 rfl) ?_
  refine zk_get C Z in_X8 0 rfl rfl 0 (by decide) q597 rfl (v := .int (nI 2)) rfl dX8_times_45 ?_
  refine nr_le0 (tgt := 55) hx hb (by decide) dX8_times_48 (by decide) (fun c_4 => absurd c_4 (by decide)) (fun c_4 => ?_)
  refine lv_iconst (v := nI 0) hx hb dX8_times_51 (by decide) ?_
  refine lv_goto (tgt := 68) hx hb dX8_times_52 (by decide) ?_
  exact zk_iret C hr hlocks Z ⟨rfl, rfl⟩ (Nat.le_of_ble_eq_true rfl) (Nat.le_of_ble_eq_true rfl) dX8_times_68

set_option maxHeartbeats 4000000 in
/-- model: put -/
theorem m8_put (l : Launch) (D : va_G) (g : G4) (hm ms ch kp md rs pr : Nat) (km p dg n t dep gn ck : Nat) (Ms : List Nat) (hMs : Ms.length = 4) (d4 : dep ≤ 4) (n31 : n ≤ 31) (ckn : ck < n) (i b : Nat) (hi : i < dep * (n - ck)) (b1 : b ≤ 1) : zk_M l yX8_put (ws_ yX8_put cX8_put 5 none) (zk_R 1 0 0) D g [.ref hm, .int (nI i), .int (nI b)] [(hm, .inr (7, [.int (nI km), .int (nI 1), .int (nI p), .int (nI dg), .int (nI n), .int (nI t), .int (nI dep), .int (nI gn), .int (nI ck), .ref ms, .ref ch, .ref kp, .ref md, .ref rs, .ref pr])), (ms, .inl (g.1, 4, .inl (zk_ia Ms)))] (zk_D none [(hm, .inr (7, [.int (nI 0), .int (nI 1), .int (nI p), .int (nI dg), .int (nI n), .int (nI t), .int (nI dep), .int (nI gn), .int (nI ck), .ref ms, .ref ch, .ref kp, .ref md, .ref rs, .ref pr])), (ms, .inl (g.1, 4, .inl (zk_ia (Ms.set (i / (n - ck)) (puto (Ms.getD (i / (n - ck)) 0) (i % (n - ck)) b)))))]) := by
  refine zk_ofW (by decide) (Nat.le_of_ble_eq_true rfl) ?_
  intro pg ev s mm below meth cd A C hr hlocks hname Z ls hl
  have hx := C.1.1
  have hb := C.1.2.1
  have hml := C.1.2.2.1
  have hown := C.1.2.2.2.1
  have hts := C.1.2.2.2.2
  have hl : lv_has ls 5 [(0, .ref hm), (1, .int (nI i)), (2, .int (nI b))] := hl
  have hdk := Nat.mul_le_mul d4 (show n - ck ≤ 31 by omega)
  refine lv_aload_n hx hb dX8_put_0 rfl (lv_at hl 0 rfl) ?_
  refine lv_aload_n hx hb dX8_put_1 rfl (lv_at hl 0 rfl) ?_
  refine zk_get C Z in_X8 0 rfl rfl 1 (by decide) q598 rfl (v := .int (nI 1)) rfl dX8_put_2 ?_
  refine nr_ne0 (tgt := 12) hx hb (by omega) dX8_put_5 (by decide) (fun c_1 => ?_) (fun c_1 => absurd c_1 (by decide))
  refine lv_iload_n hx hb dX8_put_12 rfl (lv_at hl 1 rfl) ?_
  refine lv_iconst (v := nI 0) hx hb dX8_put_13 (by decide) ?_
  refine lv_aload_n hx hb dX8_put_14 rfl (lv_at hl 0 rfl) ?_
  refine zk_callV (cells' := 0) (slots' := 0) (rest := [.int (nI 0), .int (nI i), .ref hm]) (n := 0) (wr := [(ms, .inl (g.1, 4, .inl (zk_ia Ms)))]) C Z (m8_mb l D g hm ms ch kp md rs pr km p dg n t dep gn ck (by omega)) [0] [1] rfl rfl (by decide) (by decide) (by decide) 0 7 rfl rfl rfl q696 q698 qs11 q26 q699 (by decide +kernel) rfl (Nat.le_of_ble_eq_true rfl) (Nat.le_of_ble_eq_true rfl) (Nat.le_of_ble_eq_true rfl) (Nat.le_of_ble_eq_true rfl) rfl rfl hl.1 rfl (Nat.le_of_ble_eq_true rfl) dX8_put_15 (fun v w1 H locs hq Z => ?_)
  obtain ⟨rfl, rfl⟩ := hq
  have Z : zk_Z D A s H locs [(hm, .inr (7, [.int (nI km), .int (nI 1), .int (nI p), .int (nI dg), .int (nI n), .int (nI t), .int (nI dep), .int (nI gn), .int (nI ck), .ref ms, .ref ch, .ref kp, .ref md, .ref rs, .ref pr])), (ms, .inl (g.1, 4, .inl (zk_ia Ms)))] := Z.sub [1, 0] (by decide) rfl
  refine W.eq (g2 := F0 mm 18 ls [.int (nI (dep * (n - ck))), .int (nI 0), .int (nI i), .ref hm]) rfl ?_
  refine lv_iconst (v := nI 1) hx hb dX8_put_18 (by decide) ?_
  refine nr_isub hx hb (by omega) dX8_put_19 ?_
  refine zk_callS (cells' := 0) (slots' := 0) (rest := [.ref hm]) (n := 3) (wr := [(hm, .inr (7, [.int (nI km), .int (nI 1), .int (nI p), .int (nI dg), .int (nI n), .int (nI t), .int (nI dep), .int (nI gn), .int (nI ck), .ref ms, .ref ch, .ref kp, .ref md, .ref rs, .ref pr])), (ms, .inl (g.1, 4, .inl (zk_ia Ms)))]) C Z (m8_in1 l D g (nI i) (nI 0) (nI ((dep * (n - ck)) - 1)) (zk_le (Nat.zero_le i) (by omega)) (zk_le (by omega) (by omega))) [] [0, 1] rfl rfl (by decide) (by decide) (by decide) q651 q652 q26 q653 (by decide +kernel) rfl (Nat.le_of_ble_eq_true rfl) (Nat.le_of_ble_eq_true rfl) (Nat.le_of_ble_eq_true rfl) (Nat.le_of_ble_eq_true rfl) rfl rfl hl.1 rfl (Nat.le_of_ble_eq_true rfl) dX8_put_20 (fun v w1 H locs hq Z => ?_)
  obtain ⟨rfl, rfl⟩ := hq
  have Z : zk_Z D A s H locs [(hm, .inr (7, [.int (nI km), .int (nI 1), .int (nI p), .int (nI dg), .int (nI n), .int (nI t), .int (nI dep), .int (nI gn), .int (nI ck), .ref ms, .ref ch, .ref kp, .ref md, .ref rs, .ref pr])), (ms, .inl (g.1, 4, .inl (zk_ia Ms)))] := Z.sub [0, 1] (by decide) rfl
  refine W.eq (g2 := F0 mm 23 ls [.int (nI 1), .ref hm]) rfl ?_
  refine nr_ne0 (tgt := 30) hx hb (by omega) dX8_put_23 (by decide) (fun c_2 => ?_) (fun c_2 => absurd c_2 (by decide))
  refine lv_iload_n hx hb dX8_put_30 rfl (lv_at hl 2 rfl) ?_
  refine lv_iconst (v := nI 0) hx hb dX8_put_31 (by decide) ?_
  refine lv_iconst (v := nI 1) hx hb dX8_put_32 (by decide) ?_
  refine zk_callS (cells' := 0) (slots' := 0) (rest := [.ref hm]) (n := 3) (wr := [(hm, .inr (7, [.int (nI km), .int (nI 1), .int (nI p), .int (nI dg), .int (nI n), .int (nI t), .int (nI dep), .int (nI gn), .int (nI ck), .ref ms, .ref ch, .ref kp, .ref md, .ref rs, .ref pr])), (ms, .inl (g.1, 4, .inl (zk_ia Ms)))]) C Z (m8_in1 l D g (nI b) (nI 0) (nI 1) (zk_le (Nat.zero_le b) (by omega)) (zk_le b1 (by decide))) [] [0, 1] rfl rfl (by decide) (by decide) (by decide) q651 q652 q26 q653 (by decide +kernel) rfl (Nat.le_of_ble_eq_true rfl) (Nat.le_of_ble_eq_true rfl) (Nat.le_of_ble_eq_true rfl) (Nat.le_of_ble_eq_true rfl) rfl rfl hl.1 rfl (Nat.le_of_ble_eq_true rfl) dX8_put_33 (fun v w1 H locs hq Z => ?_)
  obtain ⟨rfl, rfl⟩ := hq
  have Z : zk_Z D A s H locs [(hm, .inr (7, [.int (nI km), .int (nI 1), .int (nI p), .int (nI dg), .int (nI n), .int (nI t), .int (nI dep), .int (nI gn), .int (nI ck), .ref ms, .ref ch, .ref kp, .ref md, .ref rs, .ref pr])), (ms, .inl (g.1, 4, .inl (zk_ia Ms)))] := Z.sub [0, 1] (by decide) rfl
  refine W.eq (g2 := F0 mm 36 ls [.int (nI 1), .ref hm]) rfl ?_
  refine nr_eq0 (tgt := 43) hx hb (by omega) dX8_put_36 (by decide) (fun c_3 => absurd c_3 (by decide)) (fun c_3 => ?_)
  refine lv_iconst (v := nI 0) hx hb dX8_put_39 (by decide) ?_
  refine lv_goto (tgt := 44) hx hb dX8_put_40 (by decide) ?_
  refine zk_put C Z in_X8 tyX8 tyX8_ok nmX8 0 rfl rfl 0 (by decide) q597 rfl rfl (v := .int (nI 0)) rfl rfl (Nat.le_of_ble_eq_true rfl) dX8_put_44 (fun H locs Z => ?_)
  have Z : zk_Z D A s H locs [(hm, .inr (7, [.int (nI 0), .int (nI 1), .int (nI p), .int (nI dg), .int (nI n), .int (nI t), .int (nI dep), .int (nI gn), .int (nI ck), .ref ms, .ref ch, .ref kp, .ref md, .ref rs, .ref pr])), (ms, .inl (g.1, 4, .inl (zk_ia Ms)))] := Z
  refine lv_aload_n hx hb dX8_put_47 rfl (lv_at hl 0 rfl) ?_
  refine zk_get C Z in_X8 0 rfl rfl 0 (by decide) q597 rfl (v := .int (nI 0)) rfl dX8_put_48 ?_
  refine nr_ne0 (tgt := 115) hx hb (by decide) dX8_put_51 (by decide) (fun c_4 => absurd c_4 (fun q => q rfl)) (fun c_4 => ?_)
  refine lv_iload_n hx hb dX8_put_54 rfl (lv_at hl 1 rfl) ?_
  refine lv_aload_n hx hb dX8_put_55 rfl (lv_at hl 0 rfl) ?_
  refine zk_get C Z in_X8 0 rfl rfl 4 (by decide) q601 rfl (v := .int (nI n)) rfl dX8_put_56 ?_
  refine lv_aload_n hx hb dX8_put_59 rfl (lv_at hl 0 rfl) ?_
  refine zk_get C Z in_X8 0 rfl rfl 8 (by decide) q605 rfl (v := .int (nI ck)) rfl dX8_put_60 ?_
  refine nr_isub hx hb (by omega) dX8_put_63 ?_
  refine nr_idiv hx hb (by omega) (by omega) (by omega) dX8_put_64 ?_
  refine lv_istore_n (lv' := [(3, .int (nI (i / (n - ck)))), (0, .ref hm), (1, .int (nI i)), (2, .int (nI b))]) hx hb dX8_put_65 rfl hl (by decide) rfl (fun ls hl => ?_)
  refine lv_iconst (v := nI 1) hx hb dX8_put_66 (by decide) ?_
  refine lv_iload_n hx hb dX8_put_67 rfl (lv_at hl 2 rfl) ?_
  refine lv_aload_n hx hb dX8_put_68 rfl (lv_at hl 1 rfl) ?_
  refine zk_get C Z in_X8 0 rfl rfl 4 (by decide) q601 rfl (v := .int (nI n)) rfl dX8_put_69 ?_
  refine lv_aload_n hx hb dX8_put_72 rfl (lv_at hl 1 rfl) ?_
  refine zk_get C Z in_X8 0 rfl rfl 8 (by decide) q605 rfl (v := .int (nI ck)) rfl dX8_put_73 ?_
  refine nr_isub hx hb (by omega) dX8_put_76 ?_
  refine nr_irem hx hb (by omega) (by omega) (by omega) dX8_put_77 ?_
  refine nr_ishl hx hb (by have := Nat.mod_lt i (show 0 < n - ck by omega); omega) dX8_put_78 ?_
  refine lv_istore (lv' := [(4, .int (nI (1 <<< (i % (n - ck))))), (3, .int (nI (i / (n - ck)))), (0, .ref hm), (1, .int (nI i)), (2, .int (nI b))]) hx hb dX8_put_79 hl (by decide) rfl (fun ls hl => ?_)
  refine lv_aload_n hx hb dX8_put_81 rfl (lv_at hl 2 rfl) ?_
  refine zk_get C Z in_X8 0 rfl rfl 9 (by decide) q606 rfl (v := .ref ms) rfl dX8_put_82 ?_
  refine lv_iload_n hx hb dX8_put_85 rfl (lv_at hl 1 rfl) ?_
  refine lv_iload_n hx hb dX8_put_86 rfl (lv_at hl 4 rfl) ?_
  refine lv_iconst (v := nI 1) hx hb dX8_put_87 (by decide) ?_
  refine nr_ne (tgt := 103) hx hb (by omega) (by decide) dX8_put_88 (by decide) (fun c_1 => ?_) (fun c_1 => ?_)
  · refine lv_aload_n hx hb dX8_put_103 rfl (lv_at hl 2 rfl) ?_
    refine zk_get C Z in_X8 0 rfl rfl 9 (by decide) q606 rfl (v := .ref ms) rfl dX8_put_104 ?_
    refine lv_iload_n hx hb dX8_put_107 rfl (lv_at hl 1 rfl) ?_
    refine zk_iald C Z 1 rfl (by decide) (by have h9 := Nat.div_lt_of_lt_mul (show i < (n - ck) * dep by rw [Nat.mul_comm]; exact hi); omega) dX8_put_108 ?_
    refine lv_iload hx hb dX8_put_109 (lv_at hl 0 rfl) ?_
    refine lv_iconst (v := nI 4294967295) hx hb dX8_put_111 (by decide) ?_
    refine nr_ixor hx hb dX8_put_112 ?_
    refine nr_iand hx hb dX8_put_113 ?_
    refine zk_iast C Z 1 rfl (by decide) (by have h9 := Nat.div_lt_of_lt_mul (show i < (n - ck) * dep by rw [Nat.mul_comm]; exact hi); omega) hMs dX8_put_114 (fun H locs Z => ?_)
    have hlen_5 : (Ms.set (i / (n - ck)) ((Ms.getD (i / (n - ck)) 0) &&& ((1 <<< (i % (n - ck))) ^^^ 4294967295))).length = 4 := by rw [List.length_set]; exact hMs
    have Z : zk_Z D A s H locs [(hm, .inr (7, [.int (nI 0), .int (nI 1), .int (nI p), .int (nI dg), .int (nI n), .int (nI t), .int (nI dep), .int (nI gn), .int (nI ck), .ref ms, .ref ch, .ref kp, .ref md, .ref rs, .ref pr])), (ms, .inl (g.1, 4, .inl (zk_ia (Ms.set (i / (n - ck)) ((Ms.getD (i / (n - ck)) 0) &&& ((1 <<< (i % (n - ck))) ^^^ 4294967295))))))] := Z
    exact zk_vret C hr hlocks Z ⟨rfl, by unfold puto; rw [if_neg c_1]⟩ (Nat.le_of_ble_eq_true rfl) (Nat.le_of_ble_eq_true rfl) dX8_put_115
  · refine lv_aload_n hx hb dX8_put_91 rfl (lv_at hl 2 rfl) ?_
    refine zk_get C Z in_X8 0 rfl rfl 9 (by decide) q606 rfl (v := .ref ms) rfl dX8_put_92 ?_
    refine lv_iload_n hx hb dX8_put_95 rfl (lv_at hl 1 rfl) ?_
    refine zk_iald C Z 1 rfl (by decide) (by have h9 := Nat.div_lt_of_lt_mul (show i < (n - ck) * dep by rw [Nat.mul_comm]; exact hi); omega) dX8_put_96 ?_
    refine lv_iload hx hb dX8_put_97 (lv_at hl 0 rfl) ?_
    refine nr_ior hx hb dX8_put_99 ?_
    refine lv_goto (tgt := 114) hx hb dX8_put_100 (by decide) ?_
    refine zk_iast C Z 1 rfl (by decide) (by have h9 := Nat.div_lt_of_lt_mul (show i < (n - ck) * dep by rw [Nat.mul_comm]; exact hi); omega) hMs dX8_put_114 (fun H locs Z => ?_)
    have hlen_6 : (Ms.set (i / (n - ck)) ((Ms.getD (i / (n - ck)) 0) ||| (1 <<< (i % (n - ck))))).length = 4 := by rw [List.length_set]; exact hMs
    have Z : zk_Z D A s H locs [(hm, .inr (7, [.int (nI 0), .int (nI 1), .int (nI p), .int (nI dg), .int (nI n), .int (nI t), .int (nI dep), .int (nI gn), .int (nI ck), .ref ms, .ref ch, .ref kp, .ref md, .ref rs, .ref pr])), (ms, .inl (g.1, 4, .inl (zk_ia (Ms.set (i / (n - ck)) ((Ms.getD (i / (n - ck)) 0) ||| (1 <<< (i % (n - ck))))))))] := Z
    exact zk_vret C hr hlocks Z ⟨rfl, by unfold puto; rw [if_pos c_1]⟩ (Nat.le_of_ble_eq_true rfl) (Nat.le_of_ble_eq_true rfl) dX8_put_115

set_option maxHeartbeats 4000000 in
/-- model: put, not begun -/
theorem v8_put (l : Launch) (D : va_G) (g : G4) (hm ms ch kp md rs pr : Nat) (km : Nat) (i b : Int32) : zk_M l yX8_put (ws_ yX8_put cX8_put 5 none) (zk_R 0 0 0) D g [.ref hm, .int i, .int b] [(hm, .inr (7, [.int (nI km), .int (nI 0), .int (nI 0), .int (nI 0), .int (nI 0), .int (nI 0), .int (nI 0), .int (nI 0), .int (nI 0), .ref ms, .ref ch, .ref kp, .ref md, .ref rs, .ref pr]))] (zk_D none [(hm, .inr (7, [.int (nI 1), .int (nI 0), .int (nI 0), .int (nI 0), .int (nI 0), .int (nI 0), .int (nI 0), .int (nI 0), .int (nI 0), .ref ms, .ref ch, .ref kp, .ref md, .ref rs, .ref pr]))]) := by
  refine zk_ofW (by decide) (Nat.le_of_ble_eq_true rfl) ?_
  intro pg ev s mm below meth cd A C hr hlocks hname Z ls hl
  have hx := C.1.1
  have hb := C.1.2.1
  have hml := C.1.2.2.1
  have hown := C.1.2.2.2.1
  have hts := C.1.2.2.2.2
  have hl : lv_has ls 5 [(0, .ref hm), (1, .int i), (2, .int b)] := hl
  refine lv_aload_n hx hb dX8_put_0 rfl (lv_at hl 0 rfl) ?_
  refine lv_aload_n hx hb dX8_put_1 rfl (lv_at hl 0 rfl) ?_
  refine zk_get C Z in_X8 0 rfl rfl 1 (by decide) q598 rfl (v := .int (nI 0)) rfl dX8_put_2 ?_
  refine nr_ne0 (tgt := 12) hx hb (by omega) dX8_put_5 (by decide) (fun c_1 => absurd c_1 (fun q => q rfl)) (fun c_1 => ?_)
  refine lv_iconst (v := nI 1) hx hb dX8_put_8 (by decide) ?_
  refine lv_goto (tgt := 44) hx hb dX8_put_9 (by decide) ?_
  refine zk_put C Z in_X8 tyX8 tyX8_ok nmX8 0 rfl rfl 0 (by decide) q597 rfl rfl (v := .int (nI 1)) rfl rfl (Nat.le_of_ble_eq_true rfl) dX8_put_44 (fun H locs Z => ?_)
  have Z : zk_Z D A s H locs [(hm, .inr (7, [.int (nI 1), .int (nI 0), .int (nI 0), .int (nI 0), .int (nI 0), .int (nI 0), .int (nI 0), .int (nI 0), .int (nI 0), .ref ms, .ref ch, .ref kp, .ref md, .ref rs, .ref pr]))] := Z
  refine lv_aload_n hx hb dX8_put_47 rfl (lv_at hl 0 rfl) ?_
  refine zk_get C Z in_X8 0 rfl rfl 0 (by decide) q597 rfl (v := .int (nI 1)) rfl dX8_put_48 ?_
  refine nr_ne0 (tgt := 115) hx hb (by decide) dX8_put_51 (by decide) (fun c_2 => ?_) (fun c_2 => absurd c_2 (by decide))
  exact zk_vret C hr hlocks Z ⟨rfl, rfl⟩ (Nat.le_of_ble_eq_true rfl) (Nat.le_of_ble_eq_true rfl) dX8_put_115

set_option maxHeartbeats 4000000 in
/-- model: put, none such -/
theorem w8_put_i (l : Launch) (D : va_G) (g : G4) (hm ms ch kp md rs pr : Nat) (km p dg n t dep gn ck : Nat) (i b : Int32) (ckn : ck < n) (d1 : 1 ≤ dep * (n - ck)) (h0_ : ¬ (nI 0 ≤ i ∧ i ≤ nI (dep * (n - ck) - 1))) : zk_M l yX8_put (ws_ yX8_put cX8_put 5 none) (zk_R 1 0 0) D g [.ref hm, .int i, .int b] [(hm, .inr (7, [.int (nI km), .int (nI 1), .int (nI p), .int (nI dg), .int (nI n), .int (nI t), .int (nI dep), .int (nI gn), .int (nI ck), .ref ms, .ref ch, .ref kp, .ref md, .ref rs, .ref pr]))] (zk_D none [(hm, .inr (7, [.int (nI 2), .int (nI 1), .int (nI p), .int (nI dg), .int (nI n), .int (nI t), .int (nI dep), .int (nI gn), .int (nI ck), .ref ms, .ref ch, .ref kp, .ref md, .ref rs, .ref pr]))]) := by
  refine zk_ofW (by decide) (Nat.le_of_ble_eq_true rfl) ?_
  intro pg ev s mm below meth cd A C hr hlocks hname Z ls hl
  have hx := C.1.1
  have hb := C.1.2.1
  have hml := C.1.2.2.1
  have hown := C.1.2.2.2.1
  have hts := C.1.2.2.2.2
  have hl : lv_has ls 5 [(0, .ref hm), (1, .int i), (2, .int b)] := hl
  refine lv_aload_n hx hb dX8_put_0 rfl (lv_at hl 0 rfl) ?_
  refine lv_aload_n hx hb dX8_put_1 rfl (lv_at hl 0 rfl) ?_
  refine zk_get C Z in_X8 0 rfl rfl 1 (by decide) q598 rfl (v := .int (nI 1)) rfl dX8_put_2 ?_
  refine nr_ne0 (tgt := 12) hx hb (by omega) dX8_put_5 (by decide) (fun c_1 => ?_) (fun c_1 => absurd c_1 (by decide))
  refine lv_iload_n hx hb dX8_put_12 rfl (lv_at hl 1 rfl) ?_
  refine lv_iconst (v := nI 0) hx hb dX8_put_13 (by decide) ?_
  refine lv_aload_n hx hb dX8_put_14 rfl (lv_at hl 0 rfl) ?_
  refine zk_callV (cells' := 0) (slots' := 0) (rest := [.int (nI 0), .int i, .ref hm]) (n := 0) (wr := []) C Z (m8_mb l D g hm ms ch kp md rs pr km p dg n t dep gn ck (by omega)) [0] [] rfl rfl (by decide) (by decide) (by decide) 0 7 rfl rfl rfl q696 q698 qs11 q26 q699 (by decide +kernel) rfl (Nat.le_of_ble_eq_true rfl) (Nat.le_of_ble_eq_true rfl) (Nat.le_of_ble_eq_true rfl) (Nat.le_of_ble_eq_true rfl) rfl rfl hl.1 rfl (Nat.le_of_ble_eq_true rfl) dX8_put_15 (fun v w1 H locs hq Z => ?_)
  obtain ⟨rfl, rfl⟩ := hq
  have Z : zk_Z D A s H locs [(hm, .inr (7, [.int (nI km), .int (nI 1), .int (nI p), .int (nI dg), .int (nI n), .int (nI t), .int (nI dep), .int (nI gn), .int (nI ck), .ref ms, .ref ch, .ref kp, .ref md, .ref rs, .ref pr]))] := Z.sub [0] (by decide) rfl
  refine W.eq (g2 := F0 mm 18 ls [.int (nI (dep * (n - ck))), .int (nI 0), .int i, .ref hm]) rfl ?_
  refine lv_iconst (v := nI 1) hx hb dX8_put_18 (by decide) ?_
  refine nr_isub hx hb d1 dX8_put_19 ?_
  refine zk_callS (cells' := 0) (slots' := 0) (rest := [.ref hm]) (n := 3) (wr := [(hm, .inr (7, [.int (nI km), .int (nI 1), .int (nI p), .int (nI dg), .int (nI n), .int (nI t), .int (nI dep), .int (nI gn), .int (nI ck), .ref ms, .ref ch, .ref kp, .ref md, .ref rs, .ref pr]))]) C Z (m8_in0 l D g i (nI 0) (nI ((dep * (n - ck)) - 1)) h0_) [] [0] rfl rfl (by decide) (by decide) (by decide) q651 q652 q26 q653 (by decide +kernel) rfl (Nat.le_of_ble_eq_true rfl) (Nat.le_of_ble_eq_true rfl) (Nat.le_of_ble_eq_true rfl) (Nat.le_of_ble_eq_true rfl) rfl rfl hl.1 rfl (Nat.le_of_ble_eq_true rfl) dX8_put_20 (fun v w1 H locs hq Z => ?_)
  obtain ⟨rfl, rfl⟩ := hq
  have Z : zk_Z D A s H locs [(hm, .inr (7, [.int (nI km), .int (nI 1), .int (nI p), .int (nI dg), .int (nI n), .int (nI t), .int (nI dep), .int (nI gn), .int (nI ck), .ref ms, .ref ch, .ref kp, .ref md, .ref rs, .ref pr]))] := Z.sub [0] (by decide) rfl
  refine W.eq (g2 := F0 mm 23 ls [.int (nI 0), .ref hm]) rfl ?_
  refine nr_ne0 (tgt := 30) hx hb (by omega) dX8_put_23 (by decide) (fun c_2 => absurd c_2 (fun q => q rfl)) (fun c_2 => ?_)
  refine lv_iconst (v := nI 2) hx hb dX8_put_26 (by decide) ?_
  refine lv_goto (tgt := 44) hx hb dX8_put_27 (by decide) ?_
  refine zk_put C Z in_X8 tyX8 tyX8_ok nmX8 0 rfl rfl 0 (by decide) q597 rfl rfl (v := .int (nI 2)) rfl rfl (Nat.le_of_ble_eq_true rfl) dX8_put_44 (fun H locs Z => ?_)
  have Z : zk_Z D A s H locs [(hm, .inr (7, [.int (nI 2), .int (nI 1), .int (nI p), .int (nI dg), .int (nI n), .int (nI t), .int (nI dep), .int (nI gn), .int (nI ck), .ref ms, .ref ch, .ref kp, .ref md, .ref rs, .ref pr]))] := Z
  refine lv_aload_n hx hb dX8_put_47 rfl (lv_at hl 0 rfl) ?_
  refine zk_get C Z in_X8 0 rfl rfl 0 (by decide) q597 rfl (v := .int (nI 2)) rfl dX8_put_48 ?_
  refine nr_ne0 (tgt := 115) hx hb (by decide) dX8_put_51 (by decide) (fun c_3 => ?_) (fun c_3 => absurd c_3 (by decide))
  exact zk_vret C hr hlocks Z ⟨rfl, rfl⟩ (Nat.le_of_ble_eq_true rfl) (Nat.le_of_ble_eq_true rfl) dX8_put_115

set_option maxHeartbeats 4000000 in
/-- model: put, out of bounds -/
theorem w8_put_b (l : Launch) (D : va_G) (g : G4) (hm ms ch kp md rs pr : Nat) (km p dg n t dep gn ck : Nat) (i b : Int32) (ckn : ck < n) (d1 : 1 ≤ dep * (n - ck)) (hi_ : nI 0 ≤ i ∧ i ≤ nI (dep * (n - ck) - 1)) (h0_ : ¬ (nI 0 ≤ b ∧ b ≤ nI 1)) : zk_M l yX8_put (ws_ yX8_put cX8_put 5 none) (zk_R 1 0 0) D g [.ref hm, .int i, .int b] [(hm, .inr (7, [.int (nI km), .int (nI 1), .int (nI p), .int (nI dg), .int (nI n), .int (nI t), .int (nI dep), .int (nI gn), .int (nI ck), .ref ms, .ref ch, .ref kp, .ref md, .ref rs, .ref pr]))] (zk_D none [(hm, .inr (7, [.int (nI 3), .int (nI 1), .int (nI p), .int (nI dg), .int (nI n), .int (nI t), .int (nI dep), .int (nI gn), .int (nI ck), .ref ms, .ref ch, .ref kp, .ref md, .ref rs, .ref pr]))]) := by
  refine zk_ofW (by decide) (Nat.le_of_ble_eq_true rfl) ?_
  intro pg ev s mm below meth cd A C hr hlocks hname Z ls hl
  have hx := C.1.1
  have hb := C.1.2.1
  have hml := C.1.2.2.1
  have hown := C.1.2.2.2.1
  have hts := C.1.2.2.2.2
  have hl : lv_has ls 5 [(0, .ref hm), (1, .int i), (2, .int b)] := hl
  refine lv_aload_n hx hb dX8_put_0 rfl (lv_at hl 0 rfl) ?_
  refine lv_aload_n hx hb dX8_put_1 rfl (lv_at hl 0 rfl) ?_
  refine zk_get C Z in_X8 0 rfl rfl 1 (by decide) q598 rfl (v := .int (nI 1)) rfl dX8_put_2 ?_
  refine nr_ne0 (tgt := 12) hx hb (by omega) dX8_put_5 (by decide) (fun c_1 => ?_) (fun c_1 => absurd c_1 (by decide))
  refine lv_iload_n hx hb dX8_put_12 rfl (lv_at hl 1 rfl) ?_
  refine lv_iconst (v := nI 0) hx hb dX8_put_13 (by decide) ?_
  refine lv_aload_n hx hb dX8_put_14 rfl (lv_at hl 0 rfl) ?_
  refine zk_callV (cells' := 0) (slots' := 0) (rest := [.int (nI 0), .int i, .ref hm]) (n := 0) (wr := []) C Z (m8_mb l D g hm ms ch kp md rs pr km p dg n t dep gn ck (by omega)) [0] [] rfl rfl (by decide) (by decide) (by decide) 0 7 rfl rfl rfl q696 q698 qs11 q26 q699 (by decide +kernel) rfl (Nat.le_of_ble_eq_true rfl) (Nat.le_of_ble_eq_true rfl) (Nat.le_of_ble_eq_true rfl) (Nat.le_of_ble_eq_true rfl) rfl rfl hl.1 rfl (Nat.le_of_ble_eq_true rfl) dX8_put_15 (fun v w1 H locs hq Z => ?_)
  obtain ⟨rfl, rfl⟩ := hq
  have Z : zk_Z D A s H locs [(hm, .inr (7, [.int (nI km), .int (nI 1), .int (nI p), .int (nI dg), .int (nI n), .int (nI t), .int (nI dep), .int (nI gn), .int (nI ck), .ref ms, .ref ch, .ref kp, .ref md, .ref rs, .ref pr]))] := Z.sub [0] (by decide) rfl
  refine W.eq (g2 := F0 mm 18 ls [.int (nI (dep * (n - ck))), .int (nI 0), .int i, .ref hm]) rfl ?_
  refine lv_iconst (v := nI 1) hx hb dX8_put_18 (by decide) ?_
  refine nr_isub hx hb d1 dX8_put_19 ?_
  refine zk_callS (cells' := 0) (slots' := 0) (rest := [.ref hm]) (n := 3) (wr := [(hm, .inr (7, [.int (nI km), .int (nI 1), .int (nI p), .int (nI dg), .int (nI n), .int (nI t), .int (nI dep), .int (nI gn), .int (nI ck), .ref ms, .ref ch, .ref kp, .ref md, .ref rs, .ref pr]))]) C Z (m8_in1 l D g i (nI 0) (nI ((dep * (n - ck)) - 1)) hi_.1 hi_.2) [] [0] rfl rfl (by decide) (by decide) (by decide) q651 q652 q26 q653 (by decide +kernel) rfl (Nat.le_of_ble_eq_true rfl) (Nat.le_of_ble_eq_true rfl) (Nat.le_of_ble_eq_true rfl) (Nat.le_of_ble_eq_true rfl) rfl rfl hl.1 rfl (Nat.le_of_ble_eq_true rfl) dX8_put_20 (fun v w1 H locs hq Z => ?_)
  obtain ⟨rfl, rfl⟩ := hq
  have Z : zk_Z D A s H locs [(hm, .inr (7, [.int (nI km), .int (nI 1), .int (nI p), .int (nI dg), .int (nI n), .int (nI t), .int (nI dep), .int (nI gn), .int (nI ck), .ref ms, .ref ch, .ref kp, .ref md, .ref rs, .ref pr]))] := Z.sub [0] (by decide) rfl
  refine W.eq (g2 := F0 mm 23 ls [.int (nI 1), .ref hm]) rfl ?_
  refine nr_ne0 (tgt := 30) hx hb (by omega) dX8_put_23 (by decide) (fun c_2 => ?_) (fun c_2 => absurd c_2 (by decide))
  refine lv_iload_n hx hb dX8_put_30 rfl (lv_at hl 2 rfl) ?_
  refine lv_iconst (v := nI 0) hx hb dX8_put_31 (by decide) ?_
  refine lv_iconst (v := nI 1) hx hb dX8_put_32 (by decide) ?_
  refine zk_callS (cells' := 0) (slots' := 0) (rest := [.ref hm]) (n := 3) (wr := [(hm, .inr (7, [.int (nI km), .int (nI 1), .int (nI p), .int (nI dg), .int (nI n), .int (nI t), .int (nI dep), .int (nI gn), .int (nI ck), .ref ms, .ref ch, .ref kp, .ref md, .ref rs, .ref pr]))]) C Z (m8_in0 l D g b (nI 0) (nI 1) h0_) [] [0] rfl rfl (by decide) (by decide) (by decide) q651 q652 q26 q653 (by decide +kernel) rfl (Nat.le_of_ble_eq_true rfl) (Nat.le_of_ble_eq_true rfl) (Nat.le_of_ble_eq_true rfl) (Nat.le_of_ble_eq_true rfl) rfl rfl hl.1 rfl (Nat.le_of_ble_eq_true rfl) dX8_put_33 (fun v w1 H locs hq Z => ?_)
  obtain ⟨rfl, rfl⟩ := hq
  have Z : zk_Z D A s H locs [(hm, .inr (7, [.int (nI km), .int (nI 1), .int (nI p), .int (nI dg), .int (nI n), .int (nI t), .int (nI dep), .int (nI gn), .int (nI ck), .ref ms, .ref ch, .ref kp, .ref md, .ref rs, .ref pr]))] := Z.sub [0] (by decide) rfl
  refine W.eq (g2 := F0 mm 36 ls [.int (nI 0), .ref hm]) rfl ?_
  refine nr_eq0 (tgt := 43) hx hb (by omega) dX8_put_36 (by decide) (fun c_3 => ?_) (fun c_3 => absurd c_3 (fun q => q rfl))
  refine lv_iconst (v := nI 3) hx hb dX8_put_43 (by decide) ?_
  refine zk_put C Z in_X8 tyX8 tyX8_ok nmX8 0 rfl rfl 0 (by decide) q597 rfl rfl (v := .int (nI 3)) rfl rfl (Nat.le_of_ble_eq_true rfl) dX8_put_44 (fun H locs Z => ?_)
  have Z : zk_Z D A s H locs [(hm, .inr (7, [.int (nI 3), .int (nI 1), .int (nI p), .int (nI dg), .int (nI n), .int (nI t), .int (nI dep), .int (nI gn), .int (nI ck), .ref ms, .ref ch, .ref kp, .ref md, .ref rs, .ref pr]))] := Z
  refine lv_aload_n hx hb dX8_put_47 rfl (lv_at hl 0 rfl) ?_
  refine zk_get C Z in_X8 0 rfl rfl 0 (by decide) q597 rfl (v := .int (nI 3)) rfl dX8_put_48 ?_
  refine nr_ne0 (tgt := 115) hx hb (by decide) dX8_put_51 (by decide) (fun c_4 => ?_) (fun c_4 => absurd c_4 (by decide))
  exact zk_vret C hr hlocks Z ⟨rfl, rfl⟩ (Nat.le_of_ble_eq_true rfl) (Nat.le_of_ble_eq_true rfl) dX8_put_115

set_option maxHeartbeats 4000000 in
/-- model: get -/
theorem m8_get (l : Launch) (D : va_G) (g : G4) (hm ms ch kp md rs pr : Nat) (km p dg n t dep gn ck : Nat) (Ms : List Nat) (hMs : Ms.length = 4) (d4 : dep ≤ 4) (n31 : n ≤ 31) (ckn : ck < n) (m31 : ∀ j, Ms.getD j 0 < 2 ^ 31) (i : Nat) (hi : i < dep * (n - ck)) : zk_M l yX8_get (ws_ yX8_get cX8_get 2 (some .int)) (zk_R 1 0 0) D g [.ref hm, .int (nI i)] [(hm, .inr (7, [.int (nI km), .int (nI 1), .int (nI p), .int (nI dg), .int (nI n), .int (nI t), .int (nI dep), .int (nI gn), .int (nI ck), .ref ms, .ref ch, .ref kp, .ref md, .ref rs, .ref pr])), (ms, .inl (g.1, 4, .inl (zk_ia Ms)))] (zk_D (some (.int (nI (Ms.getD (i / (n - ck)) 0 >>> (i % (n - ck)) &&& 1)))) [(hm, .inr (7, [.int (nI 0), .int (nI 1), .int (nI p), .int (nI dg), .int (nI n), .int (nI t), .int (nI dep), .int (nI gn), .int (nI ck), .ref ms, .ref ch, .ref kp, .ref md, .ref rs, .ref pr])), (ms, .inl (g.1, 4, .inl (zk_ia Ms)))]) := by
  refine zk_ofW (by decide) (Nat.le_of_ble_eq_true rfl) ?_
  intro pg ev s mm below meth cd A C hr hlocks hname Z ls hl
  have hx := C.1.1
  have hb := C.1.2.1
  have hml := C.1.2.2.1
  have hown := C.1.2.2.2.1
  have hts := C.1.2.2.2.2
  have hl : lv_has ls 2 [(0, .ref hm), (1, .int (nI i))] := hl
  have hdk := Nat.mul_le_mul d4 (show n - ck ≤ 31 by omega)
  refine lv_aload_n hx hb dX8_get_0 rfl (lv_at hl 0 rfl) ?_
  refine lv_aload_n hx hb dX8_get_1 rfl (lv_at hl 0 rfl) ?_
  refine zk_get C Z in_X8 0 rfl rfl 1 (by decide) q598 rfl (v := .int (nI 1)) rfl dX8_get_2 ?_
  refine nr_ne0 (tgt := 12) hx hb (by omega) dX8_get_5 (by decide) (fun c_1 => ?_) (fun c_1 => absurd c_1 (by decide))
  refine lv_iload_n hx hb dX8_get_12 rfl (lv_at hl 1 rfl) ?_
  refine lv_iconst (v := nI 0) hx hb dX8_get_13 (by decide) ?_
  refine lv_aload_n hx hb dX8_get_14 rfl (lv_at hl 0 rfl) ?_
  refine zk_callV (cells' := 0) (slots' := 0) (rest := [.int (nI 0), .int (nI i), .ref hm]) (n := 0) (wr := [(ms, .inl (g.1, 4, .inl (zk_ia Ms)))]) C Z (m8_mb l D g hm ms ch kp md rs pr km p dg n t dep gn ck (by omega)) [0] [1] rfl rfl (by decide) (by decide) (by decide) 0 7 rfl rfl rfl q696 q698 qs11 q26 q699 (by decide +kernel) rfl (Nat.le_of_ble_eq_true rfl) (Nat.le_of_ble_eq_true rfl) (Nat.le_of_ble_eq_true rfl) (Nat.le_of_ble_eq_true rfl) rfl rfl hl.1 rfl (Nat.le_of_ble_eq_true rfl) dX8_get_15 (fun v w1 H locs hq Z => ?_)
  obtain ⟨rfl, rfl⟩ := hq
  have Z : zk_Z D A s H locs [(hm, .inr (7, [.int (nI km), .int (nI 1), .int (nI p), .int (nI dg), .int (nI n), .int (nI t), .int (nI dep), .int (nI gn), .int (nI ck), .ref ms, .ref ch, .ref kp, .ref md, .ref rs, .ref pr])), (ms, .inl (g.1, 4, .inl (zk_ia Ms)))] := Z.sub [1, 0] (by decide) rfl
  refine W.eq (g2 := F0 mm 18 ls [.int (nI (dep * (n - ck))), .int (nI 0), .int (nI i), .ref hm]) rfl ?_
  refine lv_iconst (v := nI 1) hx hb dX8_get_18 (by decide) ?_
  refine nr_isub hx hb (by omega) dX8_get_19 ?_
  refine zk_callS (cells' := 0) (slots' := 0) (rest := [.ref hm]) (n := 3) (wr := [(hm, .inr (7, [.int (nI km), .int (nI 1), .int (nI p), .int (nI dg), .int (nI n), .int (nI t), .int (nI dep), .int (nI gn), .int (nI ck), .ref ms, .ref ch, .ref kp, .ref md, .ref rs, .ref pr])), (ms, .inl (g.1, 4, .inl (zk_ia Ms)))]) C Z (m8_in1 l D g (nI i) (nI 0) (nI ((dep * (n - ck)) - 1)) (zk_le (Nat.zero_le i) (by omega)) (zk_le (by omega) (by omega))) [] [0, 1] rfl rfl (by decide) (by decide) (by decide) q651 q652 q26 q653 (by decide +kernel) rfl (Nat.le_of_ble_eq_true rfl) (Nat.le_of_ble_eq_true rfl) (Nat.le_of_ble_eq_true rfl) (Nat.le_of_ble_eq_true rfl) rfl rfl hl.1 rfl (Nat.le_of_ble_eq_true rfl) dX8_get_20 (fun v w1 H locs hq Z => ?_)
  obtain ⟨rfl, rfl⟩ := hq
  have Z : zk_Z D A s H locs [(hm, .inr (7, [.int (nI km), .int (nI 1), .int (nI p), .int (nI dg), .int (nI n), .int (nI t), .int (nI dep), .int (nI gn), .int (nI ck), .ref ms, .ref ch, .ref kp, .ref md, .ref rs, .ref pr])), (ms, .inl (g.1, 4, .inl (zk_ia Ms)))] := Z.sub [0, 1] (by decide) rfl
  refine W.eq (g2 := F0 mm 23 ls [.int (nI 1), .ref hm]) rfl ?_
  refine nr_eq0 (tgt := 30) hx hb (by omega) dX8_get_23 (by decide) (fun c_2 => absurd c_2 (by decide)) (fun c_2 => ?_)
  refine lv_iconst (v := nI 0) hx hb dX8_get_26 (by decide) ?_
  refine lv_goto (tgt := 31) hx hb dX8_get_27 (by decide) ?_
  refine zk_put C Z in_X8 tyX8 tyX8_ok nmX8 0 rfl rfl 0 (by decide) q597 rfl rfl (v := .int (nI 0)) rfl rfl (Nat.le_of_ble_eq_true rfl) dX8_get_31 (fun H locs Z => ?_)
  have Z : zk_Z D A s H locs [(hm, .inr (7, [.int (nI 0), .int (nI 1), .int (nI p), .int (nI dg), .int (nI n), .int (nI t), .int (nI dep), .int (nI gn), .int (nI ck), .ref ms, .ref ch, .ref kp, .ref md, .ref rs, .ref pr])), (ms, .inl (g.1, 4, .inl (zk_ia Ms)))] := Z
  refine lv_aload_n hx hb dX8_get_34 rfl (lv_at hl 0 rfl) ?_
  refine zk_get C Z in_X8 0 rfl rfl 0 (by decide) q597 rfl (v := .int (nI 0)) rfl dX8_get_35 ?_
  refine nr_le0 (tgt := 45) hx hb (by decide) dX8_get_38 (by decide) (fun c_3 => ?_) (fun c_3 => absurd c_3 (by decide))
  refine lv_aload_n hx hb dX8_get_45 rfl (lv_at hl 0 rfl) ?_
  refine zk_get C Z in_X8 0 rfl rfl 9 (by decide) q606 rfl (v := .ref ms) rfl dX8_get_46 ?_
  refine lv_iload_n hx hb dX8_get_49 rfl (lv_at hl 1 rfl) ?_
  refine lv_aload_n hx hb dX8_get_50 rfl (lv_at hl 0 rfl) ?_
  refine zk_get C Z in_X8 0 rfl rfl 4 (by decide) q601 rfl (v := .int (nI n)) rfl dX8_get_51 ?_
  refine lv_aload_n hx hb dX8_get_54 rfl (lv_at hl 0 rfl) ?_
  refine zk_get C Z in_X8 0 rfl rfl 8 (by decide) q605 rfl (v := .int (nI ck)) rfl dX8_get_55 ?_
  refine nr_isub hx hb (by omega) dX8_get_58 ?_
  refine nr_idiv hx hb (by omega) (by omega) (by omega) dX8_get_59 ?_
  refine zk_iald C Z 1 rfl (by decide) (by have h9 := Nat.div_lt_of_lt_mul (show i < (n - ck) * dep by rw [Nat.mul_comm]; exact hi); omega) dX8_get_60 ?_
  refine lv_iload_n hx hb dX8_get_61 rfl (lv_at hl 1 rfl) ?_
  refine lv_aload_n hx hb dX8_get_62 rfl (lv_at hl 0 rfl) ?_
  refine zk_get C Z in_X8 0 rfl rfl 4 (by decide) q601 rfl (v := .int (nI n)) rfl dX8_get_63 ?_
  refine lv_aload_n hx hb dX8_get_66 rfl (lv_at hl 0 rfl) ?_
  refine zk_get C Z in_X8 0 rfl rfl 8 (by decide) q605 rfl (v := .int (nI ck)) rfl dX8_get_67 ?_
  refine nr_isub hx hb (by omega) dX8_get_70 ?_
  refine nr_irem hx hb (by omega) (by omega) (by omega) dX8_get_71 ?_
  refine nr_ishr hx hb (m31 _) (by have := Nat.mod_lt i (show 0 < n - ck by omega); omega) dX8_get_72 ?_
  refine lv_iconst (v := nI 1) hx hb dX8_get_73 (by decide) ?_
  refine nr_iand hx hb dX8_get_74 ?_
  exact zk_iret C hr hlocks Z ⟨rfl, rfl⟩ (Nat.le_of_ble_eq_true rfl) (Nat.le_of_ble_eq_true rfl) dX8_get_75

set_option maxHeartbeats 4000000 in
/-- model: get, not begun -/
theorem v8_get (l : Launch) (D : va_G) (g : G4) (hm ms ch kp md rs pr : Nat) (km : Nat) (i : Int32) : zk_M l yX8_get (ws_ yX8_get cX8_get 2 (some .int)) (zk_R 0 0 0) D g [.ref hm, .int i] [(hm, .inr (7, [.int (nI km), .int (nI 0), .int (nI 0), .int (nI 0), .int (nI 0), .int (nI 0), .int (nI 0), .int (nI 0), .int (nI 0), .ref ms, .ref ch, .ref kp, .ref md, .ref rs, .ref pr]))] (zk_D (some (.int (nI 0))) [(hm, .inr (7, [.int (nI 1), .int (nI 0), .int (nI 0), .int (nI 0), .int (nI 0), .int (nI 0), .int (nI 0), .int (nI 0), .int (nI 0), .ref ms, .ref ch, .ref kp, .ref md, .ref rs, .ref pr]))]) := by
  refine zk_ofW (by decide) (Nat.le_of_ble_eq_true rfl) ?_
  intro pg ev s mm below meth cd A C hr hlocks hname Z ls hl
  have hx := C.1.1
  have hb := C.1.2.1
  have hml := C.1.2.2.1
  have hown := C.1.2.2.2.1
  have hts := C.1.2.2.2.2
  have hl : lv_has ls 2 [(0, .ref hm), (1, .int i)] := hl
  refine lv_aload_n hx hb dX8_get_0 rfl (lv_at hl 0 rfl) ?_
  refine lv_aload_n hx hb dX8_get_1 rfl (lv_at hl 0 rfl) ?_
  refine zk_get C Z in_X8 0 rfl rfl 1 (by decide) q598 rfl (v := .int (nI 0)) rfl dX8_get_2 ?_
  refine nr_ne0 (tgt := 12) hx hb (by omega) dX8_get_5 (by decide) (fun c_1 => absurd c_1 (fun q => q rfl)) (fun c_1 => ?_)
  refine lv_iconst (v := nI 1) hx hb dX8_get_8 (by decide) ?_
  refine lv_goto (tgt := 31) hx hb dX8_get_9 (by decide) ?_
  refine zk_put C Z in_X8 tyX8 tyX8_ok nmX8 0 rfl rfl 0 (by decide) q597 rfl rfl (v := .int (nI 1)) rfl rfl (Nat.le_of_ble_eq_true rfl) dX8_get_31 (fun H locs Z => ?_)
  have Z : zk_Z D A s H locs [(hm, .inr (7, [.int (nI 1), .int (nI 0), .int (nI 0), .int (nI 0), .int (nI 0), .int (nI 0), .int (nI 0), .int (nI 0), .int (nI 0), .ref ms, .ref ch, .ref kp, .ref md, .ref rs, .ref pr]))] := Z
  refine lv_aload_n hx hb dX8_get_34 rfl (lv_at hl 0 rfl) ?_
  refine zk_get C Z in_X8 0 rfl rfl 0 (by decide) q597 rfl (v := .int (nI 1)) rfl dX8_get_35 ?_
  refine nr_le0 (tgt := 45) hx hb (by decide) dX8_get_38 (by decide) (fun c_2 => absurd c_2 (by decide)) (fun c_2 => ?_)
  refine lv_iconst (v := nI 0) hx hb dX8_get_41 (by decide) ?_
  refine lv_goto (tgt := 75) hx hb dX8_get_42 (by decide) ?_
  exact zk_iret C hr hlocks Z ⟨rfl, rfl⟩ (Nat.le_of_ble_eq_true rfl) (Nat.le_of_ble_eq_true rfl) dX8_get_75

set_option maxHeartbeats 4000000 in
/-- model: get, none such -/
theorem w8_get (l : Launch) (D : va_G) (g : G4) (hm ms ch kp md rs pr : Nat) (km p dg n t dep gn ck : Nat) (i : Int32) (ckn : ck < n) (d1 : 1 ≤ dep * (n - ck)) (h0_ : ¬ (nI 0 ≤ i ∧ i ≤ nI (dep * (n - ck) - 1))) : zk_M l yX8_get (ws_ yX8_get cX8_get 2 (some .int)) (zk_R 1 0 0) D g [.ref hm, .int i] [(hm, .inr (7, [.int (nI km), .int (nI 1), .int (nI p), .int (nI dg), .int (nI n), .int (nI t), .int (nI dep), .int (nI gn), .int (nI ck), .ref ms, .ref ch, .ref kp, .ref md, .ref rs, .ref pr]))] (zk_D (some (.int (nI 0))) [(hm, .inr (7, [.int (nI 2), .int (nI 1), .int (nI p), .int (nI dg), .int (nI n), .int (nI t), .int (nI dep), .int (nI gn), .int (nI ck), .ref ms, .ref ch, .ref kp, .ref md, .ref rs, .ref pr]))]) := by
  refine zk_ofW (by decide) (Nat.le_of_ble_eq_true rfl) ?_
  intro pg ev s mm below meth cd A C hr hlocks hname Z ls hl
  have hx := C.1.1
  have hb := C.1.2.1
  have hml := C.1.2.2.1
  have hown := C.1.2.2.2.1
  have hts := C.1.2.2.2.2
  have hl : lv_has ls 2 [(0, .ref hm), (1, .int i)] := hl
  refine lv_aload_n hx hb dX8_get_0 rfl (lv_at hl 0 rfl) ?_
  refine lv_aload_n hx hb dX8_get_1 rfl (lv_at hl 0 rfl) ?_
  refine zk_get C Z in_X8 0 rfl rfl 1 (by decide) q598 rfl (v := .int (nI 1)) rfl dX8_get_2 ?_
  refine nr_ne0 (tgt := 12) hx hb (by omega) dX8_get_5 (by decide) (fun c_1 => ?_) (fun c_1 => absurd c_1 (by decide))
  refine lv_iload_n hx hb dX8_get_12 rfl (lv_at hl 1 rfl) ?_
  refine lv_iconst (v := nI 0) hx hb dX8_get_13 (by decide) ?_
  refine lv_aload_n hx hb dX8_get_14 rfl (lv_at hl 0 rfl) ?_
  refine zk_callV (cells' := 0) (slots' := 0) (rest := [.int (nI 0), .int i, .ref hm]) (n := 0) (wr := []) C Z (m8_mb l D g hm ms ch kp md rs pr km p dg n t dep gn ck (by omega)) [0] [] rfl rfl (by decide) (by decide) (by decide) 0 7 rfl rfl rfl q696 q698 qs11 q26 q699 (by decide +kernel) rfl (Nat.le_of_ble_eq_true rfl) (Nat.le_of_ble_eq_true rfl) (Nat.le_of_ble_eq_true rfl) (Nat.le_of_ble_eq_true rfl) rfl rfl hl.1 rfl (Nat.le_of_ble_eq_true rfl) dX8_get_15 (fun v w1 H locs hq Z => ?_)
  obtain ⟨rfl, rfl⟩ := hq
  have Z : zk_Z D A s H locs [(hm, .inr (7, [.int (nI km), .int (nI 1), .int (nI p), .int (nI dg), .int (nI n), .int (nI t), .int (nI dep), .int (nI gn), .int (nI ck), .ref ms, .ref ch, .ref kp, .ref md, .ref rs, .ref pr]))] := Z.sub [0] (by decide) rfl
  refine W.eq (g2 := F0 mm 18 ls [.int (nI (dep * (n - ck))), .int (nI 0), .int i, .ref hm]) rfl ?_
  refine lv_iconst (v := nI 1) hx hb dX8_get_18 (by decide) ?_
  refine nr_isub hx hb d1 dX8_get_19 ?_
  refine zk_callS (cells' := 0) (slots' := 0) (rest := [.ref hm]) (n := 3) (wr := [(hm, .inr (7, [.int (nI km), .int (nI 1), .int (nI p), .int (nI dg), .int (nI n), .int (nI t), .int (nI dep), .int (nI gn), .int (nI ck), .ref ms, .ref ch, .ref kp, .ref md, .ref rs, .ref pr]))]) C Z (m8_in0 l D g i (nI 0) (nI ((dep * (n - ck)) - 1)) h0_) [] [0] rfl rfl (by decide) (by decide) (by decide) q651 q652 q26 q653 (by decide +kernel) rfl (Nat.le_of_ble_eq_true rfl) (Nat.le_of_ble_eq_true rfl) (Nat.le_of_ble_eq_true rfl) (Nat.le_of_ble_eq_true rfl) rfl rfl hl.1 rfl (Nat.le_of_ble_eq_true rfl) dX8_get_20 (fun v w1 H locs hq Z => ?_)
  obtain ⟨rfl, rfl⟩ := hq
  have Z : zk_Z D A s H locs [(hm, .inr (7, [.int (nI km), .int (nI 1), .int (nI p), .int (nI dg), .int (nI n), .int (nI t), .int (nI dep), .int (nI gn), .int (nI ck), .ref ms, .ref ch, .ref kp, .ref md, .ref rs, .ref pr]))] := Z.sub [0] (by decide) rfl
  refine W.eq (g2 := F0 mm 23 ls [.int (nI 0), .ref hm]) rfl ?_
  refine nr_eq0 (tgt := 30) hx hb (by omega) dX8_get_23 (by decide) (fun c_2 => ?_) (fun c_2 => absurd c_2 (fun q => q rfl))
  refine lv_iconst (v := nI 2) hx hb dX8_get_30 (by decide) ?_
  refine zk_put C Z in_X8 tyX8 tyX8_ok nmX8 0 rfl rfl 0 (by decide) q597 rfl rfl (v := .int (nI 2)) rfl rfl (Nat.le_of_ble_eq_true rfl) dX8_get_31 (fun H locs Z => ?_)
  have Z : zk_Z D A s H locs [(hm, .inr (7, [.int (nI 2), .int (nI 1), .int (nI p), .int (nI dg), .int (nI n), .int (nI t), .int (nI dep), .int (nI gn), .int (nI ck), .ref ms, .ref ch, .ref kp, .ref md, .ref rs, .ref pr]))] := Z
  refine lv_aload_n hx hb dX8_get_34 rfl (lv_at hl 0 rfl) ?_
  refine zk_get C Z in_X8 0 rfl rfl 0 (by decide) q597 rfl (v := .int (nI 2)) rfl dX8_get_35 ?_
  refine nr_le0 (tgt := 45) hx hb (by decide) dX8_get_38 (by decide) (fun c_3 => absurd c_3 (by decide)) (fun c_3 => ?_)
  refine lv_iconst (v := nI 0) hx hb dX8_get_41 (by decide) ?_
  refine lv_goto (tgt := 75) hx hb dX8_get_42 (by decide) ?_
  exact zk_iret C hr hlocks Z ⟨rfl, rfl⟩ (Nat.le_of_ble_eq_true rfl) (Nat.le_of_ble_eq_true rfl) dX8_get_75

set_option maxHeartbeats 4000000 in
/-- model: bit -/
theorem m8_bit (l : Launch) (D : va_G) (g : G4) (hm ms ch kp md rs pr : Nat) (km p dg n t dep gn ck : Nat) (Cs : List Nat) (hCs : Cs.length = 4) (d4 : dep ≤ 4) (d1 : 1 ≤ dep) (n31 : n ≤ 31) (c31 : ∀ j, Cs.getD j 0 < 2 ^ 31) (i : Nat) (hi : i < dep * n) : zk_M l yX8_bit (ws_ yX8_bit cX8_bit 2 (some .int)) (zk_R 1 0 0) D g [.ref hm, .int (nI i)] [(hm, .inr (7, [.int (nI km), .int (nI 1), .int (nI p), .int (nI dg), .int (nI n), .int (nI t), .int (nI dep), .int (nI gn), .int (nI ck), .ref ms, .ref ch, .ref kp, .ref md, .ref rs, .ref pr])), (ch, .inl (g.1, 4, .inl (zk_ia Cs)))] (zk_D (some (.int (nI (Cs.getD (i % dep) 0 >>> (i / dep) &&& 1)))) [(hm, .inr (7, [.int (nI 0), .int (nI 1), .int (nI p), .int (nI dg), .int (nI n), .int (nI t), .int (nI dep), .int (nI gn), .int (nI ck), .ref ms, .ref ch, .ref kp, .ref md, .ref rs, .ref pr])), (ch, .inl (g.1, 4, .inl (zk_ia Cs)))]) := by
  refine zk_ofW (by decide) (Nat.le_of_ble_eq_true rfl) ?_
  intro pg ev s mm below meth cd A C hr hlocks hname Z ls hl
  have hx := C.1.1
  have hb := C.1.2.1
  have hml := C.1.2.2.1
  have hown := C.1.2.2.2.1
  have hts := C.1.2.2.2.2
  have hl : lv_has ls 2 [(0, .ref hm), (1, .int (nI i))] := hl
  have hdk := Nat.mul_le_mul d4 n31
  refine lv_aload_n hx hb dX8_bit_0 rfl (lv_at hl 0 rfl) ?_
  refine lv_aload_n hx hb dX8_bit_1 rfl (lv_at hl 0 rfl) ?_
  refine zk_get C Z in_X8 0 rfl rfl 1 (by decide) q598 rfl (v := .int (nI 1)) rfl dX8_bit_2 ?_
  refine nr_ne0 (tgt := 12) hx hb (by omega) dX8_bit_5 (by decide) (fun c_1 => ?_) (fun c_1 => absurd c_1 (by decide))
  refine lv_iload_n hx hb dX8_bit_12 rfl (lv_at hl 1 rfl) ?_
  refine lv_iconst (v := nI 0) hx hb dX8_bit_13 (by decide) ?_
  refine lv_aload_n hx hb dX8_bit_14 rfl (lv_at hl 0 rfl) ?_
  refine zk_callV (cells' := 0) (slots' := 0) (rest := [.int (nI 0), .int (nI i), .ref hm]) (n := 0) (wr := [(ch, .inl (g.1, 4, .inl (zk_ia Cs)))]) C Z (m8_cb l D g hm ms ch kp md rs pr km p dg n t dep gn ck) [0] [1] rfl rfl (by decide) (by decide) (by decide) 0 7 rfl rfl rfl q719 q721 qs13 q26 q722 (by decide +kernel) rfl (Nat.le_of_ble_eq_true rfl) (Nat.le_of_ble_eq_true rfl) (Nat.le_of_ble_eq_true rfl) (Nat.le_of_ble_eq_true rfl) rfl rfl hl.1 rfl (Nat.le_of_ble_eq_true rfl) dX8_bit_15 (fun v w1 H locs hq Z => ?_)
  obtain ⟨rfl, rfl⟩ := hq
  have Z : zk_Z D A s H locs [(hm, .inr (7, [.int (nI km), .int (nI 1), .int (nI p), .int (nI dg), .int (nI n), .int (nI t), .int (nI dep), .int (nI gn), .int (nI ck), .ref ms, .ref ch, .ref kp, .ref md, .ref rs, .ref pr])), (ch, .inl (g.1, 4, .inl (zk_ia Cs)))] := Z.sub [1, 0] (by decide) rfl
  refine W.eq (g2 := F0 mm 18 ls [.int (nI (dep * n)), .int (nI 0), .int (nI i), .ref hm]) rfl ?_
  refine lv_iconst (v := nI 1) hx hb dX8_bit_18 (by decide) ?_
  refine nr_isub hx hb (by omega) dX8_bit_19 ?_
  refine zk_callS (cells' := 0) (slots' := 0) (rest := [.ref hm]) (n := 3) (wr := [(hm, .inr (7, [.int (nI km), .int (nI 1), .int (nI p), .int (nI dg), .int (nI n), .int (nI t), .int (nI dep), .int (nI gn), .int (nI ck), .ref ms, .ref ch, .ref kp, .ref md, .ref rs, .ref pr])), (ch, .inl (g.1, 4, .inl (zk_ia Cs)))]) C Z (m8_in1 l D g (nI i) (nI 0) (nI ((dep * n) - 1)) (zk_le (Nat.zero_le i) (by omega)) (zk_le (by omega) (by omega))) [] [0, 1] rfl rfl (by decide) (by decide) (by decide) q651 q652 q26 q653 (by decide +kernel) rfl (Nat.le_of_ble_eq_true rfl) (Nat.le_of_ble_eq_true rfl) (Nat.le_of_ble_eq_true rfl) (Nat.le_of_ble_eq_true rfl) rfl rfl hl.1 rfl (Nat.le_of_ble_eq_true rfl) dX8_bit_20 (fun v w1 H locs hq Z => ?_)
  obtain ⟨rfl, rfl⟩ := hq
  have Z : zk_Z D A s H locs [(hm, .inr (7, [.int (nI km), .int (nI 1), .int (nI p), .int (nI dg), .int (nI n), .int (nI t), .int (nI dep), .int (nI gn), .int (nI ck), .ref ms, .ref ch, .ref kp, .ref md, .ref rs, .ref pr])), (ch, .inl (g.1, 4, .inl (zk_ia Cs)))] := Z.sub [0, 1] (by decide) rfl
  refine W.eq (g2 := F0 mm 23 ls [.int (nI 1), .ref hm]) rfl ?_
  refine nr_eq0 (tgt := 30) hx hb (by omega) dX8_bit_23 (by decide) (fun c_2 => absurd c_2 (by decide)) (fun c_2 => ?_)
  refine lv_iconst (v := nI 0) hx hb dX8_bit_26 (by decide) ?_
  refine lv_goto (tgt := 31) hx hb dX8_bit_27 (by decide) ?_
  refine zk_put C Z in_X8 tyX8 tyX8_ok nmX8 0 rfl rfl 0 (by decide) q597 rfl rfl (v := .int (nI 0)) rfl rfl (Nat.le_of_ble_eq_true rfl) dX8_bit_31 (fun H locs Z => ?_)
  have Z : zk_Z D A s H locs [(hm, .inr (7, [.int (nI 0), .int (nI 1), .int (nI p), .int (nI dg), .int (nI n), .int (nI t), .int (nI dep), .int (nI gn), .int (nI ck), .ref ms, .ref ch, .ref kp, .ref md, .ref rs, .ref pr])), (ch, .inl (g.1, 4, .inl (zk_ia Cs)))] := Z
  refine lv_aload_n hx hb dX8_bit_34 rfl (lv_at hl 0 rfl) ?_
  refine zk_get C Z in_X8 0 rfl rfl 0 (by decide) q597 rfl (v := .int (nI 0)) rfl dX8_bit_35 ?_
  refine nr_le0 (tgt := 45) hx hb (by decide) dX8_bit_38 (by decide) (fun c_3 => ?_) (fun c_3 => absurd c_3 (by decide))
  refine lv_aload_n hx hb dX8_bit_45 rfl (lv_at hl 0 rfl) ?_
  refine zk_get C Z in_X8 0 rfl rfl 10 (by decide) q607 rfl (v := .ref ch) rfl dX8_bit_46 ?_
  refine lv_iload_n hx hb dX8_bit_49 rfl (lv_at hl 1 rfl) ?_
  refine lv_aload_n hx hb dX8_bit_50 rfl (lv_at hl 0 rfl) ?_
  refine zk_get C Z in_X8 0 rfl rfl 6 (by decide) q603 rfl (v := .int (nI dep)) rfl dX8_bit_51 ?_
  refine nr_irem hx hb (by omega) (by omega) (by omega) dX8_bit_54 ?_
  refine zk_iald C Z 1 rfl (by decide) (by have := Nat.mod_lt i d1; omega) dX8_bit_55 ?_
  refine lv_iload_n hx hb dX8_bit_56 rfl (lv_at hl 1 rfl) ?_
  refine lv_aload_n hx hb dX8_bit_57 rfl (lv_at hl 0 rfl) ?_
  refine zk_get C Z in_X8 0 rfl rfl 6 (by decide) q603 rfl (v := .int (nI dep)) rfl dX8_bit_58 ?_
  refine nr_idiv hx hb (by omega) (by omega) (by omega) dX8_bit_61 ?_
  refine nr_ishr hx hb (c31 _) (by have h9 := Nat.div_lt_of_lt_mul (show i < dep * n from hi); omega) dX8_bit_62 ?_
  refine lv_iconst (v := nI 1) hx hb dX8_bit_63 (by decide) ?_
  refine nr_iand hx hb dX8_bit_64 ?_
  exact zk_iret C hr hlocks Z ⟨rfl, rfl⟩ (Nat.le_of_ble_eq_true rfl) (Nat.le_of_ble_eq_true rfl) dX8_bit_65

set_option maxHeartbeats 4000000 in
/-- model: bit, not begun -/
theorem v8_bit (l : Launch) (D : va_G) (g : G4) (hm ms ch kp md rs pr : Nat) (km : Nat) (i : Int32) : zk_M l yX8_bit (ws_ yX8_bit cX8_bit 2 (some .int)) (zk_R 0 0 0) D g [.ref hm, .int i] [(hm, .inr (7, [.int (nI km), .int (nI 0), .int (nI 0), .int (nI 0), .int (nI 0), .int (nI 0), .int (nI 0), .int (nI 0), .int (nI 0), .ref ms, .ref ch, .ref kp, .ref md, .ref rs, .ref pr]))] (zk_D (some (.int (nI 0))) [(hm, .inr (7, [.int (nI 1), .int (nI 0), .int (nI 0), .int (nI 0), .int (nI 0), .int (nI 0), .int (nI 0), .int (nI 0), .int (nI 0), .ref ms, .ref ch, .ref kp, .ref md, .ref rs, .ref pr]))]) := by
  refine zk_ofW (by decide) (Nat.le_of_ble_eq_true rfl) ?_
  intro pg ev s mm below meth cd A C hr hlocks hname Z ls hl
  have hx := C.1.1
  have hb := C.1.2.1
  have hml := C.1.2.2.1
  have hown := C.1.2.2.2.1
  have hts := C.1.2.2.2.2
  have hl : lv_has ls 2 [(0, .ref hm), (1, .int i)] := hl
  refine lv_aload_n hx hb dX8_bit_0 rfl (lv_at hl 0 rfl) ?_
  refine lv_aload_n hx hb dX8_bit_1 rfl (lv_at hl 0 rfl) ?_
  refine zk_get C Z in_X8 0 rfl rfl 1 (by decide) q598 rfl (v := .int (nI 0)) rfl dX8_bit_2 ?_
  refine nr_ne0 (tgt := 12) hx hb (by omega) dX8_bit_5 (by decide) (fun c_1 => absurd c_1 (fun q => q rfl)) (fun c_1 => ?_)
  refine lv_iconst (v := nI 1) hx hb dX8_bit_8 (by decide) ?_
  refine lv_goto (tgt := 31) hx hb dX8_bit_9 (by decide) ?_
  refine zk_put C Z in_X8 tyX8 tyX8_ok nmX8 0 rfl rfl 0 (by decide) q597 rfl rfl (v := .int (nI 1)) rfl rfl (Nat.le_of_ble_eq_true rfl) dX8_bit_31 (fun H locs Z => ?_)
  have Z : zk_Z D A s H locs [(hm, .inr (7, [.int (nI 1), .int (nI 0), .int (nI 0), .int (nI 0), .int (nI 0), .int (nI 0), .int (nI 0), .int (nI 0), .int (nI 0), .ref ms, .ref ch, .ref kp, .ref md, .ref rs, .ref pr]))] := Z
  refine lv_aload_n hx hb dX8_bit_34 rfl (lv_at hl 0 rfl) ?_
  refine zk_get C Z in_X8 0 rfl rfl 0 (by decide) q597 rfl (v := .int (nI 1)) rfl dX8_bit_35 ?_
  refine nr_le0 (tgt := 45) hx hb (by decide) dX8_bit_38 (by decide) (fun c_2 => absurd c_2 (by decide)) (fun c_2 => ?_)
  refine lv_iconst (v := nI 0) hx hb dX8_bit_41 (by decide) ?_
  refine lv_goto (tgt := 65) hx hb dX8_bit_42 (by decide) ?_
  exact zk_iret C hr hlocks Z ⟨rfl, rfl⟩ (Nat.le_of_ble_eq_true rfl) (Nat.le_of_ble_eq_true rfl) dX8_bit_65

set_option maxHeartbeats 4000000 in
/-- model: bit, none such -/
theorem w8_bit (l : Launch) (D : va_G) (g : G4) (hm ms ch kp md rs pr : Nat) (km p dg n t dep gn ck : Nat) (i : Int32) (d1 : 1 ≤ dep * n) (h0_ : ¬ (nI 0 ≤ i ∧ i ≤ nI (dep * n - 1))) : zk_M l yX8_bit (ws_ yX8_bit cX8_bit 2 (some .int)) (zk_R 1 0 0) D g [.ref hm, .int i] [(hm, .inr (7, [.int (nI km), .int (nI 1), .int (nI p), .int (nI dg), .int (nI n), .int (nI t), .int (nI dep), .int (nI gn), .int (nI ck), .ref ms, .ref ch, .ref kp, .ref md, .ref rs, .ref pr]))] (zk_D (some (.int (nI 0))) [(hm, .inr (7, [.int (nI 2), .int (nI 1), .int (nI p), .int (nI dg), .int (nI n), .int (nI t), .int (nI dep), .int (nI gn), .int (nI ck), .ref ms, .ref ch, .ref kp, .ref md, .ref rs, .ref pr]))]) := by
  refine zk_ofW (by decide) (Nat.le_of_ble_eq_true rfl) ?_
  intro pg ev s mm below meth cd A C hr hlocks hname Z ls hl
  have hx := C.1.1
  have hb := C.1.2.1
  have hml := C.1.2.2.1
  have hown := C.1.2.2.2.1
  have hts := C.1.2.2.2.2
  have hl : lv_has ls 2 [(0, .ref hm), (1, .int i)] := hl
  refine lv_aload_n hx hb dX8_bit_0 rfl (lv_at hl 0 rfl) ?_
  refine lv_aload_n hx hb dX8_bit_1 rfl (lv_at hl 0 rfl) ?_
  refine zk_get C Z in_X8 0 rfl rfl 1 (by decide) q598 rfl (v := .int (nI 1)) rfl dX8_bit_2 ?_
  refine nr_ne0 (tgt := 12) hx hb (by omega) dX8_bit_5 (by decide) (fun c_1 => ?_) (fun c_1 => absurd c_1 (by decide))
  refine lv_iload_n hx hb dX8_bit_12 rfl (lv_at hl 1 rfl) ?_
  refine lv_iconst (v := nI 0) hx hb dX8_bit_13 (by decide) ?_
  refine lv_aload_n hx hb dX8_bit_14 rfl (lv_at hl 0 rfl) ?_
  refine zk_callV (cells' := 0) (slots' := 0) (rest := [.int (nI 0), .int i, .ref hm]) (n := 0) (wr := []) C Z (m8_cb l D g hm ms ch kp md rs pr km p dg n t dep gn ck) [0] [] rfl rfl (by decide) (by decide) (by decide) 0 7 rfl rfl rfl q719 q721 qs13 q26 q722 (by decide +kernel) rfl (Nat.le_of_ble_eq_true rfl) (Nat.le_of_ble_eq_true rfl) (Nat.le_of_ble_eq_true rfl) (Nat.le_of_ble_eq_true rfl) rfl rfl hl.1 rfl (Nat.le_of_ble_eq_true rfl) dX8_bit_15 (fun v w1 H locs hq Z => ?_)
  obtain ⟨rfl, rfl⟩ := hq
  have Z : zk_Z D A s H locs [(hm, .inr (7, [.int (nI km), .int (nI 1), .int (nI p), .int (nI dg), .int (nI n), .int (nI t), .int (nI dep), .int (nI gn), .int (nI ck), .ref ms, .ref ch, .ref kp, .ref md, .ref rs, .ref pr]))] := Z.sub [0] (by decide) rfl
  refine W.eq (g2 := F0 mm 18 ls [.int (nI (dep * n)), .int (nI 0), .int i, .ref hm]) rfl ?_
  refine lv_iconst (v := nI 1) hx hb dX8_bit_18 (by decide) ?_
  refine nr_isub hx hb d1 dX8_bit_19 ?_
  refine zk_callS (cells' := 0) (slots' := 0) (rest := [.ref hm]) (n := 3) (wr := [(hm, .inr (7, [.int (nI km), .int (nI 1), .int (nI p), .int (nI dg), .int (nI n), .int (nI t), .int (nI dep), .int (nI gn), .int (nI ck), .ref ms, .ref ch, .ref kp, .ref md, .ref rs, .ref pr]))]) C Z (m8_in0 l D g i (nI 0) (nI ((dep * n) - 1)) h0_) [] [0] rfl rfl (by decide) (by decide) (by decide) q651 q652 q26 q653 (by decide +kernel) rfl (Nat.le_of_ble_eq_true rfl) (Nat.le_of_ble_eq_true rfl) (Nat.le_of_ble_eq_true rfl) (Nat.le_of_ble_eq_true rfl) rfl rfl hl.1 rfl (Nat.le_of_ble_eq_true rfl) dX8_bit_20 (fun v w1 H locs hq Z => ?_)
  obtain ⟨rfl, rfl⟩ := hq
  have Z : zk_Z D A s H locs [(hm, .inr (7, [.int (nI km), .int (nI 1), .int (nI p), .int (nI dg), .int (nI n), .int (nI t), .int (nI dep), .int (nI gn), .int (nI ck), .ref ms, .ref ch, .ref kp, .ref md, .ref rs, .ref pr]))] := Z.sub [0] (by decide) rfl
  refine W.eq (g2 := F0 mm 23 ls [.int (nI 0), .ref hm]) rfl ?_
  refine nr_eq0 (tgt := 30) hx hb (by omega) dX8_bit_23 (by decide) (fun c_2 => ?_) (fun c_2 => absurd c_2 (fun q => q rfl))
  refine lv_iconst (v := nI 2) hx hb dX8_bit_30 (by decide) ?_
  refine zk_put C Z in_X8 tyX8 tyX8_ok nmX8 0 rfl rfl 0 (by decide) q597 rfl rfl (v := .int (nI 2)) rfl rfl (Nat.le_of_ble_eq_true rfl) dX8_bit_31 (fun H locs Z => ?_)
  have Z : zk_Z D A s H locs [(hm, .inr (7, [.int (nI 2), .int (nI 1), .int (nI p), .int (nI dg), .int (nI n), .int (nI t), .int (nI dep), .int (nI gn), .int (nI ck), .ref ms, .ref ch, .ref kp, .ref md, .ref rs, .ref pr]))] := Z
  refine lv_aload_n hx hb dX8_bit_34 rfl (lv_at hl 0 rfl) ?_
  refine zk_get C Z in_X8 0 rfl rfl 0 (by decide) q597 rfl (v := .int (nI 2)) rfl dX8_bit_35 ?_
  refine nr_le0 (tgt := 45) hx hb (by decide) dX8_bit_38 (by decide) (fun c_3 => absurd c_3 (by decide)) (fun c_3 => ?_)
  refine lv_iconst (v := nI 0) hx hb dX8_bit_41 (by decide) ?_
  refine lv_goto (tgt := 65) hx hb dX8_bit_42 (by decide) ?_
  exact zk_iret C hr hlocks Z ⟨rfl, rfl⟩ (Nat.le_of_ble_eq_true rfl) (Nat.le_of_ble_eq_true rfl) dX8_bit_65

set_option maxHeartbeats 4000000 in
/-- model: flip -/
theorem m8_flip (l : Launch) (D : va_G) (g : G4) (hm ms ch kp md rs pr : Nat) (km p dg n t dep gn ck : Nat) (Cs : List Nat) (hCs : Cs.length = 4) (d4 : dep ≤ 4) (d1 : 1 ≤ dep) (n31 : n ≤ 31) (i : Nat) (hi : i < dep * n) : zk_M l yX8_flip (ws_ yX8_flip cX8_flip 2 none) (zk_R 0 0 0) D g [.ref hm, .int (nI i)] [(hm, .inr (7, [.int (nI km), .int (nI 1), .int (nI p), .int (nI dg), .int (nI n), .int (nI t), .int (nI dep), .int (nI gn), .int (nI ck), .ref ms, .ref ch, .ref kp, .ref md, .ref rs, .ref pr])), (ch, .inl (g.1, 4, .inl (zk_ia Cs)))] (zk_D none [(hm, .inr (7, [.int (nI km), .int (nI 1), .int (nI p), .int (nI dg), .int (nI n), .int (nI t), .int (nI dep), .int (nI gn), .int (nI ck), .ref ms, .ref ch, .ref kp, .ref md, .ref rs, .ref pr])), (ch, .inl (g.1, 4, .inl (zk_ia (flF dep i Cs))))]) := by
  refine zk_ofW (by decide) (Nat.le_of_ble_eq_true rfl) ?_
  intro pg ev s mm below meth cd A C hr hlocks hname Z ls hl
  have hx := C.1.1
  have hb := C.1.2.1
  have hml := C.1.2.2.1
  have hown := C.1.2.2.2.1
  have hts := C.1.2.2.2.2
  have hl : lv_has ls 2 [(0, .ref hm), (1, .int (nI i))] := hl
  have hdk := Nat.mul_le_mul d4 n31
  refine lv_aload_n hx hb dX8_flip_0 rfl (lv_at hl 0 rfl) ?_
  refine zk_get C Z in_X8 0 rfl rfl 10 (by decide) q607 rfl (v := .ref ch) rfl dX8_flip_1 ?_
  refine lv_iload_n hx hb dX8_flip_4 rfl (lv_at hl 1 rfl) ?_
  refine lv_aload_n hx hb dX8_flip_5 rfl (lv_at hl 0 rfl) ?_
  refine zk_get C Z in_X8 0 rfl rfl 6 (by decide) q603 rfl (v := .int (nI dep)) rfl dX8_flip_6 ?_
  refine nr_irem hx hb (by omega) (by omega) (by omega) dX8_flip_9 ?_
  refine lv_aload_n hx hb dX8_flip_10 rfl (lv_at hl 0 rfl) ?_
  refine zk_get C Z in_X8 0 rfl rfl 10 (by decide) q607 rfl (v := .ref ch) rfl dX8_flip_11 ?_
  refine lv_iload_n hx hb dX8_flip_14 rfl (lv_at hl 1 rfl) ?_
  refine lv_aload_n hx hb dX8_flip_15 rfl (lv_at hl 0 rfl) ?_
  refine zk_get C Z in_X8 0 rfl rfl 6 (by decide) q603 rfl (v := .int (nI dep)) rfl dX8_flip_16 ?_
  refine nr_irem hx hb (by omega) (by omega) (by omega) dX8_flip_19 ?_
  refine zk_iald C Z 1 rfl (by decide) (by have := Nat.mod_lt i d1; omega) dX8_flip_20 ?_
  refine lv_iconst (v := nI 1) hx hb dX8_flip_21 (by decide) ?_
  refine lv_iload_n hx hb dX8_flip_22 rfl (lv_at hl 1 rfl) ?_
  refine lv_aload_n hx hb dX8_flip_23 rfl (lv_at hl 0 rfl) ?_
  refine zk_get C Z in_X8 0 rfl rfl 6 (by decide) q603 rfl (v := .int (nI dep)) rfl dX8_flip_24 ?_
  refine nr_idiv hx hb (by omega) (by omega) (by omega) dX8_flip_27 ?_
  refine nr_ishl hx hb (by have h9 := Nat.div_lt_of_lt_mul (show i < dep * n from hi); omega) dX8_flip_28 ?_
  refine nr_ixor hx hb dX8_flip_29 ?_
  refine zk_iast C Z 1 rfl (by decide) (by have := Nat.mod_lt i d1; omega) hCs dX8_flip_30 (fun H locs Z => ?_)
  have hlen_1 : (Cs.set (i % dep) ((Cs.getD (i % dep) 0) ^^^ (1 <<< (i / dep)))).length = 4 := by rw [List.length_set]; exact hCs
  have Z : zk_Z D A s H locs [(hm, .inr (7, [.int (nI km), .int (nI 1), .int (nI p), .int (nI dg), .int (nI n), .int (nI t), .int (nI dep), .int (nI gn), .int (nI ck), .ref ms, .ref ch, .ref kp, .ref md, .ref rs, .ref pr])), (ch, .inl (g.1, 4, .inl (zk_ia (Cs.set (i % dep) ((Cs.getD (i % dep) 0) ^^^ (1 <<< (i / dep)))))))] := Z
  exact zk_vret C hr hlocks Z ⟨rfl, rfl⟩ (Nat.le_of_ble_eq_true rfl) (Nat.le_of_ble_eq_true rfl) dX8_flip_31

