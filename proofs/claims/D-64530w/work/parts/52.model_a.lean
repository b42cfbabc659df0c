/-! ===== model: product, powerOf, isPrimitive, isZero, remainder, ones, the field, message and channel ===== -/
set_option maxRecDepth 100000
def zk_wi (v a b : Int32) : Nat := if a ≤ v ∧ v ≤ b then 1 else 0
theorem zk_wi_lt (v a b : Int32) : zk_wi v a b < 2 := by unfold zk_wi; split <;> decide
theorem zk_wi_0 {v a b : Int32} (h : zk_wi v a b = 0) : ¬ (a ≤ v ∧ v ≤ b) := by
  intro q
  unfold zk_wi at h
  rw [if_pos q] at h
  cases h
theorem zk_wi_1 {v a b : Int32} (h : zk_wi v a b ≠ 0) : a ≤ v ∧ v ≤ b := by
  unfold zk_wi at h
  split at h
  · next q => exact q
  · exact absurd rfl h
theorem m8_in (l : Launch) (D : va_G) (g : G4) (v a b : Int32) : zk_M l yX8_within (ws_ yX8_within cX8_within 3 (some .boolean)) (zk_R 0 0 0) D g [.int v, .int a, .int b] [] (zk_D (some (.int (nI (zk_wi v a b)))) []) := by
  unfold zk_wi
  split
  · next h => exact m8_in1 l D g v a b h.1 h.2
  · next h => exact m8_in0 l D g v a b h
/-- the model's product -/
def mpF (b p m i : Nat) (z : Nat × Nat) : Nat × Nat := (if b >>> i &&& 1 = 1 then z.1 ^^^ z.2 else z.1, if z.2 <<< 1 >>> m &&& 1 = 1 then z.2 <<< 1 ^^^ p else z.2 <<< 1)
noncomputable def mprd (a b p m : Nat) : Nat := (zk_it (mpF b p m) m 0 (0, a)).1
def mdg (p : Nat) : Nat := if p < 16 then 3 else if p < 32 then 4 else 5
theorem mdg_5 (p : Nat) : 3 ≤ mdg p ∧ mdg p ≤ 5 := by unfold mdg; split <;> (try split) <;> decide
theorem mprd_gm : ∀ q ∈ zk_pr, ∀ a, a < q.2 + 1 → ∀ b, b < q.2 + 1 → mprd a b q.1 (mdg q.1) = gm q.1 a b := by decide +kernel
theorem mprd_pw : ∀ q ∈ zk_pr, ∀ i, i < q.2 → mprd (pw q.1 i) 2 q.1 (mdg q.1) = pw q.1 (i + 1) := by decide +kernel
theorem mprd_mk : ∀ p, p < 64 → 8 ≤ p → ∀ e, e < zk_nn p → mprd (mkX p (zk_nn p) e) 2 p (mdg p) = mkX p (zk_nn p) (e + 1) := by decide +kernel
theorem pw_0 : ∀ q ∈ zk_pr, pw q.1 0 = 1 ∧ zk_nn q.1 = q.2 ∧ 8 ≤ q.1 ∧ q.1 < 64 := by decide +kernel
theorem pw_lg : ∀ q ∈ zk_pr, ∀ x, x < q.2 + 1 → 1 ≤ x → ∀ e, e < lg q.1 x → pw q.1 e ≠ x := by decide +kernel
theorem zk_1m (p : Nat) : 1 <<< mdg p = zk_nn p + 1 := by
  unfold mdg zk_nn
  split
  · rfl
  · split <;> rfl
/-- isZero -/
def izF (n t : Nat) (i : Nat) (z : Nat × Nat) : Nat × Nat := (2 * z.1 % n, if z.2 ≠ 0 then 1 else if zk_wi (nI z.1) (nI 1) (nI (2 * t)) ≠ 0 then 1 else 0)
noncomputable def izr (n t m e : Nat) : Nat := (zk_it (izF n t) m 0 (e, 0)).2
/-- remainder, ones -/
def rmF (R : Nat → Nat) (wd i s : Nat) : Nat := if wd >>> i &&& 1 = 1 then s ^^^ R i else s
noncomputable def rmd (R : Nat → Nat) (n wd : Nat) : Nat := zk_it (rmF R wd) n 0 0
def onF (wd i s : Nat) : Nat := s + (wd >>> i &&& 1)
noncomputable def one (wd : Nat) : Nat := zk_it (onF wd) 31 0 0
theorem zk_lt31 {x : Nat} (h : x < 2) : x < 2 ^ 31 := by omega
set_option maxHeartbeats 4000000 in
theorem lp8_prd {pg : Program} {l : Launch} {ev : Env} {s : State} {mm : MethodId} {args : Array Value} {below : List Frame} {meth : Method} {cd : Code} {Q : State → Prop} {D : va_G} {g : G4} {A : Nat → Prop} (C : zk_C pg s mm cd args cX8_product 7 RX8 D g A) (a b p m : Nat) (b31 : b < 2 ^ 31) (p64 : p < 64) (m5 : m ≤ 5) (fin : Nat × Nat) (kk : ∀ (H : Heap) (locs : List Loc) (ls : Array Slot), zk_Z D A s H locs [] → lv_has ls 7 [(4, .int (nI fin.1))] → W pg l ev (zk_R 0 0 0) s mm args below meth cd H locs 0 0 Q (F0 mm 70 ls [])) :
    ∀ (k : Nat) (i sm sh : Nat) (H : Heap) (locs : List Loc) (ls : Array Slot), (i + k = m) → (sh < 2 ^ (7 + i)) → (zk_it (mpF b p m) k i (sm, sh) = fin) → zk_Z D A s H locs [] → lv_has ls 7 [(0, .int (nI a)), (1, .int (nI b)), (2, .int (nI p)), (3, .int (nI m)), (4, .int (nI sm)), (5, .int (nI sh)), (6, .int (nI i))] → W pg l ev (zk_R 0 0 0) s mm args below meth cd H locs 0 0 Q (F0 mm 9 ls []) := by
  have hx := C.1.1
  have hb := C.1.2.1
  have hml := C.1.2.2.1
  have hown := C.1.2.2.2.1
  have hts := C.1.2.2.2.2
  intro k
  induction k with
  | zero =>
    intro i sm sh H locs ls hik hs7 hfin Z hl
    have hfin : (sm, sh) = fin := hfin
    subst hfin
    refine lv_iload hx hb dX8_product_9 (lv_at hl 6 rfl) ?_
    refine lv_iload_n hx hb dX8_product_11 rfl (lv_at hl 3 rfl) ?_
    refine nr_ge (tgt := 70) hx hb (by omega) (by omega) dX8_product_12 (by decide) (fun c_1 => ?_) (fun c_1 => absurd c_1 (by omega))
    exact kk  H locs ls  Z (lv_sub hl [4] rfl)
  | succ k ih =>
    intro i sm sh H locs ls hik hs7 hfin Z hl
    have hs2 : sh <<< 1 < 2 ^ (7 + (i + 1)) := by rw [Nat.shiftLeft_eq, show 7 + (i + 1) = 7 + i + 1 from rfl, Nat.pow_succ]; omega
    have hp12 := Nat.pow_le_pow_right (n := 2) (by decide) (show 7 + (i + 1) ≤ 12 by omega)
    have hp7 := Nat.pow_le_pow_right (n := 2) (by decide) (show 7 ≤ 7 + (i + 1) by omega)
    refine lv_iload hx hb dX8_product_9 (lv_at hl 6 rfl) ?_
    refine lv_iload_n hx hb dX8_product_11 rfl (lv_at hl 3 rfl) ?_
    refine nr_ge (tgt := 70) hx hb (by omega) (by omega) dX8_product_12 (by decide) (fun c_1 => absurd c_1 (by omega)) (fun c_1 => ?_)
    refine lv_iload_n hx hb dX8_product_15 rfl (lv_at hl 1 rfl) ?_
    refine lv_iload hx hb dX8_product_16 (lv_at hl 6 rfl) ?_
    refine nr_ishr hx hb b31 (by omega) dX8_product_18 ?_
    refine lv_iconst (v := nI 1) hx hb dX8_product_19 (by decide) ?_
    refine nr_iand hx hb dX8_product_20 ?_
    refine lv_iconst (v := nI 1) hx hb dX8_product_21 (by decide) ?_
    refine nr_ne (tgt := 33) hx hb (zk_lt31 (zk_b1 _)) (by decide) dX8_product_22 (by decide) (fun c_1 => ?_) (fun c_1 => ?_)
    · refine lv_iload hx hb dX8_product_33 (lv_at hl 4 rfl) ?_
      refine lv_istore (lv' := [(4, .int (nI sm)), (0, .int (nI a)), (1, .int (nI b)), (2, .int (nI p)), (3, .int (nI m)), (5, .int (nI sh)), (6, .int (nI i))]) hx hb dX8_product_35 hl (by decide) rfl (fun ls hl => ?_)
      refine lv_iload hx hb dX8_product_37 (lv_at hl 5 rfl) ?_
      refine lv_iconst (v := nI 1) hx hb dX8_product_39 (by decide) ?_
      refine nr_ishl hx hb (by omega) dX8_product_40 ?_
      refine lv_istore (lv' := [(5, .int (nI (sh <<< 1))), (4, .int (nI sm)), (0, .int (nI a)), (1, .int (nI b)), (2, .int (nI p)), (3, .int (nI m)), (6, .int (nI i))]) hx hb dX8_product_41 hl (by decide) rfl (fun ls hl => ?_)
      refine lv_iload hx hb dX8_product_43 (lv_at hl 0 rfl) ?_
      refine lv_iload_n hx hb dX8_product_45 rfl (lv_at hl 5 rfl) ?_
      refine nr_ishr hx hb (by omega) (by omega) dX8_product_46 ?_
      refine lv_iconst (v := nI 1) hx hb dX8_product_47 (by decide) ?_
      refine nr_iand hx hb dX8_product_48 ?_
      refine lv_iconst (v := nI 1) hx hb dX8_product_49 (by decide) ?_
      refine nr_ne (tgt := 60) hx hb (zk_lt31 (zk_b1 _)) (by decide) dX8_product_50 (by decide) (fun c_2 => ?_) (fun c_2 => ?_)
      · refine lv_iload hx hb dX8_product_60 (lv_at hl 0 rfl) ?_
        refine lv_istore (lv' := [(5, .int (nI (sh <<< 1))), (4, .int (nI sm)), (0, .int (nI a)), (1, .int (nI b)), (2, .int (nI p)), (3, .int (nI m)), (6, .int (nI i))]) hx hb dX8_product_62 hl (by decide) rfl (fun ls hl => ?_)
        refine nr_iinc (n := 1) (lv' := [(6, .int (nI (i + 1))), (5, .int (nI (sh <<< 1))), (4, .int (nI sm)), (0, .int (nI a)), (1, .int (nI b)), (2, .int (nI p)), (3, .int (nI m))]) hx hb (by decide) dX8_product_64 hl (k := 6) rfl (by decide) rfl (fun ls hl => ?_)
        refine lv_goto (tgt := 9) hx hb dX8_product_67 (by decide) ?_
        exact ih (i + 1) (sm) (sh <<< 1) H locs ls (by omega) hs2 ((congrArg (zk_it (mpF b p m) k (i + 1)) (show (sm, sh <<< 1) = mpF b p m i (sm, sh) from by unfold mpF; rw [if_neg c_1, if_neg c_2])).trans hfin) Z (lv_sub hl [3, 4, 5, 6, 2, 1, 0] rfl)
      · refine lv_iload hx hb dX8_product_53 (lv_at hl 0 rfl) ?_
        refine lv_iload_n hx hb dX8_product_55 rfl (lv_at hl 4 rfl) ?_
        refine nr_ixor hx hb dX8_product_56 ?_
        refine lv_goto (tgt := 62) hx hb dX8_product_57 (by decide) ?_
        refine lv_istore (lv' := [(5, .int (nI ((sh <<< 1) ^^^ p))), (4, .int (nI sm)), (0, .int (nI a)), (1, .int (nI b)), (2, .int (nI p)), (3, .int (nI m)), (6, .int (nI i))]) hx hb dX8_product_62 hl (by decide) rfl (fun ls hl => ?_)
        refine nr_iinc (n := 1) (lv' := [(6, .int (nI (i + 1))), (5, .int (nI ((sh <<< 1) ^^^ p))), (4, .int (nI sm)), (0, .int (nI a)), (1, .int (nI b)), (2, .int (nI p)), (3, .int (nI m))]) hx hb (by decide) dX8_product_64 hl (k := 6) rfl (by decide) rfl (fun ls hl => ?_)
        refine lv_goto (tgt := 9) hx hb dX8_product_67 (by decide) ?_
        exact ih (i + 1) (sm) ((sh <<< 1) ^^^ p) H locs ls (by omega) (Nat.xor_lt_two_pow hs2 (by omega)) ((congrArg (zk_it (mpF b p m) k (i + 1)) (show (sm, (sh <<< 1) ^^^ p) = mpF b p m i (sm, sh) from by unfold mpF; rw [if_neg c_1, if_pos c_2])).trans hfin) Z (lv_sub hl [3, 4, 5, 6, 2, 1, 0] rfl)
    · refine lv_iload hx hb dX8_product_25 (lv_at hl 4 rfl) ?_
      refine lv_iload hx hb dX8_product_27 (lv_at hl 5 rfl) ?_
      refine nr_ixor hx hb dX8_product_29 ?_
      refine lv_goto (tgt := 35) hx hb dX8_product_30 (by decide) ?_
      refine lv_istore (lv' := [(4, .int (nI (sm ^^^ sh))), (0, .int (nI a)), (1, .int (nI b)), (2, .int (nI p)), (3, .int (nI m)), (5, .int (nI sh)), (6, .int (nI i))]) hx hb dX8_product_35 hl (by decide) rfl (fun ls hl => ?_)
      refine lv_iload hx hb dX8_product_37 (lv_at hl 5 rfl) ?_
      refine lv_iconst (v := nI 1) hx hb dX8_product_39 (by decide) ?_
      refine nr_ishl hx hb (by omega) dX8_product_40 ?_
      refine lv_istore (lv' := [(5, .int (nI (sh <<< 1))), (4, .int (nI (sm ^^^ sh))), (0, .int (nI a)), (1, .int (nI b)), (2, .int (nI p)), (3, .int (nI m)), (6, .int (nI i))]) hx hb dX8_product_41 hl (by decide) rfl (fun ls hl => ?_)
      refine lv_iload hx hb dX8_product_43 (lv_at hl 0 rfl) ?_
      refine lv_iload_n hx hb dX8_product_45 rfl (lv_at hl 5 rfl) ?_
      refine nr_ishr hx hb (by omega) (by omega) dX8_product_46 ?_
      refine lv_iconst (v := nI 1) hx hb dX8_product_47 (by decide) ?_
      refine nr_iand hx hb dX8_product_48 ?_
      refine lv_iconst (v := nI 1) hx hb dX8_product_49 (by decide) ?_
      refine nr_ne (tgt := 60) hx hb (zk_lt31 (zk_b1 _)) (by decide) dX8_product_50 (by decide) (fun c_2 => ?_) (fun c_2 => ?_)
      · refine lv_iload hx hb dX8_product_60 (lv_at hl 0 rfl) ?_
        refine lv_istore (lv' := [(5, .int (nI (sh <<< 1))), (4, .int (nI (sm ^^^ sh))), (0, .int (nI a)), (1, .int (nI b)), (2, .int (nI p)), (3, .int (nI m)), (6, .int (nI i))]) hx hb dX8_product_62 hl (by decide) rfl (fun ls hl => ?_)
        refine nr_iinc (n := 1) (lv' := [(6, .int (nI (i + 1))), (5, .int (nI (sh <<< 1))), (4, .int (nI (sm ^^^ sh))), (0, .int (nI a)), (1, .int (nI b)), (2, .int (nI p)), (3, .int (nI m))]) hx hb (by decide) dX8_product_64 hl (k := 6) rfl (by decide) rfl (fun ls hl => ?_)
        refine lv_goto (tgt := 9) hx hb dX8_product_67 (by decide) ?_
        exact ih (i + 1) (sm ^^^ sh) (sh <<< 1) H locs ls (by omega) hs2 ((congrArg (zk_it (mpF b p m) k (i + 1)) (show (sm ^^^ sh, sh <<< 1) = mpF b p m i (sm, sh) from by unfold mpF; rw [if_pos c_1, if_neg c_2])).trans hfin) Z (lv_sub hl [3, 4, 5, 6, 2, 1, 0] rfl)
      · refine lv_iload hx hb dX8_product_53 (lv_at hl 0 rfl) ?_
        refine lv_iload_n hx hb dX8_product_55 rfl (lv_at hl 4 rfl) ?_
        refine nr_ixor hx hb dX8_product_56 ?_
        refine lv_goto (tgt := 62) hx hb dX8_product_57 (by decide) ?_
        refine lv_istore (lv' := [(5, .int (nI ((sh <<< 1) ^^^ p))), (4, .int (nI (sm ^^^ sh))), (0, .int (nI a)), (1, .int (nI b)), (2, .int (nI p)), (3, .int (nI m)), (6, .int (nI i))]) hx hb dX8_product_62 hl (by decide) rfl (fun ls hl => ?_)
        refine nr_iinc (n := 1) (lv' := [(6, .int (nI (i + 1))), (5, .int (nI ((sh <<< 1) ^^^ p))), (4, .int (nI (sm ^^^ sh))), (0, .int (nI a)), (1, .int (nI b)), (2, .int (nI p)), (3, .int (nI m))]) hx hb (by decide) dX8_product_64 hl (k := 6) rfl (by decide) rfl (fun ls hl => ?_)
        refine lv_goto (tgt := 9) hx hb dX8_product_67 (by decide) ?_
        exact ih (i + 1) (sm ^^^ sh) ((sh <<< 1) ^^^ p) H locs ls (by omega) (Nat.xor_lt_two_pow hs2 (by omega)) ((congrArg (zk_it (mpF b p m) k (i + 1)) (show (sm ^^^ sh, (sh <<< 1) ^^^ p) = mpF b p m i (sm, sh) from by unfold mpF; rw [if_pos c_1, if_pos c_2])).trans hfin) Z (lv_sub hl [3, 4, 5, 6, 2, 1, 0] rfl)

set_option maxHeartbeats 4000000 in
/-- model: product -/
theorem m8_prd (l : Launch) (D : va_G) (g : G4) (a b p m : Nat) (b31 : b < 2 ^ 31) (p64 : p < 64) (m5 : m ≤ 5) (a7 : a < 128) : zk_M l yX8_product (ws_ yX8_product cX8_product 7 (some .int)) (zk_R 0 0 0) D g [.int (nI a), .int (nI b), .int (nI p), .int (nI m)] [] (zk_D (some (.int (nI (mprd a b p m)))) []) := by
  refine zk_ofW (by decide) (Nat.le_of_ble_eq_true rfl) ?_
  intro pg ev s mm below meth cd A C hr hlocks hname Z ls hl
  have hx := C.1.1
  have hb := C.1.2.1
  have hml := C.1.2.2.1
  have hown := C.1.2.2.2.1
  have hts := C.1.2.2.2.2
  have hl : lv_has ls 7 [(0, .int (nI a)), (1, .int (nI b)), (2, .int (nI p)), (3, .int (nI m))] := hl
  obtain ⟨H, hH⟩ : ∃ H, H = s.heap := ⟨_, rfl⟩
  obtain ⟨locs, hlocs⟩ : ∃ q : List Loc, q = [] := ⟨_, rfl⟩
  rw [← hH, ← hlocs] at Z ⊢
  refine lv_iconst (v := nI 0) hx hb dX8_product_0 (by decide) ?_
  refine lv_istore (lv' := [(4, .int (nI 0)), (0, .int (nI a)), (1, .int (nI b)), (2, .int (nI p)), (3, .int (nI m))]) hx hb dX8_product_1 hl (by decide) rfl (fun ls hl => ?_)
  refine lv_iload_n hx hb dX8_product_3 rfl (lv_at hl 1 rfl) ?_
  refine lv_istore (lv' := [(5, .int (nI a)), (4, .int (nI 0)), (0, .int (nI a)), (1, .int (nI b)), (2, .int (nI p)), (3, .int (nI m))]) hx hb dX8_product_4 hl (by decide) rfl (fun ls hl => ?_)
  refine lv_iconst (v := nI 0) hx hb dX8_product_6 (by decide) ?_
  refine lv_istore (lv' := [(6, .int (nI 0)), (5, .int (nI a)), (4, .int (nI 0)), (0, .int (nI a)), (1, .int (nI b)), (2, .int (nI p)), (3, .int (nI m))]) hx hb dX8_product_7 hl (by decide) rfl (fun ls hl => ?_)
  refine lp8_prd C a b p m b31 p64 m5 _ (fun H locs ls Z hl => ?_) m 0 0 a H locs ls (by omega) (by omega) rfl Z (lv_sub hl [3, 4, 5, 6, 2, 1, 0] rfl)
  refine lv_iload hx hb dX8_product_70 (lv_at hl 0 rfl) ?_
  exact zk_iret C hr hlocks Z ⟨rfl, rfl⟩ (Nat.le_of_ble_eq_true rfl) (Nat.le_of_ble_eq_true rfl) dX8_product_72

set_option maxHeartbeats 4000000 in
theorem lp8_pw {pg : Program} {l : Launch} {ev : Env} {s : State} {mm : MethodId} {args : Array Value} {below : List Frame} {meth : Method} {cd : Code} {Q : State → Prop} {D : va_G} {g : G4} {A : Nat → Prop} (C : zk_C pg s mm cd args cX8_powerOf 4 RX8 D g A) (hm ms ch kp md rs pr : Nat) (km bg p n t dep gn ck : Nat) (hpn : (p, n) ∈ zk_pr) (x : Nat) (x31 : x < 2 ^ 31) (kk : ∀ (H : Heap) (locs : List Loc) (ls : Array Slot), zk_Z D A s H locs [(hm, .inr (7, [.int (nI km), .int (nI bg), .int (nI p), .int (nI (mdg p)), .int (nI n), .int (nI t), .int (nI dep), .int (nI gn), .int (nI ck), .ref ms, .ref ch, .ref kp, .ref md, .ref rs, .ref pr]))] → lv_has ls 4 [(0, .ref hm), (2, .int (nI (pw p (x % n))))] → W pg l ev (zk_R 1 0 0) s mm args below meth cd H locs 0 0 Q (F0 mm 34 ls [])) :
    ∀ (k : Nat) (i : Nat) (H : Heap) (locs : List Loc) (ls : Array Slot), (i + k = x % n) → zk_Z D A s H locs [(hm, .inr (7, [.int (nI km), .int (nI bg), .int (nI p), .int (nI (mdg p)), .int (nI n), .int (nI t), .int (nI dep), .int (nI gn), .int (nI ck), .ref ms, .ref ch, .ref kp, .ref md, .ref rs, .ref pr]))] → lv_has ls 4 [(0, .ref hm), (1, .int (nI x)), (2, .int (nI (pw p i))), (3, .int (nI i))] → W pg l ev (zk_R 1 0 0) s mm args below meth cd H locs 0 0 Q (F0 mm 4 ls []) := by
  have hx := C.1.1
  have hb := C.1.2.1
  have hml := C.1.2.2.1
  have hown := C.1.2.2.2.1
  have hts := C.1.2.2.2.2
  have hn := zk_n3 _ hpn
  dsimp only at hn
  obtain ⟨hp0, hnn, hp8, hp64⟩ := pw_0 _ hpn
  dsimp only at hp0 hnn hp8 hp64
  have hdg := mdg_5 p
  intro k
  induction k with
  | zero =>
    intro i H locs ls hik Z hl
    have hi : i = x % n := by omega
    subst hi
    refine lv_iload_n hx hb dX8_powerOf_4 rfl (lv_at hl 3 rfl) ?_
    refine lv_iload_n hx hb dX8_powerOf_5 rfl (lv_at hl 1 rfl) ?_
    refine lv_aload_n hx hb dX8_powerOf_6 rfl (lv_at hl 0 rfl) ?_
    refine zk_get C Z in_X8 0 rfl rfl 4 (by decide) q601 rfl (v := .int (nI n)) rfl dX8_powerOf_7 ?_
    refine nr_irem hx hb x31 (by omega) (by omega) dX8_powerOf_10 ?_
    refine nr_ge (tgt := 34) hx hb (by have := Nat.mod_lt x (show 0 < n by omega); omega) (by have := Nat.mod_lt x (show 0 < n by omega); omega) dX8_powerOf_11 (by decide) (fun c_1 => ?_) (fun c_1 => absurd c_1 (by omega))
    exact kk H locs ls Z (lv_sub hl [0, 2] rfl)
  | succ k ih =>
    intro i H locs ls hik Z hl
    refine lv_iload_n hx hb dX8_powerOf_4 rfl (lv_at hl 3 rfl) ?_
    refine lv_iload_n hx hb dX8_powerOf_5 rfl (lv_at hl 1 rfl) ?_
    refine lv_aload_n hx hb dX8_powerOf_6 rfl (lv_at hl 0 rfl) ?_
    refine zk_get C Z in_X8 0 rfl rfl 4 (by decide) q601 rfl (v := .int (nI n)) rfl dX8_powerOf_7 ?_
    refine nr_irem hx hb x31 (by omega) (by omega) dX8_powerOf_10 ?_
    refine nr_ge (tgt := 34) hx hb (by have := Nat.mod_lt x (show 0 < n by omega); omega) (by have := Nat.mod_lt x (show 0 < n by omega); omega) dX8_powerOf_11 (by decide) (fun c_1 => absurd c_1 (by omega)) (fun c_1 => ?_)
    refine lv_iload_n hx hb dX8_powerOf_14 rfl (lv_at hl 2 rfl) ?_
    refine lv_iconst (v := nI 2) hx hb dX8_powerOf_15 (by decide) ?_
    refine lv_aload_n hx hb dX8_powerOf_16 rfl (lv_at hl 0 rfl) ?_
    refine zk_get C Z in_X8 0 rfl rfl 2 (by decide) q599 rfl (v := .int (nI p)) rfl dX8_powerOf_17 ?_
    refine lv_aload_n hx hb dX8_powerOf_20 rfl (lv_at hl 0 rfl) ?_
    refine zk_get C Z in_X8 0 rfl rfl 3 (by decide) q600 rfl (v := .int (nI (mdg p))) rfl dX8_powerOf_21 ?_
    refine zk_callS (cells' := 0) (slots' := 0) (rest := []) (n := 4) (wr := [(hm, .inr (7, [.int (nI km), .int (nI bg), .int (nI p), .int (nI (mdg p)), .int (nI n), .int (nI t), .int (nI dep), .int (nI gn), .int (nI ck), .ref ms, .ref ch, .ref kp, .ref md, .ref rs, .ref pr]))]) C Z (m8_prd l D g (pw p i) 2 p (mdg p) (by decide) hp64 (by omega) (by have := (zk_pw_all _ hpn i (by dsimp only; have := Nat.mod_lt x (show 0 < n by omega); omega)).1.2; dsimp only at this; omega)) [] [0] rfl rfl (by decide) (by decide) (by decide) q657 q658 q26 q659 (by decide +kernel) rfl (Nat.le_of_ble_eq_true rfl) (Nat.le_of_ble_eq_true rfl) (Nat.le_of_ble_eq_true rfl) (Nat.le_of_ble_eq_true rfl) rfl rfl hl.1 rfl (Nat.le_of_ble_eq_true rfl) dX8_powerOf_24 (fun v w1 H locs hq Z => ?_)
    obtain ⟨rfl, rfl⟩ := hq
    have Z : zk_Z D A s H locs [(hm, .inr (7, [.int (nI km), .int (nI bg), .int (nI p), .int (nI (mdg p)), .int (nI n), .int (nI t), .int (nI dep), .int (nI gn), .int (nI ck), .ref ms, .ref ch, .ref kp, .ref md, .ref rs, .ref pr]))] := Z.sub [0] (by decide) rfl
    refine W.eq (g2 := F0 mm 27 ls [.int (nI (mprd (pw p i) 2 p (mdg p)))]) rfl ?_
    rw [show mprd (pw p i) 2 p (mdg p) = pw p (i + 1) from (mprd_pw _ hpn i (by have := Nat.mod_lt x (show 0 < n by omega); dsimp only; omega))]
    refine lv_istore_n (lv' := [(2, .int (nI (pw p (i + 1)))), (0, .ref hm), (1, .int (nI x)), (3, .int (nI i))]) hx hb dX8_powerOf_27 rfl hl (by decide) rfl (fun ls hl => ?_)
    refine nr_iinc (n := 1) (lv' := [(3, .int (nI (i + 1))), (2, .int (nI (pw p (i + 1)))), (0, .ref hm), (1, .int (nI x))]) hx hb (by decide) dX8_powerOf_28 hl (k := 3) rfl (by decide) rfl (fun ls hl => ?_)
    refine lv_goto (tgt := 4) hx hb dX8_powerOf_31 (by decide) ?_
    exact ih (i + 1) H locs ls (by omega) Z (lv_sub hl [2, 3, 1, 0] rfl)

set_option maxHeartbeats 4000000 in
/-- model: powerOf -/
theorem m8_pw (l : Launch) (D : va_G) (g : G4) (hm ms ch kp md rs pr : Nat) (km bg p n t dep gn ck : Nat) (hpn : (p, n) ∈ zk_pr) (x : Nat) (x31 : x < 2 ^ 31) : zk_M l yX8_powerOf (ws_ yX8_powerOf cX8_powerOf 4 (some .int)) (zk_R 1 0 0) D g [.ref hm, .int (nI x)] [(hm, .inr (7, [.int (nI km), .int (nI bg), .int (nI p), .int (nI (mdg p)), .int (nI n), .int (nI t), .int (nI dep), .int (nI gn), .int (nI ck), .ref ms, .ref ch, .ref kp, .ref md, .ref rs, .ref pr]))] (zk_D (some (.int (nI (pw p (x % n))))) [(hm, .inr (7, [.int (nI km), .int (nI bg), .int (nI p), .int (nI (mdg p)), .int (nI n), .int (nI t), .int (nI dep), .int (nI gn), .int (nI ck), .ref ms, .ref ch, .ref kp, .ref md, .ref rs, .ref pr]))]) := by
  refine zk_ofW (by decide) (Nat.le_of_ble_eq_true rfl) ?_
  intro pg ev s mm below meth cd A C hr hlocks hname Z ls hl
  have hx := C.1.1
  have hb := C.1.2.1
  have hml := C.1.2.2.1
  have hown := C.1.2.2.2.1
  have hts := C.1.2.2.2.2
  have hl : lv_has ls 4 [(0, .ref hm), (1, .int (nI x))] := hl
  have hn := zk_n3 _ hpn
  dsimp only at hn
  obtain ⟨hp0, hnn, hp8, hp64⟩ := pw_0 _ hpn
  dsimp only at hp0 hnn hp8 hp64
  have hdg := mdg_5 p
  obtain ⟨H, hH⟩ : ∃ H, H = s.heap := ⟨_, rfl⟩
  obtain ⟨locs, hlocs⟩ : ∃ q : List Loc, q = [] := ⟨_, rfl⟩
  rw [← hH, ← hlocs] at Z ⊢
  refine lv_iconst (v := nI 1) hx hb dX8_powerOf_0 (by decide) ?_
  refine lv_istore_n (lv' := [(2, .int (nI 1)), (0, .ref hm), (1, .int (nI x))]) hx hb dX8_powerOf_1 rfl hl (by decide) rfl (fun ls hl => ?_)
  refine lv_iconst (v := nI 0) hx hb dX8_powerOf_2 (by decide) ?_
  refine lv_istore_n (lv' := [(3, .int (nI 0)), (2, .int (nI 1)), (0, .ref hm), (1, .int (nI x))]) hx hb dX8_powerOf_3 rfl hl (by decide) rfl (fun ls hl => ?_)
  have hl : lv_has ls 4 [(3, .int (nI 0)), (2, .int (nI (pw p 0))), (0, .ref hm), (1, .int (nI x))] := by rw [hp0]; exact hl
  refine lp8_pw C hm ms ch kp md rs pr km bg p n t dep gn ck hpn x x31 (fun H locs ls Z hl => ?_) (x % n) 0 H locs ls (by omega) Z (lv_sub hl [2, 3, 1, 0] rfl)
  refine lv_iload_n hx hb dX8_powerOf_34 rfl (lv_at hl 1 rfl) ?_
  exact zk_iret C hr hlocks Z ⟨rfl, rfl⟩ (Nat.le_of_ble_eq_true rfl) (Nat.le_of_ble_eq_true rfl) dX8_powerOf_35

set_option maxHeartbeats 4000000 in
theorem lp8_prim1 {pg : Program} {l : Launch} {ev : Env} {s : State} {mm : MethodId} {args : Array Value} {below : List Frame} {meth : Method} {cd : Code} {Q : State → Prop} {D : va_G} {g : G4} {A : Nat → Prop} (C : zk_C pg s mm cd args cX8_isPrimitive 4 RX8 D g A) (p : Nat) (p8 : 8 ≤ p) (p63 : p ≤ 63) (hpr : (p, zk_nn p) ∈ zk_pr) (k1 : ∀ (H : Heap) (locs : List Loc) (ls : Array Slot), zk_Z D A s H locs [] → lv_has ls 4 [(0, .int (nI p))] → W pg l ev (zk_R 1 0 0) s mm args below meth cd H locs 0 0 Q (F0 mm 38 ls [.int (nI 1)])) :
    ∀ (k : Nat) (e0 : Nat) (H : Heap) (locs : List Loc) (ls : Array Slot), (e0 + k = zk_nn p) → (e0 < zk_nn p) → zk_Z D A s H locs [] → lv_has ls 4 [(0, .int (nI p)), (1, .int (nI (mdg p))), (2, .int (nI (mkX p (zk_nn p) e0))), (3, .int (nI (e0 + 1)))] → W pg l ev (zk_R 1 0 0) s mm args below meth cd H locs 0 0 Q (F0 mm 4 ls []) := by
  have hx := C.1.1
  have hb := C.1.2.1
  have hml := C.1.2.2.1
  have hown := C.1.2.2.2.1
  have hts := C.1.2.2.2.2
  have hdg := mdg_5 p
  have hnn := zk_nn_3 p
  intro k
  induction k with
  | zero =>
    intro e0 H locs ls hik hlt Z hl
    exfalso
    omega
  | succ k ih =>
    intro e0 H locs ls hik hlt Z hl
    refine lv_iload_n hx hb dX8_isPrimitive_4 rfl (lv_at hl 3 rfl) ?_
    refine lv_iconst (v := nI 1) hx hb dX8_isPrimitive_5 (by decide) ?_
    refine lv_iload_n hx hb dX8_isPrimitive_6 rfl (lv_at hl 1 rfl) ?_
    refine nr_ishl hx hb (by omega) dX8_isPrimitive_7 ?_
    rw [zk_1m p]
    refine nr_ge (tgt := 45) hx hb (by omega) (by omega) dX8_isPrimitive_8 (by decide) (fun c_1 => absurd c_1 (by omega)) (fun c_1 => ?_)
    refine lv_iload_n hx hb dX8_isPrimitive_11 rfl (lv_at hl 2 rfl) ?_
    refine lv_iconst (v := nI 2) hx hb dX8_isPrimitive_12 (by decide) ?_
    refine lv_iload_n hx hb dX8_isPrimitive_13 rfl (lv_at hl 0 rfl) ?_
    refine lv_iload_n hx hb dX8_isPrimitive_14 rfl (lv_at hl 1 rfl) ?_
    refine zk_callS (cells' := 0) (slots' := 0) (rest := []) (n := 4) (wr := []) C Z (m8_prd l D g (mkX p (zk_nn p) e0) 2 p (mdg p) (by decide) (by omega) (by omega) (by have := mkX_le p (by omega) p8 e0 (by omega); omega)) [] [] rfl rfl (by decide) (by decide) (by decide) q657 q658 q26 q659 (by decide +kernel) rfl (Nat.le_of_ble_eq_true rfl) (Nat.le_of_ble_eq_true rfl) (Nat.le_of_ble_eq_true rfl) (Nat.le_of_ble_eq_true rfl) rfl rfl hl.1 rfl (Nat.le_of_ble_eq_true rfl) dX8_isPrimitive_15 (fun v w1 H locs hq Z => ?_)
    obtain ⟨rfl, rfl⟩ := hq
    have Z : zk_Z D A s H locs [] := Z.sub [] (by decide) rfl
    refine W.eq (g2 := F0 mm 18 ls [.int (nI (mprd (mkX p (zk_nn p) e0) 2 p (mdg p)))]) rfl ?_
    rw [show mprd (mkX p (zk_nn p) e0) 2 p (mdg p) = mkX p (zk_nn p) (e0 + 1) from (mprd_mk p (by omega) p8 e0 (by omega))]
    have hle1 := mkX_le p (by omega) p8 (e0 + 1) (by omega)
    refine lv_istore_n (lv' := [(2, .int (nI (mkX p (zk_nn p) (e0 + 1)))), (0, .int (nI p)), (1, .int (nI (mdg p))), (3, .int (nI (e0 + 1)))]) hx hb dX8_isPrimitive_18 rfl hl (by decide) rfl (fun ls hl => ?_)
    refine lv_iload_n hx hb dX8_isPrimitive_19 rfl (lv_at hl 0 rfl) ?_
    refine lv_iconst (v := nI 1) hx hb dX8_isPrimitive_20 (by decide) ?_
    refine nr_ne (tgt := 39) hx hb (by omega) (by decide) dX8_isPrimitive_21 (by decide) (fun c_1 => ?_) (fun c_1 => ?_)
    · have hne : e0 + 1 ≠ zk_nn p := by
        intro q
        have h9 : mkX p (zk_nn p) (zk_nn p) = 1 := (mkX_pr _ hpr).2.1
        exact c_1 (by rw [q]; exact h9)
      refine nr_iinc (n := 1) (lv' := [(3, .int (nI (e0 + 1 + 1))), (2, .int (nI (mkX p (zk_nn p) (e0 + 1)))), (0, .int (nI p)), (1, .int (nI (mdg p)))]) hx hb (by decide) dX8_isPrimitive_39 hl (k := 3) rfl (by decide) rfl (fun ls hl => ?_)
      refine lv_goto (tgt := 4) hx hb dX8_isPrimitive_42 (by decide) ?_
      exact ih (e0 + 1) H locs ls (by omega) (by omega) Z (lv_sub hl [2, 3, 1, 0] rfl)
    · refine lv_iload_n hx hb dX8_isPrimitive_24 rfl (lv_at hl 3 rfl) ?_
      refine lv_iconst (v := nI 1) hx hb dX8_isPrimitive_25 (by decide) ?_
      refine lv_iload_n hx hb dX8_isPrimitive_26 rfl (lv_at hl 2 rfl) ?_
      refine nr_ishl hx hb (by omega) dX8_isPrimitive_27 ?_
      rw [zk_1m p]
      refine lv_iconst (v := nI 1) hx hb dX8_isPrimitive_28 (by decide) ?_
      refine nr_isub hx hb (by omega) dX8_isPrimitive_29 ?_
      refine nr_ne (tgt := 37) hx hb (by omega) (by omega) dX8_isPrimitive_30 (by decide) (fun c_2 => absurd c_2 (by have := ((mkX_pr _ hpr).1 (e0 + 1)); dsimp only at this; have h3 := fun q => (this q).2 (by omega) c_1; omega)) (fun c_2 => ?_)
      refine lv_iconst (v := nI 1) hx hb dX8_isPrimitive_33 (by decide) ?_
      refine lv_goto (tgt := 38) hx hb dX8_isPrimitive_34 (by decide) ?_
      exact k1 H locs ls Z (lv_sub hl [1] rfl)

set_option maxHeartbeats 4000000 in
theorem lp8_prim0 {pg : Program} {l : Launch} {ev : Env} {s : State} {mm : MethodId} {args : Array Value} {below : List Frame} {meth : Method} {cd : Code} {Q : State → Prop} {D : va_G} {g : G4} {A : Nat → Prop} (C : zk_C pg s mm cd args cX8_isPrimitive 4 RX8 D g A) (p : Nat) (p8 : 8 ≤ p) (p63 : p ≤ 63) (hpr : (p, zk_nn p) ∉ zk_pr) (k0 : ∀ (H : Heap) (locs : List Loc) (ls : Array Slot), zk_Z D A s H locs [] → lv_has ls 4 [(0, .int (nI p))] → W pg l ev (zk_R 1 0 0) s mm args below meth cd H locs 0 0 Q (F0 mm 38 ls [.int (nI 0)])) (k2 : ∀ (H : Heap) (locs : List Loc) (ls : Array Slot), zk_Z D A s H locs [] → lv_has ls 4 [(0, .int (nI p))] → W pg l ev (zk_R 1 0 0) s mm args below meth cd H locs 0 0 Q (F0 mm 45 ls [])) :
    ∀ (k : Nat) (e0 : Nat) (H : Heap) (locs : List Loc) (ls : Array Slot), (e0 + k = zk_nn p) → (∀ j, 1 ≤ j → j < e0 + 1 → mkX p (zk_nn p) j ≠ 1) → zk_Z D A s H locs [] → lv_has ls 4 [(0, .int (nI p)), (1, .int (nI (mdg p))), (2, .int (nI (mkX p (zk_nn p) e0))), (3, .int (nI (e0 + 1)))] → W pg l ev (zk_R 1 0 0) s mm args below meth cd H locs 0 0 Q (F0 mm 4 ls []) := by
  have hx := C.1.1
  have hb := C.1.2.1
  have hml := C.1.2.2.1
  have hown := C.1.2.2.2.1
  have hts := C.1.2.2.2.2
  have hdg := mdg_5 p
  have hnn := zk_nn_3 p
  intro k
  induction k with
  | zero =>
    intro e0 H locs ls hik hne Z hl
    have hno : mkX p (zk_nn p) (e0 + 1) = 1 → e0 + 1 ≠ zk_nn p := by
      intro h1 h2
      rcases mkX_un p (by omega) p8 hpr with ⟨e, q1, q2, q3⟩ | q
      · exact hne e (by omega) (by omega) q3
      · rw [h2] at h1; exact q h1
    refine lv_iload_n hx hb dX8_isPrimitive_4 rfl (lv_at hl 3 rfl) ?_
    refine lv_iconst (v := nI 1) hx hb dX8_isPrimitive_5 (by decide) ?_
    refine lv_iload_n hx hb dX8_isPrimitive_6 rfl (lv_at hl 1 rfl) ?_
    refine nr_ishl hx hb (by omega) dX8_isPrimitive_7 ?_
    rw [zk_1m p]
    refine nr_ge (tgt := 45) hx hb (by omega) (by omega) dX8_isPrimitive_8 (by decide) (fun c_1 => ?_) (fun c_1 => absurd c_1 (by omega))
    exact k2  H locs ls  Z (lv_sub hl [0] rfl)
  | succ k ih =>
    intro e0 H locs ls hik hne Z hl
    have hno : mkX p (zk_nn p) (e0 + 1) = 1 → e0 + 1 ≠ zk_nn p := by
      intro h1 h2
      rcases mkX_un p (by omega) p8 hpr with ⟨e, q1, q2, q3⟩ | q
      · exact hne e (by omega) (by omega) q3
      · rw [h2] at h1; exact q h1
    refine lv_iload_n hx hb dX8_isPrimitive_4 rfl (lv_at hl 3 rfl) ?_
    refine lv_iconst (v := nI 1) hx hb dX8_isPrimitive_5 (by decide) ?_
    refine lv_iload_n hx hb dX8_isPrimitive_6 rfl (lv_at hl 1 rfl) ?_
    refine nr_ishl hx hb (by omega) dX8_isPrimitive_7 ?_
    rw [zk_1m p]
    refine nr_ge (tgt := 45) hx hb (by omega) (by omega) dX8_isPrimitive_8 (by decide) (fun c_1 => absurd c_1 (by omega)) (fun c_1 => ?_)
    refine lv_iload_n hx hb dX8_isPrimitive_11 rfl (lv_at hl 2 rfl) ?_
    refine lv_iconst (v := nI 2) hx hb dX8_isPrimitive_12 (by decide) ?_
    refine lv_iload_n hx hb dX8_isPrimitive_13 rfl (lv_at hl 0 rfl) ?_
    refine lv_iload_n hx hb dX8_isPrimitive_14 rfl (lv_at hl 1 rfl) ?_
    refine zk_callS (cells' := 0) (slots' := 0) (rest := []) (n := 4) (wr := []) C Z (m8_prd l D g (mkX p (zk_nn p) e0) 2 p (mdg p) (by decide) (by omega) (by omega) (by have := mkX_le p (by omega) p8 e0 (by omega); omega)) [] [] rfl rfl (by decide) (by decide) (by decide) q657 q658 q26 q659 (by decide +kernel) rfl (Nat.le_of_ble_eq_true rfl) (Nat.le_of_ble_eq_true rfl) (Nat.le_of_ble_eq_true rfl) (Nat.le_of_ble_eq_true rfl) rfl rfl hl.1 rfl (Nat.le_of_ble_eq_true rfl) dX8_isPrimitive_15 (fun v w1 H locs hq Z => ?_)
    obtain ⟨rfl, rfl⟩ := hq
    have Z : zk_Z D A s H locs [] := Z.sub [] (by decide) rfl
    refine W.eq (g2 := F0 mm 18 ls [.int (nI (mprd (mkX p (zk_nn p) e0) 2 p (mdg p)))]) rfl ?_
    rw [show mprd (mkX p (zk_nn p) e0) 2 p (mdg p) = mkX p (zk_nn p) (e0 + 1) from (mprd_mk p (by omega) p8 e0 (by omega))]
    have hle1 := mkX_le p (by omega) p8 (e0 + 1) (by omega)
    refine lv_istore_n (lv' := [(2, .int (nI (mkX p (zk_nn p) (e0 + 1)))), (0, .int (nI p)), (1, .int (nI (mdg p))), (3, .int (nI (e0 + 1)))]) hx hb dX8_isPrimitive_18 rfl hl (by decide) rfl (fun ls hl => ?_)
    refine lv_iload_n hx hb dX8_isPrimitive_19 rfl (lv_at hl 0 rfl) ?_
    refine lv_iconst (v := nI 1) hx hb dX8_isPrimitive_20 (by decide) ?_
    refine nr_ne (tgt := 39) hx hb (by omega) (by decide) dX8_isPrimitive_21 (by decide) (fun c_1 => ?_) (fun c_1 => ?_)
    · refine nr_iinc (n := 1) (lv' := [(3, .int (nI (e0 + 1 + 1))), (2, .int (nI (mkX p (zk_nn p) (e0 + 1)))), (0, .int (nI p)), (1, .int (nI (mdg p)))]) hx hb (by decide) dX8_isPrimitive_39 hl (k := 3) rfl (by decide) rfl (fun ls hl => ?_)
      refine lv_goto (tgt := 4) hx hb dX8_isPrimitive_42 (by decide) ?_
      exact ih (e0 + 1) H locs ls (by omega) (fun j h1 h2 => by rcases Nat.lt_or_ge j (e0 + 1) with z | z; exact hne j h1 z; rw [show j = e0 + 1 by omega]; exact c_1) Z (lv_sub hl [2, 3, 1, 0] rfl)
    · refine lv_iload_n hx hb dX8_isPrimitive_24 rfl (lv_at hl 3 rfl) ?_
      refine lv_iconst (v := nI 1) hx hb dX8_isPrimitive_25 (by decide) ?_
      refine lv_iload_n hx hb dX8_isPrimitive_26 rfl (lv_at hl 2 rfl) ?_
      refine nr_ishl hx hb (by omega) dX8_isPrimitive_27 ?_
      rw [zk_1m p]
      refine lv_iconst (v := nI 1) hx hb dX8_isPrimitive_28 (by decide) ?_
      refine nr_isub hx hb (by omega) dX8_isPrimitive_29 ?_
      refine nr_ne (tgt := 37) hx hb (by omega) (by omega) dX8_isPrimitive_30 (by decide) (fun c_2 => ?_) (fun c_2 => absurd c_2 (fun q => hno c_1 (by omega)))
      refine lv_iconst (v := nI 0) hx hb dX8_isPrimitive_37 (by decide) ?_
      exact k0 H locs ls Z (lv_sub hl [1] rfl)

set_option maxHeartbeats 4000000 in
/-- model: isPrimitive -/
theorem m8_prim1 (l : Launch) (D : va_G) (g : G4) (p : Nat) (p8 : 8 ≤ p) (p63 : p ≤ 63) (hpr : (p, zk_nn p) ∈ zk_pr) : zk_M l yX8_isPrimitive (ws_ yX8_isPrimitive cX8_isPrimitive 4 (some .boolean)) (zk_R 1 0 0) D g [.int (nI p), .int (nI (mdg p))] [] (zk_D (some (.int (nI 1))) []) := by
  refine zk_ofW (by decide) (Nat.le_of_ble_eq_true rfl) ?_
  intro pg ev s mm below meth cd A C hr hlocks hname Z ls hl
  have hx := C.1.1
  have hb := C.1.2.1
  have hml := C.1.2.2.1
  have hown := C.1.2.2.2.1
  have hts := C.1.2.2.2.2
  have hl : lv_has ls 4 [(0, .int (nI p)), (1, .int (nI (mdg p)))] := hl
  have hdg := mdg_5 p
  have hnn := zk_nn_3 p
  obtain ⟨H, hH⟩ : ∃ H, H = s.heap := ⟨_, rfl⟩
  obtain ⟨locs, hlocs⟩ : ∃ q : List Loc, q = [] := ⟨_, rfl⟩
  rw [← hH, ← hlocs] at Z ⊢
  refine lv_iconst (v := nI 1) hx hb dX8_isPrimitive_0 (by decide) ?_
  refine lv_istore_n (lv' := [(2, .int (nI 1)), (0, .int (nI p)), (1, .int (nI (mdg p)))]) hx hb dX8_isPrimitive_1 rfl hl (by decide) rfl (fun ls hl => ?_)
  refine lv_iconst (v := nI 1) hx hb dX8_isPrimitive_2 (by decide) ?_
  refine lv_istore_n (lv' := [(3, .int (nI 1)), (2, .int (nI 1)), (0, .int (nI p)), (1, .int (nI (mdg p)))]) hx hb dX8_isPrimitive_3 rfl hl (by decide) rfl (fun ls hl => ?_)
  refine lp8_prim1 C p p8 p63 hpr (fun H locs ls Z hl => ?_) (zk_nn p) 0 H locs ls (by omega) (by omega) Z (lv_sub hl [2, 3, 1, 0] rfl)
  exact zk_zret C hr hlocks Z rfl ⟨rfl, rfl⟩ (Nat.le_of_ble_eq_true rfl) (Nat.le_of_ble_eq_true rfl) dX8_isPrimitive_38

set_option maxHeartbeats 4000000 in
/-- model: isPrimitive -/
theorem m8_prim0 (l : Launch) (D : va_G) (g : G4) (p : Nat) (p8 : 8 ≤ p) (p63 : p ≤ 63) (hpr : (p, zk_nn p) ∉ zk_pr) : zk_M l yX8_isPrimitive (ws_ yX8_isPrimitive cX8_isPrimitive 4 (some .boolean)) (zk_R 1 0 0) D g [.int (nI p), .int (nI (mdg p))] [] (zk_D (some (.int (nI 0))) []) := by
  refine zk_ofW (by decide) (Nat.le_of_ble_eq_true rfl) ?_
  intro pg ev s mm below meth cd A C hr hlocks hname Z ls hl
  have hx := C.1.1
  have hb := C.1.2.1
  have hml := C.1.2.2.1
  have hown := C.1.2.2.2.1
  have hts := C.1.2.2.2.2
  have hl : lv_has ls 4 [(0, .int (nI p)), (1, .int (nI (mdg p)))] := hl
  have hdg := mdg_5 p
  have hnn := zk_nn_3 p
  obtain ⟨H, hH⟩ : ∃ H, H = s.heap := ⟨_, rfl⟩
  obtain ⟨locs, hlocs⟩ : ∃ q : List Loc, q = [] := ⟨_, rfl⟩
  rw [← hH, ← hlocs] at Z ⊢
  refine lv_iconst (v := nI 1) hx hb dX8_isPrimitive_0 (by decide) ?_
  refine lv_istore_n (lv' := [(2, .int (nI 1)), (0, .int (nI p)), (1, .int (nI (mdg p)))]) hx hb dX8_isPrimitive_1 rfl hl (by decide) rfl (fun ls hl => ?_)
  refine lv_iconst (v := nI 1) hx hb dX8_isPrimitive_2 (by decide) ?_
  refine lv_istore_n (lv' := [(3, .int (nI 1)), (2, .int (nI 1)), (0, .int (nI p)), (1, .int (nI (mdg p)))]) hx hb dX8_isPrimitive_3 rfl hl (by decide) rfl (fun ls hl => ?_)
  refine lp8_prim0 C p p8 p63 hpr (fun H locs ls Z hl => ?_) (fun H locs ls Z hl => ?_) (zk_nn p) 0 H locs ls (by omega) (fun j h1 h2 => absurd h1 (by omega)) Z (lv_sub hl [2, 3, 1, 0] rfl)
  · exact zk_zret C hr hlocks Z rfl ⟨rfl, rfl⟩ (Nat.le_of_ble_eq_true rfl) (Nat.le_of_ble_eq_true rfl) dX8_isPrimitive_38
  · refine lv_iconst (v := nI 0) hx hb dX8_isPrimitive_45 (by decide) ?_
    exact zk_zret C hr hlocks Z rfl ⟨rfl, rfl⟩ (Nat.le_of_ble_eq_true rfl) (Nat.le_of_ble_eq_true rfl) dX8_isPrimitive_46

