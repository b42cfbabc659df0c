/-! ===== model: makeGenerator, begin ===== -/
set_option maxRecDepth 100000
def apF (i : Nat) (P : List Nat) : List Nat := P.set i (if i = 0 then 1 else 0)
abbrev zk_p0 : List Nat := 1 :: List.replicate 31 0
theorem zk_fill (f : Nat → Nat) : ∀ (k i : Nat) (P : List Nat), i + k ≤ P.length → ∀ j, (zk_it (fun i P => P.set i (f i)) k i P)[j]? = if i ≤ j ∧ j < i + k then some (f j) else P[j]? := by
  intro k
  induction k with
  | zero => intro i P _ j; rw [zk_it_0, if_neg (by omega)]
  | succ k ih =>
    intro i P h j
    rw [zk_it_s, ih (i + 1) _ (by rw [List.length_set]; omega)]
    by_cases e : i = j
    · subst e
      rw [if_neg (by omega), if_pos ⟨Nat.le_refl _, by omega⟩, List.getElem?_set_self (by omega)]
    · by_cases h3 : i + 1 ≤ j ∧ j < i + 1 + k
      · rw [if_pos h3, if_pos (by omega)]
      · rw [if_neg h3, if_neg (by omega), List.getElem?_set_ne e]
theorem apF_32 {P : List Nat} (h : P.length = 32) : zk_it apF 32 0 P = zk_p0 := by
  have e : apF = fun i P => P.set i ((fun i => if i = 0 then 1 else 0) i) := rfl
  rw [e]
  apply List.ext_getElem?
  intro j
  rw [zk_fill (fun i => if i = 0 then 1 else 0) 32 0 P (by omega) j]
  by_cases q : j < 32
  · rw [if_pos ⟨Nat.zero_le _, by omega⟩]
    rcases Nat.eq_zero_or_pos j with hj | hj
    · subst hj; rfl
    · obtain ⟨i, hi⟩ : ∃ i, j = i + 1 := ⟨j - 1, by omega⟩
      subst hi
      rw [if_neg (by omega), List.getElem?_cons_succ, List.getElem?_replicate, if_pos (by omega)]
  · rw [if_neg (by omega), List.getElem?_eq_none (by omega), List.getElem?_eq_none (by rw [List.length_cons, List.length_replicate]; omega)]
theorem zk_bd_p0 {n : Nat} (h : 1 ≤ n) : zk_bd n zk_p0 := by
  intro j
  match j with
  | 0 => exact h
  | j + 1 =>
    show (List.replicate 31 0).getD j 0 ≤ n
    rw [List.getD_eq_getElem?_getD, List.getElem?_replicate]
    split <;> exact Nat.zero_le _
noncomputable def mgB (p n t dg e : Nat) (z : List Nat × Nat) : List Nat × Nat := if izr n t dg e = 0 then z else (lsR p (pw p (e % n)) (z.2 + 2) z.1, z.2 + 1)
noncomputable def ckq (n t dg e : Nat) : Nat := zk_it (fun e c => if izr n t dg e = 0 then c else c + 1) e 1 0
theorem ckq_s (n t dg e : Nat) : ckq n t dg (e + 1) = if izr n t dg (e + 1) = 0 then ckq n t dg e else ckq n t dg e + 1 := by
  unfold ckq
  rw [zk_it_last, Nat.add_comm 1 e]
theorem ckq_ok : ∀ q ∈ zk_pr, ∀ t, t < 4 → ∀ e, e < q.2 + 1 → ckq q.2 t (mdg q.1) e ≤ 15 := by decide +kernel
noncomputable def msq (p n t : Nat) : List Nat × Nat := zk_it (mgB p n t (mdg p)) n 1 (zk_p0, 0)
theorem msq_ok : ∀ q ∈ zk_pr, ∀ t, t < 4 → 1 ≤ t → zk_it (lbF (msq q.1 q.2 t).1) ((msq q.1 q.2 t).2 + 1) 0 0 = gnr q.1 q.2 t ∧ (msq q.1 q.2 t).2 = Nat.log2 (gnr q.1 q.2 t) := by decide +kernel
/-- remainders of powers by the generator -/
def rdc (g ck v : Nat) : Nat := if v >>> ck &&& 1 = 1 then v ^^^ g else v
noncomputable def rsv (g ck i : Nat) : Nat := zk_it (fun _ v => rdc g ck v <<< 1) i 0 1
noncomputable def rst (g ck i : Nat) : Nat := rdc g ck (rsv g ck i)
theorem rsv_s (g ck i : Nat) : rsv g ck (i + 1) = rst g ck i <<< 1 := by
  unfold rst rsv
  rw [zk_it_last]
noncomputable def lgn (p n t : Nat) : Nat := Nat.log2 (gnr p n t)
theorem rsv_ok : ∀ q ∈ zk_pr, ∀ t, t < 4 → 1 ≤ t → (∀ i, i < q.2 + 1 → rsv (gnr q.1 q.2 t) (lgn q.1 q.2 t) i < 131072 ∧ rst (gnr q.1 q.2 t) (lgn q.1 q.2 t) i < 2 ^ lgn q.1 q.2 t) ∧ lgn q.1 q.2 t < q.2 ∧ lgn q.1 q.2 t ≤ 15 ∧ 3 ≤ lgn q.1 q.2 t ∧ gnr q.1 q.2 t < 65536 := by decide +kernel
theorem lsR_len (p x : Nat) : ∀ (j : Nat) (c : List Nat), (lsR p x j c).length = c.length := by
  intro j
  induction j with
  | zero => intro c; rfl
  | succ j ih => intro c; rw [lsR_s, ih, List.length_set]
set_option maxHeartbeats 4000000 in
theorem lp8_ga {pg : Program} {l : Launch} {ev : Env} {s : State} {mm : MethodId} {args : Array Value} {below : List Frame} {meth : Method} {cd : Code} {Q : State → Prop} {D : va_G} {g : G4} {A : Nat → Prop} (C : zk_C pg s mm cd args cX8_makeGenerator 5 RX8 D g A) (hm ms ch kp md rs pr : Nat) (km p n t dep : Nat) (hpn : (p, n) ∈ zk_pr) (t1 : 1 ≤ t) (t3 : t ≤ 3) (gg cc_ : Nat) (Rs : List Nat) (hRs : Rs.length = 31) (fin : List Nat) (kk : ∀ (H : Heap) (locs : List Loc) (ls : Array Slot), zk_Z D A s H locs [(hm, .inr (7, [.int (nI km), .int (nI 1), .int (nI p), .int (nI (mdg p)), .int (nI n), .int (nI t), .int (nI dep), .int (nI gg), .int (nI cc_), .ref ms, .ref ch, .ref kp, .ref md, .ref rs, .ref pr])), (rs, .inl (g.1, 31, .inl (zk_ia Rs))), (pr, .inl (g.1, 32, .inl (zk_ia fin)))] → lv_has ls 5 [(0, .ref hm)] → W pg l ev (zk_R 2 0 0) s mm args below meth cd H locs 0 0 Q (F0 mm 29 ls [])) :
    ∀ (k : Nat) (i : Nat) (Pp : List Nat) (H : Heap) (locs : List Loc) (ls : Array Slot), (i + k = 32) → (Pp.length = 32) → (zk_it apF k i Pp = fin) → zk_Z D A s H locs [(hm, .inr (7, [.int (nI km), .int (nI 1), .int (nI p), .int (nI (mdg p)), .int (nI n), .int (nI t), .int (nI dep), .int (nI gg), .int (nI cc_), .ref ms, .ref ch, .ref kp, .ref md, .ref rs, .ref pr])), (rs, .inl (g.1, 31, .inl (zk_ia Rs))), (pr, .inl (g.1, 32, .inl (zk_ia Pp)))] → lv_has ls 5 [(0, .ref hm), (1, .int (nI i))] → W pg l ev (zk_R 2 0 0) s mm args below meth cd H locs 0 0 Q (F0 mm 2 ls []) := by
  have hx := C.1.1
  have hb := C.1.2.1
  have hml := C.1.2.2.1
  have hown := C.1.2.2.2.1
  have hts := C.1.2.2.2.2
  intro k
  induction k with
  | zero =>
    intro i Pp H locs ls hik hPp hfin Z hl
    have hfin : Pp = fin := hfin
    subst hfin
    refine lv_iload_n hx hb dX8_makeGenerator_2 rfl (lv_at hl 1 rfl) ?_
    refine lv_bipush (v := nI 32) hx hb dX8_makeGenerator_3 (by decide) ?_
    refine nr_ge (tgt := 29) hx hb (by omega) (by omega) dX8_makeGenerator_5 (by decide) (fun c_1 => ?_) (fun c_1 => absurd c_1 (by omega))
    exact kk  H locs ls  Z (lv_sub hl [0] rfl)
  | succ k ih =>
    intro i Pp H locs ls hik hPp hfin Z hl
    refine lv_iload_n hx hb dX8_makeGenerator_2 rfl (lv_at hl 1 rfl) ?_
    refine lv_bipush (v := nI 32) hx hb dX8_makeGenerator_3 (by decide) ?_
    refine nr_ge (tgt := 29) hx hb (by omega) (by omega) dX8_makeGenerator_5 (by decide) (fun c_1 => absurd c_1 (by omega)) (fun c_1 => ?_)
    refine lv_aload_n hx hb dX8_makeGenerator_8 rfl (lv_at hl 0 rfl) ?_
    refine zk_get C Z in_X8 0 rfl rfl 14 (by decide) q611 rfl (v := .ref pr) rfl dX8_makeGenerator_9 ?_
    refine lv_iload_n hx hb dX8_makeGenerator_12 rfl (lv_at hl 1 rfl) ?_
    refine lv_iload_n hx hb dX8_makeGenerator_13 rfl (lv_at hl 1 rfl) ?_
    refine nr_ne0 (tgt := 21) hx hb (by omega) dX8_makeGenerator_14 (by decide) (fun c_1 => ?_) (fun c_1 => ?_)
    · refine lv_iconst (v := nI 0) hx hb dX8_makeGenerator_21 (by decide) ?_
      refine zk_iast C Z 2 rfl (by decide) (by omega) hPp dX8_makeGenerator_22 (fun H locs Z => ?_)
      have hlen_2 : (Pp.set i 0).length = 32 := by rw [List.length_set]; exact hPp
      have Z : zk_Z D A s H locs [(hm, .inr (7, [.int (nI km), .int (nI 1), .int (nI p), .int (nI (mdg p)), .int (nI n), .int (nI t), .int (nI dep), .int (nI gg), .int (nI cc_), .ref ms, .ref ch, .ref kp, .ref md, .ref rs, .ref pr])), (rs, .inl (g.1, 31, .inl (zk_ia Rs))), (pr, .inl (g.1, 32, .inl (zk_ia (Pp.set i 0))))] := Z
      refine nr_iinc (n := 1) (lv' := [(1, .int (nI (i + 1))), (0, .ref hm)]) hx hb (by decide) dX8_makeGenerator_23 hl (k := 1) rfl (by decide) rfl (fun ls hl => ?_)
      refine lv_goto (tgt := 2) hx hb dX8_makeGenerator_26 (by decide) ?_
      exact ih (i + 1) (Pp.set i 0) H locs ls (by omega) hlen_2 ((congrArg (zk_it apF k (i + 1)) (show Pp.set i 0 = apF i Pp from by unfold apF; rw [if_neg c_1])).trans hfin) Z (lv_sub hl [1, 0] rfl)
    · refine lv_iconst (v := nI 1) hx hb dX8_makeGenerator_17 (by decide) ?_
      refine lv_goto (tgt := 22) hx hb dX8_makeGenerator_18 (by decide) ?_
      refine zk_iast C Z 2 rfl (by decide) (by omega) hPp dX8_makeGenerator_22 (fun H locs Z => ?_)
      have hlen_3 : (Pp.set i 1).length = 32 := by rw [List.length_set]; exact hPp
      have Z : zk_Z D A s H locs [(hm, .inr (7, [.int (nI km), .int (nI 1), .int (nI p), .int (nI (mdg p)), .int (nI n), .int (nI t), .int (nI dep), .int (nI gg), .int (nI cc_), .ref ms, .ref ch, .ref kp, .ref md, .ref rs, .ref pr])), (rs, .inl (g.1, 31, .inl (zk_ia Rs))), (pr, .inl (g.1, 32, .inl (zk_ia (Pp.set i 1))))] := Z
      refine nr_iinc (n := 1) (lv' := [(1, .int (nI (i + 1))), (0, .ref hm)]) hx hb (by decide) dX8_makeGenerator_23 hl (k := 1) rfl (by decide) rfl (fun ls hl => ?_)
      refine lv_goto (tgt := 2) hx hb dX8_makeGenerator_26 (by decide) ?_
      exact ih (i + 1) (Pp.set i 1) H locs ls (by omega) hlen_3 ((congrArg (zk_it apF k (i + 1)) (show Pp.set i 1 = apF i Pp from by unfold apF; rw [if_pos c_1])).trans hfin) Z (lv_sub hl [1, 0] rfl)

set_option maxHeartbeats 4000000 in
theorem lp8_gi {pg : Program} {l : Launch} {ev : Env} {s : State} {mm : MethodId} {args : Array Value} {below : List Frame} {meth : Method} {cd : Code} {Q : State → Prop} {D : va_G} {g : G4} {A : Nat → Prop} (C : zk_C pg s mm cd args cX8_makeGenerator 5 RX8 D g A) (hm ms ch kp md rs pr : Nat) (km p n t dep : Nat) (hpn : (p, n) ∈ zk_pr) (t1 : 1 ≤ t) (t3 : t ≤ 3) (gg cc_ : Nat) (Rs : List Nat) (hRs : Rs.length = 31) (ee rt : Nat) (rtn : rt ≤ n) (fin : List Nat) (kk : ∀ (P1 : List Nat) (H : Heap) (locs : List Loc) (ls : Array Slot), P1.length = 32 → zk_bd n P1 → P1 = fin → zk_Z D A s H locs [(hm, .inr (7, [.int (nI km), .int (nI 1), .int (nI p), .int (nI (mdg p)), .int (nI n), .int (nI t), .int (nI dep), .int (nI gg), .int (nI cc_), .ref ms, .ref ch, .ref kp, .ref md, .ref rs, .ref pr])), (rs, .inl (g.1, 31, .inl (zk_ia Rs))), (pr, .inl (g.1, 32, .inl (zk_ia P1)))] → lv_has ls 5 [(0, .ref hm), (1, .int (nI ee))] → W pg l ev (zk_R 2 0 0) s mm args below meth cd H locs 0 0 Q (F0 mm 144 ls [])) :
    ∀ (j : Nat) (Pp : List Nat) (H : Heap) (locs : List Loc) (ls : Array Slot), (j ≤ 32) → (Pp.length = 32) → (zk_bd n Pp) → (lsR p rt j Pp = fin) → zk_Z D A s H locs [(hm, .inr (7, [.int (nI km), .int (nI 1), .int (nI p), .int (nI (mdg p)), .int (nI n), .int (nI t), .int (nI dep), .int (nI gg), .int (nI cc_), .ref ms, .ref ch, .ref kp, .ref md, .ref rs, .ref pr])), (rs, .inl (g.1, 31, .inl (zk_ia Rs))), (pr, .inl (g.1, 32, .inl (zk_ia Pp)))] → lv_has ls 5 [(0, .ref hm), (1, .int (nI ee)), (2, .int (nI rt)), (3, .int (nI j + (-1)))] → W pg l ev (zk_R 2 0 0) s mm args below meth cd H locs 0 0 Q (F0 mm 89 ls []) := by
  have hx := C.1.1
  have hb := C.1.2.1
  have hml := C.1.2.2.1
  have hown := C.1.2.2.2.1
  have hts := C.1.2.2.2.2
  have hn := zk_n3 _ hpn
  dsimp only at hn
  obtain ⟨hp0, hnn, hp8, hp64⟩ := pw_0 _ hpn
  dsimp only at hp0 hnn hp8 hp64
  have hdg := mdg_5 p
  have hxl : ∀ {a b : Nat}, a ≤ n → b ≤ n → a ^^^ b ≤ n := fun ha hb => zk_xl hn ha hb
  have hgl : ∀ {a b : Nat}, a ≤ n → b ≤ n → gm p a b ≤ n := fun ha hb => (zk_gm_all _ hpn _ (Nat.lt_succ_of_le ha) _ (Nat.lt_succ_of_le hb)).2
  intro j
  induction j with
  | zero =>
    intro Pp H locs ls hj hPp bP hfin Z hl
    have hfin : Pp = fin := hfin
    refine lv_iload_n hx hb dX8_makeGenerator_89 rfl (lv_at hl 3 rfl) ?_
    refine lv_if_lt (tgt := 144) hx hb dX8_makeGenerator_90 (by decide) (fun c_1 => ?_) (fun c_1 => absurd c_1 (fun q => q (by decide)))
    exact kk Pp H locs ls hPp bP hfin Z (lv_sub hl [0, 1] rfl)
  | succ j ih =>
    intro Pp H locs ls hj hPp bP hfin Z hl
    rw [pk_m1] at hl
    refine lv_iload_n hx hb dX8_makeGenerator_89 rfl (lv_at hl 3 rfl) ?_
    refine nr_lt0 (tgt := 144) hx hb (by omega) dX8_makeGenerator_90 (by decide) ?_
    refine lv_iload_n hx hb dX8_makeGenerator_93 rfl (lv_at hl 3 rfl) ?_
    refine nr_le0 (tgt := 108) hx hb (by omega) dX8_makeGenerator_94 (by decide) (fun c_1 => ?_) (fun c_1 => ?_)
    · refine lv_iconst (v := nI 0) hx hb dX8_makeGenerator_108 (by decide) ?_
      refine lv_istore (lv' := [(4, .int (nI 0)), (0, .ref hm), (1, .int (nI ee)), (2, .int (nI rt)), (3, .int (nI j))]) hx hb dX8_makeGenerator_109 hl (by decide) rfl (fun ls hl => ?_)
      refine lv_aload_n hx hb dX8_makeGenerator_111 rfl (lv_at hl 1 rfl) ?_
      refine zk_get C Z in_X8 0 rfl rfl 14 (by decide) q611 rfl (v := .ref pr) rfl dX8_makeGenerator_112 ?_
      refine lv_iload_n hx hb dX8_makeGenerator_115 rfl (lv_at hl 4 rfl) ?_
      refine lv_iload hx hb dX8_makeGenerator_116 (lv_at hl 0 rfl) ?_
      refine lv_aload_n hx hb dX8_makeGenerator_118 rfl (lv_at hl 1 rfl) ?_
      refine zk_get C Z in_X8 0 rfl rfl 14 (by decide) q611 rfl (v := .ref pr) rfl dX8_makeGenerator_119 ?_
      refine lv_iload_n hx hb dX8_makeGenerator_122 rfl (lv_at hl 4 rfl) ?_
      refine zk_iald C Z 2 rfl (by decide) (by omega) dX8_makeGenerator_123 ?_
      refine lv_iload_n hx hb dX8_makeGenerator_124 rfl (lv_at hl 3 rfl) ?_
      refine lv_aload_n hx hb dX8_makeGenerator_125 rfl (lv_at hl 1 rfl) ?_
      refine zk_get C Z in_X8 0 rfl rfl 2 (by decide) q599 rfl (v := .int (nI p)) rfl dX8_makeGenerator_126 ?_
      refine lv_aload_n hx hb dX8_makeGenerator_129 rfl (lv_at hl 1 rfl) ?_
      refine zk_get C Z in_X8 0 rfl rfl 3 (by decide) q600 rfl (v := .int (nI (mdg p))) rfl dX8_makeGenerator_130 ?_
      refine zk_callS (cells' := 0) (slots' := 0) (rest := [.int (nI 0), .int (nI j), .ref pr]) (n := 4) (wr := [(hm, .inr (7, [.int (nI km), .int (nI 1), .int (nI p), .int (nI (mdg p)), .int (nI n), .int (nI t), .int (nI dep), .int (nI gg), .int (nI cc_), .ref ms, .ref ch, .ref kp, .ref md, .ref rs, .ref pr])), (rs, .inl (g.1, 31, .inl (zk_ia Rs))), (pr, .inl (g.1, 32, .inl (zk_ia Pp)))]) C Z (m8_prd l D g (Pp.getD j 0) rt p (mdg p) (by omega) hp64 (by omega) (by have := bP j; omega)) [] [0, 1, 2] rfl rfl (by decide) (by decide) (by decide) q657 q658 q26 q659 (by decide +kernel) rfl (Nat.le_of_ble_eq_true rfl) (Nat.le_of_ble_eq_true rfl) (Nat.le_of_ble_eq_true rfl) (Nat.le_of_ble_eq_true rfl) rfl rfl hl.1 rfl (Nat.le_of_ble_eq_true rfl) dX8_makeGenerator_133 (fun v w1 H locs hq Z => ?_)
      obtain ⟨rfl, rfl⟩ := hq
      have Z : zk_Z D A s H locs [(hm, .inr (7, [.int (nI km), .int (nI 1), .int (nI p), .int (nI (mdg p)), .int (nI n), .int (nI t), .int (nI dep), .int (nI gg), .int (nI cc_), .ref ms, .ref ch, .ref kp, .ref md, .ref rs, .ref pr])), (rs, .inl (g.1, 31, .inl (zk_ia Rs))), (pr, .inl (g.1, 32, .inl (zk_ia Pp)))] := Z.sub [0, 1, 2] (by decide) rfl
      refine W.eq (g2 := F0 mm 136 ls [.int (nI (mprd (Pp.getD j 0) rt p (mdg p))), .int (nI 0), .int (nI j), .ref pr]) rfl ?_
      rw [show mprd (Pp.getD j 0) rt p (mdg p) = gm p (Pp.getD j 0) rt from (mprd_gm _ hpn _ (Nat.lt_succ_of_le (bP j)) _ (Nat.lt_succ_of_le rtn))]
      refine nr_ixor hx hb dX8_makeGenerator_136 ?_
      refine zk_iast C Z 2 rfl (by decide) (by omega) hPp dX8_makeGenerator_137 (fun H locs Z => ?_)
      have hlen_2 : (Pp.set j (0 ^^^ (gm p (Pp.getD j 0) rt))).length = 32 := by rw [List.length_set]; exact hPp
      have hbd_3 : zk_bd n (Pp.set j (0 ^^^ (gm p (Pp.getD j 0) rt))) := zk_bd_set bP (by first | exact hxl (bP _) (hgl (bP _) rtn) | exact hxl (Nat.zero_le _) (hgl (bP _) rtn))
      have Z : zk_Z D A s H locs [(hm, .inr (7, [.int (nI km), .int (nI 1), .int (nI p), .int (nI (mdg p)), .int (nI n), .int (nI t), .int (nI dep), .int (nI gg), .int (nI cc_), .ref ms, .ref ch, .ref kp, .ref md, .ref rs, .ref pr])), (rs, .inl (g.1, 31, .inl (zk_ia Rs))), (pr, .inl (g.1, 32, .inl (zk_ia (Pp.set j (0 ^^^ (gm p (Pp.getD j 0) rt))))))] := Z
      refine lv_iinc (v := nI j + (-1)) (lv' := [(3, .int (nI j + (-1))), (4, .int (nI 0)), (0, .ref hm), (1, .int (nI ee)), (2, .int (nI rt))]) hx hb dX8_makeGenerator_138 hl (k := 4) rfl rfl (by decide) rfl (fun ls hl => ?_)
      refine lv_goto (tgt := 89) hx hb dX8_makeGenerator_141 (by decide) ?_
      exact ih (Pp.set j (0 ^^^ (gm p (Pp.getD j 0) rt))) H locs ls (by omega) hlen_2 hbd_3 (by rw [lsR_s, if_neg (by omega)] at hfin; exact hfin) Z (lv_sub hl [2, 3, 4, 0] rfl)
    · refine lv_aload_n hx hb dX8_makeGenerator_97 rfl (lv_at hl 0 rfl) ?_
      refine zk_get C Z in_X8 0 rfl rfl 14 (by decide) q611 rfl (v := .ref pr) rfl dX8_makeGenerator_98 ?_
      refine lv_iload_n hx hb dX8_makeGenerator_101 rfl (lv_at hl 3 rfl) ?_
      refine lv_iconst (v := nI 1) hx hb dX8_makeGenerator_102 (by decide) ?_
      refine nr_isub hx hb (by omega) dX8_makeGenerator_103 ?_
      refine zk_iald C Z 2 rfl (by decide) (by omega) dX8_makeGenerator_104 ?_
      refine lv_goto (tgt := 109) hx hb dX8_makeGenerator_105 (by decide) ?_
      refine lv_istore (lv' := [(4, .int (nI (Pp.getD (j - 1) 0))), (0, .ref hm), (1, .int (nI ee)), (2, .int (nI rt)), (3, .int (nI j))]) hx hb dX8_makeGenerator_109 hl (by decide) rfl (fun ls hl => ?_)
      refine lv_aload_n hx hb dX8_makeGenerator_111 rfl (lv_at hl 1 rfl) ?_
      refine zk_get C Z in_X8 0 rfl rfl 14 (by decide) q611 rfl (v := .ref pr) rfl dX8_makeGenerator_112 ?_
      refine lv_iload_n hx hb dX8_makeGenerator_115 rfl (lv_at hl 4 rfl) ?_
      refine lv_iload hx hb dX8_makeGenerator_116 (lv_at hl 0 rfl) ?_
      refine lv_aload_n hx hb dX8_makeGenerator_118 rfl (lv_at hl 1 rfl) ?_
      refine zk_get C Z in_X8 0 rfl rfl 14 (by decide) q611 rfl (v := .ref pr) rfl dX8_makeGenerator_119 ?_
      refine lv_iload_n hx hb dX8_makeGenerator_122 rfl (lv_at hl 4 rfl) ?_
      refine zk_iald C Z 2 rfl (by decide) (by omega) dX8_makeGenerator_123 ?_
      refine lv_iload_n hx hb dX8_makeGenerator_124 rfl (lv_at hl 3 rfl) ?_
      refine lv_aload_n hx hb dX8_makeGenerator_125 rfl (lv_at hl 1 rfl) ?_
      refine zk_get C Z in_X8 0 rfl rfl 2 (by decide) q599 rfl (v := .int (nI p)) rfl dX8_makeGenerator_126 ?_
      refine lv_aload_n hx hb dX8_makeGenerator_129 rfl (lv_at hl 1 rfl) ?_
      refine zk_get C Z in_X8 0 rfl rfl 3 (by decide) q600 rfl (v := .int (nI (mdg p))) rfl dX8_makeGenerator_130 ?_
      refine zk_callS (cells' := 0) (slots' := 0) (rest := [.int (nI (Pp.getD (j - 1) 0)), .int (nI j), .ref pr]) (n := 4) (wr := [(hm, .inr (7, [.int (nI km), .int (nI 1), .int (nI p), .int (nI (mdg p)), .int (nI n), .int (nI t), .int (nI dep), .int (nI gg), .int (nI cc_), .ref ms, .ref ch, .ref kp, .ref md, .ref rs, .ref pr])), (rs, .inl (g.1, 31, .inl (zk_ia Rs))), (pr, .inl (g.1, 32, .inl (zk_ia Pp)))]) C Z (m8_prd l D g (Pp.getD j 0) rt p (mdg p) (by omega) hp64 (by omega) (by have := bP j; omega)) [] [0, 1, 2] rfl rfl (by decide) (by decide) (by decide) q657 q658 q26 q659 (by decide +kernel) rfl (Nat.le_of_ble_eq_true rfl) (Nat.le_of_ble_eq_true rfl) (Nat.le_of_ble_eq_true rfl) (Nat.le_of_ble_eq_true rfl) rfl rfl hl.1 rfl (Nat.le_of_ble_eq_true rfl) dX8_makeGenerator_133 (fun v w1 H locs hq Z => ?_)
      obtain ⟨rfl, rfl⟩ := hq
      have Z : zk_Z D A s H locs [(hm, .inr (7, [.int (nI km), .int (nI 1), .int (nI p), .int (nI (mdg p)), .int (nI n), .int (nI t), .int (nI dep), .int (nI gg), .int (nI cc_), .ref ms, .ref ch, .ref kp, .ref md, .ref rs, .ref pr])), (rs, .inl (g.1, 31, .inl (zk_ia Rs))), (pr, .inl (g.1, 32, .inl (zk_ia Pp)))] := Z.sub [0, 1, 2] (by decide) rfl
      refine W.eq (g2 := F0 mm 136 ls [.int (nI (mprd (Pp.getD j 0) rt p (mdg p))), .int (nI (Pp.getD (j - 1) 0)), .int (nI j), .ref pr]) rfl ?_
      rw [show mprd (Pp.getD j 0) rt p (mdg p) = gm p (Pp.getD j 0) rt from (mprd_gm _ hpn _ (Nat.lt_succ_of_le (bP j)) _ (Nat.lt_succ_of_le rtn))]
      refine nr_ixor hx hb dX8_makeGenerator_136 ?_
      refine zk_iast C Z 2 rfl (by decide) (by omega) hPp dX8_makeGenerator_137 (fun H locs Z => ?_)
      have hlen_4 : (Pp.set j ((Pp.getD (j - 1) 0) ^^^ (gm p (Pp.getD j 0) rt))).length = 32 := by rw [List.length_set]; exact hPp
      have hbd_5 : zk_bd n (Pp.set j ((Pp.getD (j - 1) 0) ^^^ (gm p (Pp.getD j 0) rt))) := zk_bd_set bP (by first | exact hxl (bP _) (hgl (bP _) rtn) | exact hxl (Nat.zero_le _) (hgl (bP _) rtn))
      have Z : zk_Z D A s H locs [(hm, .inr (7, [.int (nI km), .int (nI 1), .int (nI p), .int (nI (mdg p)), .int (nI n), .int (nI t), .int (nI dep), .int (nI gg), .int (nI cc_), .ref ms, .ref ch, .ref kp, .ref md, .ref rs, .ref pr])), (rs, .inl (g.1, 31, .inl (zk_ia Rs))), (pr, .inl (g.1, 32, .inl (zk_ia (Pp.set j ((Pp.getD (j - 1) 0) ^^^ (gm p (Pp.getD j 0) rt))))))] := Z
      refine lv_iinc (v := nI j + (-1)) (lv' := [(3, .int (nI j + (-1))), (4, .int (nI (Pp.getD (j - 1) 0))), (0, .ref hm), (1, .int (nI ee)), (2, .int (nI rt))]) hx hb dX8_makeGenerator_138 hl (k := 4) rfl rfl (by decide) rfl (fun ls hl => ?_)
      refine lv_goto (tgt := 89) hx hb dX8_makeGenerator_141 (by decide) ?_
      exact ih (Pp.set j ((Pp.getD (j - 1) 0) ^^^ (gm p (Pp.getD j 0) rt))) H locs ls (by omega) hlen_4 hbd_5 (by rw [lsR_s, if_pos c_1] at hfin; exact hfin) Z (lv_sub hl [2, 3, 4, 0] rfl)

theorem izr_lt (n t dg e : Nat) : izr n t dg e < 2 := by
  unfold izr
  exact zk_it_inv (f := izF n t) (fun _ z => z.2 < 2) dg 0 (e, 0) Nat.two_pos (fun j z _ _ _ => by unfold izF; dsimp only; split; decide; split <;> decide)
set_option maxHeartbeats 4000000 in
theorem lp8_gb {pg : Program} {l : Launch} {ev : Env} {s : State} {mm : MethodId} {args : Array Value} {below : List Frame} {meth : Method} {cd : Code} {Q : State → Prop} {D : va_G} {g : G4} {A : Nat → Prop} (C : zk_C pg s mm cd args cX8_makeGenerator 5 RX8 D g A) (hm ms ch kp md rs pr : Nat) (km p n t dep : Nat) (hpn : (p, n) ∈ zk_pr) (t1 : 1 ≤ t) (t3 : t ≤ 3) (gg : Nat) (Rs : List Nat) (hRs : Rs.length = 31) (fin : List Nat × Nat) (kk : ∀ (P1 : List Nat) (H : Heap) (locs : List Loc) (ls : Array Slot), P1.length = 32 → zk_bd n P1 → P1 = fin.1 → zk_Z D A s H locs [(hm, .inr (7, [.int (nI km), .int (nI 1), .int (nI p), .int (nI (mdg p)), .int (nI n), .int (nI t), .int (nI dep), .int (nI gg), .int (nI fin.2), .ref ms, .ref ch, .ref kp, .ref md, .ref rs, .ref pr])), (rs, .inl (g.1, 31, .inl (zk_ia Rs))), (pr, .inl (g.1, 32, .inl (zk_ia P1)))] → lv_has ls 5 [(0, .ref hm)] → W pg l ev (zk_R 2 0 0) s mm args below meth cd H locs 0 0 Q (F0 mm 150 ls [])) :
    ∀ (k : Nat) (e0 cc_ : Nat) (Pp : List Nat) (H : Heap) (locs : List Loc) (ls : Array Slot), (e0 + k = n) → (cc_ = ckq n t (mdg p) e0) → (Pp.length = 32) → (zk_bd n Pp) → (zk_it (mgB p n t (mdg p)) k (e0 + 1) (Pp, cc_) = fin) → zk_Z D A s H locs [(hm, .inr (7, [.int (nI km), .int (nI 1), .int (nI p), .int (nI (mdg p)), .int (nI n), .int (nI t), .int (nI dep), .int (nI gg), .int (nI cc_), .ref ms, .ref ch, .ref kp, .ref md, .ref rs, .ref pr])), (rs, .inl (g.1, 31, .inl (zk_ia Rs))), (pr, .inl (g.1, 32, .inl (zk_ia Pp)))] → lv_has ls 5 [(0, .ref hm), (1, .int (nI (e0 + 1)))] → W pg l ev (zk_R 2 0 0) s mm args below meth cd H locs 0 0 Q (F0 mm 36 ls []) := by
  have hx := C.1.1
  have hb := C.1.2.1
  have hml := C.1.2.2.1
  have hown := C.1.2.2.2.1
  have hts := C.1.2.2.2.2
  have hn := zk_n3 _ hpn
  dsimp only at hn
  obtain ⟨hp0, hnn, hp8, hp64⟩ := pw_0 _ hpn
  dsimp only at hp0 hnn hp8 hp64
  have hdg := mdg_5 p
  intro k
  induction k with
  | zero =>
    intro e0 cc_ Pp H locs ls hik hck hPp bP hfin Z hl
    have hfin : (Pp, cc_) = fin := hfin
    subst hfin
    refine lv_iload_n hx hb dX8_makeGenerator_36 rfl (lv_at hl 1 rfl) ?_
    refine lv_aload_n hx hb dX8_makeGenerator_37 rfl (lv_at hl 0 rfl) ?_
    refine zk_get C Z in_X8 0 rfl rfl 4 (by decide) q601 rfl (v := .int (nI n)) rfl dX8_makeGenerator_38 ?_
    refine nr_gt (tgt := 150) hx hb (by omega) (by omega) dX8_makeGenerator_41 (by decide) (fun c_1 => ?_) (fun c_1 => absurd c_1 (by omega))
    exact kk Pp H locs ls hPp bP rfl Z (lv_sub hl [0] rfl)
  | succ k ih =>
    intro e0 cc_ Pp H locs ls hik hck hPp bP hfin Z hl
    have hck15 := ckq_ok _ hpn t (by omega) e0 (by dsimp only; omega)
    dsimp only at hck15
    rw [← hck] at hck15
    refine lv_iload_n hx hb dX8_makeGenerator_36 rfl (lv_at hl 1 rfl) ?_
    refine lv_aload_n hx hb dX8_makeGenerator_37 rfl (lv_at hl 0 rfl) ?_
    refine zk_get C Z in_X8 0 rfl rfl 4 (by decide) q601 rfl (v := .int (nI n)) rfl dX8_makeGenerator_38 ?_
    refine nr_gt (tgt := 150) hx hb (by omega) (by omega) dX8_makeGenerator_41 (by decide) (fun c_1 => absurd c_1 (by omega)) (fun c_1 => ?_)
    refine lv_aload_n hx hb dX8_makeGenerator_44 rfl (lv_at hl 0 rfl) ?_
    refine lv_iload_n hx hb dX8_makeGenerator_45 rfl (lv_at hl 1 rfl) ?_
    refine lv_aload_n hx hb dX8_makeGenerator_46 rfl (lv_at hl 0 rfl) ?_
    refine zk_get C Z in_X8 0 rfl rfl 4 (by decide) q601 rfl (v := .int (nI n)) rfl dX8_makeGenerator_47 ?_
    refine nr_irem hx hb (by omega) (by omega) (by omega) dX8_makeGenerator_50 ?_
    refine nr_ne0 (tgt := 61) hx hb (by have := Nat.mod_lt (e0 + 1) (show 0 < n by omega); omega) dX8_makeGenerator_51 (by decide) (fun c_1 => ?_) (fun c_1 => ?_)
    · refine lv_iload_n hx hb dX8_makeGenerator_61 rfl (lv_at hl 1 rfl) ?_
      refine zk_callV (cells' := 0) (slots' := 0) (rest := []) (n := 1) (wr := [(rs, .inl (g.1, 31, .inl (zk_ia Rs))), (pr, .inl (g.1, 32, .inl (zk_ia Pp)))]) C Z (m8_iz l D g hm ms ch kp md rs pr km 1 p (mdg p) n t dep gg cc_ (e0 + 1) (by omega) (by omega) t3 (by omega) (by omega)) [0] [1, 2] rfl rfl (by decide) (by decide) (by decide) 0 7 rfl rfl rfl q664 q666 qs9 q26 q667 (by decide +kernel) rfl (Nat.le_of_ble_eq_true rfl) (Nat.le_of_ble_eq_true rfl) (Nat.le_of_ble_eq_true rfl) (Nat.le_of_ble_eq_true rfl) rfl rfl hl.1 rfl (Nat.le_of_ble_eq_true rfl) dX8_makeGenerator_62 (fun v w1 H locs hq Z => ?_)
      obtain ⟨rfl, rfl⟩ := hq
      have Z : zk_Z D A s H locs [(hm, .inr (7, [.int (nI km), .int (nI 1), .int (nI p), .int (nI (mdg p)), .int (nI n), .int (nI t), .int (nI dep), .int (nI gg), .int (nI cc_), .ref ms, .ref ch, .ref kp, .ref md, .ref rs, .ref pr])), (rs, .inl (g.1, 31, .inl (zk_ia Rs))), (pr, .inl (g.1, 32, .inl (zk_ia Pp)))] := Z.sub [2, 0, 1] (by decide) rfl
      refine W.eq (g2 := F0 mm 65 ls [.int (nI (izr n t (mdg p) (e0 + 1)))]) rfl ?_
      refine nr_eq0 (tgt := 144) hx hb (by have h9 := izr_lt n t (mdg p) (e0 + 1); have h8 := izr_lt n t (mdg p) n; omega) dX8_makeGenerator_65 (by decide) (fun c_2 => ?_) (fun c_2 => ?_)
      · refine nr_iinc (n := 1) (lv' := [(1, .int (nI (e0 + 1 + 1))), (0, .ref hm)]) hx hb (by decide) dX8_makeGenerator_144 hl (k := 1) rfl (by decide) rfl (fun ls hl => ?_)
        refine lv_goto (tgt := 36) hx hb dX8_makeGenerator_147 (by decide) ?_
        exact ih (e0 + 1) cc_ Pp H locs ls (by omega) (by rw [ckq_s, if_pos c_2]; exact hck) hPp bP ((congrArg (zk_it (mgB p n t (mdg p)) k (e0 + 1 + 1)) (show (Pp, cc_) = mgB p n t (mdg p) (e0 + 1) (Pp, cc_) from by unfold mgB; rw [if_pos c_2])).trans hfin) Z (lv_sub hl [1, 0] rfl)
      · refine lv_aload_n hx hb dX8_makeGenerator_68 rfl (lv_at hl 0 rfl) ?_
        refine lv_iload_n hx hb dX8_makeGenerator_69 rfl (lv_at hl 1 rfl) ?_
        refine zk_callV (cells' := 0) (slots' := 0) (rest := []) (n := 1) (wr := [(rs, .inl (g.1, 31, .inl (zk_ia Rs))), (pr, .inl (g.1, 32, .inl (zk_ia Pp)))]) C Z (m8_pw l D g hm ms ch kp md rs pr km 1 p n t dep gg cc_ hpn (e0 + 1) (by omega)) [0] [1, 2] rfl rfl (by decide) (by decide) (by decide) 0 7 rfl rfl rfl q668 q670 qs10 q26 q671 (by decide +kernel) rfl (Nat.le_of_ble_eq_true rfl) (Nat.le_of_ble_eq_true rfl) (Nat.le_of_ble_eq_true rfl) (Nat.le_of_ble_eq_true rfl) rfl rfl hl.1 rfl (Nat.le_of_ble_eq_true rfl) dX8_makeGenerator_70 (fun v w1 H locs hq Z => ?_)
        obtain ⟨rfl, rfl⟩ := hq
        have Z : zk_Z D A s H locs [(hm, .inr (7, [.int (nI km), .int (nI 1), .int (nI p), .int (nI (mdg p)), .int (nI n), .int (nI t), .int (nI dep), .int (nI gg), .int (nI cc_), .ref ms, .ref ch, .ref kp, .ref md, .ref rs, .ref pr])), (rs, .inl (g.1, 31, .inl (zk_ia Rs))), (pr, .inl (g.1, 32, .inl (zk_ia Pp)))] := Z.sub [2, 0, 1] (by decide) rfl
        refine W.eq (g2 := F0 mm 73 ls [.int (nI (pw p ((e0 + 1) % n)))]) rfl ?_
        refine lv_istore_n (lv' := [(2, .int (nI (pw p ((e0 + 1) % n)))), (0, .ref hm), (1, .int (nI (e0 + 1)))]) hx hb dX8_makeGenerator_73 rfl hl (by decide) rfl (fun ls hl => ?_)
        refine lv_aload_n hx hb dX8_makeGenerator_74 rfl (lv_at hl 1 rfl) ?_
        refine lv_dup hx hb dX8_makeGenerator_75 rfl ?_
        refine zk_get C Z in_X8 0 rfl rfl 8 (by decide) q605 rfl (v := .int (nI cc_)) rfl dX8_makeGenerator_76 ?_
        refine lv_iconst (v := nI 1) hx hb dX8_makeGenerator_79 (by decide) ?_
        refine nr_iadd hx hb dX8_makeGenerator_80 ?_
        refine zk_put C Z in_X8 tyX8 tyX8_ok nmX8 0 rfl rfl 8 (by decide) q605 rfl rfl (v := .int (nI (cc_ + 1))) rfl rfl (Nat.le_of_ble_eq_true rfl) dX8_makeGenerator_81 (fun H locs Z => ?_)
        have Z : zk_Z D A s H locs [(hm, .inr (7, [.int (nI km), .int (nI 1), .int (nI p), .int (nI (mdg p)), .int (nI n), .int (nI t), .int (nI dep), .int (nI gg), .int (nI (cc_ + 1)), .ref ms, .ref ch, .ref kp, .ref md, .ref rs, .ref pr])), (rs, .inl (g.1, 31, .inl (zk_ia Rs))), (pr, .inl (g.1, 32, .inl (zk_ia Pp)))] := Z
        refine lv_aload_n hx hb dX8_makeGenerator_84 rfl (lv_at hl 1 rfl) ?_
        refine zk_get C Z in_X8 0 rfl rfl 8 (by decide) q605 rfl (v := .int (nI (cc_ + 1))) rfl dX8_makeGenerator_85 ?_
        refine lv_istore_n (lv' := [(3, .int (nI (cc_ + 1))), (2, .int (nI (pw p ((e0 + 1) % n)))), (0, .ref hm), (1, .int (nI (e0 + 1)))]) hx hb dX8_makeGenerator_88 rfl hl (by decide) rfl (fun ls hl => ?_)
        rw [show nI (cc_ + 1) = nI (cc_ + 2) + (-1) from (pk_m1 (cc_ + 1)).symm] at hl
        refine lp8_gi C hm ms ch kp md rs pr km p n t dep hpn t1 t3 gg (cc_ + 1) Rs hRs (e0 + 1) (pw p ((e0 + 1) % n)) ((zk_pw_all _ hpn _ (by have := Nat.mod_lt (e0 + 1) (show 0 < n by omega); dsimp only; omega)).1.2) _ (fun P1 H locs ls hP1 bP1 e1 Z hl => ?_) (cc_ + 2) Pp H locs ls (by omega) hPp bP rfl Z (lv_sub hl [2, 3, 1, 0] rfl)
        refine nr_iinc (n := 1) (lv' := [(1, .int (nI (e0 + 1 + 1))), (0, .ref hm)]) hx hb (by decide) dX8_makeGenerator_144 hl (k := 1) rfl (by decide) rfl (fun ls hl => ?_)
        refine lv_goto (tgt := 36) hx hb dX8_makeGenerator_147 (by decide) ?_
        exact ih (e0 + 1) (cc_ + 1) P1 H locs ls (by omega) (by rw [ckq_s, if_neg c_2]; omega) hP1 bP1 ((congrArg (zk_it (mgB p n t (mdg p)) k (e0 + 1 + 1)) (show (P1, cc_ + 1) = mgB p n t (mdg p) (e0 + 1) (Pp, cc_) from by unfold mgB; rw [if_neg c_2, e1])).trans hfin) Z (lv_sub hl [1, 0] rfl)
    · have he9 : e0 + 1 = n := by
        rcases Nat.lt_or_ge (e0 + 1) n with q | q
        · rw [Nat.mod_eq_of_lt q] at c_1; omega
        · omega
      refine lv_aload_n hx hb dX8_makeGenerator_54 rfl (lv_at hl 0 rfl) ?_
      refine zk_get C Z in_X8 0 rfl rfl 4 (by decide) q601 rfl (v := .int (nI n)) rfl dX8_makeGenerator_55 ?_
      refine lv_goto (tgt := 62) hx hb dX8_makeGenerator_58 (by decide) ?_
      refine zk_callV (cells' := 0) (slots' := 0) (rest := []) (n := 1) (wr := [(rs, .inl (g.1, 31, .inl (zk_ia Rs))), (pr, .inl (g.1, 32, .inl (zk_ia Pp)))]) C Z (m8_iz l D g hm ms ch kp md rs pr km 1 p (mdg p) n t dep gg cc_ n (by omega) (by omega) t3 (by omega) (by omega)) [0] [1, 2] rfl rfl (by decide) (by decide) (by decide) 0 7 rfl rfl rfl q664 q666 qs9 q26 q667 (by decide +kernel) rfl (Nat.le_of_ble_eq_true rfl) (Nat.le_of_ble_eq_true rfl) (Nat.le_of_ble_eq_true rfl) (Nat.le_of_ble_eq_true rfl) rfl rfl hl.1 rfl (Nat.le_of_ble_eq_true rfl) dX8_makeGenerator_62 (fun v w1 H locs hq Z => ?_)
      obtain ⟨rfl, rfl⟩ := hq
      have Z : zk_Z D A s H locs [(hm, .inr (7, [.int (nI km), .int (nI 1), .int (nI p), .int (nI (mdg p)), .int (nI n), .int (nI t), .int (nI dep), .int (nI gg), .int (nI cc_), .ref ms, .ref ch, .ref kp, .ref md, .ref rs, .ref pr])), (rs, .inl (g.1, 31, .inl (zk_ia Rs))), (pr, .inl (g.1, 32, .inl (zk_ia Pp)))] := Z.sub [2, 0, 1] (by decide) rfl
      refine W.eq (g2 := F0 mm 65 ls [.int (nI (izr n t (mdg p) n))]) rfl ?_
      refine nr_eq0 (tgt := 144) hx hb (by have h9 := izr_lt n t (mdg p) (e0 + 1); have h8 := izr_lt n t (mdg p) n; omega) dX8_makeGenerator_65 (by decide) (fun c_2 => ?_) (fun c_2 => ?_)
      · refine nr_iinc (n := 1) (lv' := [(1, .int (nI (e0 + 1 + 1))), (0, .ref hm)]) hx hb (by decide) dX8_makeGenerator_144 hl (k := 1) rfl (by decide) rfl (fun ls hl => ?_)
        refine lv_goto (tgt := 36) hx hb dX8_makeGenerator_147 (by decide) ?_
        exact ih (e0 + 1) cc_ Pp H locs ls (by omega) (by rw [ckq_s, if_pos (by rw [he9]; exact c_2)]; exact hck) hPp bP ((congrArg (zk_it (mgB p n t (mdg p)) k (e0 + 1 + 1)) (show (Pp, cc_) = mgB p n t (mdg p) (e0 + 1) (Pp, cc_) from by unfold mgB; rw [if_pos (by rw [he9]; exact c_2)])).trans hfin) Z (lv_sub hl [1, 0] rfl)
      · refine lv_aload_n hx hb dX8_makeGenerator_68 rfl (lv_at hl 0 rfl) ?_
        refine lv_iload_n hx hb dX8_makeGenerator_69 rfl (lv_at hl 1 rfl) ?_
        refine zk_callV (cells' := 0) (slots' := 0) (rest := []) (n := 1) (wr := [(rs, .inl (g.1, 31, .inl (zk_ia Rs))), (pr, .inl (g.1, 32, .inl (zk_ia Pp)))]) C Z (m8_pw l D g hm ms ch kp md rs pr km 1 p n t dep gg cc_ hpn (e0 + 1) (by omega)) [0] [1, 2] rfl rfl (by decide) (by decide) (by decide) 0 7 rfl rfl rfl q668 q670 qs10 q26 q671 (by decide +kernel) rfl (Nat.le_of_ble_eq_true rfl) (Nat.le_of_ble_eq_true rfl) (Nat.le_of_ble_eq_true rfl) (Nat.le_of_ble_eq_true rfl) rfl rfl hl.1 rfl (Nat.le_of_ble_eq_true rfl) dX8_makeGenerator_70 (fun v w1 H locs hq Z => ?_)
        obtain ⟨rfl, rfl⟩ := hq
        have Z : zk_Z D A s H locs [(hm, .inr (7, [.int (nI km), .int (nI 1), .int (nI p), .int (nI (mdg p)), .int (nI n), .int (nI t), .int (nI dep), .int (nI gg), .int (nI cc_), .ref ms, .ref ch, .ref kp, .ref md, .ref rs, .ref pr])), (rs, .inl (g.1, 31, .inl (zk_ia Rs))), (pr, .inl (g.1, 32, .inl (zk_ia Pp)))] := Z.sub [2, 0, 1] (by decide) rfl
        refine W.eq (g2 := F0 mm 73 ls [.int (nI (pw p ((e0 + 1) % n)))]) rfl ?_
        refine lv_istore_n (lv' := [(2, .int (nI (pw p ((e0 + 1) % n)))), (0, .ref hm), (1, .int (nI (e0 + 1)))]) hx hb dX8_makeGenerator_73 rfl hl (by decide) rfl (fun ls hl => ?_)
        refine lv_aload_n hx hb dX8_makeGenerator_74 rfl (lv_at hl 1 rfl) ?_
        refine lv_dup hx hb dX8_makeGenerator_75 rfl ?_
        refine zk_get C Z in_X8 0 rfl rfl 8 (by decide) q605 rfl (v := .int (nI cc_)) rfl dX8_makeGenerator_76 ?_
        refine lv_iconst (v := nI 1) hx hb dX8_makeGenerator_79 (by decide) ?_
        refine nr_iadd hx hb dX8_makeGenerator_80 ?_
        refine zk_put C Z in_X8 tyX8 tyX8_ok nmX8 0 rfl rfl 8 (by decide) q605 rfl rfl (v := .int (nI (cc_ + 1))) rfl rfl (Nat.le_of_ble_eq_true rfl) dX8_makeGenerator_81 (fun H locs Z => ?_)
        have Z : zk_Z D A s H locs [(hm, .inr (7, [.int (nI km), .int (nI 1), .int (nI p), .int (nI (mdg p)), .int (nI n), .int (nI t), .int (nI dep), .int (nI gg), .int (nI (cc_ + 1)), .ref ms, .ref ch, .ref kp, .ref md, .ref rs, .ref pr])), (rs, .inl (g.1, 31, .inl (zk_ia Rs))), (pr, .inl (g.1, 32, .inl (zk_ia Pp)))] := Z
        refine lv_aload_n hx hb dX8_makeGenerator_84 rfl (lv_at hl 1 rfl) ?_
        refine zk_get C Z in_X8 0 rfl rfl 8 (by decide) q605 rfl (v := .int (nI (cc_ + 1))) rfl dX8_makeGenerator_85 ?_
        refine lv_istore_n (lv' := [(3, .int (nI (cc_ + 1))), (2, .int (nI (pw p ((e0 + 1) % n)))), (0, .ref hm), (1, .int (nI (e0 + 1)))]) hx hb dX8_makeGenerator_88 rfl hl (by decide) rfl (fun ls hl => ?_)
        rw [show nI (cc_ + 1) = nI (cc_ + 2) + (-1) from (pk_m1 (cc_ + 1)).symm] at hl
        refine lp8_gi C hm ms ch kp md rs pr km p n t dep hpn t1 t3 gg (cc_ + 1) Rs hRs (e0 + 1) (pw p ((e0 + 1) % n)) ((zk_pw_all _ hpn _ (by have := Nat.mod_lt (e0 + 1) (show 0 < n by omega); dsimp only; omega)).1.2) _ (fun P1 H locs ls hP1 bP1 e1 Z hl => ?_) (cc_ + 2) Pp H locs ls (by omega) hPp bP rfl Z (lv_sub hl [2, 3, 1, 0] rfl)
        refine nr_iinc (n := 1) (lv' := [(1, .int (nI (e0 + 1 + 1))), (0, .ref hm)]) hx hb (by decide) dX8_makeGenerator_144 hl (k := 1) rfl (by decide) rfl (fun ls hl => ?_)
        refine lv_goto (tgt := 36) hx hb dX8_makeGenerator_147 (by decide) ?_
        exact ih (e0 + 1) (cc_ + 1) P1 H locs ls (by omega) (by rw [ckq_s, if_neg (by rw [he9]; exact c_2)]; omega) hP1 bP1 ((congrArg (zk_it (mgB p n t (mdg p)) k (e0 + 1 + 1)) (show (P1, cc_ + 1) = mgB p n t (mdg p) (e0 + 1) (Pp, cc_) from by unfold mgB; rw [if_neg (by rw [he9]; exact c_2), e1])).trans hfin) Z (lv_sub hl [1, 0] rfl)

set_option maxHeartbeats 4000000 in
theorem lp8_gc {pg : Program} {l : Launch} {ev : Env} {s : State} {mm : MethodId} {args : Array Value} {below : List Frame} {meth : Method} {cd : Code} {Q : State → Prop} {D : va_G} {g : G4} {A : Nat → Prop} (C : zk_C pg s mm cd args cX8_makeGenerator 5 RX8 D g A) (hm ms ch kp md rs pr : Nat) (km p n t dep : Nat) (hpn : (p, n) ∈ zk_pr) (t1 : 1 ≤ t) (t3 : t ≤ 3) (cc_ : Nat) (c15 : cc_ ≤ 15) (Pp Rs : List Nat) (hRs : Rs.length = 31) (fin : Nat) (kk : ∀ (H : Heap) (locs : List Loc) (ls : Array Slot), zk_Z D A s H locs [(hm, .inr (7, [.int (nI km), .int (nI 1), .int (nI p), .int (nI (mdg p)), .int (nI n), .int (nI t), .int (nI dep), .int (nI fin), .int (nI cc_), .ref ms, .ref ch, .ref kp, .ref md, .ref rs, .ref pr])), (rs, .inl (g.1, 31, .inl (zk_ia Rs))), (pr, .inl (g.1, 32, .inl (zk_ia Pp)))] → lv_has ls 5 [(0, .ref hm)] → W pg l ev (zk_R 2 0 0) s mm args below meth cd H locs 0 0 Q (F0 mm 188 ls [])) :
    ∀ (k : Nat) (i gg : Nat) (H : Heap) (locs : List Loc) (ls : Array Slot), (i + k = cc_ + 1) → (zk_it (lbF Pp) k i gg = fin) → zk_Z D A s H locs [(hm, .inr (7, [.int (nI km), .int (nI 1), .int (nI p), .int (nI (mdg p)), .int (nI n), .int (nI t), .int (nI dep), .int (nI gg), .int (nI cc_), .ref ms, .ref ch, .ref kp, .ref md, .ref rs, .ref pr])), (rs, .inl (g.1, 31, .inl (zk_ia Rs))), (pr, .inl (g.1, 32, .inl (zk_ia Pp)))] → lv_has ls 5 [(0, .ref hm), (1, .int (nI i))] → W pg l ev (zk_R 2 0 0) s mm args below meth cd H locs 0 0 Q (F0 mm 157 ls []) := by
  have hx := C.1.1
  have hb := C.1.2.1
  have hml := C.1.2.2.1
  have hown := C.1.2.2.2.1
  have hts := C.1.2.2.2.2
  intro k
  induction k with
  | zero =>
    intro i gg H locs ls hik hfin Z hl
    have hfin : gg = fin := hfin
    subst hfin
    refine lv_iload_n hx hb dX8_makeGenerator_157 rfl (lv_at hl 1 rfl) ?_
    refine lv_aload_n hx hb dX8_makeGenerator_158 rfl (lv_at hl 0 rfl) ?_
    refine zk_get C Z in_X8 0 rfl rfl 8 (by decide) q605 rfl (v := .int (nI cc_)) rfl dX8_makeGenerator_159 ?_
    refine nr_gt (tgt := 188) hx hb (by omega) (by omega) dX8_makeGenerator_162 (by decide) (fun c_1 => ?_) (fun c_1 => absurd c_1 (by omega))
    exact kk  H locs ls  Z (lv_sub hl [0] rfl)
  | succ k ih =>
    intro i gg H locs ls hik hfin Z hl
    refine lv_iload_n hx hb dX8_makeGenerator_157 rfl (lv_at hl 1 rfl) ?_
    refine lv_aload_n hx hb dX8_makeGenerator_158 rfl (lv_at hl 0 rfl) ?_
    refine zk_get C Z in_X8 0 rfl rfl 8 (by decide) q605 rfl (v := .int (nI cc_)) rfl dX8_makeGenerator_159 ?_
    refine nr_gt (tgt := 188) hx hb (by omega) (by omega) dX8_makeGenerator_162 (by decide) (fun c_1 => absurd c_1 (by omega)) (fun c_1 => ?_)
    refine lv_aload_n hx hb dX8_makeGenerator_165 rfl (lv_at hl 0 rfl) ?_
    refine lv_aload_n hx hb dX8_makeGenerator_166 rfl (lv_at hl 0 rfl) ?_
    refine zk_get C Z in_X8 0 rfl rfl 7 (by decide) q604 rfl (v := .int (nI gg)) rfl dX8_makeGenerator_167 ?_
    refine lv_aload_n hx hb dX8_makeGenerator_170 rfl (lv_at hl 0 rfl) ?_
    refine zk_get C Z in_X8 0 rfl rfl 14 (by decide) q611 rfl (v := .ref pr) rfl dX8_makeGenerator_171 ?_
    refine lv_iload_n hx hb dX8_makeGenerator_174 rfl (lv_at hl 1 rfl) ?_
    refine zk_iald C Z 2 rfl (by decide) (by omega) dX8_makeGenerator_175 ?_
    refine lv_iload_n hx hb dX8_makeGenerator_176 rfl (lv_at hl 1 rfl) ?_
    refine nr_ishl hx hb (by omega) dX8_makeGenerator_177 ?_
    refine nr_ior hx hb dX8_makeGenerator_178 ?_
    refine zk_put C Z in_X8 tyX8 tyX8_ok nmX8 0 rfl rfl 7 (by decide) q604 rfl rfl (v := .int (nI (gg ||| ((Pp.getD i 0) <<< i)))) rfl rfl (Nat.le_of_ble_eq_true rfl) dX8_makeGenerator_179 (fun H locs Z => ?_)
    have Z : zk_Z D A s H locs [(hm, .inr (7, [.int (nI km), .int (nI 1), .int (nI p), .int (nI (mdg p)), .int (nI n), .int (nI t), .int (nI dep), .int (nI (gg ||| ((Pp.getD i 0) <<< i))), .int (nI cc_), .ref ms, .ref ch, .ref kp, .ref md, .ref rs, .ref pr])), (rs, .inl (g.1, 31, .inl (zk_ia Rs))), (pr, .inl (g.1, 32, .inl (zk_ia Pp)))] := Z
    refine nr_iinc (n := 1) (lv' := [(1, .int (nI (i + 1))), (0, .ref hm)]) hx hb (by decide) dX8_makeGenerator_182 hl (k := 1) rfl (by decide) rfl (fun ls hl => ?_)
    refine lv_goto (tgt := 157) hx hb dX8_makeGenerator_185 (by decide) ?_
    exact ih (i + 1) (gg ||| ((Pp.getD i 0) <<< i)) H locs ls (by omega) hfin Z (lv_sub hl [1, 0] rfl)

set_option maxHeartbeats 4000000 in
theorem lp8_gd {pg : Program} {l : Launch} {ev : Env} {s : State} {mm : MethodId} {args : Array Value} {below : List Frame} {meth : Method} {cd : Code} {Q : State → Prop} {D : va_G} {g : G4} {A : Nat → Prop} (C : zk_C pg s mm cd args cX8_makeGenerator 5 RX8 D g A) (hm ms ch kp md rs pr : Nat) (km p n t dep : Nat) (hpn : (p, n) ∈ zk_pr) (t1 : 1 ≤ t) (t3 : t ≤ 3) (Pp : List Nat) (kk : ∀ (R1 : List Nat) (H : Heap) (locs : List Loc) (ls : Array Slot), R1.length = 31 → (∀ j, j < n → R1.getD j 0 = rst (gnr p n t) (lgn p n t) j) → zk_Z D A s H locs [(hm, .inr (7, [.int (nI km), .int (nI 1), .int (nI p), .int (nI (mdg p)), .int (nI n), .int (nI t), .int (nI dep), .int (nI (gnr p n t)), .int (nI (lgn p n t)), .ref ms, .ref ch, .ref kp, .ref md, .ref rs, .ref pr])), (rs, .inl (g.1, 31, .inl (zk_ia R1))), (pr, .inl (g.1, 32, .inl (zk_ia Pp)))] → lv_has ls 5 [(0, .ref hm)] → W pg l ev (zk_R 2 0 0) s mm args below meth cd H locs 0 0 Q (F0 mm 240 ls [])) :
    ∀ (k : Nat) (i : Nat) (Rs : List Nat) (H : Heap) (locs : List Loc) (ls : Array Slot), (i + k = n) → (Rs.length = 31) → (∀ j, j < i → Rs.getD j 0 = rst (gnr p n t) (lgn p n t) j) → zk_Z D A s H locs [(hm, .inr (7, [.int (nI km), .int (nI 1), .int (nI p), .int (nI (mdg p)), .int (nI n), .int (nI t), .int (nI dep), .int (nI (gnr p n t)), .int (nI (lgn p n t)), .ref ms, .ref ch, .ref kp, .ref md, .ref rs, .ref pr])), (rs, .inl (g.1, 31, .inl (zk_ia Rs))), (pr, .inl (g.1, 32, .inl (zk_ia Pp)))] → lv_has ls 5 [(0, .ref hm), (1, .int (nI (rsv (gnr p n t) (lgn p n t) i))), (2, .int (nI i))] → W pg l ev (zk_R 2 0 0) s mm args below meth cd H locs 0 0 Q (F0 mm 192 ls []) := by
  have hx := C.1.1
  have hb := C.1.2.1
  have hml := C.1.2.2.1
  have hown := C.1.2.2.2.1
  have hts := C.1.2.2.2.2
  have hn := zk_n3 _ hpn
  dsimp only at hn
  obtain ⟨hp0, hnn, hp8, hp64⟩ := pw_0 _ hpn
  dsimp only at hp0 hnn hp8 hp64
  have hdg := mdg_5 p
  obtain ⟨hrs, hlg1, hlg2, hlg3, hgn⟩ := rsv_ok _ hpn t (by omega) t1
  dsimp only at hrs hlg1 hlg2 hlg3 hgn
  intro k
  induction k with
  | zero =>
    intro i Rs H locs ls hik hRs hR Z hl
    refine lv_iload_n hx hb dX8_makeGenerator_192 rfl (lv_at hl 2 rfl) ?_
    refine lv_aload_n hx hb dX8_makeGenerator_193 rfl (lv_at hl 0 rfl) ?_
    refine zk_get C Z in_X8 0 rfl rfl 4 (by decide) q601 rfl (v := .int (nI n)) rfl dX8_makeGenerator_194 ?_
    refine nr_ge (tgt := 240) hx hb (by omega) (by omega) dX8_makeGenerator_197 (by decide) (fun c_1 => ?_) (fun c_1 => absurd c_1 (by omega))
    exact kk Rs H locs ls hRs (fun j hj => hR j (by omega)) Z (lv_sub hl [0] rfl)
  | succ k ih =>
    intro i Rs H locs ls hik hRs hR Z hl
    refine lv_iload_n hx hb dX8_makeGenerator_192 rfl (lv_at hl 2 rfl) ?_
    refine lv_aload_n hx hb dX8_makeGenerator_193 rfl (lv_at hl 0 rfl) ?_
    refine zk_get C Z in_X8 0 rfl rfl 4 (by decide) q601 rfl (v := .int (nI n)) rfl dX8_makeGenerator_194 ?_
    refine nr_ge (tgt := 240) hx hb (by omega) (by omega) dX8_makeGenerator_197 (by decide) (fun c_1 => absurd c_1 (by omega)) (fun c_1 => ?_)
    refine lv_iload_n hx hb dX8_makeGenerator_200 rfl (lv_at hl 1 rfl) ?_
    refine lv_aload_n hx hb dX8_makeGenerator_201 rfl (lv_at hl 0 rfl) ?_
    refine zk_get C Z in_X8 0 rfl rfl 8 (by decide) q605 rfl (v := .int (nI (lgn p n t))) rfl dX8_makeGenerator_202 ?_
    refine nr_ishr hx hb (by have := (hrs i (by omega)).1; omega) (by omega) dX8_makeGenerator_205 ?_
    refine lv_iconst (v := nI 1) hx hb dX8_makeGenerator_206 (by decide) ?_
    refine nr_iand hx hb dX8_makeGenerator_207 ?_
    refine lv_iconst (v := nI 1) hx hb dX8_makeGenerator_208 (by decide) ?_
    refine nr_ne (tgt := 221) hx hb (zk_lt31 (zk_b1 _)) (by decide) dX8_makeGenerator_209 (by decide) (fun c_1 => ?_) (fun c_1 => ?_)
    · refine lv_iload_n hx hb dX8_makeGenerator_221 rfl (lv_at hl 1 rfl) ?_
      refine lv_istore_n (lv' := [(1, .int (nI (rsv (gnr p n t) (lgn p n t) i))), (0, .ref hm), (2, .int (nI i))]) hx hb dX8_makeGenerator_222 rfl hl (by decide) rfl (fun ls hl => ?_)
      refine lv_aload_n hx hb dX8_makeGenerator_223 rfl (lv_at hl 1 rfl) ?_
      refine zk_get C Z in_X8 0 rfl rfl 13 (by decide) q610 rfl (v := .ref rs) rfl dX8_makeGenerator_224 ?_
      refine lv_iload_n hx hb dX8_makeGenerator_227 rfl (lv_at hl 2 rfl) ?_
      refine lv_iload_n hx hb dX8_makeGenerator_228 rfl (lv_at hl 0 rfl) ?_
      refine zk_iast C Z 1 rfl (by decide) (by omega) hRs dX8_makeGenerator_229 (fun H locs Z => ?_)
      have hlen_2 : (Rs.set i (rsv (gnr p n t) (lgn p n t) i)).length = 31 := by rw [List.length_set]; exact hRs
      have Z : zk_Z D A s H locs [(hm, .inr (7, [.int (nI km), .int (nI 1), .int (nI p), .int (nI (mdg p)), .int (nI n), .int (nI t), .int (nI dep), .int (nI (gnr p n t)), .int (nI (lgn p n t)), .ref ms, .ref ch, .ref kp, .ref md, .ref rs, .ref pr])), (rs, .inl (g.1, 31, .inl (zk_ia (Rs.set i (rsv (gnr p n t) (lgn p n t) i))))), (pr, .inl (g.1, 32, .inl (zk_ia Pp)))] := Z
      refine lv_iload_n hx hb dX8_makeGenerator_230 rfl (lv_at hl 0 rfl) ?_
      refine lv_iconst (v := nI 1) hx hb dX8_makeGenerator_231 (by decide) ?_
      refine nr_ishl hx hb (by decide) dX8_makeGenerator_232 ?_
      refine lv_istore_n (lv' := [(1, .int (nI ((rsv (gnr p n t) (lgn p n t) i) <<< 1))), (0, .ref hm), (2, .int (nI i))]) hx hb dX8_makeGenerator_233 rfl hl (by decide) rfl (fun ls hl => ?_)
      refine nr_iinc (n := 1) (lv' := [(2, .int (nI (i + 1))), (1, .int (nI ((rsv (gnr p n t) (lgn p n t) i) <<< 1))), (0, .ref hm)]) hx hb (by decide) dX8_makeGenerator_234 hl (k := 2) rfl (by decide) rfl (fun ls hl => ?_)
      refine lv_goto (tgt := 192) hx hb dX8_makeGenerator_237 (by decide) ?_
      have e9 := (show rsv (gnr p n t) (lgn p n t) i = rst (gnr p n t) (lgn p n t) i from by unfold rst rdc; rw [if_neg c_1])
      rw [e9, ← rsv_s] at hl
      rw [e9] at Z
      exact ih (i + 1) (Rs.set i (rst (gnr p n t) (lgn p n t) i)) H locs ls (by omega) (by rw [List.length_set]; exact hRs) (zk_upto (P := fun _ => True) (by omega) rfl hR) Z (lv_sub hl [2, 1, 0] rfl)
    · refine lv_iload_n hx hb dX8_makeGenerator_212 rfl (lv_at hl 1 rfl) ?_
      refine lv_aload_n hx hb dX8_makeGenerator_213 rfl (lv_at hl 0 rfl) ?_
      refine zk_get C Z in_X8 0 rfl rfl 7 (by decide) q604 rfl (v := .int (nI (gnr p n t))) rfl dX8_makeGenerator_214 ?_
      refine nr_ixor hx hb dX8_makeGenerator_217 ?_
      refine lv_goto (tgt := 222) hx hb dX8_makeGenerator_218 (by decide) ?_
      refine lv_istore_n (lv' := [(1, .int (nI ((rsv (gnr p n t) (lgn p n t) i) ^^^ (gnr p n t)))), (0, .ref hm), (2, .int (nI i))]) hx hb dX8_makeGenerator_222 rfl hl (by decide) rfl (fun ls hl => ?_)
      refine lv_aload_n hx hb dX8_makeGenerator_223 rfl (lv_at hl 1 rfl) ?_
      refine zk_get C Z in_X8 0 rfl rfl 13 (by decide) q610 rfl (v := .ref rs) rfl dX8_makeGenerator_224 ?_
      refine lv_iload_n hx hb dX8_makeGenerator_227 rfl (lv_at hl 2 rfl) ?_
      refine lv_iload_n hx hb dX8_makeGenerator_228 rfl (lv_at hl 0 rfl) ?_
      refine zk_iast C Z 1 rfl (by decide) (by omega) hRs dX8_makeGenerator_229 (fun H locs Z => ?_)
      have hlen_3 : (Rs.set i ((rsv (gnr p n t) (lgn p n t) i) ^^^ (gnr p n t))).length = 31 := by rw [List.length_set]; exact hRs
      have Z : zk_Z D A s H locs [(hm, .inr (7, [.int (nI km), .int (nI 1), .int (nI p), .int (nI (mdg p)), .int (nI n), .int (nI t), .int (nI dep), .int (nI (gnr p n t)), .int (nI (lgn p n t)), .ref ms, .ref ch, .ref kp, .ref md, .ref rs, .ref pr])), (rs, .inl (g.1, 31, .inl (zk_ia (Rs.set i ((rsv (gnr p n t) (lgn p n t) i) ^^^ (gnr p n t)))))), (pr, .inl (g.1, 32, .inl (zk_ia Pp)))] := Z
      refine lv_iload_n hx hb dX8_makeGenerator_230 rfl (lv_at hl 0 rfl) ?_
      refine lv_iconst (v := nI 1) hx hb dX8_makeGenerator_231 (by decide) ?_
      refine nr_ishl hx hb (by decide) dX8_makeGenerator_232 ?_
      refine lv_istore_n (lv' := [(1, .int (nI (((rsv (gnr p n t) (lgn p n t) i) ^^^ (gnr p n t)) <<< 1))), (0, .ref hm), (2, .int (nI i))]) hx hb dX8_makeGenerator_233 rfl hl (by decide) rfl (fun ls hl => ?_)
      refine nr_iinc (n := 1) (lv' := [(2, .int (nI (i + 1))), (1, .int (nI (((rsv (gnr p n t) (lgn p n t) i) ^^^ (gnr p n t)) <<< 1))), (0, .ref hm)]) hx hb (by decide) dX8_makeGenerator_234 hl (k := 2) rfl (by decide) rfl (fun ls hl => ?_)
      refine lv_goto (tgt := 192) hx hb dX8_makeGenerator_237 (by decide) ?_
      have e9 := (show rsv (gnr p n t) (lgn p n t) i ^^^ gnr p n t = rst (gnr p n t) (lgn p n t) i from by unfold rst rdc; rw [if_pos c_1])
      rw [e9, ← rsv_s] at hl
      rw [e9] at Z
      exact ih (i + 1) (Rs.set i (rst (gnr p n t) (lgn p n t) i)) H locs ls (by omega) (by rw [List.length_set]; exact hRs) (zk_upto (P := fun _ => True) (by omega) rfl hR) Z (lv_sub hl [2, 1, 0] rfl)

set_option maxHeartbeats 4000000 in
/-- model: makeGenerator -/
theorem m8_mg (l : Launch) (D : va_G) (g : G4) (hm ms ch kp md rs pr : Nat) (km p n t dep : Nat) (hpn : (p, n) ∈ zk_pr) (t1 : 1 ≤ t) (t3 : t ≤ 3) (g0 c0 : Nat) (Rs Pp : List Nat) (hRs : Rs.length = 31) (hPp : Pp.length = 32) : zk_M l yX8_makeGenerator (ws_ yX8_makeGenerator cX8_makeGenerator 5 none) (zk_R 2 0 0) D g [.ref hm] [(hm, .inr (7, [.int (nI km), .int (nI 1), .int (nI p), .int (nI (mdg p)), .int (nI n), .int (nI t), .int (nI dep), .int (nI g0), .int (nI c0), .ref ms, .ref ch, .ref kp, .ref md, .ref rs, .ref pr])), (rs, .inl (g.1, 31, .inl (zk_ia Rs))), (pr, .inl (g.1, 32, .inl (zk_ia Pp)))] (fun v w => v = none ∧ ∃ P1 R1 : List Nat, P1.length = 32 ∧ R1.length = 31 ∧ (∀ j, j < n → R1.getD j 0 = rst (gnr p n t) (lgn p n t) j) ∧ w = [(hm, .inr (7, [.int (nI km), .int (nI 1), .int (nI p), .int (nI (mdg p)), .int (nI n), .int (nI t), .int (nI dep), .int (nI (gnr p n t)), .int (nI (lgn p n t)), .ref ms, .ref ch, .ref kp, .ref md, .ref rs, .ref pr])), (rs, .inl (g.1, 31, .inl (zk_ia R1))), (pr, .inl (g.1, 32, .inl (zk_ia P1)))]) := by
  refine zk_ofW (by decide) (Nat.le_of_ble_eq_true rfl) ?_
  intro pg ev s mm below meth cd A C hr hlocks hname Z ls hl
  have hx := C.1.1
  have hb := C.1.2.1
  have hml := C.1.2.2.1
  have hown := C.1.2.2.2.1
  have hts := C.1.2.2.2.2
  have hl : lv_has ls 5 [(0, .ref hm)] := hl
  have hn := zk_n3 _ hpn
  dsimp only at hn
  obtain ⟨hp0, hnn, hp8, hp64⟩ := pw_0 _ hpn
  dsimp only at hp0 hnn hp8 hp64
  have hdg := mdg_5 p
  obtain ⟨hrs, hlg1, hlg2, hlg3, hgn⟩ := rsv_ok _ hpn t (by omega) t1
  dsimp only at hrs hlg1 hlg2 hlg3 hgn
  obtain ⟨H, hH⟩ : ∃ H, H = s.heap := ⟨_, rfl⟩
  obtain ⟨locs, hlocs⟩ : ∃ q : List Loc, q = [] := ⟨_, rfl⟩
  rw [← hH, ← hlocs] at Z ⊢
  refine lv_iconst (v := nI 0) hx hb dX8_makeGenerator_0 (by decide) ?_
  refine lv_istore_n (lv' := [(1, .int (nI 0)), (0, .ref hm)]) hx hb dX8_makeGenerator_1 rfl hl (by decide) rfl (fun ls hl => ?_)
  refine lp8_ga C hm ms ch kp md rs pr km p n t dep hpn t1 t3 g0 c0 Rs hRs _ (fun H locs ls Z hl => ?_) 32 0 Pp H locs ls rfl hPp (apF_32 hPp) Z (lv_sub hl [1, 0] rfl)
  refine lv_aload_n hx hb dX8_makeGenerator_29 rfl (lv_at hl 0 rfl) ?_
  refine lv_iconst (v := nI 0) hx hb dX8_makeGenerator_30 (by decide) ?_
  refine zk_put C Z in_X8 tyX8 tyX8_ok nmX8 0 rfl rfl 8 (by decide) q605 rfl rfl (v := .int (nI 0)) rfl rfl (Nat.le_of_ble_eq_true rfl) dX8_makeGenerator_31 (fun H locs Z => ?_)
  have Z : zk_Z D A s H locs [(hm, .inr (7, [.int (nI km), .int (nI 1), .int (nI p), .int (nI (mdg p)), .int (nI n), .int (nI t), .int (nI dep), .int (nI g0), .int (nI 0), .ref ms, .ref ch, .ref kp, .ref md, .ref rs, .ref pr])), (rs, .inl (g.1, 31, .inl (zk_ia Rs))), (pr, .inl (g.1, 32, .inl (zk_ia zk_p0)))] := Z
  refine lv_iconst (v := nI 1) hx hb dX8_makeGenerator_34 (by decide) ?_
  refine lv_istore_n (lv' := [(1, .int (nI 1)), (0, .ref hm)]) hx hb dX8_makeGenerator_35 rfl hl (by decide) rfl (fun ls hl => ?_)
  refine lp8_gb C hm ms ch kp md rs pr km p n t dep hpn t1 t3 g0 Rs hRs _ (fun P1 H locs ls hP1 bP1 e1 Z hl => ?_) n 0 0 zk_p0 H locs ls (by omega) rfl rfl (zk_bd_p0 (by omega)) rfl Z (lv_sub hl [1, 0] rfl)
  obtain ⟨hm1, hm2⟩ := msq_ok _ hpn t (by omega) t1
  dsimp only at hm1 hm2
  change zk_Z D A s H locs _ at Z
  have e1 : P1 = (msq p n t).1 := e1
  have hm2 : (zk_it (mgB p n t (mdg p)) n 1 (zk_p0, 0)).2 = lgn p n t := hm2
  rw [hm2] at Z
  have Z : zk_Z D A s H locs [(hm, .inr (7, [.int (nI km), .int (nI 1), .int (nI p), .int (nI (mdg p)), .int (nI n), .int (nI t), .int (nI dep), .int (nI g0), .int (nI (lgn p n t)), .ref ms, .ref ch, .ref kp, .ref md, .ref rs, .ref pr])), (rs, .inl (g.1, 31, .inl (zk_ia Rs))), (pr, .inl (g.1, 32, .inl (zk_ia P1)))] := Z
  refine lv_aload_n hx hb dX8_makeGenerator_150 rfl (lv_at hl 0 rfl) ?_
  refine lv_iconst (v := nI 0) hx hb dX8_makeGenerator_151 (by decide) ?_
  refine zk_put C Z in_X8 tyX8 tyX8_ok nmX8 0 rfl rfl 7 (by decide) q604 rfl rfl (v := .int (nI 0)) rfl rfl (Nat.le_of_ble_eq_true rfl) dX8_makeGenerator_152 (fun H locs Z => ?_)
  have Z : zk_Z D A s H locs [(hm, .inr (7, [.int (nI km), .int (nI 1), .int (nI p), .int (nI (mdg p)), .int (nI n), .int (nI t), .int (nI dep), .int (nI 0), .int (nI (lgn p n t)), .ref ms, .ref ch, .ref kp, .ref md, .ref rs, .ref pr])), (rs, .inl (g.1, 31, .inl (zk_ia Rs))), (pr, .inl (g.1, 32, .inl (zk_ia P1)))] := Z
  refine lv_iconst (v := nI 0) hx hb dX8_makeGenerator_155 (by decide) ?_
  refine lv_istore_n (lv' := [(1, .int (nI 0)), (0, .ref hm)]) hx hb dX8_makeGenerator_156 rfl hl (by decide) rfl (fun ls hl => ?_)
  refine lp8_gc C hm ms ch kp md rs pr km p n t dep hpn t1 t3 (lgn p n t) hlg2 P1 Rs hRs (gnr p n t) (fun H locs ls Z hl => ?_) (lgn p n t + 1) 0 0 H locs ls (by omega) (by rw [e1, ← hm1]; show _ = zk_it (lbF (msq p n t).1) ((zk_it (mgB p n t (mdg p)) n 1 (zk_p0, 0)).2 + 1) 0 0; rw [hm2]) Z (lv_sub hl [1, 0] rfl)
  refine lv_iconst (v := nI 1) hx hb dX8_makeGenerator_188 (by decide) ?_
  refine lv_istore_n (lv' := [(1, .int (nI 1)), (0, .ref hm)]) hx hb dX8_makeGenerator_189 rfl hl (by decide) rfl (fun ls hl => ?_)
  refine lv_iconst (v := nI 0) hx hb dX8_makeGenerator_190 (by decide) ?_
  refine lv_istore_n (lv' := [(2, .int (nI 0)), (1, .int (nI 1)), (0, .ref hm)]) hx hb dX8_makeGenerator_191 rfl hl (by decide) rfl (fun ls hl => ?_)
  refine lp8_gd C hm ms ch kp md rs pr km p n t dep hpn t1 t3 P1 (fun R1 H locs ls hR1 hR2 Z hl => ?_) n 0 Rs H locs ls (by omega) hRs (fun j hj => absurd hj (Nat.not_lt_zero _)) Z (lv_sub hl [2, 1, 0] rfl)
  exact zk_vret C hr hlocks Z ⟨rfl, P1, R1, hP1, hR1, hR2, rfl⟩ (Nat.le_of_ble_eq_true rfl) (Nat.le_of_ble_eq_true rfl) dX8_makeGenerator_240

