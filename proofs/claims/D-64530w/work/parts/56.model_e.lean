/-! ===== model: errorsOf, mend, decode, load, begin ===== -/
set_option maxRecDepth 100000
noncomputable def e3 (R : Nat → Nat) (r a b k c : Nat) : Option Nat := Nat.rec (motive := fun _ => Nat → Option Nat) (fun _ => none) (fun _ ih c => if R a ^^^ R b ^^^ R c = r then some (1 <<< a ||| 1 <<< b ||| 1 <<< c) else ih (c + 1)) k c
noncomputable def e2 (R : Nat → Nat) (r t n a k b : Nat) : Option Nat := Nat.rec (motive := fun _ => Nat → Option Nat) (fun _ => none) (fun _ ih b => if R a ^^^ R b = r then some (1 <<< a ||| 1 <<< b) else (if 2 < t then e3 R r a b (n - (b + 1)) (b + 1) else none).or (ih (b + 1))) k b
noncomputable def e1 (R : Nat → Nat) (r t n k a : Nat) : Option Nat := Nat.rec (motive := fun _ => Nat → Option Nat) (fun _ => none) (fun _ ih a => if R a = r then some (1 <<< a) else (if 1 < t then e2 R r t n a (n - (a + 1)) (a + 1) else none).or (ih (a + 1))) k a
theorem e3_s1 {R : Nat → Nat} {r a b k c : Nat} (h : R a ^^^ R b ^^^ R c = r) : e3 R r a b (k + 1) c = some (1 <<< a ||| 1 <<< b ||| 1 <<< c) := by show (if R a ^^^ R b ^^^ R c = r then _ else _) = _; rw [if_pos h]
theorem e3_s0 {R : Nat → Nat} {r a b k c : Nat} (h : R a ^^^ R b ^^^ R c ≠ r) : e3 R r a b (k + 1) c = e3 R r a b k (c + 1) := by show (if R a ^^^ R b ^^^ R c = r then _ else _) = _; rw [if_neg h]; rfl
theorem e2_s1 {R : Nat → Nat} {r t n a k b : Nat} (h : R a ^^^ R b = r) : e2 R r t n a (k + 1) b = some (1 <<< a ||| 1 <<< b) := by show (if R a ^^^ R b = r then _ else _) = _; rw [if_pos h]
theorem e2_s0 {R : Nat → Nat} {r t n a k b : Nat} (h : R a ^^^ R b ≠ r) : e2 R r t n a (k + 1) b = (if 2 < t then e3 R r a b (n - (b + 1)) (b + 1) else none).or (e2 R r t n a k (b + 1)) := by show (if R a ^^^ R b = r then _ else _) = _; rw [if_neg h]; rfl
theorem e1_s1 {R : Nat → Nat} {r t n k a : Nat} (h : R a = r) : e1 R r t n (k + 1) a = some (1 <<< a) := by show (if R a = r then _ else _) = _; rw [if_pos h]
theorem e1_s0 {R : Nat → Nat} {r t n k a : Nat} (h : R a ≠ r) : e1 R r t n (k + 1) a = (if 1 < t then e2 R r t n a (n - (a + 1)) (a + 1) else none).or (e1 R r t n k (a + 1)) := by show (if R a = r then _ else _) = _; rw [if_neg h]; rfl
noncomputable def eof (R : Nat → Nat) (t n wd : Nat) : Option Nat := if rmd R n wd = 0 then some 0 else e1 R (rmd R n wd) t n n 0
noncomputable def eor (R : Nat → Nat) (t n wd : Nat) : Nat := (eof R t n wd).getD 0
noncomputable def moD (R : Nat → Nat) (t n : Nat) (W : Nat → Nat) (j : Nat) (D : List Nat) : List Nat := D.set j (W j ^^^ eor R t n (W j))
noncomputable def moN (R : Nat → Nat) (t n : Nat) (W : Nat → Nat) (j s : Nat) : Nat := s + one (eor R t n (W j))
theorem one_le (x : Nat) : one x ≤ 31 := by
  have h := zk_it_inv (f := onF x) (fun i s => s ≤ i) 31 0 0 (Nat.le_refl _) (fun j s _ _ h => by have := zk_b1 (x >>> j); unfold onF; omega)
  exact h
theorem moN_le (R : Nat → Nat) (t n : Nat) (W : Nat → Nat) (k : Nat) : zk_it (moN R t n W) k 0 0 ≤ 31 * k := by
  have h := zk_it_inv (f := moN R t n W) (fun i s => s ≤ 31 * i) k 0 0 (Nat.zero_le _) (fun j s _ _ h => by have := one_le (eor R t n (W j)); unfold moN; omega)
  rw [Nat.zero_add] at h
  exact h
theorem moD_len (R : Nat → Nat) (t n : Nat) (W : Nat → Nat) (k : Nat) (D : List Nat) : (zk_it (moD R t n W) k 0 D).length = D.length := zk_len_it (fun j D => by rw [moD, List.length_set]) _ _ _
theorem zk_z16 : ∀ {K : List Nat}, K.length = 16 → zk_it (fun i P => P.set i ((fun _ => 0) i)) 16 0 K = List.replicate 16 0 := by
  intro K h
  apply List.ext_getElem?
  intro j
  rw [zk_fill (fun _ => 0) 16 0 K (by omega) j, List.getElem?_replicate]
  by_cases q : j < 16
  · rw [if_pos ⟨Nat.zero_le _, by omega⟩, if_pos q]
  · rw [if_neg (by omega), if_neg q, List.getElem?_eq_none (by omega)]
theorem zk_z44 {K : List Nat} (h : K.length = 4) : zk_it (fun i P => P.set (i % 4) 0) 16 0 K = zk_z4 := by
  match K, h with
  | [_, _, _, _], _ => rfl
set_option maxHeartbeats 4000000 in
theorem lp8_e3 {pg : Program} {l : Launch} {ev : Env} {s : State} {mm : MethodId} {args : Array Value} {below : List Frame} {meth : Method} {cd : Code} {Q : State → Prop} {D : va_G} {g : G4} {A : Nat → Prop} (C : zk_C pg s mm cd args cX8_errorsOf 6 RX8 D g A) (hm ms ch kp md rs pr : Nat) (km p dg n t dep gn ck : Nat) (Rs : List Nat) (hRs : Rs.length = 31) (R_ : Nat → Nat) (hR : ∀ i, i < n → Rs.getD i 0 = R_ i) (n31 : n ≤ 31) (hR31 : ∀ i, i < n → R_ i < 2 ^ 31) (t3 : t ≤ 3) (wd r : Nat) (r31 : r < 2 ^ 31) (a b : Nat) (ha : a < n) (hb_ : b < n) (fin : Option Nat) (kn : ∀ (H : Heap) (locs : List Loc) (ls : Array Slot), fin = none → zk_Z D A s H locs [(hm, .inr (7, [.int (nI km), .int (nI 1), .int (nI p), .int (nI dg), .int (nI n), .int (nI t), .int (nI dep), .int (nI gn), .int (nI ck), .ref ms, .ref ch, .ref kp, .ref md, .ref rs, .ref pr])), (rs, .inl (g.1, 31, .inl (zk_ia Rs)))] → lv_has ls 6 [(0, .ref hm), (1, .int (nI wd)), (2, .int (nI r)), (3, .int (nI a)), (4, .int (nI b))] → W pg l ev (zk_R 1 0 0) s mm args below meth cd H locs 0 0 Q (F0 mm 154 ls [])) (kf : ∀ (x : Nat) (H : Heap) (locs : List Loc) (ls : Array Slot), fin = some x → zk_Z D A s H locs [(hm, .inr (7, [.int (nI km), .int (nI 1), .int (nI p), .int (nI dg), .int (nI n), .int (nI t), .int (nI dep), .int (nI gn), .int (nI ck), .ref ms, .ref ch, .ref kp, .ref md, .ref rs, .ref pr])), (rs, .inl (g.1, 31, .inl (zk_ia Rs)))] → lv_has ls 6 [(0, .ref hm)] → W pg l ev (zk_R 1 0 0) s mm args below meth cd H locs 0 0 Q (F0 mm 147 ls [.int (nI x)])) :
    ∀ (k : Nat) (c : Nat) (H : Heap) (locs : List Loc) (ls : Array Slot), (c + k = n) → ((if 2 < t then e3 R_ r a b k c else none) = fin) → zk_Z D A s H locs [(hm, .inr (7, [.int (nI km), .int (nI 1), .int (nI p), .int (nI dg), .int (nI n), .int (nI t), .int (nI dep), .int (nI gn), .int (nI ck), .ref ms, .ref ch, .ref kp, .ref md, .ref rs, .ref pr])), (rs, .inl (g.1, 31, .inl (zk_ia Rs)))] → lv_has ls 6 [(0, .ref hm), (1, .int (nI wd)), (2, .int (nI r)), (3, .int (nI a)), (4, .int (nI b)), (5, .int (nI c))] → W pg l ev (zk_R 1 0 0) s mm args below meth cd H locs 0 0 Q (F0 mm 91 ls []) := by
  have hx := C.1.1
  have hb := C.1.2.1
  have hml := C.1.2.2.1
  have hown := C.1.2.2.2.1
  have hts := C.1.2.2.2.2
  intro k
  induction k with
  | zero =>
    intro c H locs ls hik hfin Z hl
    refine lv_iload hx hb dX8_errorsOf_91 (lv_at hl 5 rfl) ?_
    refine lv_aload_n hx hb dX8_errorsOf_93 rfl (lv_at hl 0 rfl) ?_
    refine zk_get C Z in_X8 0 rfl rfl 4 (by decide) q601 rfl (v := .int (nI n)) rfl dX8_errorsOf_94 ?_
    refine nr_ge (tgt := 154) hx hb (by omega) (by omega) dX8_errorsOf_97 (by decide) (fun c_1 => ?_) (fun c_1 => absurd c_1 (by omega))
    exact kn H locs ls (by rw [← hfin]; split <;> rfl) Z (lv_sub hl [0, 1, 2, 3, 4] rfl)
  | succ k ih =>
    intro c H locs ls hik hfin Z hl
    refine lv_iload hx hb dX8_errorsOf_91 (lv_at hl 5 rfl) ?_
    refine lv_aload_n hx hb dX8_errorsOf_93 rfl (lv_at hl 0 rfl) ?_
    refine zk_get C Z in_X8 0 rfl rfl 4 (by decide) q601 rfl (v := .int (nI n)) rfl dX8_errorsOf_94 ?_
    refine nr_ge (tgt := 154) hx hb (by omega) (by omega) dX8_errorsOf_97 (by decide) (fun c_1 => absurd c_1 (by omega)) (fun c_1 => ?_)
    refine lv_aload_n hx hb dX8_errorsOf_100 rfl (lv_at hl 0 rfl) ?_
    refine zk_get C Z in_X8 0 rfl rfl 5 (by decide) q602 rfl (v := .int (nI t)) rfl dX8_errorsOf_101 ?_
    refine lv_iconst (v := nI 2) hx hb dX8_errorsOf_104 (by decide) ?_
    refine nr_le (tgt := 154) hx hb (by omega) (by omega) dX8_errorsOf_105 (by decide) (fun c_1 => ?_) (fun c_1 => ?_)
    · exact kn H locs ls (by rw [← hfin, if_neg (by omega)]) Z (lv_sub hl [0, 1, 2, 3, 4] rfl)
    · refine lv_aload_n hx hb dX8_errorsOf_108 rfl (lv_at hl 0 rfl) ?_
      refine zk_get C Z in_X8 0 rfl rfl 13 (by decide) q610 rfl (v := .ref rs) rfl dX8_errorsOf_109 ?_
      refine lv_iload_n hx hb dX8_errorsOf_112 rfl (lv_at hl 3 rfl) ?_
      refine zk_iald C Z 1 rfl (by decide) (by omega) dX8_errorsOf_113 ?_
      rw [hR a (by omega)]
      refine lv_aload_n hx hb dX8_errorsOf_114 rfl (lv_at hl 0 rfl) ?_
      refine zk_get C Z in_X8 0 rfl rfl 13 (by decide) q610 rfl (v := .ref rs) rfl dX8_errorsOf_115 ?_
      refine lv_iload hx hb dX8_errorsOf_118 (lv_at hl 4 rfl) ?_
      refine zk_iald C Z 1 rfl (by decide) (by omega) dX8_errorsOf_120 ?_
      rw [hR b (by omega)]
      refine nr_ixor hx hb dX8_errorsOf_121 ?_
      refine lv_aload_n hx hb dX8_errorsOf_122 rfl (lv_at hl 0 rfl) ?_
      refine zk_get C Z in_X8 0 rfl rfl 13 (by decide) q610 rfl (v := .ref rs) rfl dX8_errorsOf_123 ?_
      refine lv_iload hx hb dX8_errorsOf_126 (lv_at hl 5 rfl) ?_
      refine zk_iald C Z 1 rfl (by decide) (by omega) dX8_errorsOf_128 ?_
      rw [hR c (by omega)]
      refine nr_ixor hx hb dX8_errorsOf_129 ?_
      refine lv_iload_n hx hb dX8_errorsOf_130 rfl (lv_at hl 2 rfl) ?_
      refine nr_ne (tgt := 148) hx hb (Nat.xor_lt_two_pow (Nat.xor_lt_two_pow (hR31 a (by omega)) (hR31 b (by omega))) (hR31 c (by omega))) r31 dX8_errorsOf_131 (by decide) (fun c_2 => ?_) (fun c_2 => ?_)
      · refine nr_iinc (n := 1) (lv' := [(5, .int (nI (c + 1))), (0, .ref hm), (1, .int (nI wd)), (2, .int (nI r)), (3, .int (nI a)), (4, .int (nI b))]) hx hb (by decide) dX8_errorsOf_148 hl (k := 5) rfl (by decide) rfl (fun ls hl => ?_)
        refine lv_goto (tgt := 91) hx hb dX8_errorsOf_151 (by decide) ?_
        exact ih (c + 1) H locs ls (by omega) (by rw [if_pos c_1, e3_s0 c_2] at hfin; rw [if_pos c_1]; exact hfin) Z (lv_sub hl [1, 2, 3, 4, 5, 0] rfl)
      · have hsome : fin = some (1 <<< a ||| 1 <<< b ||| 1 <<< c) := by rw [← hfin, if_pos c_1, e3_s1 c_2]
        refine lv_iconst (v := nI 1) hx hb dX8_errorsOf_134 (by decide) ?_
        refine lv_iload_n hx hb dX8_errorsOf_135 rfl (lv_at hl 3 rfl) ?_
        refine nr_ishl hx hb (by omega) dX8_errorsOf_136 ?_
        refine lv_iconst (v := nI 1) hx hb dX8_errorsOf_137 (by decide) ?_
        refine lv_iload hx hb dX8_errorsOf_138 (lv_at hl 4 rfl) ?_
        refine nr_ishl hx hb (by omega) dX8_errorsOf_140 ?_
        refine nr_ior hx hb dX8_errorsOf_141 ?_
        refine lv_iconst (v := nI 1) hx hb dX8_errorsOf_142 (by decide) ?_
        refine lv_iload hx hb dX8_errorsOf_143 (lv_at hl 5 rfl) ?_
        refine nr_ishl hx hb (by omega) dX8_errorsOf_145 ?_
        refine nr_ior hx hb dX8_errorsOf_146 ?_
        exact kf _ H locs ls hsome Z (lv_sub hl [0] rfl)

set_option maxHeartbeats 4000000 in
theorem lp8_e2 {pg : Program} {l : Launch} {ev : Env} {s : State} {mm : MethodId} {args : Array Value} {below : List Frame} {meth : Method} {cd : Code} {Q : State → Prop} {D : va_G} {g : G4} {A : Nat → Prop} (C : zk_C pg s mm cd args cX8_errorsOf 6 RX8 D g A) (hm ms ch kp md rs pr : Nat) (km p dg n t dep gn ck : Nat) (Rs : List Nat) (hRs : Rs.length = 31) (R_ : Nat → Nat) (hR : ∀ i, i < n → Rs.getD i 0 = R_ i) (n31 : n ≤ 31) (hR31 : ∀ i, i < n → R_ i < 2 ^ 31) (t3 : t ≤ 3) (wd r : Nat) (r31 : r < 2 ^ 31) (a : Nat) (ha : a < n) (fin : Option Nat) (kn : ∀ (H : Heap) (locs : List Loc) (ls : Array Slot), fin = none → zk_Z D A s H locs [(hm, .inr (7, [.int (nI km), .int (nI 1), .int (nI p), .int (nI dg), .int (nI n), .int (nI t), .int (nI dep), .int (nI gn), .int (nI ck), .ref ms, .ref ch, .ref kp, .ref md, .ref rs, .ref pr])), (rs, .inl (g.1, 31, .inl (zk_ia Rs)))] → lv_has ls 6 [(0, .ref hm), (1, .int (nI wd)), (2, .int (nI r)), (3, .int (nI a))] → W pg l ev (zk_R 1 0 0) s mm args below meth cd H locs 0 0 Q (F0 mm 160 ls [])) (k84 : ∀ (x : Nat) (H : Heap) (locs : List Loc) (ls : Array Slot), fin = some x → zk_Z D A s H locs [(hm, .inr (7, [.int (nI km), .int (nI 1), .int (nI p), .int (nI dg), .int (nI n), .int (nI t), .int (nI dep), .int (nI gn), .int (nI ck), .ref ms, .ref ch, .ref kp, .ref md, .ref rs, .ref pr])), (rs, .inl (g.1, 31, .inl (zk_ia Rs)))] → lv_has ls 6 [(0, .ref hm)] → W pg l ev (zk_R 1 0 0) s mm args below meth cd H locs 0 0 Q (F0 mm 84 ls [.int (nI x)])) (kf : ∀ (x : Nat) (H : Heap) (locs : List Loc) (ls : Array Slot), fin = some x → zk_Z D A s H locs [(hm, .inr (7, [.int (nI km), .int (nI 1), .int (nI p), .int (nI dg), .int (nI n), .int (nI t), .int (nI dep), .int (nI gn), .int (nI ck), .ref ms, .ref ch, .ref kp, .ref md, .ref rs, .ref pr])), (rs, .inl (g.1, 31, .inl (zk_ia Rs)))] → lv_has ls 6 [(0, .ref hm)] → W pg l ev (zk_R 1 0 0) s mm args below meth cd H locs 0 0 Q (F0 mm 147 ls [.int (nI x)])) :
    ∀ (k : Nat) (b : Nat) (H : Heap) (locs : List Loc) (ls : Array Slot), (b + k = n) → ((if 1 < t then e2 R_ r t n a k b else none) = fin) → zk_Z D A s H locs [(hm, .inr (7, [.int (nI km), .int (nI 1), .int (nI p), .int (nI dg), .int (nI n), .int (nI t), .int (nI dep), .int (nI gn), .int (nI ck), .ref ms, .ref ch, .ref kp, .ref md, .ref rs, .ref pr])), (rs, .inl (g.1, 31, .inl (zk_ia Rs)))] → lv_has ls 6 [(0, .ref hm), (1, .int (nI wd)), (2, .int (nI r)), (3, .int (nI a)), (4, .int (nI b))] → W pg l ev (zk_R 1 0 0) s mm args below meth cd H locs 0 0 Q (F0 mm 41 ls []) := by
  have hx := C.1.1
  have hb := C.1.2.1
  have hml := C.1.2.2.1
  have hown := C.1.2.2.2.1
  have hts := C.1.2.2.2.2
  intro k
  induction k with
  | zero =>
    intro b H locs ls hik hfin Z hl
    refine lv_iload hx hb dX8_errorsOf_41 (lv_at hl 4 rfl) ?_
    refine lv_aload_n hx hb dX8_errorsOf_43 rfl (lv_at hl 0 rfl) ?_
    refine zk_get C Z in_X8 0 rfl rfl 4 (by decide) q601 rfl (v := .int (nI n)) rfl dX8_errorsOf_44 ?_
    refine nr_ge (tgt := 160) hx hb (by omega) (by omega) dX8_errorsOf_47 (by decide) (fun c_1 => ?_) (fun c_1 => absurd c_1 (by omega))
    exact kn H locs ls (by rw [← hfin]; split <;> rfl) Z (lv_sub hl [0, 1, 2, 3] rfl)
  | succ k ih =>
    intro b H locs ls hik hfin Z hl
    refine lv_iload hx hb dX8_errorsOf_41 (lv_at hl 4 rfl) ?_
    refine lv_aload_n hx hb dX8_errorsOf_43 rfl (lv_at hl 0 rfl) ?_
    refine zk_get C Z in_X8 0 rfl rfl 4 (by decide) q601 rfl (v := .int (nI n)) rfl dX8_errorsOf_44 ?_
    refine nr_ge (tgt := 160) hx hb (by omega) (by omega) dX8_errorsOf_47 (by decide) (fun c_1 => absurd c_1 (by omega)) (fun c_1 => ?_)
    refine lv_aload_n hx hb dX8_errorsOf_50 rfl (lv_at hl 0 rfl) ?_
    refine zk_get C Z in_X8 0 rfl rfl 5 (by decide) q602 rfl (v := .int (nI t)) rfl dX8_errorsOf_51 ?_
    refine lv_iconst (v := nI 1) hx hb dX8_errorsOf_54 (by decide) ?_
    refine nr_le (tgt := 160) hx hb (by omega) (by omega) dX8_errorsOf_55 (by decide) (fun c_1 => ?_) (fun c_1 => ?_)
    · exact kn H locs ls (by rw [← hfin, if_neg (by omega)]) Z (lv_sub hl [0, 1, 2, 3] rfl)
    · refine lv_aload_n hx hb dX8_errorsOf_58 rfl (lv_at hl 0 rfl) ?_
      refine zk_get C Z in_X8 0 rfl rfl 13 (by decide) q610 rfl (v := .ref rs) rfl dX8_errorsOf_59 ?_
      refine lv_iload_n hx hb dX8_errorsOf_62 rfl (lv_at hl 3 rfl) ?_
      refine zk_iald C Z 1 rfl (by decide) (by omega) dX8_errorsOf_63 ?_
      rw [hR a (by omega)]
      refine lv_aload_n hx hb dX8_errorsOf_64 rfl (lv_at hl 0 rfl) ?_
      refine zk_get C Z in_X8 0 rfl rfl 13 (by decide) q610 rfl (v := .ref rs) rfl dX8_errorsOf_65 ?_
      refine lv_iload hx hb dX8_errorsOf_68 (lv_at hl 4 rfl) ?_
      refine zk_iald C Z 1 rfl (by decide) (by omega) dX8_errorsOf_70 ?_
      rw [hR b (by omega)]
      refine nr_ixor hx hb dX8_errorsOf_71 ?_
      refine lv_iload_n hx hb dX8_errorsOf_72 rfl (lv_at hl 2 rfl) ?_
      refine nr_ne (tgt := 85) hx hb (Nat.xor_lt_two_pow (hR31 a (by omega)) (hR31 b (by omega))) r31 dX8_errorsOf_73 (by decide) (fun c_2 => ?_) (fun c_2 => ?_)
      · refine lv_iload hx hb dX8_errorsOf_85 (lv_at hl 4 rfl) ?_
        refine lv_iconst (v := nI 1) hx hb dX8_errorsOf_87 (by decide) ?_
        refine nr_iadd hx hb dX8_errorsOf_88 ?_
        refine lv_istore (lv' := [(5, .int (nI (b + 1))), (0, .ref hm), (1, .int (nI wd)), (2, .int (nI r)), (3, .int (nI a)), (4, .int (nI b))]) hx hb dX8_errorsOf_89 hl (by decide) rfl (fun ls hl => ?_)
        refine lp8_e3 C hm ms ch kp md rs pr km p dg n t dep gn ck Rs hRs R_ hR n31 hR31 t3 wd r r31 a b ha (by omega) _ (fun H locs ls h3 Z hl => ?_) (fun x H locs ls h3 Z hl => ?_) (n - (b + 1)) (b + 1) H locs ls (by omega) rfl Z (lv_sub hl [1, 2, 3, 4, 5, 0] rfl)
        · refine nr_iinc (n := 1) (lv' := [(4, .int (nI (b + 1))), (0, .ref hm), (1, .int (nI wd)), (2, .int (nI r)), (3, .int (nI a))]) hx hb (by decide) dX8_errorsOf_154 hl (k := 4) rfl (by decide) rfl (fun ls hl => ?_)
          refine lv_goto (tgt := 41) hx hb dX8_errorsOf_157 (by decide) ?_
          exact ih (b + 1) H locs ls (by omega) (by rw [if_pos c_1, e2_s0 c_2, h3] at hfin; rw [if_pos c_1]; exact hfin) Z (lv_sub hl [1, 2, 3, 4, 0] rfl)
        · exact kf x H locs ls (by rw [← hfin, if_pos c_1, e2_s0 c_2, h3]; rfl) Z hl
      · have hsome : fin = some (1 <<< a ||| 1 <<< b) := by rw [← hfin, if_pos c_1, e2_s1 c_2]
        refine lv_iconst (v := nI 1) hx hb dX8_errorsOf_76 (by decide) ?_
        refine lv_iload_n hx hb dX8_errorsOf_77 rfl (lv_at hl 3 rfl) ?_
        refine nr_ishl hx hb (by omega) dX8_errorsOf_78 ?_
        refine lv_iconst (v := nI 1) hx hb dX8_errorsOf_79 (by decide) ?_
        refine lv_iload hx hb dX8_errorsOf_80 (lv_at hl 4 rfl) ?_
        refine nr_ishl hx hb (by omega) dX8_errorsOf_82 ?_
        refine nr_ior hx hb dX8_errorsOf_83 ?_
        exact k84 _ H locs ls hsome Z (lv_sub hl [0] rfl)

set_option maxHeartbeats 4000000 in
theorem lp8_e1 {pg : Program} {l : Launch} {ev : Env} {s : State} {mm : MethodId} {args : Array Value} {below : List Frame} {meth : Method} {cd : Code} {Q : State → Prop} {D : va_G} {g : G4} {A : Nat → Prop} (C : zk_C pg s mm cd args cX8_errorsOf 6 RX8 D g A) (hm ms ch kp md rs pr : Nat) (km p dg n t dep gn ck : Nat) (Rs : List Nat) (hRs : Rs.length = 31) (R_ : Nat → Nat) (hR : ∀ i, i < n → Rs.getD i 0 = R_ i) (n31 : n ≤ 31) (hR31 : ∀ i, i < n → R_ i < 2 ^ 31) (t3 : t ≤ 3) (wd r : Nat) (r31 : r < 2 ^ 31) (fin : Option Nat) (kn : ∀ (H : Heap) (locs : List Loc) (ls : Array Slot), fin = none → zk_Z D A s H locs [(hm, .inr (7, [.int (nI km), .int (nI 1), .int (nI p), .int (nI dg), .int (nI n), .int (nI t), .int (nI dep), .int (nI gn), .int (nI ck), .ref ms, .ref ch, .ref kp, .ref md, .ref rs, .ref pr])), (rs, .inl (g.1, 31, .inl (zk_ia Rs)))] → lv_has ls 6 [(0, .ref hm)] → W pg l ev (zk_R 1 0 0) s mm args below meth cd H locs 0 0 Q (F0 mm 166 ls [])) (k35 : ∀ (x : Nat) (H : Heap) (locs : List Loc) (ls : Array Slot), fin = some x → zk_Z D A s H locs [(hm, .inr (7, [.int (nI km), .int (nI 1), .int (nI p), .int (nI dg), .int (nI n), .int (nI t), .int (nI dep), .int (nI gn), .int (nI ck), .ref ms, .ref ch, .ref kp, .ref md, .ref rs, .ref pr])), (rs, .inl (g.1, 31, .inl (zk_ia Rs)))] → lv_has ls 6 [(0, .ref hm)] → W pg l ev (zk_R 1 0 0) s mm args below meth cd H locs 0 0 Q (F0 mm 35 ls [.int (nI x)])) (k84 : ∀ (x : Nat) (H : Heap) (locs : List Loc) (ls : Array Slot), fin = some x → zk_Z D A s H locs [(hm, .inr (7, [.int (nI km), .int (nI 1), .int (nI p), .int (nI dg), .int (nI n), .int (nI t), .int (nI dep), .int (nI gn), .int (nI ck), .ref ms, .ref ch, .ref kp, .ref md, .ref rs, .ref pr])), (rs, .inl (g.1, 31, .inl (zk_ia Rs)))] → lv_has ls 6 [(0, .ref hm)] → W pg l ev (zk_R 1 0 0) s mm args below meth cd H locs 0 0 Q (F0 mm 84 ls [.int (nI x)])) (kf : ∀ (x : Nat) (H : Heap) (locs : List Loc) (ls : Array Slot), fin = some x → zk_Z D A s H locs [(hm, .inr (7, [.int (nI km), .int (nI 1), .int (nI p), .int (nI dg), .int (nI n), .int (nI t), .int (nI dep), .int (nI gn), .int (nI ck), .ref ms, .ref ch, .ref kp, .ref md, .ref rs, .ref pr])), (rs, .inl (g.1, 31, .inl (zk_ia Rs)))] → lv_has ls 6 [(0, .ref hm)] → W pg l ev (zk_R 1 0 0) s mm args below meth cd H locs 0 0 Q (F0 mm 147 ls [.int (nI x)])) :
    ∀ (k : Nat) (a : Nat) (H : Heap) (locs : List Loc) (ls : Array Slot), (a + k = n) → (e1 R_ r t n k a = fin) → zk_Z D A s H locs [(hm, .inr (7, [.int (nI km), .int (nI 1), .int (nI p), .int (nI dg), .int (nI n), .int (nI t), .int (nI dep), .int (nI gn), .int (nI ck), .ref ms, .ref ch, .ref kp, .ref md, .ref rs, .ref pr])), (rs, .inl (g.1, 31, .inl (zk_ia Rs)))] → lv_has ls 6 [(0, .ref hm), (1, .int (nI wd)), (2, .int (nI r)), (3, .int (nI a))] → W pg l ev (zk_R 1 0 0) s mm args below meth cd H locs 0 0 Q (F0 mm 14 ls []) := by
  have hx := C.1.1
  have hb := C.1.2.1
  have hml := C.1.2.2.1
  have hown := C.1.2.2.2.1
  have hts := C.1.2.2.2.2
  intro k
  induction k with
  | zero =>
    intro a H locs ls hik hfin Z hl
    refine lv_iload_n hx hb dX8_errorsOf_14 rfl (lv_at hl 3 rfl) ?_
    refine lv_aload_n hx hb dX8_errorsOf_15 rfl (lv_at hl 0 rfl) ?_
    refine zk_get C Z in_X8 0 rfl rfl 4 (by decide) q601 rfl (v := .int (nI n)) rfl dX8_errorsOf_16 ?_
    refine nr_ge (tgt := 166) hx hb (by omega) (by omega) dX8_errorsOf_19 (by decide) (fun c_1 => ?_) (fun c_1 => absurd c_1 (by omega))
    exact kn H locs ls hfin.symm Z (lv_sub hl [0] rfl)
  | succ k ih =>
    intro a H locs ls hik hfin Z hl
    refine lv_iload_n hx hb dX8_errorsOf_14 rfl (lv_at hl 3 rfl) ?_
    refine lv_aload_n hx hb dX8_errorsOf_15 rfl (lv_at hl 0 rfl) ?_
    refine zk_get C Z in_X8 0 rfl rfl 4 (by decide) q601 rfl (v := .int (nI n)) rfl dX8_errorsOf_16 ?_
    refine nr_ge (tgt := 166) hx hb (by omega) (by omega) dX8_errorsOf_19 (by decide) (fun c_1 => absurd c_1 (by omega)) (fun c_1 => ?_)
    refine lv_aload_n hx hb dX8_errorsOf_22 rfl (lv_at hl 0 rfl) ?_
    refine zk_get C Z in_X8 0 rfl rfl 13 (by decide) q610 rfl (v := .ref rs) rfl dX8_errorsOf_23 ?_
    refine lv_iload_n hx hb dX8_errorsOf_26 rfl (lv_at hl 3 rfl) ?_
    refine zk_iald C Z 1 rfl (by decide) (by omega) dX8_errorsOf_27 ?_
    rw [hR a (by omega)]
    refine lv_iload_n hx hb dX8_errorsOf_28 rfl (lv_at hl 2 rfl) ?_
    refine nr_ne (tgt := 36) hx hb (hR31 a (by omega)) r31 dX8_errorsOf_29 (by decide) (fun c_2 => ?_) (fun c_2 => ?_)
    · refine lv_iload_n hx hb dX8_errorsOf_36 rfl (lv_at hl 3 rfl) ?_
      refine lv_iconst (v := nI 1) hx hb dX8_errorsOf_37 (by decide) ?_
      refine nr_iadd hx hb dX8_errorsOf_38 ?_
      refine lv_istore (lv' := [(4, .int (nI (a + 1))), (0, .ref hm), (1, .int (nI wd)), (2, .int (nI r)), (3, .int (nI a))]) hx hb dX8_errorsOf_39 hl (by decide) rfl (fun ls hl => ?_)
      refine lp8_e2 C hm ms ch kp md rs pr km p dg n t dep gn ck Rs hRs R_ hR n31 hR31 t3 wd r r31 a (by omega) _ (fun H locs ls h3 Z hl => ?_) (fun x H locs ls h3 Z hl => ?_) (fun x H locs ls h3 Z hl => ?_) (n - (a + 1)) (a + 1) H locs ls (by omega) rfl Z (lv_sub hl [1, 2, 3, 4, 0] rfl)
      · refine nr_iinc (n := 1) (lv' := [(3, .int (nI (a + 1))), (0, .ref hm), (1, .int (nI wd)), (2, .int (nI r))]) hx hb (by decide) dX8_errorsOf_160 hl (k := 3) rfl (by decide) rfl (fun ls hl => ?_)
        refine lv_goto (tgt := 14) hx hb dX8_errorsOf_163 (by decide) ?_
        exact ih (a + 1) H locs ls (by omega) (by rw [e1_s0 c_2, h3] at hfin; exact hfin) Z (lv_sub hl [1, 2, 3, 0] rfl)
      · exact k84 x H locs ls (by rw [← hfin, e1_s0 c_2, h3]; rfl) Z hl
      · exact kf x H locs ls (by rw [← hfin, e1_s0 c_2, h3]; rfl) Z hl
    · have hsome : fin = some (1 <<< a) := by rw [← hfin, e1_s1 c_2]
      refine lv_iconst (v := nI 1) hx hb dX8_errorsOf_32 (by decide) ?_
      refine lv_iload_n hx hb dX8_errorsOf_33 rfl (lv_at hl 3 rfl) ?_
      refine nr_ishl hx hb (by omega) dX8_errorsOf_34 ?_
      exact k35 _ H locs ls hsome Z (lv_sub hl [0] rfl)

set_option maxHeartbeats 4000000 in
/-- model: errorsOf -/
theorem m8_eof (l : Launch) (D : va_G) (g : G4) (hm ms ch kp md rs pr : Nat) (km p dg n t dep gn ck : Nat) (Rs : List Nat) (hRs : Rs.length = 31) (R_ : Nat → Nat) (hR : ∀ i, i < n → Rs.getD i 0 = R_ i) (n31 : n ≤ 31) (hR31 : ∀ i, i < n → R_ i < 2 ^ 31) (t3 : t ≤ 3) (wd : Nat) (wd31 : wd < 2 ^ 31) (rm31 : rmd R_ n wd < 2 ^ 31) (v : Nat) (hm_ : eof R_ t n wd = some v) : zk_M l yX8_errorsOf (ws_ yX8_errorsOf cX8_errorsOf 6 (some .int)) (zk_R 1 0 0) D g [.ref hm, .int (nI wd)] [(hm, .inr (7, [.int (nI km), .int (nI 1), .int (nI p), .int (nI dg), .int (nI n), .int (nI t), .int (nI dep), .int (nI gn), .int (nI ck), .ref ms, .ref ch, .ref kp, .ref md, .ref rs, .ref pr])), (rs, .inl (g.1, 31, .inl (zk_ia Rs)))] (zk_D (some (.int (nI v))) [(hm, .inr (7, [.int (nI km), .int (nI 1), .int (nI p), .int (nI dg), .int (nI n), .int (nI t), .int (nI dep), .int (nI gn), .int (nI ck), .ref ms, .ref ch, .ref kp, .ref md, .ref rs, .ref pr])), (rs, .inl (g.1, 31, .inl (zk_ia Rs)))]) := by
  refine zk_ofW (by decide) (Nat.le_of_ble_eq_true rfl) ?_
  intro pg ev s mm below meth cd A C hr hlocks hname Z ls hl
  have hx := C.1.1
  have hb := C.1.2.1
  have hml := C.1.2.2.1
  have hown := C.1.2.2.2.1
  have hts := C.1.2.2.2.2
  have hl : lv_has ls 6 [(0, .ref hm), (1, .int (nI wd))] := hl
  obtain ⟨H, hH⟩ : ∃ H, H = s.heap := ⟨_, rfl⟩
  obtain ⟨locs, hlocs⟩ : ∃ q : List Loc, q = [] := ⟨_, rfl⟩
  rw [← hH, ← hlocs] at Z ⊢
  refine lv_aload_n hx hb dX8_errorsOf_0 rfl (lv_at hl 0 rfl) ?_
  refine lv_iload_n hx hb dX8_errorsOf_1 rfl (lv_at hl 1 rfl) ?_
  refine zk_callV (cells' := 0) (slots' := 0) (rest := []) (n := 1) (wr := []) C Z (m8_rem l D g hm ms ch kp md rs pr km 1 p dg n t dep gn ck wd Rs hRs R_ hR n31 wd31) [0, 1] [] rfl rfl (by decide) (by decide) (by decide) 0 7 rfl rfl rfl q708 q710 qs12 q26 q711 (by decide +kernel) rfl (Nat.le_of_ble_eq_true rfl) (Nat.le_of_ble_eq_true rfl) (Nat.le_of_ble_eq_true rfl) (Nat.le_of_ble_eq_true rfl) rfl rfl hl.1 rfl (Nat.le_of_ble_eq_true rfl) dX8_errorsOf_2 (fun v w1 H locs hq Z => ?_)
  obtain ⟨rfl, rfl⟩ := hq
  have Z : zk_Z D A s H locs [(hm, .inr (7, [.int (nI km), .int (nI 1), .int (nI p), .int (nI dg), .int (nI n), .int (nI t), .int (nI dep), .int (nI gn), .int (nI ck), .ref ms, .ref ch, .ref kp, .ref md, .ref rs, .ref pr])), (rs, .inl (g.1, 31, .inl (zk_ia Rs)))] := Z.sub [0, 1] (by decide) rfl
  refine W.eq (g2 := F0 mm 5 ls [.int (nI (rmd R_ n wd))]) rfl ?_
  refine lv_istore_n (lv' := [(2, .int (nI (rmd R_ n wd))), (0, .ref hm), (1, .int (nI wd))]) hx hb dX8_errorsOf_5 rfl hl (by decide) rfl (fun ls hl => ?_)
  refine lv_iload_n hx hb dX8_errorsOf_6 rfl (lv_at hl 0 rfl) ?_
  refine nr_ne0 (tgt := 12) hx hb (by omega) dX8_errorsOf_7 (by decide) (fun c_1 => ?_) (fun c_1 => ?_)
  · refine lv_iconst (v := nI 0) hx hb dX8_errorsOf_12 (by decide) ?_
    refine lv_istore_n (lv' := [(3, .int (nI 0)), (2, .int (nI (rmd R_ n wd))), (0, .ref hm), (1, .int (nI wd))]) hx hb dX8_errorsOf_13 rfl hl (by decide) rfl (fun ls hl => ?_)
    have hr0 : ¬ rmd R_ n wd = 0 := c_1
    refine lp8_e1 C hm ms ch kp md rs pr km p dg n t dep gn ck Rs hRs R_ hR n31 hR31 t3 wd (rmd R_ n wd) rm31 _ (fun H locs ls h3 Z hl => ?_) (fun x1 H locs ls h3 Z hl => ?_) (fun x1 H locs ls h3 Z hl => ?_) (fun x1 H locs ls h3 Z hl => ?_) n 0 H locs ls (by omega) rfl Z (lv_sub hl [2, 3, 1, 0] rfl)
    · exfalso
      unfold eof at hm_
      rw [if_neg hr0, h3] at hm_
      cases hm_
    · unfold eof at hm_
      rw [if_neg hr0, h3] at hm_
      cases hm_
      exact zk_iret C hr hlocks Z ⟨rfl, rfl⟩ (Nat.le_of_ble_eq_true rfl) (Nat.le_of_ble_eq_true rfl) dX8_errorsOf_35
    · unfold eof at hm_
      rw [if_neg hr0, h3] at hm_
      cases hm_
      exact zk_iret C hr hlocks Z ⟨rfl, rfl⟩ (Nat.le_of_ble_eq_true rfl) (Nat.le_of_ble_eq_true rfl) dX8_errorsOf_84
    · unfold eof at hm_
      rw [if_neg hr0, h3] at hm_
      cases hm_
      exact zk_iret C hr hlocks Z ⟨rfl, rfl⟩ (Nat.le_of_ble_eq_true rfl) (Nat.le_of_ble_eq_true rfl) dX8_errorsOf_147
  · refine lv_iconst (v := nI 0) hx hb dX8_errorsOf_10 (by decide) ?_
    unfold eof at hm_
    rw [if_pos c_1] at hm_
    cases hm_
    exact zk_iret C hr hlocks Z ⟨rfl, rfl⟩ (Nat.le_of_ble_eq_true rfl) (Nat.le_of_ble_eq_true rfl) dX8_errorsOf_11

set_option maxHeartbeats 4000000 in
/-- model: errorsOf, none -/
theorem f8_eof (l : Launch) (D : va_G) (g : G4) (hm ms ch kp md rs pr : Nat) (km p dg n t dep gn ck : Nat) (Rs : List Nat) (hRs : Rs.length = 31) (R_ : Nat → Nat) (hR : ∀ i, i < n → Rs.getD i 0 = R_ i) (n31 : n ≤ 31) (hR31 : ∀ i, i < n → R_ i < 2 ^ 31) (t3 : t ≤ 3) (wd : Nat) (wd31 : wd < 2 ^ 31) (rm31 : rmd R_ n wd < 2 ^ 31) (hm_ : eof R_ t n wd = none) : zk_M l yX8_errorsOf (ws_ yX8_errorsOf cX8_errorsOf 6 (some .int)) (zk_R 1 0 0) D g [.ref hm, .int (nI wd)] [(hm, .inr (7, [.int (nI km), .int (nI 1), .int (nI p), .int (nI dg), .int (nI n), .int (nI t), .int (nI dep), .int (nI gn), .int (nI ck), .ref ms, .ref ch, .ref kp, .ref md, .ref rs, .ref pr])), (rs, .inl (g.1, 31, .inl (zk_ia Rs)))] (zk_D (some (.int (-1))) [(hm, .inr (7, [.int (nI km), .int (nI 1), .int (nI p), .int (nI dg), .int (nI n), .int (nI t), .int (nI dep), .int (nI gn), .int (nI ck), .ref ms, .ref ch, .ref kp, .ref md, .ref rs, .ref pr])), (rs, .inl (g.1, 31, .inl (zk_ia Rs)))]) := by
  refine zk_ofW (by decide) (Nat.le_of_ble_eq_true rfl) ?_
  intro pg ev s mm below meth cd A C hr hlocks hname Z ls hl
  have hx := C.1.1
  have hb := C.1.2.1
  have hml := C.1.2.2.1
  have hown := C.1.2.2.2.1
  have hts := C.1.2.2.2.2
  have hl : lv_has ls 6 [(0, .ref hm), (1, .int (nI wd))] := hl
  obtain ⟨H, hH⟩ : ∃ H, H = s.heap := ⟨_, rfl⟩
  obtain ⟨locs, hlocs⟩ : ∃ q : List Loc, q = [] := ⟨_, rfl⟩
  rw [← hH, ← hlocs] at Z ⊢
  refine lv_aload_n hx hb dX8_errorsOf_0 rfl (lv_at hl 0 rfl) ?_
  refine lv_iload_n hx hb dX8_errorsOf_1 rfl (lv_at hl 1 rfl) ?_
  refine zk_callV (cells' := 0) (slots' := 0) (rest := []) (n := 1) (wr := []) C Z (m8_rem l D g hm ms ch kp md rs pr km 1 p dg n t dep gn ck wd Rs hRs R_ hR n31 wd31) [0, 1] [] rfl rfl (by decide) (by decide) (by decide) 0 7 rfl rfl rfl q708 q710 qs12 q26 q711 (by decide +kernel) rfl (Nat.le_of_ble_eq_true rfl) (Nat.le_of_ble_eq_true rfl) (Nat.le_of_ble_eq_true rfl) (Nat.le_of_ble_eq_true rfl) rfl rfl hl.1 rfl (Nat.le_of_ble_eq_true rfl) dX8_errorsOf_2 (fun v w1 H locs hq Z => ?_)
  obtain ⟨rfl, rfl⟩ := hq
  have Z : zk_Z D A s H locs [(hm, .inr (7, [.int (nI km), .int (nI 1), .int (nI p), .int (nI dg), .int (nI n), .int (nI t), .int (nI dep), .int (nI gn), .int (nI ck), .ref ms, .ref ch, .ref kp, .ref md, .ref rs, .ref pr])), (rs, .inl (g.1, 31, .inl (zk_ia Rs)))] := Z.sub [0, 1] (by decide) rfl
  refine W.eq (g2 := F0 mm 5 ls [.int (nI (rmd R_ n wd))]) rfl ?_
  refine lv_istore_n (lv' := [(2, .int (nI (rmd R_ n wd))), (0, .ref hm), (1, .int (nI wd))]) hx hb dX8_errorsOf_5 rfl hl (by decide) rfl (fun ls hl => ?_)
  refine lv_iload_n hx hb dX8_errorsOf_6 rfl (lv_at hl 0 rfl) ?_
  refine nr_ne0 (tgt := 12) hx hb (by omega) dX8_errorsOf_7 (by decide) (fun c_1 => ?_) (fun c_1 => ?_)
  · refine lv_iconst (v := nI 0) hx hb dX8_errorsOf_12 (by decide) ?_
    refine lv_istore_n (lv' := [(3, .int (nI 0)), (2, .int (nI (rmd R_ n wd))), (0, .ref hm), (1, .int (nI wd))]) hx hb dX8_errorsOf_13 rfl hl (by decide) rfl (fun ls hl => ?_)
    have hr0 : ¬ rmd R_ n wd = 0 := c_1
    refine lp8_e1 C hm ms ch kp md rs pr km p dg n t dep gn ck Rs hRs R_ hR n31 hR31 t3 wd (rmd R_ n wd) rm31 _ (fun H locs ls h3 Z hl => ?_) (fun x1 H locs ls h3 Z hl => ?_) (fun x1 H locs ls h3 Z hl => ?_) (fun x1 H locs ls h3 Z hl => ?_) n 0 H locs ls (by omega) rfl Z (lv_sub hl [2, 3, 1, 0] rfl)
    · refine lv_iconst (v := (-1)) hx hb dX8_errorsOf_166 (by decide) ?_
      exact zk_iret C hr hlocks Z ⟨rfl, rfl⟩ (Nat.le_of_ble_eq_true rfl) (Nat.le_of_ble_eq_true rfl) dX8_errorsOf_167
    · exfalso
      unfold eof at hm_
      rw [if_neg hr0, h3] at hm_
      cases hm_
    · exfalso
      unfold eof at hm_
      rw [if_neg hr0, h3] at hm_
      cases hm_
    · exfalso
      unfold eof at hm_
      rw [if_neg hr0, h3] at hm_
      cases hm_
  · exfalso
    unfold eof at hm_
    rw [if_pos c_1] at hm_
    cases hm_

set_option maxHeartbeats 4000000 in
theorem lp8_mdA {pg : Program} {l : Launch} {ev : Env} {s : State} {mm : MethodId} {args : Array Value} {below : List Frame} {meth : Method} {cd : Code} {Q : State → Prop} {D : va_G} {g : G4} {A : Nat → Prop} (C : zk_C pg s mm cd args cX8_mend 6 RX8 D g A) (hm ms ch kp md rs pr : Nat) (km p dg n t dep gn ck : Nat) (Rs : List Nat) (hRs : Rs.length = 31) (R_ : Nat → Nat) (hR : ∀ i, i < n → Rs.getD i 0 = R_ i) (n31 : n ≤ 31) (hR31 : ∀ i, i < n → R_ i < 2 ^ 31) (t3 : t ≤ 3) (Cs : List Nat) (hCs : Cs.length = 4) (d4 : dep ≤ 4) (hW : ∀ w, w < dep → Cs.getD w 0 < 2 ^ 31 ∧ rmd R_ n (Cs.getD w 0) < 2 ^ 31 ∧ eor R_ t n (Cs.getD w 0) < 2 ^ 31) (up : Nat) (hup : up ≤ dep) (hall : ∀ w, w < up → eof R_ t n (Cs.getD w 0) = some (eor R_ t n (Cs.getD w 0))) (finD : List Nat) (finN : Nat) (kk : ∀ (H : Heap) (locs : List Loc) (ls : Array Slot), finD.length = 4 → zk_Z D A s H locs [(hm, .inr (7, [.int (nI km), .int (nI 1), .int (nI p), .int (nI dg), .int (nI n), .int (nI t), .int (nI dep), .int (nI gn), .int (nI ck), .ref ms, .ref ch, .ref kp, .ref md, .ref rs, .ref pr])), (ch, .inl (g.1, 4, .inl (zk_ia Cs))), (md, .inl (g.1, 4, .inl (zk_ia finD))), (rs, .inl (g.1, 31, .inl (zk_ia Rs)))] → lv_has ls 6 [(0, .ref hm), (1, .int (-1)), (2, .int (nI finN)), (3, .int (nI up))] → W pg l ev (zk_R 2 0 0) s mm args below meth cd H locs 0 0 Q (F0 mm 4 ls [])) :
    ∀ (k : Nat) (w : Nat) (Ds : List Nat) (nn : Nat) (H : Heap) (locs : List Loc) (ls : Array Slot), (w + k = up) → (Ds.length = 4) → (zk_it (moD R_ t n (fun w => Cs.getD w 0)) k w Ds = finD) → (zk_it (moN R_ t n (fun w => Cs.getD w 0)) k w nn = finN) → zk_Z D A s H locs [(hm, .inr (7, [.int (nI km), .int (nI 1), .int (nI p), .int (nI dg), .int (nI n), .int (nI t), .int (nI dep), .int (nI gn), .int (nI ck), .ref ms, .ref ch, .ref kp, .ref md, .ref rs, .ref pr])), (ch, .inl (g.1, 4, .inl (zk_ia Cs))), (md, .inl (g.1, 4, .inl (zk_ia Ds))), (rs, .inl (g.1, 31, .inl (zk_ia Rs)))] → lv_has ls 6 [(0, .ref hm), (1, .int (-1)), (2, .int (nI nn)), (3, .int (nI w))] → W pg l ev (zk_R 2 0 0) s mm args below meth cd H locs 0 0 Q (F0 mm 4 ls []) := by
  have hx := C.1.1
  have hb := C.1.2.1
  have hml := C.1.2.2.1
  have hown := C.1.2.2.2.1
  have hts := C.1.2.2.2.2
  intro k
  induction k with
  | zero =>
    intro w Ds nn H locs ls hik hDs hf1 hf2 Z hl
    have hw : w = up := by omega
    subst hw
    have hf1 : Ds = finD := hf1
    have hf2 : nn = finN := hf2
    subst hf1
    subst hf2
    exact kk H locs ls hDs Z hl
  | succ k ih =>
    intro w Ds nn H locs ls hik hDs hf1 hf2 Z hl
    refine lv_iload_n hx hb dX8_mend_4 rfl (lv_at hl 3 rfl) ?_
    refine lv_aload_n hx hb dX8_mend_5 rfl (lv_at hl 0 rfl) ?_
    refine zk_get C Z in_X8 0 rfl rfl 6 (by decide) q603 rfl (v := .int (nI dep)) rfl dX8_mend_6 ?_
    refine nr_ge (tgt := 77) hx hb (by omega) (by omega) dX8_mend_9 (by decide) (fun c_1 => absurd c_1 (by omega)) (fun c_1 => ?_)
    refine lv_iload_n hx hb dX8_mend_12 rfl (lv_at hl 1 rfl) ?_
    refine lv_if_ge (tgt := 25) hx hb dX8_mend_13 (by decide) (fun c_2 => absurd c_2 (by decide)) (fun c_2 => ?_)
    refine lv_aload_n hx hb dX8_mend_16 rfl (lv_at hl 0 rfl) ?_
    refine zk_get C Z in_X8 0 rfl rfl 10 (by decide) q607 rfl (v := .ref ch) rfl dX8_mend_17 ?_
    refine lv_iload_n hx hb dX8_mend_20 rfl (lv_at hl 3 rfl) ?_
    refine zk_iald C Z 1 rfl (by decide) (by omega) dX8_mend_21 ?_
    refine lv_goto (tgt := 35) hx hb dX8_mend_22 (by decide) ?_
    refine lv_istore (lv' := [(4, .int (nI (Cs.getD w 0))), (0, .ref hm), (1, .int (-1)), (2, .int (nI nn)), (3, .int (nI w))]) hx hb dX8_mend_35 hl (by decide) rfl (fun ls hl => ?_)
    refine lv_aload_n hx hb dX8_mend_37 rfl (lv_at hl 1 rfl) ?_
    refine lv_iload hx hb dX8_mend_38 (lv_at hl 0 rfl) ?_
    refine zk_callV (cells' := 0) (slots' := 0) (rest := []) (n := 1) (wr := [(ch, .inl (g.1, 4, .inl (zk_ia Cs))), (md, .inl (g.1, 4, .inl (zk_ia Ds)))]) C Z (m8_eof l D g hm ms ch kp md rs pr km p dg n t dep gn ck Rs hRs R_ hR n31 hR31 t3 (Cs.getD w 0) (hW w (by omega)).1 (hW w (by omega)).2.1 (eor R_ t n (Cs.getD w 0)) (hall w (by omega))) [0, 3] [1, 2] rfl rfl (by decide) (by decide) (by decide) 0 7 rfl rfl rfl q748 q750 qs16 q26 q751 (by decide +kernel) rfl (Nat.le_of_ble_eq_true rfl) (Nat.le_of_ble_eq_true rfl) (Nat.le_of_ble_eq_true rfl) (Nat.le_of_ble_eq_true rfl) rfl rfl hl.1 rfl (Nat.le_of_ble_eq_true rfl) dX8_mend_40 (fun v w1 H locs hq Z => ?_)
    obtain ⟨rfl, rfl⟩ := hq
    have Z : zk_Z D A s H locs [(hm, .inr (7, [.int (nI km), .int (nI 1), .int (nI p), .int (nI dg), .int (nI n), .int (nI t), .int (nI dep), .int (nI gn), .int (nI ck), .ref ms, .ref ch, .ref kp, .ref md, .ref rs, .ref pr])), (ch, .inl (g.1, 4, .inl (zk_ia Cs))), (md, .inl (g.1, 4, .inl (zk_ia Ds))), (rs, .inl (g.1, 31, .inl (zk_ia Rs)))] := Z.sub [2, 0, 1, 3] (by decide) rfl
    refine W.eq (g2 := F0 mm 43 ls [.int (nI (eor R_ t n (Cs.getD w 0)))]) rfl ?_
    refine lv_istore (lv' := [(5, .int (nI (eor R_ t n (Cs.getD w 0)))), (4, .int (nI (Cs.getD w 0))), (0, .ref hm), (1, .int (-1)), (2, .int (nI nn)), (3, .int (nI w))]) hx hb dX8_mend_43 hl (by decide) rfl (fun ls hl => ?_)
    refine lv_iload hx hb dX8_mend_45 (lv_at hl 0 rfl) ?_
    refine nr_ge0 (tgt := 52) hx hb (hW w (by omega)).2.2 dX8_mend_47 (by decide) ?_
    refine lv_aload_n hx hb dX8_mend_52 rfl (lv_at hl 2 rfl) ?_
    refine zk_get C Z in_X8 0 rfl rfl 12 (by decide) q609 rfl (v := .ref md) rfl dX8_mend_53 ?_
    refine lv_iload_n hx hb dX8_mend_56 rfl (lv_at hl 5 rfl) ?_
    refine lv_iload hx hb dX8_mend_57 (lv_at hl 1 rfl) ?_
    refine lv_iload hx hb dX8_mend_59 (lv_at hl 0 rfl) ?_
    refine nr_ixor hx hb dX8_mend_61 ?_
    refine zk_iast C Z 2 rfl (by decide) (by omega) hDs dX8_mend_62 (fun H locs Z => ?_)
    have hlen_4 : (Ds.set w ((Cs.getD w 0) ^^^ (eor R_ t n (Cs.getD w 0)))).length = 4 := by rw [List.length_set]; exact hDs
    have Z : zk_Z D A s H locs [(hm, .inr (7, [.int (nI km), .int (nI 1), .int (nI p), .int (nI dg), .int (nI n), .int (nI t), .int (nI dep), .int (nI gn), .int (nI ck), .ref ms, .ref ch, .ref kp, .ref md, .ref rs, .ref pr])), (ch, .inl (g.1, 4, .inl (zk_ia Cs))), (md, .inl (g.1, 4, .inl (zk_ia (Ds.set w ((Cs.getD w 0) ^^^ (eor R_ t n (Cs.getD w 0))))))), (rs, .inl (g.1, 31, .inl (zk_ia Rs)))] := Z
    refine lv_iload_n hx hb dX8_mend_63 rfl (lv_at hl 4 rfl) ?_
    refine lv_iload hx hb dX8_mend_64 (lv_at hl 0 rfl) ?_
    refine zk_callS (cells' := 0) (slots' := 0) (rest := [.int (nI nn)]) (n := 1) (wr := [(hm, .inr (7, [.int (nI km), .int (nI 1), .int (nI p), .int (nI dg), .int (nI n), .int (nI t), .int (nI dep), .int (nI gn), .int (nI ck), .ref ms, .ref ch, .ref kp, .ref md, .ref rs, .ref pr])), (ch, .inl (g.1, 4, .inl (zk_ia Cs))), (md, .inl (g.1, 4, .inl (zk_ia (Ds.set w ((Cs.getD w 0) ^^^ (eor R_ t n (Cs.getD w 0))))))), (rs, .inl (g.1, 31, .inl (zk_ia Rs)))]) C Z (m8_ones l D g (eor R_ t n (Cs.getD w 0)) (hW w (by omega)).2.2) [] [0, 1, 2, 3] rfl rfl (by decide) (by decide) (by decide) q712 q713 q26 q714 (by decide +kernel) rfl (Nat.le_of_ble_eq_true rfl) (Nat.le_of_ble_eq_true rfl) (Nat.le_of_ble_eq_true rfl) (Nat.le_of_ble_eq_true rfl) rfl rfl hl.1 rfl (Nat.le_of_ble_eq_true rfl) dX8_mend_66 (fun v w1 H locs hq Z => ?_)
    obtain ⟨rfl, rfl⟩ := hq
    have Z : zk_Z D A s H locs [(hm, .inr (7, [.int (nI km), .int (nI 1), .int (nI p), .int (nI dg), .int (nI n), .int (nI t), .int (nI dep), .int (nI gn), .int (nI ck), .ref ms, .ref ch, .ref kp, .ref md, .ref rs, .ref pr])), (ch, .inl (g.1, 4, .inl (zk_ia Cs))), (md, .inl (g.1, 4, .inl (zk_ia (Ds.set w ((Cs.getD w 0) ^^^ (eor R_ t n (Cs.getD w 0))))))), (rs, .inl (g.1, 31, .inl (zk_ia Rs)))] := Z.sub [0, 1, 2, 3] (by decide) rfl
    refine W.eq (g2 := F0 mm 69 ls [.int (nI (one (eor R_ t n (Cs.getD w 0)))), .int (nI nn)]) rfl ?_
    refine nr_iadd hx hb dX8_mend_69 ?_
    refine lv_istore_n (lv' := [(2, .int (nI (nn + (one (eor R_ t n (Cs.getD w 0)))))), (5, .int (nI (eor R_ t n (Cs.getD w 0)))), (4, .int (nI (Cs.getD w 0))), (0, .ref hm), (1, .int (-1)), (3, .int (nI w))]) hx hb dX8_mend_70 rfl hl (by decide) rfl (fun ls hl => ?_)
    refine nr_iinc (n := 1) (lv' := [(3, .int (nI (w + 1))), (2, .int (nI (nn + (one (eor R_ t n (Cs.getD w 0)))))), (5, .int (nI (eor R_ t n (Cs.getD w 0)))), (4, .int (nI (Cs.getD w 0))), (0, .ref hm), (1, .int (-1))]) hx hb (by decide) dX8_mend_71 hl (k := 5) rfl (by decide) rfl (fun ls hl => ?_)
    refine lv_goto (tgt := 4) hx hb dX8_mend_74 (by decide) ?_
    exact ih (w + 1) (Ds.set w ((Cs.getD w 0) ^^^ (eor R_ t n (Cs.getD w 0)))) (nn + (one (eor R_ t n (Cs.getD w 0)))) H locs ls (by omega) hlen_4 hf1 hf2 Z (lv_sub hl [4, 5, 1, 0] rfl)

set_option maxHeartbeats 4000000 in
/-- model: mend A -/
theorem m8_mdA (l : Launch) (D : va_G) (g : G4) (hm ms ch kp md rs pr : Nat) (km p dg n t dep gn ck : Nat) (Rs : List Nat) (hRs : Rs.length = 31) (R_ : Nat → Nat) (hR : ∀ i, i < n → Rs.getD i 0 = R_ i) (n31 : n ≤ 31) (hR31 : ∀ i, i < n → R_ i < 2 ^ 31) (t3 : t ≤ 3) (Cs : List Nat) (hCs : Cs.length = 4) (d4 : dep ≤ 4) (hW : ∀ w, w < dep → Cs.getD w 0 < 2 ^ 31 ∧ rmd R_ n (Cs.getD w 0) < 2 ^ 31 ∧ eor R_ t n (Cs.getD w 0) < 2 ^ 31) (Ds : List Nat) (hDs : Ds.length = 4) (hall : ∀ w, w < dep → eof R_ t n (Cs.getD w 0) = some (eor R_ t n (Cs.getD w 0))) : zk_M l yX8_mend (ws_ yX8_mend cX8_mend 6 (some .int)) (zk_R 2 0 0) D g [.ref hm, .int (-1)] [(hm, .inr (7, [.int (nI km), .int (nI 1), .int (nI p), .int (nI dg), .int (nI n), .int (nI t), .int (nI dep), .int (nI gn), .int (nI ck), .ref ms, .ref ch, .ref kp, .ref md, .ref rs, .ref pr])), (ch, .inl (g.1, 4, .inl (zk_ia Cs))), (md, .inl (g.1, 4, .inl (zk_ia Ds))), (rs, .inl (g.1, 31, .inl (zk_ia Rs)))] (zk_D (some (.int (nI (zk_it (moN R_ t n (fun w => Cs.getD w 0)) dep 0 0)))) [(hm, .inr (7, [.int (nI km), .int (nI 1), .int (nI p), .int (nI dg), .int (nI n), .int (nI t), .int (nI dep), .int (nI gn), .int (nI ck), .ref ms, .ref ch, .ref kp, .ref md, .ref rs, .ref pr])), (ch, .inl (g.1, 4, .inl (zk_ia Cs))), (md, .inl (g.1, 4, .inl (zk_ia (zk_it (moD R_ t n (fun w => Cs.getD w 0)) dep 0 Ds)))), (rs, .inl (g.1, 31, .inl (zk_ia Rs)))]) := by
  refine zk_ofW (by decide) (Nat.le_of_ble_eq_true rfl) ?_
  intro pg ev s mm below meth cd A C hr hlocks hname Z ls hl
  have hx := C.1.1
  have hb := C.1.2.1
  have hml := C.1.2.2.1
  have hown := C.1.2.2.2.1
  have hts := C.1.2.2.2.2
  have hl : lv_has ls 6 [(0, .ref hm), (1, .int (-1))] := hl
  obtain ⟨H, hH⟩ : ∃ H, H = s.heap := ⟨_, rfl⟩
  obtain ⟨locs, hlocs⟩ : ∃ q : List Loc, q = [] := ⟨_, rfl⟩
  rw [← hH, ← hlocs] at Z ⊢
  refine lv_iconst (v := nI 0) hx hb dX8_mend_0 (by decide) ?_
  refine lv_istore_n (lv' := [(2, .int (nI 0)), (0, .ref hm), (1, .int (-1))]) hx hb dX8_mend_1 rfl hl (by decide) rfl (fun ls hl => ?_)
  refine lv_iconst (v := nI 0) hx hb dX8_mend_2 (by decide) ?_
  refine lv_istore_n (lv' := [(3, .int (nI 0)), (2, .int (nI 0)), (0, .ref hm), (1, .int (-1))]) hx hb dX8_mend_3 rfl hl (by decide) rfl (fun ls hl => ?_)
  refine lp8_mdA C hm ms ch kp md rs pr km p dg n t dep gn ck Rs hRs R_ hR n31 hR31 t3 Cs hCs d4 hW dep (by omega) hall _ _ (fun H locs ls hD1 Z hl => ?_) dep 0 Ds 0 H locs ls (by omega) hDs rfl rfl Z (lv_sub hl [2, 3, 1, 0] rfl)
  refine lv_iload_n hx hb dX8_mend_4 rfl (lv_at hl 3 rfl) ?_
  refine lv_aload_n hx hb dX8_mend_5 rfl (lv_at hl 0 rfl) ?_
  refine zk_get C Z in_X8 0 rfl rfl 6 (by decide) q603 rfl (v := .int (nI dep)) rfl dX8_mend_6 ?_
  refine nr_ge (tgt := 77) hx hb (by omega) (by omega) dX8_mend_9 (by decide) (fun c_1 => ?_) (fun c_1 => absurd c_1 (by omega))
  refine lv_iload_n hx hb dX8_mend_77 rfl (lv_at hl 2 rfl) ?_
  exact zk_iret C hr hlocks Z ⟨rfl, rfl⟩ (Nat.le_of_ble_eq_true rfl) (Nat.le_of_ble_eq_true rfl) dX8_mend_78

set_option maxHeartbeats 4000000 in
/-- model: mend A, fails -/
theorem f8_mdA (l : Launch) (D : va_G) (g : G4) (hm ms ch kp md rs pr : Nat) (km p dg n t dep gn ck : Nat) (Rs : List Nat) (hRs : Rs.length = 31) (R_ : Nat → Nat) (hR : ∀ i, i < n → Rs.getD i 0 = R_ i) (n31 : n ≤ 31) (hR31 : ∀ i, i < n → R_ i < 2 ^ 31) (t3 : t ≤ 3) (Cs : List Nat) (hCs : Cs.length = 4) (d4 : dep ≤ 4) (hW : ∀ w, w < dep → Cs.getD w 0 < 2 ^ 31 ∧ rmd R_ n (Cs.getD w 0) < 2 ^ 31 ∧ eor R_ t n (Cs.getD w 0) < 2 ^ 31) (Ds : List Nat) (hDs : Ds.length = 4) (up : Nat) (hup : up < dep) (hall : ∀ w, w < up → eof R_ t n (Cs.getD w 0) = some (eor R_ t n (Cs.getD w 0))) (hnone : eof R_ t n (Cs.getD up 0) = none) : zk_M l yX8_mend (ws_ yX8_mend cX8_mend 6 (some .int)) (zk_R 2 0 0) D g [.ref hm, .int (-1)] [(hm, .inr (7, [.int (nI km), .int (nI 1), .int (nI p), .int (nI dg), .int (nI n), .int (nI t), .int (nI dep), .int (nI gn), .int (nI ck), .ref ms, .ref ch, .ref kp, .ref md, .ref rs, .ref pr])), (ch, .inl (g.1, 4, .inl (zk_ia Cs))), (md, .inl (g.1, 4, .inl (zk_ia Ds))), (rs, .inl (g.1, 31, .inl (zk_ia Rs)))] (fun v w => v = some (.int (-1)) ∧ ∃ D1 : List Nat, D1.length = 4 ∧ w = [(hm, .inr (7, [.int (nI km), .int (nI 1), .int (nI p), .int (nI dg), .int (nI n), .int (nI t), .int (nI dep), .int (nI gn), .int (nI ck), .ref ms, .ref ch, .ref kp, .ref md, .ref rs, .ref pr])), (ch, .inl (g.1, 4, .inl (zk_ia Cs))), (md, .inl (g.1, 4, .inl (zk_ia D1))), (rs, .inl (g.1, 31, .inl (zk_ia Rs)))]) := by
  refine zk_ofW (by decide) (Nat.le_of_ble_eq_true rfl) ?_
  intro pg ev s mm below meth cd A C hr hlocks hname Z ls hl
  have hx := C.1.1
  have hb := C.1.2.1
  have hml := C.1.2.2.1
  have hown := C.1.2.2.2.1
  have hts := C.1.2.2.2.2
  have hl : lv_has ls 6 [(0, .ref hm), (1, .int (-1))] := hl
  obtain ⟨H, hH⟩ : ∃ H, H = s.heap := ⟨_, rfl⟩
  obtain ⟨locs, hlocs⟩ : ∃ q : List Loc, q = [] := ⟨_, rfl⟩
  rw [← hH, ← hlocs] at Z ⊢
  refine lv_iconst (v := nI 0) hx hb dX8_mend_0 (by decide) ?_
  refine lv_istore_n (lv' := [(2, .int (nI 0)), (0, .ref hm), (1, .int (-1))]) hx hb dX8_mend_1 rfl hl (by decide) rfl (fun ls hl => ?_)
  refine lv_iconst (v := nI 0) hx hb dX8_mend_2 (by decide) ?_
  refine lv_istore_n (lv' := [(3, .int (nI 0)), (2, .int (nI 0)), (0, .ref hm), (1, .int (-1))]) hx hb dX8_mend_3 rfl hl (by decide) rfl (fun ls hl => ?_)
  refine lp8_mdA C hm ms ch kp md rs pr km p dg n t dep gn ck Rs hRs R_ hR n31 hR31 t3 Cs hCs d4 hW up (by omega) hall _ _ (fun H locs ls hD1 Z hl => ?_) up 0 Ds 0 H locs ls (by omega) hDs rfl rfl Z (lv_sub hl [2, 3, 1, 0] rfl)
  refine lv_iload_n hx hb dX8_mend_4 rfl (lv_at hl 3 rfl) ?_
  refine lv_aload_n hx hb dX8_mend_5 rfl (lv_at hl 0 rfl) ?_
  refine zk_get C Z in_X8 0 rfl rfl 6 (by decide) q603 rfl (v := .int (nI dep)) rfl dX8_mend_6 ?_
  refine nr_ge (tgt := 77) hx hb (by omega) (by omega) dX8_mend_9 (by decide) (fun c_1 => absurd c_1 (by omega)) (fun c_1 => ?_)
  refine lv_iload_n hx hb dX8_mend_12 rfl (lv_at hl 1 rfl) ?_
  refine lv_if_ge (tgt := 25) hx hb dX8_mend_13 (by decide) (fun c_2 => absurd c_2 (by decide)) (fun c_2 => ?_)
  refine lv_aload_n hx hb dX8_mend_16 rfl (lv_at hl 0 rfl) ?_
  refine zk_get C Z in_X8 0 rfl rfl 10 (by decide) q607 rfl (v := .ref ch) rfl dX8_mend_17 ?_
  refine lv_iload_n hx hb dX8_mend_20 rfl (lv_at hl 3 rfl) ?_
  refine zk_iald C Z 1 rfl (by decide) (by omega) dX8_mend_21 ?_
  refine lv_goto (tgt := 35) hx hb dX8_mend_22 (by decide) ?_
  refine lv_istore (lv' := [(4, .int (nI (Cs.getD up 0))), (0, .ref hm), (1, .int (-1)), (2, .int (nI (zk_it (moN R_ t n (fun w => Cs.getD w 0)) up 0 0))), (3, .int (nI up))]) hx hb dX8_mend_35 hl (by decide) rfl (fun ls hl => ?_)
  refine lv_aload_n hx hb dX8_mend_37 rfl (lv_at hl 1 rfl) ?_
  refine lv_iload hx hb dX8_mend_38 (lv_at hl 0 rfl) ?_
  refine zk_callV (cells' := 0) (slots' := 0) (rest := []) (n := 1) (wr := [(ch, .inl (g.1, 4, .inl (zk_ia Cs))), (md, .inl (g.1, 4, .inl (zk_ia (zk_it (moD R_ t n (fun w => Cs.getD w 0)) up 0 Ds))))]) C Z (f8_eof l D g hm ms ch kp md rs pr km p dg n t dep gn ck Rs hRs R_ hR n31 hR31 t3 (Cs.getD up 0) (hW up (by omega)).1 (hW up (by omega)).2.1 hnone) [0, 3] [1, 2] rfl rfl (by decide) (by decide) (by decide) 0 7 rfl rfl rfl q748 q750 qs16 q26 q751 (by decide +kernel) rfl (Nat.le_of_ble_eq_true rfl) (Nat.le_of_ble_eq_true rfl) (Nat.le_of_ble_eq_true rfl) (Nat.le_of_ble_eq_true rfl) rfl rfl hl.1 rfl (Nat.le_of_ble_eq_true rfl) dX8_mend_40 (fun v w1 H locs hq Z => ?_)
  obtain ⟨rfl, rfl⟩ := hq
  have Z : zk_Z D A s H locs [(hm, .inr (7, [.int (nI km), .int (nI 1), .int (nI p), .int (nI dg), .int (nI n), .int (nI t), .int (nI dep), .int (nI gn), .int (nI ck), .ref ms, .ref ch, .ref kp, .ref md, .ref rs, .ref pr])), (ch, .inl (g.1, 4, .inl (zk_ia Cs))), (md, .inl (g.1, 4, .inl (zk_ia (zk_it (moD R_ t n (fun w => Cs.getD w 0)) up 0 Ds)))), (rs, .inl (g.1, 31, .inl (zk_ia Rs)))] := Z.sub [2, 0, 1, 3] (by decide) rfl
  refine W.eq (g2 := F0 mm 43 ls [.int (-1)]) rfl ?_
  refine lv_istore (lv' := [(5, .int (-1)), (4, .int (nI (Cs.getD up 0))), (0, .ref hm), (1, .int (-1)), (2, .int (nI (zk_it (moN R_ t n (fun w => Cs.getD w 0)) up 0 0))), (3, .int (nI up))]) hx hb dX8_mend_43 hl (by decide) rfl (fun ls hl => ?_)
  refine lv_iload hx hb dX8_mend_45 (lv_at hl 0 rfl) ?_
  refine lv_if_ge (tgt := 52) hx hb dX8_mend_47 (by decide) (fun c_3 => absurd c_3 (by decide)) (fun c_3 => ?_)
  refine lv_iconst (v := (-1)) hx hb dX8_mend_50 (by decide) ?_
  exact zk_iret C hr hlocks Z ⟨rfl, _, hD1, rfl⟩ (Nat.le_of_ble_eq_true rfl) (Nat.le_of_ble_eq_true rfl) dX8_mend_51

set_option maxHeartbeats 4000000 in
theorem lp8_mdK {pg : Program} {l : Launch} {ev : Env} {s : State} {mm : MethodId} {args : Array Value} {below : List Frame} {meth : Method} {cd : Code} {Q : State → Prop} {D : va_G} {g : G4} {A : Nat → Prop} (C : zk_C pg s mm cd args cX8_mend 6 RX8 D g A) (hm ms ch kp md rs pr : Nat) (km p dg n t dep gn ck : Nat) (Rs : List Nat) (hRs : Rs.length = 31) (R_ : Nat → Nat) (hR : ∀ i, i < n → Rs.getD i 0 = R_ i) (n31 : n ≤ 31) (hR31 : ∀ i, i < n → R_ i < 2 ^ 31) (t3 : t ≤ 3) (Ks : List Nat) (hKs : Ks.length = 16) (sl : Nat) (s3 : sl ≤ 3) (d4 : dep ≤ 4) (hW : ∀ w, w < dep → Ks.getD (4 * sl + w) 0 < 2 ^ 31 ∧ rmd R_ n (Ks.getD (4 * sl + w) 0) < 2 ^ 31 ∧ eor R_ t n (Ks.getD (4 * sl + w) 0) < 2 ^ 31) (up : Nat) (hup : up ≤ dep) (hall : ∀ w, w < up → eof R_ t n (Ks.getD (4 * sl + w) 0) = some (eor R_ t n (Ks.getD (4 * sl + w) 0))) (finD : List Nat) (finN : Nat) (kk : ∀ (H : Heap) (locs : List Loc) (ls : Array Slot), finD.length = 4 → zk_Z D A s H locs [(hm, .inr (7, [.int (nI km), .int (nI 1), .int (nI p), .int (nI dg), .int (nI n), .int (nI t), .int (nI dep), .int (nI gn), .int (nI ck), .ref ms, .ref ch, .ref kp, .ref md, .ref rs, .ref pr])), (kp, .inl (g.1, 16, .inl (zk_ia Ks))), (md, .inl (g.1, 4, .inl (zk_ia finD))), (rs, .inl (g.1, 31, .inl (zk_ia Rs)))] → lv_has ls 6 [(0, .ref hm), (1, .int (nI sl)), (2, .int (nI finN)), (3, .int (nI up))] → W pg l ev (zk_R 2 0 0) s mm args below meth cd H locs 0 0 Q (F0 mm 4 ls [])) :
    ∀ (k : Nat) (w : Nat) (Ds : List Nat) (nn : Nat) (H : Heap) (locs : List Loc) (ls : Array Slot), (w + k = up) → (Ds.length = 4) → (zk_it (moD R_ t n (fun w => Ks.getD (4 * sl + w) 0)) k w Ds = finD) → (zk_it (moN R_ t n (fun w => Ks.getD (4 * sl + w) 0)) k w nn = finN) → zk_Z D A s H locs [(hm, .inr (7, [.int (nI km), .int (nI 1), .int (nI p), .int (nI dg), .int (nI n), .int (nI t), .int (nI dep), .int (nI gn), .int (nI ck), .ref ms, .ref ch, .ref kp, .ref md, .ref rs, .ref pr])), (kp, .inl (g.1, 16, .inl (zk_ia Ks))), (md, .inl (g.1, 4, .inl (zk_ia Ds))), (rs, .inl (g.1, 31, .inl (zk_ia Rs)))] → lv_has ls 6 [(0, .ref hm), (1, .int (nI sl)), (2, .int (nI nn)), (3, .int (nI w))] → W pg l ev (zk_R 2 0 0) s mm args below meth cd H locs 0 0 Q (F0 mm 4 ls []) := by
  have hx := C.1.1
  have hb := C.1.2.1
  have hml := C.1.2.2.1
  have hown := C.1.2.2.2.1
  have hts := C.1.2.2.2.2
  intro k
  induction k with
  | zero =>
    intro w Ds nn H locs ls hik hDs hf1 hf2 Z hl
    have hw : w = up := by omega
    subst hw
    have hf1 : Ds = finD := hf1
    have hf2 : nn = finN := hf2
    subst hf1
    subst hf2
    exact kk H locs ls hDs Z hl
  | succ k ih =>
    intro w Ds nn H locs ls hik hDs hf1 hf2 Z hl
    refine lv_iload_n hx hb dX8_mend_4 rfl (lv_at hl 3 rfl) ?_
    refine lv_aload_n hx hb dX8_mend_5 rfl (lv_at hl 0 rfl) ?_
    refine zk_get C Z in_X8 0 rfl rfl 6 (by decide) q603 rfl (v := .int (nI dep)) rfl dX8_mend_6 ?_
    refine nr_ge (tgt := 77) hx hb (by omega) (by omega) dX8_mend_9 (by decide) (fun c_1 => absurd c_1 (by omega)) (fun c_1 => ?_)
    refine lv_iload_n hx hb dX8_mend_12 rfl (lv_at hl 1 rfl) ?_
    refine nr_ge0 (tgt := 25) hx hb (by omega) dX8_mend_13 (by decide) ?_
    refine lv_aload_n hx hb dX8_mend_25 rfl (lv_at hl 0 rfl) ?_
    refine zk_get C Z in_X8 0 rfl rfl 11 (by decide) q608 rfl (v := .ref kp) rfl dX8_mend_26 ?_
    refine lv_iconst (v := nI 4) hx hb dX8_mend_29 (by decide) ?_
    refine lv_iload_n hx hb dX8_mend_30 rfl (lv_at hl 1 rfl) ?_
    refine nr_imul hx hb dX8_mend_31 ?_
    refine lv_iload_n hx hb dX8_mend_32 rfl (lv_at hl 3 rfl) ?_
    refine nr_iadd hx hb dX8_mend_33 ?_
    refine zk_iald C Z 1 rfl (by decide) (by omega) dX8_mend_34 ?_
    refine lv_istore (lv' := [(4, .int (nI (Ks.getD ((4 * sl) + w) 0))), (0, .ref hm), (1, .int (nI sl)), (2, .int (nI nn)), (3, .int (nI w))]) hx hb dX8_mend_35 hl (by decide) rfl (fun ls hl => ?_)
    refine lv_aload_n hx hb dX8_mend_37 rfl (lv_at hl 1 rfl) ?_
    refine lv_iload hx hb dX8_mend_38 (lv_at hl 0 rfl) ?_
    refine zk_callV (cells' := 0) (slots' := 0) (rest := []) (n := 1) (wr := [(kp, .inl (g.1, 16, .inl (zk_ia Ks))), (md, .inl (g.1, 4, .inl (zk_ia Ds)))]) C Z (m8_eof l D g hm ms ch kp md rs pr km p dg n t dep gn ck Rs hRs R_ hR n31 hR31 t3 (Ks.getD ((4 * sl) + w) 0) (hW w (by omega)).1 (hW w (by omega)).2.1 (eor R_ t n (Ks.getD ((4 * sl) + w) 0)) (hall w (by omega))) [0, 3] [1, 2] rfl rfl (by decide) (by decide) (by decide) 0 7 rfl rfl rfl q748 q750 qs16 q26 q751 (by decide +kernel) rfl (Nat.le_of_ble_eq_true rfl) (Nat.le_of_ble_eq_true rfl) (Nat.le_of_ble_eq_true rfl) (Nat.le_of_ble_eq_true rfl) rfl rfl hl.1 rfl (Nat.le_of_ble_eq_true rfl) dX8_mend_40 (fun v w1 H locs hq Z => ?_)
    obtain ⟨rfl, rfl⟩ := hq
    have Z : zk_Z D A s H locs [(hm, .inr (7, [.int (nI km), .int (nI 1), .int (nI p), .int (nI dg), .int (nI n), .int (nI t), .int (nI dep), .int (nI gn), .int (nI ck), .ref ms, .ref ch, .ref kp, .ref md, .ref rs, .ref pr])), (kp, .inl (g.1, 16, .inl (zk_ia Ks))), (md, .inl (g.1, 4, .inl (zk_ia Ds))), (rs, .inl (g.1, 31, .inl (zk_ia Rs)))] := Z.sub [2, 0, 1, 3] (by decide) rfl
    refine W.eq (g2 := F0 mm 43 ls [.int (nI (eor R_ t n (Ks.getD ((4 * sl) + w) 0)))]) rfl ?_
    refine lv_istore (lv' := [(5, .int (nI (eor R_ t n (Ks.getD ((4 * sl) + w) 0)))), (4, .int (nI (Ks.getD ((4 * sl) + w) 0))), (0, .ref hm), (1, .int (nI sl)), (2, .int (nI nn)), (3, .int (nI w))]) hx hb dX8_mend_43 hl (by decide) rfl (fun ls hl => ?_)
    refine lv_iload hx hb dX8_mend_45 (lv_at hl 0 rfl) ?_
    refine nr_ge0 (tgt := 52) hx hb (hW w (by omega)).2.2 dX8_mend_47 (by decide) ?_
    refine lv_aload_n hx hb dX8_mend_52 rfl (lv_at hl 2 rfl) ?_
    refine zk_get C Z in_X8 0 rfl rfl 12 (by decide) q609 rfl (v := .ref md) rfl dX8_mend_53 ?_
    refine lv_iload_n hx hb dX8_mend_56 rfl (lv_at hl 5 rfl) ?_
    refine lv_iload hx hb dX8_mend_57 (lv_at hl 1 rfl) ?_
    refine lv_iload hx hb dX8_mend_59 (lv_at hl 0 rfl) ?_
    refine nr_ixor hx hb dX8_mend_61 ?_
    refine zk_iast C Z 2 rfl (by decide) (by omega) hDs dX8_mend_62 (fun H locs Z => ?_)
    have hlen_4 : (Ds.set w ((Ks.getD ((4 * sl) + w) 0) ^^^ (eor R_ t n (Ks.getD ((4 * sl) + w) 0)))).length = 4 := by rw [List.length_set]; exact hDs
    have Z : zk_Z D A s H locs [(hm, .inr (7, [.int (nI km), .int (nI 1), .int (nI p), .int (nI dg), .int (nI n), .int (nI t), .int (nI dep), .int (nI gn), .int (nI ck), .ref ms, .ref ch, .ref kp, .ref md, .ref rs, .ref pr])), (kp, .inl (g.1, 16, .inl (zk_ia Ks))), (md, .inl (g.1, 4, .inl (zk_ia (Ds.set w ((Ks.getD ((4 * sl) + w) 0) ^^^ (eor R_ t n (Ks.getD ((4 * sl) + w) 0))))))), (rs, .inl (g.1, 31, .inl (zk_ia Rs)))] := Z
    refine lv_iload_n hx hb dX8_mend_63 rfl (lv_at hl 4 rfl) ?_
    refine lv_iload hx hb dX8_mend_64 (lv_at hl 0 rfl) ?_
    refine zk_callS (cells' := 0) (slots' := 0) (rest := [.int (nI nn)]) (n := 1) (wr := [(hm, .inr (7, [.int (nI km), .int (nI 1), .int (nI p), .int (nI dg), .int (nI n), .int (nI t), .int (nI dep), .int (nI gn), .int (nI ck), .ref ms, .ref ch, .ref kp, .ref md, .ref rs, .ref pr])), (kp, .inl (g.1, 16, .inl (zk_ia Ks))), (md, .inl (g.1, 4, .inl (zk_ia (Ds.set w ((Ks.getD ((4 * sl) + w) 0) ^^^ (eor R_ t n (Ks.getD ((4 * sl) + w) 0))))))), (rs, .inl (g.1, 31, .inl (zk_ia Rs)))]) C Z (m8_ones l D g (eor R_ t n (Ks.getD ((4 * sl) + w) 0)) (hW w (by omega)).2.2) [] [0, 1, 2, 3] rfl rfl (by decide) (by decide) (by decide) q712 q713 q26 q714 (by decide +kernel) rfl (Nat.le_of_ble_eq_true rfl) (Nat.le_of_ble_eq_true rfl) (Nat.le_of_ble_eq_true rfl) (Nat.le_of_ble_eq_true rfl) rfl rfl hl.1 rfl (Nat.le_of_ble_eq_true rfl) dX8_mend_66 (fun v w1 H locs hq Z => ?_)
    obtain ⟨rfl, rfl⟩ := hq
    have Z : zk_Z D A s H locs [(hm, .inr (7, [.int (nI km), .int (nI 1), .int (nI p), .int (nI dg), .int (nI n), .int (nI t), .int (nI dep), .int (nI gn), .int (nI ck), .ref ms, .ref ch, .ref kp, .ref md, .ref rs, .ref pr])), (kp, .inl (g.1, 16, .inl (zk_ia Ks))), (md, .inl (g.1, 4, .inl (zk_ia (Ds.set w ((Ks.getD ((4 * sl) + w) 0) ^^^ (eor R_ t n (Ks.getD ((4 * sl) + w) 0))))))), (rs, .inl (g.1, 31, .inl (zk_ia Rs)))] := Z.sub [0, 1, 2, 3] (by decide) rfl
    refine W.eq (g2 := F0 mm 69 ls [.int (nI (one (eor R_ t n (Ks.getD ((4 * sl) + w) 0)))), .int (nI nn)]) rfl ?_
    refine nr_iadd hx hb dX8_mend_69 ?_
    refine lv_istore_n (lv' := [(2, .int (nI (nn + (one (eor R_ t n (Ks.getD ((4 * sl) + w) 0)))))), (5, .int (nI (eor R_ t n (Ks.getD ((4 * sl) + w) 0)))), (4, .int (nI (Ks.getD ((4 * sl) + w) 0))), (0, .ref hm), (1, .int (nI sl)), (3, .int (nI w))]) hx hb dX8_mend_70 rfl hl (by decide) rfl (fun ls hl => ?_)
    refine nr_iinc (n := 1) (lv' := [(3, .int (nI (w + 1))), (2, .int (nI (nn + (one (eor R_ t n (Ks.getD ((4 * sl) + w) 0)))))), (5, .int (nI (eor R_ t n (Ks.getD ((4 * sl) + w) 0)))), (4, .int (nI (Ks.getD ((4 * sl) + w) 0))), (0, .ref hm), (1, .int (nI sl))]) hx hb (by decide) dX8_mend_71 hl (k := 5) rfl (by decide) rfl (fun ls hl => ?_)
    refine lv_goto (tgt := 4) hx hb dX8_mend_74 (by decide) ?_
    exact ih (w + 1) (Ds.set w ((Ks.getD ((4 * sl) + w) 0) ^^^ (eor R_ t n (Ks.getD ((4 * sl) + w) 0)))) (nn + (one (eor R_ t n (Ks.getD ((4 * sl) + w) 0)))) H locs ls (by omega) hlen_4 hf1 hf2 Z (lv_sub hl [4, 5, 1, 0] rfl)

set_option maxHeartbeats 4000000 in
/-- model: mend K -/
theorem m8_mdK (l : Launch) (D : va_G) (g : G4) (hm ms ch kp md rs pr : Nat) (km p dg n t dep gn ck : Nat) (Rs : List Nat) (hRs : Rs.length = 31) (R_ : Nat → Nat) (hR : ∀ i, i < n → Rs.getD i 0 = R_ i) (n31 : n ≤ 31) (hR31 : ∀ i, i < n → R_ i < 2 ^ 31) (t3 : t ≤ 3) (Ks : List Nat) (hKs : Ks.length = 16) (sl : Nat) (s3 : sl ≤ 3) (d4 : dep ≤ 4) (hW : ∀ w, w < dep → Ks.getD (4 * sl + w) 0 < 2 ^ 31 ∧ rmd R_ n (Ks.getD (4 * sl + w) 0) < 2 ^ 31 ∧ eor R_ t n (Ks.getD (4 * sl + w) 0) < 2 ^ 31) (Ds : List Nat) (hDs : Ds.length = 4) (hall : ∀ w, w < dep → eof R_ t n (Ks.getD (4 * sl + w) 0) = some (eor R_ t n (Ks.getD (4 * sl + w) 0))) : zk_M l yX8_mend (ws_ yX8_mend cX8_mend 6 (some .int)) (zk_R 2 0 0) D g [.ref hm, .int (nI sl)] [(hm, .inr (7, [.int (nI km), .int (nI 1), .int (nI p), .int (nI dg), .int (nI n), .int (nI t), .int (nI dep), .int (nI gn), .int (nI ck), .ref ms, .ref ch, .ref kp, .ref md, .ref rs, .ref pr])), (kp, .inl (g.1, 16, .inl (zk_ia Ks))), (md, .inl (g.1, 4, .inl (zk_ia Ds))), (rs, .inl (g.1, 31, .inl (zk_ia Rs)))] (zk_D (some (.int (nI (zk_it (moN R_ t n (fun w => Ks.getD (4 * sl + w) 0)) dep 0 0)))) [(hm, .inr (7, [.int (nI km), .int (nI 1), .int (nI p), .int (nI dg), .int (nI n), .int (nI t), .int (nI dep), .int (nI gn), .int (nI ck), .ref ms, .ref ch, .ref kp, .ref md, .ref rs, .ref pr])), (kp, .inl (g.1, 16, .inl (zk_ia Ks))), (md, .inl (g.1, 4, .inl (zk_ia (zk_it (moD R_ t n (fun w => Ks.getD (4 * sl + w) 0)) dep 0 Ds)))), (rs, .inl (g.1, 31, .inl (zk_ia Rs)))]) := by
  refine zk_ofW (by decide) (Nat.le_of_ble_eq_true rfl) ?_
  intro pg ev s mm below meth cd A C hr hlocks hname Z ls hl
  have hx := C.1.1
  have hb := C.1.2.1
  have hml := C.1.2.2.1
  have hown := C.1.2.2.2.1
  have hts := C.1.2.2.2.2
  have hl : lv_has ls 6 [(0, .ref hm), (1, .int (nI sl))] := hl
  obtain ⟨H, hH⟩ : ∃ H, H = s.heap := ⟨_, rfl⟩
  obtain ⟨locs, hlocs⟩ : ∃ q : List Loc, q = [] := ⟨_, rfl⟩
  rw [← hH, ← hlocs] at Z ⊢
  refine lv_iconst (v := nI 0) hx hb dX8_mend_0 (by decide) ?_
  refine lv_istore_n (lv' := [(2, .int (nI 0)), (0, .ref hm), (1, .int (nI sl))]) hx hb dX8_mend_1 rfl hl (by decide) rfl (fun ls hl => ?_)
  refine lv_iconst (v := nI 0) hx hb dX8_mend_2 (by decide) ?_
  refine lv_istore_n (lv' := [(3, .int (nI 0)), (2, .int (nI 0)), (0, .ref hm), (1, .int (nI sl))]) hx hb dX8_mend_3 rfl hl (by decide) rfl (fun ls hl => ?_)
  refine lp8_mdK C hm ms ch kp md rs pr km p dg n t dep gn ck Rs hRs R_ hR n31 hR31 t3 Ks hKs sl s3 d4 hW dep (by omega) hall _ _ (fun H locs ls hD1 Z hl => ?_) dep 0 Ds 0 H locs ls (by omega) hDs rfl rfl Z (lv_sub hl [2, 3, 1, 0] rfl)
  refine lv_iload_n hx hb dX8_mend_4 rfl (lv_at hl 3 rfl) ?_
  refine lv_aload_n hx hb dX8_mend_5 rfl (lv_at hl 0 rfl) ?_
  refine zk_get C Z in_X8 0 rfl rfl 6 (by decide) q603 rfl (v := .int (nI dep)) rfl dX8_mend_6 ?_
  refine nr_ge (tgt := 77) hx hb (by omega) (by omega) dX8_mend_9 (by decide) (fun c_1 => ?_) (fun c_1 => absurd c_1 (by omega))
  refine lv_iload_n hx hb dX8_mend_77 rfl (lv_at hl 2 rfl) ?_
  exact zk_iret C hr hlocks Z ⟨rfl, rfl⟩ (Nat.le_of_ble_eq_true rfl) (Nat.le_of_ble_eq_true rfl) dX8_mend_78

set_option maxHeartbeats 4000000 in
/-- model: mend K, fails -/
theorem f8_mdK (l : Launch) (D : va_G) (g : G4) (hm ms ch kp md rs pr : Nat) (km p dg n t dep gn ck : Nat) (Rs : List Nat) (hRs : Rs.length = 31) (R_ : Nat → Nat) (hR : ∀ i, i < n → Rs.getD i 0 = R_ i) (n31 : n ≤ 31) (hR31 : ∀ i, i < n → R_ i < 2 ^ 31) (t3 : t ≤ 3) (Ks : List Nat) (hKs : Ks.length = 16) (sl : Nat) (s3 : sl ≤ 3) (d4 : dep ≤ 4) (hW : ∀ w, w < dep → Ks.getD (4 * sl + w) 0 < 2 ^ 31 ∧ rmd R_ n (Ks.getD (4 * sl + w) 0) < 2 ^ 31 ∧ eor R_ t n (Ks.getD (4 * sl + w) 0) < 2 ^ 31) (Ds : List Nat) (hDs : Ds.length = 4) (up : Nat) (hup : up < dep) (hall : ∀ w, w < up → eof R_ t n (Ks.getD (4 * sl + w) 0) = some (eor R_ t n (Ks.getD (4 * sl + w) 0))) (hnone : eof R_ t n (Ks.getD (4 * sl + up) 0) = none) : zk_M l yX8_mend (ws_ yX8_mend cX8_mend 6 (some .int)) (zk_R 2 0 0) D g [.ref hm, .int (nI sl)] [(hm, .inr (7, [.int (nI km), .int (nI 1), .int (nI p), .int (nI dg), .int (nI n), .int (nI t), .int (nI dep), .int (nI gn), .int (nI ck), .ref ms, .ref ch, .ref kp, .ref md, .ref rs, .ref pr])), (kp, .inl (g.1, 16, .inl (zk_ia Ks))), (md, .inl (g.1, 4, .inl (zk_ia Ds))), (rs, .inl (g.1, 31, .inl (zk_ia Rs)))] (fun v w => v = some (.int (-1)) ∧ ∃ D1 : List Nat, D1.length = 4 ∧ w = [(hm, .inr (7, [.int (nI km), .int (nI 1), .int (nI p), .int (nI dg), .int (nI n), .int (nI t), .int (nI dep), .int (nI gn), .int (nI ck), .ref ms, .ref ch, .ref kp, .ref md, .ref rs, .ref pr])), (kp, .inl (g.1, 16, .inl (zk_ia Ks))), (md, .inl (g.1, 4, .inl (zk_ia D1))), (rs, .inl (g.1, 31, .inl (zk_ia Rs)))]) := by
  refine zk_ofW (by decide) (Nat.le_of_ble_eq_true rfl) ?_
  intro pg ev s mm below meth cd A C hr hlocks hname Z ls hl
  have hx := C.1.1
  have hb := C.1.2.1
  have hml := C.1.2.2.1
  have hown := C.1.2.2.2.1
  have hts := C.1.2.2.2.2
  have hl : lv_has ls 6 [(0, .ref hm), (1, .int (nI sl))] := hl
  obtain ⟨H, hH⟩ : ∃ H, H = s.heap := ⟨_, rfl⟩
  obtain ⟨locs, hlocs⟩ : ∃ q : List Loc, q = [] := ⟨_, rfl⟩
  rw [← hH, ← hlocs] at Z ⊢
  refine lv_iconst (v := nI 0) hx hb dX8_mend_0 (by decide) ?_
  refine lv_istore_n (lv' := [(2, .int (nI 0)), (0, .ref hm), (1, .int (nI sl))]) hx hb dX8_mend_1 rfl hl (by decide) rfl (fun ls hl => ?_)
  refine lv_iconst (v := nI 0) hx hb dX8_mend_2 (by decide) ?_
  refine lv_istore_n (lv' := [(3, .int (nI 0)), (2, .int (nI 0)), (0, .ref hm), (1, .int (nI sl))]) hx hb dX8_mend_3 rfl hl (by decide) rfl (fun ls hl => ?_)
  refine lp8_mdK C hm ms ch kp md rs pr km p dg n t dep gn ck Rs hRs R_ hR n31 hR31 t3 Ks hKs sl s3 d4 hW up (by omega) hall _ _ (fun H locs ls hD1 Z hl => ?_) up 0 Ds 0 H locs ls (by omega) hDs rfl rfl Z (lv_sub hl [2, 3, 1, 0] rfl)
  refine lv_iload_n hx hb dX8_mend_4 rfl (lv_at hl 3 rfl) ?_
  refine lv_aload_n hx hb dX8_mend_5 rfl (lv_at hl 0 rfl) ?_
  refine zk_get C Z in_X8 0 rfl rfl 6 (by decide) q603 rfl (v := .int (nI dep)) rfl dX8_mend_6 ?_
  refine nr_ge (tgt := 77) hx hb (by omega) (by omega) dX8_mend_9 (by decide) (fun c_1 => absurd c_1 (by omega)) (fun c_1 => ?_)
  refine lv_iload_n hx hb dX8_mend_12 rfl (lv_at hl 1 rfl) ?_
  refine nr_ge0 (tgt := 25) hx hb (by omega) dX8_mend_13 (by decide) ?_
  refine lv_aload_n hx hb dX8_mend_25 rfl (lv_at hl 0 rfl) ?_
  refine zk_get C Z in_X8 0 rfl rfl 11 (by decide) q608 rfl (v := .ref kp) rfl dX8_mend_26 ?_
  refine lv_iconst (v := nI 4) hx hb dX8_mend_29 (by decide) ?_
  refine lv_iload_n hx hb dX8_mend_30 rfl (lv_at hl 1 rfl) ?_
  refine nr_imul hx hb dX8_mend_31 ?_
  refine lv_iload_n hx hb dX8_mend_32 rfl (lv_at hl 3 rfl) ?_
  refine nr_iadd hx hb dX8_mend_33 ?_
  refine zk_iald C Z 1 rfl (by decide) (by omega) dX8_mend_34 ?_
  refine lv_istore (lv' := [(4, .int (nI (Ks.getD ((4 * sl) + up) 0))), (0, .ref hm), (1, .int (nI sl)), (2, .int (nI (zk_it (moN R_ t n (fun w => Ks.getD (4 * sl + w) 0)) up 0 0))), (3, .int (nI up))]) hx hb dX8_mend_35 hl (by decide) rfl (fun ls hl => ?_)
  refine lv_aload_n hx hb dX8_mend_37 rfl (lv_at hl 1 rfl) ?_
  refine lv_iload hx hb dX8_mend_38 (lv_at hl 0 rfl) ?_
  refine zk_callV (cells' := 0) (slots' := 0) (rest := []) (n := 1) (wr := [(kp, .inl (g.1, 16, .inl (zk_ia Ks))), (md, .inl (g.1, 4, .inl (zk_ia (zk_it (moD R_ t n (fun w => Ks.getD (4 * sl + w) 0)) up 0 Ds))))]) C Z (f8_eof l D g hm ms ch kp md rs pr km p dg n t dep gn ck Rs hRs R_ hR n31 hR31 t3 (Ks.getD ((4 * sl) + up) 0) (hW up (by omega)).1 (hW up (by omega)).2.1 hnone) [0, 3] [1, 2] rfl rfl (by decide) (by decide) (by decide) 0 7 rfl rfl rfl q748 q750 qs16 q26 q751 (by decide +kernel) rfl (Nat.le_of_ble_eq_true rfl) (Nat.le_of_ble_eq_true rfl) (Nat.le_of_ble_eq_true rfl) (Nat.le_of_ble_eq_true rfl) rfl rfl hl.1 rfl (Nat.le_of_ble_eq_true rfl) dX8_mend_40 (fun v w1 H locs hq Z => ?_)
  obtain ⟨rfl, rfl⟩ := hq
  have Z : zk_Z D A s H locs [(hm, .inr (7, [.int (nI km), .int (nI 1), .int (nI p), .int (nI dg), .int (nI n), .int (nI t), .int (nI dep), .int (nI gn), .int (nI ck), .ref ms, .ref ch, .ref kp, .ref md, .ref rs, .ref pr])), (kp, .inl (g.1, 16, .inl (zk_ia Ks))), (md, .inl (g.1, 4, .inl (zk_ia (zk_it (moD R_ t n (fun w => Ks.getD (4 * sl + w) 0)) up 0 Ds)))), (rs, .inl (g.1, 31, .inl (zk_ia Rs)))] := Z.sub [2, 0, 1, 3] (by decide) rfl
  refine W.eq (g2 := F0 mm 43 ls [.int (-1)]) rfl ?_
  refine lv_istore (lv' := [(5, .int (-1)), (4, .int (nI (Ks.getD ((4 * sl) + up) 0))), (0, .ref hm), (1, .int (nI sl)), (2, .int (nI (zk_it (moN R_ t n (fun w => Ks.getD (4 * sl + w) 0)) up 0 0))), (3, .int (nI up))]) hx hb dX8_mend_43 hl (by decide) rfl (fun ls hl => ?_)
  refine lv_iload hx hb dX8_mend_45 (lv_at hl 0 rfl) ?_
  refine lv_if_ge (tgt := 52) hx hb dX8_mend_47 (by decide) (fun c_3 => absurd c_3 (by decide)) (fun c_3 => ?_)
  refine lv_iconst (v := (-1)) hx hb dX8_mend_50 (by decide) ?_
  exact zk_iret C hr hlocks Z ⟨rfl, _, hD1, rfl⟩ (Nat.le_of_ble_eq_true rfl) (Nat.le_of_ble_eq_true rfl) dX8_mend_51

