/-! ===== model: decode, load, begin ===== -/
set_option maxRecDepth 100000
theorem tk_D31 {R : Nat → Nat} {t n dep : Nat} {W : Nat → Nat} {D : List Nat} (hD : D.length = 4) (d4 : dep ≤ 4) (hW : ∀ w, w < dep → W w < 2 ^ 31 ∧ rmd R n (W w) < 2 ^ 31 ∧ eor R t n (W w) < 2 ^ 31) : ∀ j, j < dep → (zk_it (moD R t n W) dep 0 D).getD j 0 < 2 ^ 31 := by
  intro j hj
  have h9 := zk_fill (fun j => W j ^^^ eor R t n (W j)) dep 0 D (by omega) j
  rw [List.getD_eq_getElem?_getD]
  have e : (zk_it (moD R t n W) dep 0 D)[j]? = some (W j ^^^ eor R t n (W j)) := by
    refine Eq.trans h9 ?_
    rw [if_pos ⟨Nat.zero_le _, by omega⟩]
  rw [e]
  exact Nat.xor_lt_two_pow (hW j hj).1 (hW j hj).2.2
theorem tkC_len (D : List Nat) (k : Nat) (C : List Nat) : (zk_it (tkC D) k 0 C).length = C.length := zk_len_it (fun j C => by rw [tkC, List.length_set]) _ _ _
theorem tkM_len (ck : Nat) (D : List Nat) (k : Nat) (C : List Nat) : (zk_it (tkM ck D) k 0 C).length = C.length := zk_len_it (fun j C => by rw [tkM, List.length_set]) _ _ _
set_option maxHeartbeats 4000000 in
/-- model: decode -/
theorem m8_dec (l : Launch) (D : va_G) (g : G4) (hm ms ch kp md rs pr : Nat) (km p dg n t dep gn ck : Nat) (Rs : List Nat) (hRs : Rs.length = 31) (R_ : Nat → Nat) (hR : ∀ i, i < n → Rs.getD i 0 = R_ i) (n31 : n ≤ 31) (hR31 : ∀ i, i < n → R_ i < 2 ^ 31) (t3 : t ≤ 3) (Cs : List Nat) (hCs : Cs.length = 4) (d4 : dep ≤ 4) (hW : ∀ w, w < dep → Cs.getD w 0 < 2 ^ 31 ∧ rmd R_ n (Cs.getD w 0) < 2 ^ 31 ∧ eor R_ t n (Cs.getD w 0) < 2 ^ 31) (ck31 : ck ≤ 31) (Ms Ds : List Nat) (hMs : Ms.length = 4) (hDs : Ds.length = 4) (x : Nat) (x2 : x ≤ 2) (hall : ∀ w, w < dep → eof R_ t n (Cs.getD w 0) = some (eor R_ t n (Cs.getD w 0))) : zk_M l yX8_decode (ws_ yX8_decode cX8_decode 3 (some .int)) (zk_R 3 0 0) D g [.ref hm, .int (nI x)] [(hm, .inr (7, [.int (nI km), .int (nI 1), .int (nI p), .int (nI dg), .int (nI n), .int (nI t), .int (nI dep), .int (nI gn), .int (nI ck), .ref ms, .ref ch, .ref kp, .ref md, .ref rs, .ref pr])), (ms, .inl (g.1, 4, .inl (zk_ia Ms))), (ch, .inl (g.1, 4, .inl (zk_ia Cs))), (md, .inl (g.1, 4, .inl (zk_ia Ds))), (rs, .inl (g.1, 31, .inl (zk_ia Rs)))] (zk_D (some (.int (nI (zk_it (moN R_ t n (fun w => Cs.getD w 0)) dep 0 0)))) [(hm, .inr (7, [.int (nI 0), .int (nI 1), .int (nI p), .int (nI dg), .int (nI n), .int (nI t), .int (nI dep), .int (nI gn), .int (nI ck), .ref ms, .ref ch, .ref kp, .ref md, .ref rs, .ref pr])), (ms, .inl (g.1, 4, .inl (zk_ia (zk_it (tkM ck (zk_it (moD R_ t n (fun w => Cs.getD w 0)) dep 0 Ds)) dep 0 Ms)))), (ch, .inl (g.1, 4, .inl (zk_ia (zk_it (tkC (zk_it (moD R_ t n (fun w => Cs.getD w 0)) dep 0 Ds)) dep 0 Cs)))), (md, .inl (g.1, 4, .inl (zk_ia (zk_it (moD R_ t n (fun w => Cs.getD w 0)) dep 0 Ds)))), (rs, .inl (g.1, 31, .inl (zk_ia Rs)))]) := by
  refine zk_ofW (by decide) (Nat.le_of_ble_eq_true rfl) ?_
  intro pg ev s mm below meth cd A C hr hlocks hname Z ls hl
  have hx := C.1.1
  have hb := C.1.2.1
  have hml := C.1.2.2.1
  have hown := C.1.2.2.2.1
  have hts := C.1.2.2.2.2
  have hl : lv_has ls 3 [(0, .ref hm), (1, .int (nI x))] := hl
  obtain ⟨H, hH⟩ : ∃ H, H = s.heap := ⟨_, rfl⟩
  obtain ⟨locs, hlocs⟩ : ∃ q : List Loc, q = [] := ⟨_, rfl⟩
  rw [← hH, ← hlocs] at Z ⊢
  refine lv_aload_n hx hb dX8_decode_0 rfl (lv_at hl 0 rfl) ?_
  refine lv_aload_n hx hb dX8_decode_1 rfl (lv_at hl 0 rfl) ?_
  refine zk_get C Z in_X8 0 rfl rfl 1 (by decide) q598 rfl (v := .int (nI 1)) rfl dX8_decode_2 ?_
  refine nr_ne0 (tgt := 12) hx hb (by omega) dX8_decode_5 (by decide) (fun c_1 => ?_) (fun c_1 => absurd c_1 (by decide))
  refine lv_iload_n hx hb dX8_decode_12 rfl (lv_at hl 1 rfl) ?_
  refine lv_iconst (v := nI 0) hx hb dX8_decode_13 (by decide) ?_
  refine lv_iconst (v := nI 2) hx hb dX8_decode_14 (by decide) ?_
  refine zk_callS (cells' := 0) (slots' := 0) (rest := [.ref hm]) (n := 3) (wr := [(hm, .inr (7, [.int (nI km), .int (nI 1), .int (nI p), .int (nI dg), .int (nI n), .int (nI t), .int (nI dep), .int (nI gn), .int (nI ck), .ref ms, .ref ch, .ref kp, .ref md, .ref rs, .ref pr])), (ms, .inl (g.1, 4, .inl (zk_ia Ms))), (ch, .inl (g.1, 4, .inl (zk_ia Cs))), (md, .inl (g.1, 4, .inl (zk_ia Ds))), (rs, .inl (g.1, 31, .inl (zk_ia Rs)))]) C Z (m8_in1 l D g (nI x) (nI 0) (nI 2) (zk_le (Nat.zero_le x) (by omega)) (zk_le x2 (by decide))) [] [0, 1, 2, 3, 4] rfl rfl (by decide) (by decide) (by decide) q651 q652 q26 q653 (by decide +kernel) rfl (Nat.le_of_ble_eq_true rfl) (Nat.le_of_ble_eq_true rfl) (Nat.le_of_ble_eq_true rfl) (Nat.le_of_ble_eq_true rfl) rfl rfl hl.1 rfl (Nat.le_of_ble_eq_true rfl) dX8_decode_15 (fun v w1 H locs hq Z => ?_)
  obtain ⟨rfl, rfl⟩ := hq
  have Z : zk_Z D A s H locs [(hm, .inr (7, [.int (nI km), .int (nI 1), .int (nI p), .int (nI dg), .int (nI n), .int (nI t), .int (nI dep), .int (nI gn), .int (nI ck), .ref ms, .ref ch, .ref kp, .ref md, .ref rs, .ref pr])), (ms, .inl (g.1, 4, .inl (zk_ia Ms))), (ch, .inl (g.1, 4, .inl (zk_ia Cs))), (md, .inl (g.1, 4, .inl (zk_ia Ds))), (rs, .inl (g.1, 31, .inl (zk_ia Rs)))] := Z.sub [0, 1, 2, 3, 4] (by decide) rfl
  refine W.eq (g2 := F0 mm 18 ls [.int (nI 1), .ref hm]) rfl ?_
  refine nr_eq0 (tgt := 25) hx hb (by omega) dX8_decode_18 (by decide) (fun c_2 => absurd c_2 (by decide)) (fun c_2 => ?_)
  refine lv_iconst (v := nI 0) hx hb dX8_decode_21 (by decide) ?_
  refine lv_goto (tgt := 26) hx hb dX8_decode_22 (by decide) ?_
  refine zk_put C Z in_X8 tyX8 tyX8_ok nmX8 0 rfl rfl 0 (by decide) q597 rfl rfl (v := .int (nI 0)) rfl rfl (Nat.le_of_ble_eq_true rfl) dX8_decode_26 (fun H locs Z => ?_)
  have Z : zk_Z D A s H locs [(hm, .inr (7, [.int (nI 0), .int (nI 1), .int (nI p), .int (nI dg), .int (nI n), .int (nI t), .int (nI dep), .int (nI gn), .int (nI ck), .ref ms, .ref ch, .ref kp, .ref md, .ref rs, .ref pr])), (ms, .inl (g.1, 4, .inl (zk_ia Ms))), (ch, .inl (g.1, 4, .inl (zk_ia Cs))), (md, .inl (g.1, 4, .inl (zk_ia Ds))), (rs, .inl (g.1, 31, .inl (zk_ia Rs)))] := Z
  refine lv_aload_n hx hb dX8_decode_29 rfl (lv_at hl 0 rfl) ?_
  refine zk_get C Z in_X8 0 rfl rfl 0 (by decide) q597 rfl (v := .int (nI 0)) rfl dX8_decode_30 ?_
  refine nr_le0 (tgt := 40) hx hb (by decide) dX8_decode_33 (by decide) (fun c_3 => ?_) (fun c_3 => absurd c_3 (by decide))
  refine lv_aload_n hx hb dX8_decode_40 rfl (lv_at hl 0 rfl) ?_
  refine lv_iconst (v := (-1)) hx hb dX8_decode_41 (by decide) ?_
  refine zk_callV (cells' := 0) (slots' := 0) (rest := []) (n := 1) (wr := [(ms, .inl (g.1, 4, .inl (zk_ia Ms)))]) C Z (m8_mdA l D g hm ms ch kp md rs pr 0 p dg n t dep gn ck Rs hRs R_ hR n31 hR31 t3 Cs hCs d4 hW Ds hDs hall) [0, 2, 3, 4] [1] rfl rfl (by decide) (by decide) (by decide) 0 7 rfl rfl rfl q744 q746 qs15 q26 q747 (by decide +kernel) rfl (Nat.le_of_ble_eq_true rfl) (Nat.le_of_ble_eq_true rfl) (Nat.le_of_ble_eq_true rfl) (Nat.le_of_ble_eq_true rfl) rfl rfl hl.1 rfl (Nat.le_of_ble_eq_true rfl) dX8_decode_42 (fun v w1 H locs hq Z => ?_)
  obtain ⟨rfl, rfl⟩ := hq
  have Z : zk_Z D A s H locs [(hm, .inr (7, [.int (nI 0), .int (nI 1), .int (nI p), .int (nI dg), .int (nI n), .int (nI t), .int (nI dep), .int (nI gn), .int (nI ck), .ref ms, .ref ch, .ref kp, .ref md, .ref rs, .ref pr])), (ms, .inl (g.1, 4, .inl (zk_ia Ms))), (ch, .inl (g.1, 4, .inl (zk_ia Cs))), (md, .inl (g.1, 4, .inl (zk_ia (zk_it (moD R_ t n (fun w => Cs.getD w 0)) dep 0 Ds)))), (rs, .inl (g.1, 31, .inl (zk_ia Rs)))] := Z.sub [1, 0, 2, 3, 4] (by decide) rfl
  refine W.eq (g2 := F0 mm 45 ls [.int (nI (zk_it (moN R_ t n (fun w => Cs.getD w 0)) dep 0 0))]) rfl ?_
  refine lv_istore_n (lv' := [(2, .int (nI (zk_it (moN R_ t n (fun w => Cs.getD w 0)) dep 0 0))), (0, .ref hm), (1, .int (nI x))]) hx hb dX8_decode_45 rfl hl (by decide) rfl (fun ls hl => ?_)
  refine lv_aload_n hx hb dX8_decode_46 rfl (lv_at hl 1 rfl) ?_
  refine lv_iload_n hx hb dX8_decode_47 rfl (lv_at hl 0 rfl) ?_
  refine nr_ge0 (tgt := 55) hx hb (by have := moN_le R_ t n (fun w => Cs.getD w 0) dep; omega) dX8_decode_48 (by decide) ?_
  refine lv_aload_n hx hb dX8_decode_55 rfl (lv_at hl 1 rfl) ?_
  refine zk_get C Z in_X8 0 rfl rfl 0 (by decide) q597 rfl (v := .int (nI 0)) rfl dX8_decode_56 ?_
  refine zk_put C Z in_X8 tyX8 tyX8_ok nmX8 0 rfl rfl 0 (by decide) q597 rfl rfl (v := .int (nI 0)) rfl rfl (Nat.le_of_ble_eq_true rfl) dX8_decode_59 (fun H locs Z => ?_)
  have Z : zk_Z D A s H locs [(hm, .inr (7, [.int (nI 0), .int (nI 1), .int (nI p), .int (nI dg), .int (nI n), .int (nI t), .int (nI dep), .int (nI gn), .int (nI ck), .ref ms, .ref ch, .ref kp, .ref md, .ref rs, .ref pr])), (ms, .inl (g.1, 4, .inl (zk_ia Ms))), (ch, .inl (g.1, 4, .inl (zk_ia Cs))), (md, .inl (g.1, 4, .inl (zk_ia (zk_it (moD R_ t n (fun w => Cs.getD w 0)) dep 0 Ds)))), (rs, .inl (g.1, 31, .inl (zk_ia Rs)))] := Z
  refine lv_aload_n hx hb dX8_decode_62 rfl (lv_at hl 1 rfl) ?_
  refine zk_get C Z in_X8 0 rfl rfl 0 (by decide) q597 rfl (v := .int (nI 0)) rfl dX8_decode_63 ?_
  refine nr_le0 (tgt := 71) hx hb (by decide) dX8_decode_66 (by decide) (fun c_5 => ?_) (fun c_5 => absurd c_5 (by decide))
  refine lv_aload_n hx hb dX8_decode_71 rfl (lv_at hl 1 rfl) ?_
  refine zk_callV (cells' := 0) (slots' := 0) (rest := []) (n := 0) (wr := [(rs, .inl (g.1, 31, .inl (zk_ia Rs)))]) C Z (m8_take l D g hm ms ch kp md rs pr 0 p dg n t dep gn ck (zk_it (moD R_ t n (fun w => Cs.getD w 0)) dep 0 Ds) (by rw [moD_len]; exact hDs) (tk_D31 hDs d4 hW) d4 (by omega) Ms Cs hMs hCs) [0, 1, 2, 3] [4] rfl rfl (by decide) (by decide) (by decide) 0 7 rfl rfl rfl q752 q754 qs17 q26 q755 (by decide +kernel) rfl (Nat.le_of_ble_eq_true rfl) (Nat.le_of_ble_eq_true rfl) (Nat.le_of_ble_eq_true rfl) (Nat.le_of_ble_eq_true rfl) rfl rfl hl.1 rfl (Nat.le_of_ble_eq_true rfl) dX8_decode_72 (fun v w1 H locs hq Z => ?_)
  obtain ⟨rfl, rfl⟩ := hq
  have Z : zk_Z D A s H locs [(hm, .inr (7, [.int (nI 0), .int (nI 1), .int (nI p), .int (nI dg), .int (nI n), .int (nI t), .int (nI dep), .int (nI gn), .int (nI ck), .ref ms, .ref ch, .ref kp, .ref md, .ref rs, .ref pr])), (ms, .inl (g.1, 4, .inl (zk_ia (zk_it (tkM ck (zk_it (moD R_ t n (fun w => Cs.getD w 0)) dep 0 Ds)) dep 0 Ms)))), (ch, .inl (g.1, 4, .inl (zk_ia (zk_it (tkC (zk_it (moD R_ t n (fun w => Cs.getD w 0)) dep 0 Ds)) dep 0 Cs)))), (md, .inl (g.1, 4, .inl (zk_ia (zk_it (moD R_ t n (fun w => Cs.getD w 0)) dep 0 Ds)))), (rs, .inl (g.1, 31, .inl (zk_ia Rs)))] := Z.sub [1, 2, 3, 4, 0] (by decide) rfl
  refine W.eq (g2 := F0 mm 75 ls []) rfl ?_
  refine lv_iload_n hx hb dX8_decode_75 rfl (lv_at hl 0 rfl) ?_
  exact zk_iret C hr hlocks Z ⟨rfl, rfl⟩ (Nat.le_of_ble_eq_true rfl) (Nat.le_of_ble_eq_true rfl) dX8_decode_76

set_option maxHeartbeats 4000000 in
/-- model: decode, too many errors -/
theorem f8_dec (l : Launch) (D : va_G) (g : G4) (hm ms ch kp md rs pr : Nat) (km p dg n t dep gn ck : Nat) (Rs : List Nat) (hRs : Rs.length = 31) (R_ : Nat → Nat) (hR : ∀ i, i < n → Rs.getD i 0 = R_ i) (n31 : n ≤ 31) (hR31 : ∀ i, i < n → R_ i < 2 ^ 31) (t3 : t ≤ 3) (Cs : List Nat) (hCs : Cs.length = 4) (d4 : dep ≤ 4) (hW : ∀ w, w < dep → Cs.getD w 0 < 2 ^ 31 ∧ rmd R_ n (Cs.getD w 0) < 2 ^ 31 ∧ eor R_ t n (Cs.getD w 0) < 2 ^ 31) (Ds : List Nat) (hDs : Ds.length = 4) (x : Nat) (x2 : x ≤ 2) (up : Nat) (hup : up < dep) (hall : ∀ w, w < up → eof R_ t n (Cs.getD w 0) = some (eor R_ t n (Cs.getD w 0))) (hnone : eof R_ t n (Cs.getD up 0) = none) : zk_M l yX8_decode (ws_ yX8_decode cX8_decode 3 (some .int)) (zk_R 3 0 0) D g [.ref hm, .int (nI x)] [(hm, .inr (7, [.int (nI km), .int (nI 1), .int (nI p), .int (nI dg), .int (nI n), .int (nI t), .int (nI dep), .int (nI gn), .int (nI ck), .ref ms, .ref ch, .ref kp, .ref md, .ref rs, .ref pr])), (ch, .inl (g.1, 4, .inl (zk_ia Cs))), (md, .inl (g.1, 4, .inl (zk_ia Ds))), (rs, .inl (g.1, 31, .inl (zk_ia Rs)))] (fun v w => v = some (.int (nI 0)) ∧ ∃ D1 : List Nat, D1.length = 4 ∧ w = [(hm, .inr (7, [.int (nI 3), .int (nI 1), .int (nI p), .int (nI dg), .int (nI n), .int (nI t), .int (nI dep), .int (nI gn), .int (nI ck), .ref ms, .ref ch, .ref kp, .ref md, .ref rs, .ref pr])), (ch, .inl (g.1, 4, .inl (zk_ia Cs))), (md, .inl (g.1, 4, .inl (zk_ia D1))), (rs, .inl (g.1, 31, .inl (zk_ia Rs)))]) := by
  refine zk_ofW (by decide) (Nat.le_of_ble_eq_true rfl) ?_
  intro pg ev s mm below meth cd A C hr hlocks hname Z ls hl
  have hx := C.1.1
  have hb := C.1.2.1
  have hml := C.1.2.2.1
  have hown := C.1.2.2.2.1
  have hts := C.1.2.2.2.2
  have hl : lv_has ls 3 [(0, .ref hm), (1, .int (nI x))] := hl
  obtain ⟨H, hH⟩ : ∃ H, H = s.heap := ⟨_, rfl⟩
  obtain ⟨locs, hlocs⟩ : ∃ q : List Loc, q = [] := ⟨_, rfl⟩
  rw [← hH, ← hlocs] at Z ⊢
  refine lv_aload_n hx hb dX8_decode_0 rfl (lv_at hl 0 rfl) ?_
  refine lv_aload_n hx hb dX8_decode_1 rfl (lv_at hl 0 rfl) ?_
  refine zk_get C Z in_X8 0 rfl rfl 1 (by decide) q598 rfl (v := .int (nI 1)) rfl dX8_decode_2 ?_
  refine nr_ne0 (tgt := 12) hx hb (by omega) dX8_decode_5 (by decide) (fun c_1 => ?_) (fun c_1 => absurd c_1 (by decide))
  refine lv_iload_n hx hb dX8_decode_12 rfl (lv_at hl 1 rfl) ?_
  refine lv_iconst (v := nI 0) hx hb dX8_decode_13 (by decide) ?_
  refine lv_iconst (v := nI 2) hx hb dX8_decode_14 (by decide) ?_
  refine zk_callS (cells' := 0) (slots' := 0) (rest := [.ref hm]) (n := 3) (wr := [(hm, .inr (7, [.int (nI km), .int (nI 1), .int (nI p), .int (nI dg), .int (nI n), .int (nI t), .int (nI dep), .int (nI gn), .int (nI ck), .ref ms, .ref ch, .ref kp, .ref md, .ref rs, .ref pr])), (ch, .inl (g.1, 4, .inl (zk_ia Cs))), (md, .inl (g.1, 4, .inl (zk_ia Ds))), (rs, .inl (g.1, 31, .inl (zk_ia Rs)))]) C Z (m8_in1 l D g (nI x) (nI 0) (nI 2) (zk_le (Nat.zero_le x) (by omega)) (zk_le x2 (by decide))) [] [0, 1, 2, 3] rfl rfl (by decide) (by decide) (by decide) q651 q652 q26 q653 (by decide +kernel) rfl (Nat.le_of_ble_eq_true rfl) (Nat.le_of_ble_eq_true rfl) (Nat.le_of_ble_eq_true rfl) (Nat.le_of_ble_eq_true rfl) rfl rfl hl.1 rfl (Nat.le_of_ble_eq_true rfl) dX8_decode_15 (fun v w1 H locs hq Z => ?_)
  obtain ⟨rfl, rfl⟩ := hq
  have Z : zk_Z D A s H locs [(hm, .inr (7, [.int (nI km), .int (nI 1), .int (nI p), .int (nI dg), .int (nI n), .int (nI t), .int (nI dep), .int (nI gn), .int (nI ck), .ref ms, .ref ch, .ref kp, .ref md, .ref rs, .ref pr])), (ch, .inl (g.1, 4, .inl (zk_ia Cs))), (md, .inl (g.1, 4, .inl (zk_ia Ds))), (rs, .inl (g.1, 31, .inl (zk_ia Rs)))] := Z.sub [0, 1, 2, 3] (by decide) rfl
  refine W.eq (g2 := F0 mm 18 ls [.int (nI 1), .ref hm]) rfl ?_
  refine nr_eq0 (tgt := 25) hx hb (by omega) dX8_decode_18 (by decide) (fun c_2 => absurd c_2 (by decide)) (fun c_2 => ?_)
  refine lv_iconst (v := nI 0) hx hb dX8_decode_21 (by decide) ?_
  refine lv_goto (tgt := 26) hx hb dX8_decode_22 (by decide) ?_
  refine zk_put C Z in_X8 tyX8 tyX8_ok nmX8 0 rfl rfl 0 (by decide) q597 rfl rfl (v := .int (nI 0)) rfl rfl (Nat.le_of_ble_eq_true rfl) dX8_decode_26 (fun H locs Z => ?_)
  have Z : zk_Z D A s H locs [(hm, .inr (7, [.int (nI 0), .int (nI 1), .int (nI p), .int (nI dg), .int (nI n), .int (nI t), .int (nI dep), .int (nI gn), .int (nI ck), .ref ms, .ref ch, .ref kp, .ref md, .ref rs, .ref pr])), (ch, .inl (g.1, 4, .inl (zk_ia Cs))), (md, .inl (g.1, 4, .inl (zk_ia Ds))), (rs, .inl (g.1, 31, .inl (zk_ia Rs)))] := Z
  refine lv_aload_n hx hb dX8_decode_29 rfl (lv_at hl 0 rfl) ?_
  refine zk_get C Z in_X8 0 rfl rfl 0 (by decide) q597 rfl (v := .int (nI 0)) rfl dX8_decode_30 ?_
  refine nr_le0 (tgt := 40) hx hb (by decide) dX8_decode_33 (by decide) (fun c_3 => ?_) (fun c_3 => absurd c_3 (by decide))
  refine lv_aload_n hx hb dX8_decode_40 rfl (lv_at hl 0 rfl) ?_
  refine lv_iconst (v := (-1)) hx hb dX8_decode_41 (by decide) ?_
  refine zk_callV (cells' := 0) (slots' := 0) (rest := []) (n := 1) (wr := []) C Z (f8_mdA l D g hm ms ch kp md rs pr 0 p dg n t dep gn ck Rs hRs R_ hR n31 hR31 t3 Cs hCs d4 hW Ds hDs up hup hall hnone) [0, 1, 2, 3] [] rfl rfl (by decide) (by decide) (by decide) 0 7 rfl rfl rfl q744 q746 qs15 q26 q747 (by decide +kernel) rfl (Nat.le_of_ble_eq_true rfl) (Nat.le_of_ble_eq_true rfl) (Nat.le_of_ble_eq_true rfl) (Nat.le_of_ble_eq_true rfl) rfl rfl hl.1 rfl (Nat.le_of_ble_eq_true rfl) dX8_decode_42 (fun v w1 H locs hq Z => ?_)
  obtain ⟨rfl, D1, hD1, rfl⟩ := hq
  have Z : zk_Z D A s H locs [(hm, .inr (7, [.int (nI 0), .int (nI 1), .int (nI p), .int (nI dg), .int (nI n), .int (nI t), .int (nI dep), .int (nI gn), .int (nI ck), .ref ms, .ref ch, .ref kp, .ref md, .ref rs, .ref pr])), (ch, .inl (g.1, 4, .inl (zk_ia Cs))), (md, .inl (g.1, 4, .inl (zk_ia D1))), (rs, .inl (g.1, 31, .inl (zk_ia Rs)))] := Z.sub [0, 1, 2, 3] (by decide) rfl
  refine W.eq (g2 := F0 mm 45 ls [.int (-1)]) rfl ?_
  refine lv_istore_n (lv' := [(2, .int (-1)), (0, .ref hm), (1, .int (nI x))]) hx hb dX8_decode_45 rfl hl (by decide) rfl (fun ls hl => ?_)
  refine lv_aload_n hx hb dX8_decode_46 rfl (lv_at hl 1 rfl) ?_
  refine lv_iload_n hx hb dX8_decode_47 rfl (lv_at hl 0 rfl) ?_
  refine lv_if_ge (tgt := 55) hx hb dX8_decode_48 (by decide) (fun c_4 => absurd c_4 (by decide)) (fun c_4 => ?_)
  refine lv_iconst (v := nI 3) hx hb dX8_decode_51 (by decide) ?_
  refine lv_goto (tgt := 59) hx hb dX8_decode_52 (by decide) ?_
  refine zk_put C Z in_X8 tyX8 tyX8_ok nmX8 0 rfl rfl 0 (by decide) q597 rfl rfl (v := .int (nI 3)) rfl rfl (Nat.le_of_ble_eq_true rfl) dX8_decode_59 (fun H locs Z => ?_)
  have Z : zk_Z D A s H locs [(hm, .inr (7, [.int (nI 3), .int (nI 1), .int (nI p), .int (nI dg), .int (nI n), .int (nI t), .int (nI dep), .int (nI gn), .int (nI ck), .ref ms, .ref ch, .ref kp, .ref md, .ref rs, .ref pr])), (ch, .inl (g.1, 4, .inl (zk_ia Cs))), (md, .inl (g.1, 4, .inl (zk_ia D1))), (rs, .inl (g.1, 31, .inl (zk_ia Rs)))] := Z
  refine lv_aload_n hx hb dX8_decode_62 rfl (lv_at hl 1 rfl) ?_
  refine zk_get C Z in_X8 0 rfl rfl 0 (by decide) q597 rfl (v := .int (nI 3)) rfl dX8_decode_63 ?_
  refine nr_le0 (tgt := 71) hx hb (by decide) dX8_decode_66 (by decide) (fun c_5 => absurd c_5 (by decide)) (fun c_5 => ?_)
  refine lv_iconst (v := nI 0) hx hb dX8_decode_69 (by decide) ?_
  exact zk_iret C hr hlocks Z ⟨rfl, D1, hD1, rfl⟩ (Nat.le_of_ble_eq_true rfl) (Nat.le_of_ble_eq_true rfl) dX8_decode_70

set_option maxHeartbeats 4000000 in
/-- model: dec, not begun -/
theorem v8_dec (l : Launch) (D : va_G) (g : G4) (hm ms ch kp md rs pr : Nat) (km : Nat) (x : Int32) : zk_M l yX8_decode (ws_ yX8_decode cX8_decode 3 (some .int)) (zk_R 3 0 0) D g [.ref hm, .int x] [(hm, .inr (7, [.int (nI km), .int (nI 0), .int (nI 0), .int (nI 0), .int (nI 0), .int (nI 0), .int (nI 0), .int (nI 0), .int (nI 0), .ref ms, .ref ch, .ref kp, .ref md, .ref rs, .ref pr]))] (zk_D (some (.int (nI 0))) [(hm, .inr (7, [.int (nI 1), .int (nI 0), .int (nI 0), .int (nI 0), .int (nI 0), .int (nI 0), .int (nI 0), .int (nI 0), .int (nI 0), .ref ms, .ref ch, .ref kp, .ref md, .ref rs, .ref pr]))]) := by
  refine zk_ofW (by decide) (Nat.le_of_ble_eq_true rfl) ?_
  intro pg ev s mm below meth cd A C hr hlocks hname Z ls hl
  have hx := C.1.1
  have hb := C.1.2.1
  have hml := C.1.2.2.1
  have hown := C.1.2.2.2.1
  have hts := C.1.2.2.2.2
  have hl : lv_has ls 3 [(0, .ref hm), (1, .int x)] := hl
  refine lv_aload_n hx hb dX8_decode_0 rfl (lv_at hl 0 rfl) ?_
  refine lv_aload_n hx hb dX8_decode_1 rfl (lv_at hl 0 rfl) ?_
  refine zk_get C Z in_X8 0 rfl rfl 1 (by decide) q598 rfl (v := .int (nI 0)) rfl dX8_decode_2 ?_
  refine nr_ne0 (tgt := 12) hx hb (by omega) dX8_decode_5 (by decide) (fun c_1 => absurd c_1 (fun q => q rfl)) (fun c_1 => ?_)
  refine lv_iconst (v := nI 1) hx hb dX8_decode_8 (by decide) ?_
  refine lv_goto (tgt := 26) hx hb dX8_decode_9 (by decide) ?_
  refine zk_put C Z in_X8 tyX8 tyX8_ok nmX8 0 rfl rfl 0 (by decide) q597 rfl rfl (v := .int (nI 1)) rfl rfl (Nat.le_of_ble_eq_true rfl) dX8_decode_26 (fun H locs Z => ?_)
  have Z : zk_Z D A s H locs [(hm, .inr (7, [.int (nI 1), .int (nI 0), .int (nI 0), .int (nI 0), .int (nI 0), .int (nI 0), .int (nI 0), .int (nI 0), .int (nI 0), .ref ms, .ref ch, .ref kp, .ref md, .ref rs, .ref pr]))] := Z
  refine lv_aload_n hx hb dX8_decode_29 rfl (lv_at hl 0 rfl) ?_
  refine zk_get C Z in_X8 0 rfl rfl 0 (by decide) q597 rfl (v := .int (nI 1)) rfl dX8_decode_30 ?_
  refine nr_le0 (tgt := 40) hx hb (by decide) dX8_decode_33 (by decide) (fun c_2 => absurd c_2 (by decide)) (fun c_2 => ?_)
  refine lv_iconst (v := nI 0) hx hb dX8_decode_36 (by decide) ?_
  refine lv_goto (tgt := 45) hx hb dX8_decode_37 (by decide) ?_
  refine lv_istore_n (lv' := [(2, .int (nI 0)), (0, .ref hm), (1, .int x)]) hx hb dX8_decode_45 rfl hl (by decide) rfl (fun ls hl => ?_)
  refine lv_aload_n hx hb dX8_decode_46 rfl (lv_at hl 1 rfl) ?_
  refine lv_iload_n hx hb dX8_decode_47 rfl (lv_at hl 0 rfl) ?_
  refine nr_ge0 (tgt := 55) hx hb (by decide) dX8_decode_48 (by decide) ?_
  refine lv_aload_n hx hb dX8_decode_55 rfl (lv_at hl 1 rfl) ?_
  refine zk_get C Z in_X8 0 rfl rfl 0 (by decide) q597 rfl (v := .int (nI 1)) rfl dX8_decode_56 ?_
  refine zk_put C Z in_X8 tyX8 tyX8_ok nmX8 0 rfl rfl 0 (by decide) q597 rfl rfl (v := .int (nI 1)) rfl rfl (Nat.le_of_ble_eq_true rfl) dX8_decode_59 (fun H locs Z => ?_)
  have Z : zk_Z D A s H locs [(hm, .inr (7, [.int (nI 1), .int (nI 0), .int (nI 0), .int (nI 0), .int (nI 0), .int (nI 0), .int (nI 0), .int (nI 0), .int (nI 0), .ref ms, .ref ch, .ref kp, .ref md, .ref rs, .ref pr]))] := Z
  refine lv_aload_n hx hb dX8_decode_62 rfl (lv_at hl 1 rfl) ?_
  refine zk_get C Z in_X8 0 rfl rfl 0 (by decide) q597 rfl (v := .int (nI 1)) rfl dX8_decode_63 ?_
  refine nr_le0 (tgt := 71) hx hb (by decide) dX8_decode_66 (by decide) (fun c_4 => absurd c_4 (by decide)) (fun c_4 => ?_)
  refine lv_iconst (v := nI 0) hx hb dX8_decode_69 (by decide) ?_
  exact zk_iret C hr hlocks Z ⟨rfl, rfl⟩ (Nat.le_of_ble_eq_true rfl) (Nat.le_of_ble_eq_true rfl) dX8_decode_70

set_option maxHeartbeats 4000000 in
/-- model: dec, out -/
theorem w8_dec (l : Launch) (D : va_G) (g : G4) (hm ms ch kp md rs pr : Nat) (km p dg n t dep gn ck : Nat) (x : Int32) (h0_ : ¬ (nI 0 ≤ x ∧ x ≤ nI 2)) : zk_M l yX8_decode (ws_ yX8_decode cX8_decode 3 (some .int)) (zk_R 3 0 0) D g [.ref hm, .int x] [(hm, .inr (7, [.int (nI km), .int (nI 1), .int (nI p), .int (nI dg), .int (nI n), .int (nI t), .int (nI dep), .int (nI gn), .int (nI ck), .ref ms, .ref ch, .ref kp, .ref md, .ref rs, .ref pr]))] (zk_D (some (.int (nI 0))) [(hm, .inr (7, [.int (nI 2), .int (nI 1), .int (nI p), .int (nI dg), .int (nI n), .int (nI t), .int (nI dep), .int (nI gn), .int (nI ck), .ref ms, .ref ch, .ref kp, .ref md, .ref rs, .ref pr]))]) := by
  refine zk_ofW (by decide) (Nat.le_of_ble_eq_true rfl) ?_
  intro pg ev s mm below meth cd A C hr hlocks hname Z ls hl
  have hx := C.1.1
  have hb := C.1.2.1
  have hml := C.1.2.2.1
  have hown := C.1.2.2.2.1
  have hts := C.1.2.2.2.2
  have hl : lv_has ls 3 [(0, .ref hm), (1, .int x)] := hl
  refine lv_aload_n hx hb dX8_decode_0 rfl (lv_at hl 0 rfl) ?_
  refine lv_aload_n hx hb dX8_decode_1 rfl (lv_at hl 0 rfl) ?_
  refine zk_get C Z in_X8 0 rfl rfl 1 (by decide) q598 rfl (v := .int (nI 1)) rfl dX8_decode_2 ?_
  refine nr_ne0 (tgt := 12) hx hb (by omega) dX8_decode_5 (by decide) (fun c_1 => ?_) (fun c_1 => absurd c_1 (by decide))
  refine lv_iload_n hx hb dX8_decode_12 rfl (lv_at hl 1 rfl) ?_
  refine lv_iconst (v := nI 0) hx hb dX8_decode_13 (by decide) ?_
  refine lv_iconst (v := nI 2) hx hb dX8_decode_14 (by decide) ?_
  refine zk_callS (cells' := 0) (slots' := 0) (rest := [.ref hm]) (n := 3) (wr := [(hm, .inr (7, [.int (nI km), .int (nI 1), .int (nI p), .int (nI dg), .int (nI n), .int (nI t), .int (nI dep), .int (nI gn), .int (nI ck), .ref ms, .ref ch, .ref kp, .ref md, .ref rs, .ref pr]))]) C Z (m8_in0 l D g x (nI 0) (nI 2) h0_) [] [0] rfl rfl (by decide) (by decide) (by decide) q651 q652 q26 q653 (by decide +kernel) rfl (Nat.le_of_ble_eq_true rfl) (Nat.le_of_ble_eq_true rfl) (Nat.le_of_ble_eq_true rfl) (Nat.le_of_ble_eq_true rfl) rfl rfl hl.1 rfl (Nat.le_of_ble_eq_true rfl) dX8_decode_15 (fun v w1 H locs hq Z => ?_)
  obtain ⟨rfl, rfl⟩ := hq
  have Z : zk_Z D A s H locs [(hm, .inr (7, [.int (nI km), .int (nI 1), .int (nI p), .int (nI dg), .int (nI n), .int (nI t), .int (nI dep), .int (nI gn), .int (nI ck), .ref ms, .ref ch, .ref kp, .ref md, .ref rs, .ref pr]))] := Z.sub [0] (by decide) rfl
  refine W.eq (g2 := F0 mm 18 ls [.int (nI 0), .ref hm]) rfl ?_
  refine nr_eq0 (tgt := 25) hx hb (by omega) dX8_decode_18 (by decide) (fun c_2 => ?_) (fun c_2 => absurd c_2 (fun q => q rfl))
  refine lv_iconst (v := nI 2) hx hb dX8_decode_25 (by decide) ?_
  refine zk_put C Z in_X8 tyX8 tyX8_ok nmX8 0 rfl rfl 0 (by decide) q597 rfl rfl (v := .int (nI 2)) rfl rfl (Nat.le_of_ble_eq_true rfl) dX8_decode_26 (fun H locs Z => ?_)
  have Z : zk_Z D A s H locs [(hm, .inr (7, [.int (nI 2), .int (nI 1), .int (nI p), .int (nI dg), .int (nI n), .int (nI t), .int (nI dep), .int (nI gn), .int (nI ck), .ref ms, .ref ch, .ref kp, .ref md, .ref rs, .ref pr]))] := Z
  refine lv_aload_n hx hb dX8_decode_29 rfl (lv_at hl 0 rfl) ?_
  refine zk_get C Z in_X8 0 rfl rfl 0 (by decide) q597 rfl (v := .int (nI 2)) rfl dX8_decode_30 ?_
  refine nr_le0 (tgt := 40) hx hb (by decide) dX8_decode_33 (by decide) (fun c_3 => absurd c_3 (by decide)) (fun c_3 => ?_)
  refine lv_iconst (v := nI 0) hx hb dX8_decode_36 (by decide) ?_
  refine lv_goto (tgt := 45) hx hb dX8_decode_37 (by decide) ?_
  refine lv_istore_n (lv' := [(2, .int (nI 0)), (0, .ref hm), (1, .int x)]) hx hb dX8_decode_45 rfl hl (by decide) rfl (fun ls hl => ?_)
  refine lv_aload_n hx hb dX8_decode_46 rfl (lv_at hl 1 rfl) ?_
  refine lv_iload_n hx hb dX8_decode_47 rfl (lv_at hl 0 rfl) ?_
  refine nr_ge0 (tgt := 55) hx hb (by decide) dX8_decode_48 (by decide) ?_
  refine lv_aload_n hx hb dX8_decode_55 rfl (lv_at hl 1 rfl) ?_
  refine zk_get C Z in_X8 0 rfl rfl 0 (by decide) q597 rfl (v := .int (nI 2)) rfl dX8_decode_56 ?_
  refine zk_put C Z in_X8 tyX8 tyX8_ok nmX8 0 rfl rfl 0 (by decide) q597 rfl rfl (v := .int (nI 2)) rfl rfl (Nat.le_of_ble_eq_true rfl) dX8_decode_59 (fun H locs Z => ?_)
  have Z : zk_Z D A s H locs [(hm, .inr (7, [.int (nI 2), .int (nI 1), .int (nI p), .int (nI dg), .int (nI n), .int (nI t), .int (nI dep), .int (nI gn), .int (nI ck), .ref ms, .ref ch, .ref kp, .ref md, .ref rs, .ref pr]))] := Z
  refine lv_aload_n hx hb dX8_decode_62 rfl (lv_at hl 1 rfl) ?_
  refine zk_get C Z in_X8 0 rfl rfl 0 (by decide) q597 rfl (v := .int (nI 2)) rfl dX8_decode_63 ?_
  refine nr_le0 (tgt := 71) hx hb (by decide) dX8_decode_66 (by decide) (fun c_5 => absurd c_5 (by decide)) (fun c_5 => ?_)
  refine lv_iconst (v := nI 0) hx hb dX8_decode_69 (by decide) ?_
  exact zk_iret C hr hlocks Z ⟨rfl, rfl⟩ (Nat.le_of_ble_eq_true rfl) (Nat.le_of_ble_eq_true rfl) dX8_decode_70

set_option maxHeartbeats 4000000 in
/-- model: load, not begun -/
theorem v8_load (l : Launch) (D : va_G) (g : G4) (hm ms ch kp md rs pr : Nat) (km : Nat) (x : Int32) : zk_M l yX8_load (ws_ yX8_load cX8_load 4 (some .int)) (zk_R 3 0 0) D g [.ref hm, .int x] [(hm, .inr (7, [.int (nI km), .int (nI 0), .int (nI 0), .int (nI 0), .int (nI 0), .int (nI 0), .int (nI 0), .int (nI 0), .int (nI 0), .ref ms, .ref ch, .ref kp, .ref md, .ref rs, .ref pr]))] (zk_D (some (.int (nI 0))) [(hm, .inr (7, [.int (nI 1), .int (nI 0), .int (nI 0), .int (nI 0), .int (nI 0), .int (nI 0), .int (nI 0), .int (nI 0), .int (nI 0), .ref ms, .ref ch, .ref kp, .ref md, .ref rs, .ref pr]))]) := by
  refine zk_ofW (by decide) (Nat.le_of_ble_eq_true rfl) ?_
  intro pg ev s mm below meth cd A C hr hlocks hname Z ls hl
  have hx := C.1.1
  have hb := C.1.2.1
  have hml := C.1.2.2.1
  have hown := C.1.2.2.2.1
  have hts := C.1.2.2.2.2
  have hl : lv_has ls 4 [(0, .ref hm), (1, .int x)] := hl
  refine lv_aload_n hx hb dX8_load_0 rfl (lv_at hl 0 rfl) ?_
  refine lv_aload_n hx hb dX8_load_1 rfl (lv_at hl 0 rfl) ?_
  refine zk_get C Z in_X8 0 rfl rfl 1 (by decide) q598 rfl (v := .int (nI 0)) rfl dX8_load_2 ?_
  refine nr_ne0 (tgt := 12) hx hb (by omega) dX8_load_5 (by decide) (fun c_1 => absurd c_1 (fun q => q rfl)) (fun c_1 => ?_)
  refine lv_iconst (v := nI 1) hx hb dX8_load_8 (by decide) ?_
  refine lv_goto (tgt := 26) hx hb dX8_load_9 (by decide) ?_
  refine zk_put C Z in_X8 tyX8 tyX8_ok nmX8 0 rfl rfl 0 (by decide) q597 rfl rfl (v := .int (nI 1)) rfl rfl (Nat.le_of_ble_eq_true rfl) dX8_load_26 (fun H locs Z => ?_)
  have Z : zk_Z D A s H locs [(hm, .inr (7, [.int (nI 1), .int (nI 0), .int (nI 0), .int (nI 0), .int (nI 0), .int (nI 0), .int (nI 0), .int (nI 0), .int (nI 0), .ref ms, .ref ch, .ref kp, .ref md, .ref rs, .ref pr]))] := Z
  refine lv_aload_n hx hb dX8_load_29 rfl (lv_at hl 0 rfl) ?_
  refine zk_get C Z in_X8 0 rfl rfl 0 (by decide) q597 rfl (v := .int (nI 1)) rfl dX8_load_30 ?_
  refine nr_le0 (tgt := 40) hx hb (by decide) dX8_load_33 (by decide) (fun c_2 => absurd c_2 (by decide)) (fun c_2 => ?_)
  refine lv_iconst (v := nI 0) hx hb dX8_load_36 (by decide) ?_
  refine lv_goto (tgt := 45) hx hb dX8_load_37 (by decide) ?_
  refine lv_istore_n (lv' := [(2, .int (nI 0)), (0, .ref hm), (1, .int x)]) hx hb dX8_load_45 rfl hl (by decide) rfl (fun ls hl => ?_)
  refine lv_aload_n hx hb dX8_load_46 rfl (lv_at hl 1 rfl) ?_
  refine lv_iload_n hx hb dX8_load_47 rfl (lv_at hl 0 rfl) ?_
  refine nr_ge0 (tgt := 55) hx hb (by decide) dX8_load_48 (by decide) ?_
  refine lv_aload_n hx hb dX8_load_55 rfl (lv_at hl 1 rfl) ?_
  refine zk_get C Z in_X8 0 rfl rfl 0 (by decide) q597 rfl (v := .int (nI 1)) rfl dX8_load_56 ?_
  refine zk_put C Z in_X8 tyX8 tyX8_ok nmX8 0 rfl rfl 0 (by decide) q597 rfl rfl (v := .int (nI 1)) rfl rfl (Nat.le_of_ble_eq_true rfl) dX8_load_59 (fun H locs Z => ?_)
  have Z : zk_Z D A s H locs [(hm, .inr (7, [.int (nI 1), .int (nI 0), .int (nI 0), .int (nI 0), .int (nI 0), .int (nI 0), .int (nI 0), .int (nI 0), .int (nI 0), .ref ms, .ref ch, .ref kp, .ref md, .ref rs, .ref pr]))] := Z
  refine lv_aload_n hx hb dX8_load_62 rfl (lv_at hl 1 rfl) ?_
  refine zk_get C Z in_X8 0 rfl rfl 0 (by decide) q597 rfl (v := .int (nI 1)) rfl dX8_load_63 ?_
  refine nr_le0 (tgt := 71) hx hb (by decide) dX8_load_66 (by decide) (fun c_4 => absurd c_4 (by decide)) (fun c_4 => ?_)
  refine lv_iconst (v := nI 0) hx hb dX8_load_69 (by decide) ?_
  exact zk_iret C hr hlocks Z ⟨rfl, rfl⟩ (Nat.le_of_ble_eq_true rfl) (Nat.le_of_ble_eq_true rfl) dX8_load_70

set_option maxHeartbeats 4000000 in
/-- model: load, out -/
theorem w8_load (l : Launch) (D : va_G) (g : G4) (hm ms ch kp md rs pr : Nat) (km p dg n t dep gn ck : Nat) (x : Int32) (h0_ : ¬ (nI 0 ≤ x ∧ x ≤ nI 3)) : zk_M l yX8_load (ws_ yX8_load cX8_load 4 (some .int)) (zk_R 3 0 0) D g [.ref hm, .int x] [(hm, .inr (7, [.int (nI km), .int (nI 1), .int (nI p), .int (nI dg), .int (nI n), .int (nI t), .int (nI dep), .int (nI gn), .int (nI ck), .ref ms, .ref ch, .ref kp, .ref md, .ref rs, .ref pr]))] (zk_D (some (.int (nI 0))) [(hm, .inr (7, [.int (nI 2), .int (nI 1), .int (nI p), .int (nI dg), .int (nI n), .int (nI t), .int (nI dep), .int (nI gn), .int (nI ck), .ref ms, .ref ch, .ref kp, .ref md, .ref rs, .ref pr]))]) := by
  refine zk_ofW (by decide) (Nat.le_of_ble_eq_true rfl) ?_
  intro pg ev s mm below meth cd A C hr hlocks hname Z ls hl
  have hx := C.1.1
  have hb := C.1.2.1
  have hml := C.1.2.2.1
  have hown := C.1.2.2.2.1
  have hts := C.1.2.2.2.2
  have hl : lv_has ls 4 [(0, .ref hm), (1, .int x)] := hl
  refine lv_aload_n hx hb dX8_load_0 rfl (lv_at hl 0 rfl) ?_
  refine lv_aload_n hx hb dX8_load_1 rfl (lv_at hl 0 rfl) ?_
  refine zk_get C Z in_X8 0 rfl rfl 1 (by decide) q598 rfl (v := .int (nI 1)) rfl dX8_load_2 ?_
  refine nr_ne0 (tgt := 12) hx hb (by omega) dX8_load_5 (by decide) (fun c_1 => ?_) (fun c_1 => absurd c_1 (by decide))
  refine lv_iload_n hx hb dX8_load_12 rfl (lv_at hl 1 rfl) ?_
  refine lv_iconst (v := nI 0) hx hb dX8_load_13 (by decide) ?_
  refine lv_iconst (v := nI 3) hx hb dX8_load_14 (by decide) ?_
  refine zk_callS (cells' := 0) (slots' := 0) (rest := [.ref hm]) (n := 3) (wr := [(hm, .inr (7, [.int (nI km), .int (nI 1), .int (nI p), .int (nI dg), .int (nI n), .int (nI t), .int (nI dep), .int (nI gn), .int (nI ck), .ref ms, .ref ch, .ref kp, .ref md, .ref rs, .ref pr]))]) C Z (m8_in0 l D g x (nI 0) (nI 3) h0_) [] [0] rfl rfl (by decide) (by decide) (by decide) q651 q652 q26 q653 (by decide +kernel) rfl (Nat.le_of_ble_eq_true rfl) (Nat.le_of_ble_eq_true rfl) (Nat.le_of_ble_eq_true rfl) (Nat.le_of_ble_eq_true rfl) rfl rfl hl.1 rfl (Nat.le_of_ble_eq_true rfl) dX8_load_15 (fun v w1 H locs hq Z => ?_)
  obtain ⟨rfl, rfl⟩ := hq
  have Z : zk_Z D A s H locs [(hm, .inr (7, [.int (nI km), .int (nI 1), .int (nI p), .int (nI dg), .int (nI n), .int (nI t), .int (nI dep), .int (nI gn), .int (nI ck), .ref ms, .ref ch, .ref kp, .ref md, .ref rs, .ref pr]))] := Z.sub [0] (by decide) rfl
  refine W.eq (g2 := F0 mm 18 ls [.int (nI 0), .ref hm]) rfl ?_
  refine nr_eq0 (tgt := 25) hx hb (by omega) dX8_load_18 (by decide) (fun c_2 => ?_) (fun c_2 => absurd c_2 (fun q => q rfl))
  refine lv_iconst (v := nI 2) hx hb dX8_load_25 (by decide) ?_
  refine zk_put C Z in_X8 tyX8 tyX8_ok nmX8 0 rfl rfl 0 (by decide) q597 rfl rfl (v := .int (nI 2)) rfl rfl (Nat.le_of_ble_eq_true rfl) dX8_load_26 (fun H locs Z => ?_)
  have Z : zk_Z D A s H locs [(hm, .inr (7, [.int (nI 2), .int (nI 1), .int (nI p), .int (nI dg), .int (nI n), .int (nI t), .int (nI dep), .int (nI gn), .int (nI ck), .ref ms, .ref ch, .ref kp, .ref md, .ref rs, .ref pr]))] := Z
  refine lv_aload_n hx hb dX8_load_29 rfl (lv_at hl 0 rfl) ?_
  refine zk_get C Z in_X8 0 rfl rfl 0 (by decide) q597 rfl (v := .int (nI 2)) rfl dX8_load_30 ?_
  refine nr_le0 (tgt := 40) hx hb (by decide) dX8_load_33 (by decide) (fun c_3 => absurd c_3 (by decide)) (fun c_3 => ?_)
  refine lv_iconst (v := nI 0) hx hb dX8_load_36 (by decide) ?_
  refine lv_goto (tgt := 45) hx hb dX8_load_37 (by decide) ?_
  refine lv_istore_n (lv' := [(2, .int (nI 0)), (0, .ref hm), (1, .int x)]) hx hb dX8_load_45 rfl hl (by decide) rfl (fun ls hl => ?_)
  refine lv_aload_n hx hb dX8_load_46 rfl (lv_at hl 1 rfl) ?_
  refine lv_iload_n hx hb dX8_load_47 rfl (lv_at hl 0 rfl) ?_
  refine nr_ge0 (tgt := 55) hx hb (by decide) dX8_load_48 (by decide) ?_
  refine lv_aload_n hx hb dX8_load_55 rfl (lv_at hl 1 rfl) ?_
  refine zk_get C Z in_X8 0 rfl rfl 0 (by decide) q597 rfl (v := .int (nI 2)) rfl dX8_load_56 ?_
  refine zk_put C Z in_X8 tyX8 tyX8_ok nmX8 0 rfl rfl 0 (by decide) q597 rfl rfl (v := .int (nI 2)) rfl rfl (Nat.le_of_ble_eq_true rfl) dX8_load_59 (fun H locs Z => ?_)
  have Z : zk_Z D A s H locs [(hm, .inr (7, [.int (nI 2), .int (nI 1), .int (nI p), .int (nI dg), .int (nI n), .int (nI t), .int (nI dep), .int (nI gn), .int (nI ck), .ref ms, .ref ch, .ref kp, .ref md, .ref rs, .ref pr]))] := Z
  refine lv_aload_n hx hb dX8_load_62 rfl (lv_at hl 1 rfl) ?_
  refine zk_get C Z in_X8 0 rfl rfl 0 (by decide) q597 rfl (v := .int (nI 2)) rfl dX8_load_63 ?_
  refine nr_le0 (tgt := 71) hx hb (by decide) dX8_load_66 (by decide) (fun c_5 => absurd c_5 (by decide)) (fun c_5 => ?_)
  refine lv_iconst (v := nI 0) hx hb dX8_load_69 (by decide) ?_
  exact zk_iret C hr hlocks Z ⟨rfl, rfl⟩ (Nat.le_of_ble_eq_true rfl) (Nat.le_of_ble_eq_true rfl) dX8_load_70

set_option maxHeartbeats 4000000 in
theorem lp8_load {pg : Program} {l : Launch} {ev : Env} {s : State} {mm : MethodId} {args : Array Value} {below : List Frame} {meth : Method} {cd : Code} {Q : State → Prop} {D : va_G} {g : G4} {A : Nat → Prop} (C : zk_C pg s mm cd args cX8_load 4 RX8 D g A) (hm ms ch kp md rs pr : Nat) (km p dg n t dep gn ck : Nat) (Ms Cs Ds Rs : List Nat) (hCs : Cs.length = 4) (d4 : dep ≤ 4) (sl : Nat) (s3 : sl ≤ 3) (nn : Nat) (fin : List Nat) (kk : ∀ (H : Heap) (locs : List Loc) (ls : Array Slot), zk_Z D A s H locs [(hm, .inr (7, [.int (nI km), .int (nI 1), .int (nI p), .int (nI dg), .int (nI n), .int (nI t), .int (nI dep), .int (nI gn), .int (nI ck), .ref ms, .ref ch, .ref kp, .ref md, .ref rs, .ref pr])), (ms, .inl (g.1, 4, .inl (zk_ia Ms))), (ch, .inl (g.1, 4, .inl (zk_ia Cs))), (kp, .inl (g.1, 16, .inl (zk_ia fin))), (md, .inl (g.1, 4, .inl (zk_ia Ds))), (rs, .inl (g.1, 31, .inl (zk_ia Rs)))] → lv_has ls 4 [(0, .ref hm), (2, .int (nI nn))] → W pg l ev (zk_R 3 0 0) s mm args below meth cd H locs 0 0 Q (F0 mm 107 ls [])) :
    ∀ (k : Nat) (w : Nat) (Ks : List Nat) (H : Heap) (locs : List Loc) (ls : Array Slot), (w + k = dep) → (Ks.length = 16) → (zk_it (svF sl Cs) k w Ks = fin) → zk_Z D A s H locs [(hm, .inr (7, [.int (nI km), .int (nI 1), .int (nI p), .int (nI dg), .int (nI n), .int (nI t), .int (nI dep), .int (nI gn), .int (nI ck), .ref ms, .ref ch, .ref kp, .ref md, .ref rs, .ref pr])), (ms, .inl (g.1, 4, .inl (zk_ia Ms))), (ch, .inl (g.1, 4, .inl (zk_ia Cs))), (kp, .inl (g.1, 16, .inl (zk_ia Ks))), (md, .inl (g.1, 4, .inl (zk_ia Ds))), (rs, .inl (g.1, 31, .inl (zk_ia Rs)))] → lv_has ls 4 [(0, .ref hm), (1, .int (nI sl)), (2, .int (nI nn)), (3, .int (nI w))] → W pg l ev (zk_R 3 0 0) s mm args below meth cd H locs 0 0 Q (F0 mm 77 ls []) := by
  have hx := C.1.1
  have hb := C.1.2.1
  have hml := C.1.2.2.1
  have hown := C.1.2.2.2.1
  have hts := C.1.2.2.2.2
  intro k
  induction k with
  | zero =>
    intro w Ks H locs ls hik hKs hfin Z hl
    have hfin : Ks = fin := hfin
    subst hfin
    refine lv_iload_n hx hb dX8_load_77 rfl (lv_at hl 3 rfl) ?_
    refine lv_aload_n hx hb dX8_load_78 rfl (lv_at hl 0 rfl) ?_
    refine zk_get C Z in_X8 0 rfl rfl 6 (by decide) q603 rfl (v := .int (nI dep)) rfl dX8_load_79 ?_
    refine nr_ge (tgt := 107) hx hb (by omega) (by omega) dX8_load_82 (by decide) (fun c_1 => ?_) (fun c_1 => absurd c_1 (by omega))
    exact kk  H locs ls  Z (lv_sub hl [0, 2] rfl)
  | succ k ih =>
    intro w Ks H locs ls hik hKs hfin Z hl
    refine lv_iload_n hx hb dX8_load_77 rfl (lv_at hl 3 rfl) ?_
    refine lv_aload_n hx hb dX8_load_78 rfl (lv_at hl 0 rfl) ?_
    refine zk_get C Z in_X8 0 rfl rfl 6 (by decide) q603 rfl (v := .int (nI dep)) rfl dX8_load_79 ?_
    refine nr_ge (tgt := 107) hx hb (by omega) (by omega) dX8_load_82 (by decide) (fun c_1 => absurd c_1 (by omega)) (fun c_1 => ?_)
    refine lv_aload_n hx hb dX8_load_85 rfl (lv_at hl 0 rfl) ?_
    refine zk_get C Z in_X8 0 rfl rfl 11 (by decide) q608 rfl (v := .ref kp) rfl dX8_load_86 ?_
    refine lv_iconst (v := nI 4) hx hb dX8_load_89 (by decide) ?_
    refine lv_iload_n hx hb dX8_load_90 rfl (lv_at hl 1 rfl) ?_
    refine nr_imul hx hb dX8_load_91 ?_
    refine lv_iload_n hx hb dX8_load_92 rfl (lv_at hl 3 rfl) ?_
    refine nr_iadd hx hb dX8_load_93 ?_
    refine lv_aload_n hx hb dX8_load_94 rfl (lv_at hl 0 rfl) ?_
    refine zk_get C Z in_X8 0 rfl rfl 10 (by decide) q607 rfl (v := .ref ch) rfl dX8_load_95 ?_
    refine lv_iload_n hx hb dX8_load_98 rfl (lv_at hl 3 rfl) ?_
    refine zk_iald C Z 2 rfl (by decide) (by omega) dX8_load_99 ?_
    refine zk_iast C Z 3 rfl (by decide) (by omega) hKs dX8_load_100 (fun H locs Z => ?_)
    have hlen_2 : (Ks.set ((4 * sl) + w) (Cs.getD w 0)).length = 16 := by rw [List.length_set]; exact hKs
    have Z : zk_Z D A s H locs [(hm, .inr (7, [.int (nI km), .int (nI 1), .int (nI p), .int (nI dg), .int (nI n), .int (nI t), .int (nI dep), .int (nI gn), .int (nI ck), .ref ms, .ref ch, .ref kp, .ref md, .ref rs, .ref pr])), (ms, .inl (g.1, 4, .inl (zk_ia Ms))), (ch, .inl (g.1, 4, .inl (zk_ia Cs))), (kp, .inl (g.1, 16, .inl (zk_ia (Ks.set ((4 * sl) + w) (Cs.getD w 0))))), (md, .inl (g.1, 4, .inl (zk_ia Ds))), (rs, .inl (g.1, 31, .inl (zk_ia Rs)))] := Z
    refine nr_iinc (n := 1) (lv' := [(3, .int (nI (w + 1))), (0, .ref hm), (1, .int (nI sl)), (2, .int (nI nn))]) hx hb (by decide) dX8_load_101 hl (k := 3) rfl (by decide) rfl (fun ls hl => ?_)
    refine lv_goto (tgt := 77) hx hb dX8_load_104 (by decide) ?_
    exact ih (w + 1) (Ks.set ((4 * sl) + w) (Cs.getD w 0)) H locs ls (by omega) hlen_2 hfin Z (lv_sub hl [1, 2, 3, 0] rfl)

set_option maxHeartbeats 4000000 in
/-- model: load -/
theorem m8_load (l : Launch) (D : va_G) (g : G4) (hm ms ch kp md rs pr : Nat) (km p dg n t dep gn ck : Nat) (Rs : List Nat) (hRs : Rs.length = 31) (R_ : Nat → Nat) (hR : ∀ i, i < n → Rs.getD i 0 = R_ i) (n31 : n ≤ 31) (hR31 : ∀ i, i < n → R_ i < 2 ^ 31) (t3 : t ≤ 3) (Ks : List Nat) (hKs : Ks.length = 16) (sl : Nat) (s3 : sl ≤ 3) (d4 : dep ≤ 4) (hW : ∀ w, w < dep → Ks.getD (4 * sl + w) 0 < 2 ^ 31 ∧ rmd R_ n (Ks.getD (4 * sl + w) 0) < 2 ^ 31 ∧ eor R_ t n (Ks.getD (4 * sl + w) 0) < 2 ^ 31) (ck31 : ck ≤ 31) (Ms Cs Ds : List Nat) (hMs : Ms.length = 4) (hCs : Cs.length = 4) (hDs : Ds.length = 4) (hall : ∀ w, w < dep → eof R_ t n (Ks.getD (4 * sl + w) 0) = some (eor R_ t n (Ks.getD (4 * sl + w) 0))) : zk_M l yX8_load (ws_ yX8_load cX8_load 4 (some .int)) (zk_R 3 0 0) D g [.ref hm, .int (nI sl)] [(hm, .inr (7, [.int (nI km), .int (nI 1), .int (nI p), .int (nI dg), .int (nI n), .int (nI t), .int (nI dep), .int (nI gn), .int (nI ck), .ref ms, .ref ch, .ref kp, .ref md, .ref rs, .ref pr])), (ms, .inl (g.1, 4, .inl (zk_ia Ms))), (ch, .inl (g.1, 4, .inl (zk_ia Cs))), (kp, .inl (g.1, 16, .inl (zk_ia Ks))), (md, .inl (g.1, 4, .inl (zk_ia Ds))), (rs, .inl (g.1, 31, .inl (zk_ia Rs)))] (zk_D (some (.int (nI (zk_it (moN R_ t n (fun w => Ks.getD (4 * sl + w) 0)) dep 0 0)))) [(hm, .inr (7, [.int (nI 0), .int (nI 1), .int (nI p), .int (nI dg), .int (nI n), .int (nI t), .int (nI dep), .int (nI gn), .int (nI ck), .ref ms, .ref ch, .ref kp, .ref md, .ref rs, .ref pr])), (ms, .inl (g.1, 4, .inl (zk_ia (zk_it (tkM ck (zk_it (moD R_ t n (fun w => Ks.getD (4 * sl + w) 0)) dep 0 Ds)) dep 0 Ms)))), (ch, .inl (g.1, 4, .inl (zk_ia (zk_it (tkC (zk_it (moD R_ t n (fun w => Ks.getD (4 * sl + w) 0)) dep 0 Ds)) dep 0 Cs)))), (kp, .inl (g.1, 16, .inl (zk_ia (zk_it (svF sl (zk_it (tkC (zk_it (moD R_ t n (fun w => Ks.getD (4 * sl + w) 0)) dep 0 Ds)) dep 0 Cs)) dep 0 Ks)))), (md, .inl (g.1, 4, .inl (zk_ia (zk_it (moD R_ t n (fun w => Ks.getD (4 * sl + w) 0)) dep 0 Ds)))), (rs, .inl (g.1, 31, .inl (zk_ia Rs)))]) := by
  refine zk_ofW (by decide) (Nat.le_of_ble_eq_true rfl) ?_
  intro pg ev s mm below meth cd A C hr hlocks hname Z ls hl
  have hx := C.1.1
  have hb := C.1.2.1
  have hml := C.1.2.2.1
  have hown := C.1.2.2.2.1
  have hts := C.1.2.2.2.2
  have hl : lv_has ls 4 [(0, .ref hm), (1, .int (nI sl))] := hl
  obtain ⟨H, hH⟩ : ∃ H, H = s.heap := ⟨_, rfl⟩
  obtain ⟨locs, hlocs⟩ : ∃ q : List Loc, q = [] := ⟨_, rfl⟩
  rw [← hH, ← hlocs] at Z ⊢
  refine lv_aload_n hx hb dX8_load_0 rfl (lv_at hl 0 rfl) ?_
  refine lv_aload_n hx hb dX8_load_1 rfl (lv_at hl 0 rfl) ?_
  refine zk_get C Z in_X8 0 rfl rfl 1 (by decide) q598 rfl (v := .int (nI 1)) rfl dX8_load_2 ?_
  refine nr_ne0 (tgt := 12) hx hb (by omega) dX8_load_5 (by decide) (fun c_1 => ?_) (fun c_1 => absurd c_1 (by decide))
  refine lv_iload_n hx hb dX8_load_12 rfl (lv_at hl 1 rfl) ?_
  refine lv_iconst (v := nI 0) hx hb dX8_load_13 (by decide) ?_
  refine lv_iconst (v := nI 3) hx hb dX8_load_14 (by decide) ?_
  refine zk_callS (cells' := 0) (slots' := 0) (rest := [.ref hm]) (n := 3) (wr := [(hm, .inr (7, [.int (nI km), .int (nI 1), .int (nI p), .int (nI dg), .int (nI n), .int (nI t), .int (nI dep), .int (nI gn), .int (nI ck), .ref ms, .ref ch, .ref kp, .ref md, .ref rs, .ref pr])), (ms, .inl (g.1, 4, .inl (zk_ia Ms))), (ch, .inl (g.1, 4, .inl (zk_ia Cs))), (kp, .inl (g.1, 16, .inl (zk_ia Ks))), (md, .inl (g.1, 4, .inl (zk_ia Ds))), (rs, .inl (g.1, 31, .inl (zk_ia Rs)))]) C Z (m8_in1 l D g (nI sl) (nI 0) (nI 3) (zk_le (Nat.zero_le sl) (by omega)) (zk_le s3 (by decide))) [] [0, 1, 2, 3, 4, 5] rfl rfl (by decide) (by decide) (by decide) q651 q652 q26 q653 (by decide +kernel) rfl (Nat.le_of_ble_eq_true rfl) (Nat.le_of_ble_eq_true rfl) (Nat.le_of_ble_eq_true rfl) (Nat.le_of_ble_eq_true rfl) rfl rfl hl.1 rfl (Nat.le_of_ble_eq_true rfl) dX8_load_15 (fun v w1 H locs hq Z => ?_)
  obtain ⟨rfl, rfl⟩ := hq
  have Z : zk_Z D A s H locs [(hm, .inr (7, [.int (nI km), .int (nI 1), .int (nI p), .int (nI dg), .int (nI n), .int (nI t), .int (nI dep), .int (nI gn), .int (nI ck), .ref ms, .ref ch, .ref kp, .ref md, .ref rs, .ref pr])), (ms, .inl (g.1, 4, .inl (zk_ia Ms))), (ch, .inl (g.1, 4, .inl (zk_ia Cs))), (kp, .inl (g.1, 16, .inl (zk_ia Ks))), (md, .inl (g.1, 4, .inl (zk_ia Ds))), (rs, .inl (g.1, 31, .inl (zk_ia Rs)))] := Z.sub [0, 1, 2, 3, 4, 5] (by decide) rfl
  refine W.eq (g2 := F0 mm 18 ls [.int (nI 1), .ref hm]) rfl ?_
  refine nr_eq0 (tgt := 25) hx hb (by omega) dX8_load_18 (by decide) (fun c_2 => absurd c_2 (by decide)) (fun c_2 => ?_)
  refine lv_iconst (v := nI 0) hx hb dX8_load_21 (by decide) ?_
  refine lv_goto (tgt := 26) hx hb dX8_load_22 (by decide) ?_
  refine zk_put C Z in_X8 tyX8 tyX8_ok nmX8 0 rfl rfl 0 (by decide) q597 rfl rfl (v := .int (nI 0)) rfl rfl (Nat.le_of_ble_eq_true rfl) dX8_load_26 (fun H locs Z => ?_)
  have Z : zk_Z D A s H locs [(hm, .inr (7, [.int (nI 0), .int (nI 1), .int (nI p), .int (nI dg), .int (nI n), .int (nI t), .int (nI dep), .int (nI gn), .int (nI ck), .ref ms, .ref ch, .ref kp, .ref md, .ref rs, .ref pr])), (ms, .inl (g.1, 4, .inl (zk_ia Ms))), (ch, .inl (g.1, 4, .inl (zk_ia Cs))), (kp, .inl (g.1, 16, .inl (zk_ia Ks))), (md, .inl (g.1, 4, .inl (zk_ia Ds))), (rs, .inl (g.1, 31, .inl (zk_ia Rs)))] := Z
  refine lv_aload_n hx hb dX8_load_29 rfl (lv_at hl 0 rfl) ?_
  refine zk_get C Z in_X8 0 rfl rfl 0 (by decide) q597 rfl (v := .int (nI 0)) rfl dX8_load_30 ?_
  refine nr_le0 (tgt := 40) hx hb (by decide) dX8_load_33 (by decide) (fun c_3 => ?_) (fun c_3 => absurd c_3 (by decide))
  refine lv_aload_n hx hb dX8_load_40 rfl (lv_at hl 0 rfl) ?_
  refine lv_iload_n hx hb dX8_load_41 rfl (lv_at hl 1 rfl) ?_
  refine zk_callV (cells' := 0) (slots' := 0) (rest := []) (n := 1) (wr := [(ms, .inl (g.1, 4, .inl (zk_ia Ms))), (ch, .inl (g.1, 4, .inl (zk_ia Cs)))]) C Z (m8_mdK l D g hm ms ch kp md rs pr 0 p dg n t dep gn ck Rs hRs R_ hR n31 hR31 t3 Ks hKs sl s3 d4 hW Ds hDs hall) [0, 3, 4, 5] [1, 2] rfl rfl (by decide) (by decide) (by decide) 0 7 rfl rfl rfl q744 q746 qs15 q26 q747 (by decide +kernel) rfl (Nat.le_of_ble_eq_true rfl) (Nat.le_of_ble_eq_true rfl) (Nat.le_of_ble_eq_true rfl) (Nat.le_of_ble_eq_true rfl) rfl rfl hl.1 rfl (Nat.le_of_ble_eq_true rfl) dX8_load_42 (fun v w1 H locs hq Z => ?_)
  obtain ⟨rfl, rfl⟩ := hq
  have Z : zk_Z D A s H locs [(hm, .inr (7, [.int (nI 0), .int (nI 1), .int (nI p), .int (nI dg), .int (nI n), .int (nI t), .int (nI dep), .int (nI gn), .int (nI ck), .ref ms, .ref ch, .ref kp, .ref md, .ref rs, .ref pr])), (ms, .inl (g.1, 4, .inl (zk_ia Ms))), (ch, .inl (g.1, 4, .inl (zk_ia Cs))), (kp, .inl (g.1, 16, .inl (zk_ia Ks))), (md, .inl (g.1, 4, .inl (zk_ia (zk_it (moD R_ t n (fun w => Ks.getD (4 * sl + w) 0)) dep 0 Ds)))), (rs, .inl (g.1, 31, .inl (zk_ia Rs)))] := Z.sub [2, 0, 1, 3, 4, 5] (by decide) rfl
  refine W.eq (g2 := F0 mm 45 ls [.int (nI (zk_it (moN R_ t n (fun w => Ks.getD (4 * sl + w) 0)) dep 0 0))]) rfl ?_
  refine lv_istore_n (lv' := [(2, .int (nI (zk_it (moN R_ t n (fun w => Ks.getD (4 * sl + w) 0)) dep 0 0))), (0, .ref hm), (1, .int (nI sl))]) hx hb dX8_load_45 rfl hl (by decide) rfl (fun ls hl => ?_)
  refine lv_aload_n hx hb dX8_load_46 rfl (lv_at hl 1 rfl) ?_
  refine lv_iload_n hx hb dX8_load_47 rfl (lv_at hl 0 rfl) ?_
  refine nr_ge0 (tgt := 55) hx hb (by have := moN_le R_ t n (fun w => Ks.getD (4 * sl + w) 0) dep; omega) dX8_load_48 (by decide) ?_
  refine lv_aload_n hx hb dX8_load_55 rfl (lv_at hl 1 rfl) ?_
  refine zk_get C Z in_X8 0 rfl rfl 0 (by decide) q597 rfl (v := .int (nI 0)) rfl dX8_load_56 ?_
  refine zk_put C Z in_X8 tyX8 tyX8_ok nmX8 0 rfl rfl 0 (by decide) q597 rfl rfl (v := .int (nI 0)) rfl rfl (Nat.le_of_ble_eq_true rfl) dX8_load_59 (fun H locs Z => ?_)
  have Z : zk_Z D A s H locs [(hm, .inr (7, [.int (nI 0), .int (nI 1), .int (nI p), .int (nI dg), .int (nI n), .int (nI t), .int (nI dep), .int (nI gn), .int (nI ck), .ref ms, .ref ch, .ref kp, .ref md, .ref rs, .ref pr])), (ms, .inl (g.1, 4, .inl (zk_ia Ms))), (ch, .inl (g.1, 4, .inl (zk_ia Cs))), (kp, .inl (g.1, 16, .inl (zk_ia Ks))), (md, .inl (g.1, 4, .inl (zk_ia (zk_it (moD R_ t n (fun w => Ks.getD (4 * sl + w) 0)) dep 0 Ds)))), (rs, .inl (g.1, 31, .inl (zk_ia Rs)))] := Z
  refine lv_aload_n hx hb dX8_load_62 rfl (lv_at hl 1 rfl) ?_
  refine zk_get C Z in_X8 0 rfl rfl 0 (by decide) q597 rfl (v := .int (nI 0)) rfl dX8_load_63 ?_
  refine nr_le0 (tgt := 71) hx hb (by decide) dX8_load_66 (by decide) (fun c_5 => ?_) (fun c_5 => absurd c_5 (by decide))
  refine lv_aload_n hx hb dX8_load_71 rfl (lv_at hl 1 rfl) ?_
  refine zk_callV (cells' := 0) (slots' := 0) (rest := []) (n := 0) (wr := [(kp, .inl (g.1, 16, .inl (zk_ia Ks))), (rs, .inl (g.1, 31, .inl (zk_ia Rs)))]) C Z (m8_take l D g hm ms ch kp md rs pr 0 p dg n t dep gn ck (zk_it (moD R_ t n (fun w => Ks.getD (4 * sl + w) 0)) dep 0 Ds) (by rw [moD_len]; exact hDs) (tk_D31 hDs d4 hW) d4 (by omega) Ms Cs hMs hCs) [0, 1, 2, 4] [3, 5] rfl rfl (by decide) (by decide) (by decide) 0 7 rfl rfl rfl q752 q754 qs17 q26 q755 (by decide +kernel) rfl (Nat.le_of_ble_eq_true rfl) (Nat.le_of_ble_eq_true rfl) (Nat.le_of_ble_eq_true rfl) (Nat.le_of_ble_eq_true rfl) rfl rfl hl.1 rfl (Nat.le_of_ble_eq_true rfl) dX8_load_72 (fun v w1 H locs hq Z => ?_)
  obtain ⟨rfl, rfl⟩ := hq
  have Z : zk_Z D A s H locs [(hm, .inr (7, [.int (nI 0), .int (nI 1), .int (nI p), .int (nI dg), .int (nI n), .int (nI t), .int (nI dep), .int (nI gn), .int (nI ck), .ref ms, .ref ch, .ref kp, .ref md, .ref rs, .ref pr])), (ms, .inl (g.1, 4, .inl (zk_ia (zk_it (tkM ck (zk_it (moD R_ t n (fun w => Ks.getD (4 * sl + w) 0)) dep 0 Ds)) dep 0 Ms)))), (ch, .inl (g.1, 4, .inl (zk_ia (zk_it (tkC (zk_it (moD R_ t n (fun w => Ks.getD (4 * sl + w) 0)) dep 0 Ds)) dep 0 Cs)))), (kp, .inl (g.1, 16, .inl (zk_ia Ks))), (md, .inl (g.1, 4, .inl (zk_ia (zk_it (moD R_ t n (fun w => Ks.getD (4 * sl + w) 0)) dep 0 Ds)))), (rs, .inl (g.1, 31, .inl (zk_ia Rs)))] := Z.sub [2, 3, 4, 0, 5, 1] (by decide) rfl
  refine W.eq (g2 := F0 mm 75 ls []) rfl ?_
  refine lv_iconst (v := nI 0) hx hb dX8_load_75 (by decide) ?_
  refine lv_istore_n (lv' := [(3, .int (nI 0)), (2, .int (nI (zk_it (moN R_ t n (fun w => Ks.getD (4 * sl + w) 0)) dep 0 0))), (0, .ref hm), (1, .int (nI sl))]) hx hb dX8_load_76 rfl hl (by decide) rfl (fun ls hl => ?_)
  refine lp8_load C hm ms ch kp md rs pr 0 p dg n t dep gn ck (zk_it (tkM ck (zk_it (moD R_ t n (fun w => Ks.getD (4 * sl + w) 0)) dep 0 Ds)) dep 0 Ms) (zk_it (tkC (zk_it (moD R_ t n (fun w => Ks.getD (4 * sl + w) 0)) dep 0 Ds)) dep 0 Cs) (zk_it (moD R_ t n (fun w => Ks.getD (4 * sl + w) 0)) dep 0 Ds) Rs (by rw [tkC_len]; exact hCs) d4 sl s3 (zk_it (moN R_ t n (fun w => Ks.getD (4 * sl + w) 0)) dep 0 0) _ (fun H locs ls Z hl => ?_) dep 0 Ks H locs ls (by omega) hKs rfl Z (lv_sub hl [2, 3, 1, 0] rfl)
  refine lv_iload_n hx hb dX8_load_107 rfl (lv_at hl 1 rfl) ?_
  exact zk_iret C hr hlocks Z ⟨rfl, rfl⟩ (Nat.le_of_ble_eq_true rfl) (Nat.le_of_ble_eq_true rfl) dX8_load_108

set_option maxHeartbeats 4000000 in
/-- model: load, too many errors -/
theorem f8_load (l : Launch) (D : va_G) (g : G4) (hm ms ch kp md rs pr : Nat) (km p dg n t dep gn ck : Nat) (Rs : List Nat) (hRs : Rs.length = 31) (R_ : Nat → Nat) (hR : ∀ i, i < n → Rs.getD i 0 = R_ i) (n31 : n ≤ 31) (hR31 : ∀ i, i < n → R_ i < 2 ^ 31) (t3 : t ≤ 3) (Ks : List Nat) (hKs : Ks.length = 16) (sl : Nat) (s3 : sl ≤ 3) (d4 : dep ≤ 4) (hW : ∀ w, w < dep → Ks.getD (4 * sl + w) 0 < 2 ^ 31 ∧ rmd R_ n (Ks.getD (4 * sl + w) 0) < 2 ^ 31 ∧ eor R_ t n (Ks.getD (4 * sl + w) 0) < 2 ^ 31) (Ds : List Nat) (hDs : Ds.length = 4) (up : Nat) (hup : up < dep) (hall : ∀ w, w < up → eof R_ t n (Ks.getD (4 * sl + w) 0) = some (eor R_ t n (Ks.getD (4 * sl + w) 0))) (hnone : eof R_ t n (Ks.getD (4 * sl + up) 0) = none) : zk_M l yX8_load (ws_ yX8_load cX8_load 4 (some .int)) (zk_R 3 0 0) D g [.ref hm, .int (nI sl)] [(hm, .inr (7, [.int (nI km), .int (nI 1), .int (nI p), .int (nI dg), .int (nI n), .int (nI t), .int (nI dep), .int (nI gn), .int (nI ck), .ref ms, .ref ch, .ref kp, .ref md, .ref rs, .ref pr])), (kp, .inl (g.1, 16, .inl (zk_ia Ks))), (md, .inl (g.1, 4, .inl (zk_ia Ds))), (rs, .inl (g.1, 31, .inl (zk_ia Rs)))] (fun v w => v = some (.int (nI 0)) ∧ ∃ D1 : List Nat, D1.length = 4 ∧ w = [(hm, .inr (7, [.int (nI 3), .int (nI 1), .int (nI p), .int (nI dg), .int (nI n), .int (nI t), .int (nI dep), .int (nI gn), .int (nI ck), .ref ms, .ref ch, .ref kp, .ref md, .ref rs, .ref pr])), (kp, .inl (g.1, 16, .inl (zk_ia Ks))), (md, .inl (g.1, 4, .inl (zk_ia D1))), (rs, .inl (g.1, 31, .inl (zk_ia Rs)))]) := by
  refine zk_ofW (by decide) (Nat.le_of_ble_eq_true rfl) ?_
  intro pg ev s mm below meth cd A C hr hlocks hname Z ls hl
  have hx := C.1.1
  have hb := C.1.2.1
  have hml := C.1.2.2.1
  have hown := C.1.2.2.2.1
  have hts := C.1.2.2.2.2
  have hl : lv_has ls 4 [(0, .ref hm), (1, .int (nI sl))] := hl
  obtain ⟨H, hH⟩ : ∃ H, H = s.heap := ⟨_, rfl⟩
  obtain ⟨locs, hlocs⟩ : ∃ q : List Loc, q = [] := ⟨_, rfl⟩
  rw [← hH, ← hlocs] at Z ⊢
  refine lv_aload_n hx hb dX8_load_0 rfl (lv_at hl 0 rfl) ?_
  refine lv_aload_n hx hb dX8_load_1 rfl (lv_at hl 0 rfl) ?_
  refine zk_get C Z in_X8 0 rfl rfl 1 (by decide) q598 rfl (v := .int (nI 1)) rfl dX8_load_2 ?_
  refine nr_ne0 (tgt := 12) hx hb (by omega) dX8_load_5 (by decide) (fun c_1 => ?_) (fun c_1 => absurd c_1 (by decide))
  refine lv_iload_n hx hb dX8_load_12 rfl (lv_at hl 1 rfl) ?_
  refine lv_iconst (v := nI 0) hx hb dX8_load_13 (by decide) ?_
  refine lv_iconst (v := nI 3) hx hb dX8_load_14 (by decide) ?_
  refine zk_callS (cells' := 0) (slots' := 0) (rest := [.ref hm]) (n := 3) (wr := [(hm, .inr (7, [.int (nI km), .int (nI 1), .int (nI p), .int (nI dg), .int (nI n), .int (nI t), .int (nI dep), .int (nI gn), .int (nI ck), .ref ms, .ref ch, .ref kp, .ref md, .ref rs, .ref pr])), (kp, .inl (g.1, 16, .inl (zk_ia Ks))), (md, .inl (g.1, 4, .inl (zk_ia Ds))), (rs, .inl (g.1, 31, .inl (zk_ia Rs)))]) C Z (m8_in1 l D g (nI sl) (nI 0) (nI 3) (zk_le (Nat.zero_le sl) (by omega)) (zk_le s3 (by decide))) [] [0, 1, 2, 3] rfl rfl (by decide) (by decide) (by decide) q651 q652 q26 q653 (by decide +kernel) rfl (Nat.le_of_ble_eq_true rfl) (Nat.le_of_ble_eq_true rfl) (Nat.le_of_ble_eq_true rfl) (Nat.le_of_ble_eq_true rfl) rfl rfl hl.1 rfl (Nat.le_of_ble_eq_true rfl) dX8_load_15 (fun v w1 H locs hq Z => ?_)
  obtain ⟨rfl, rfl⟩ := hq
  have Z : zk_Z D A s H locs [(hm, .inr (7, [.int (nI km), .int (nI 1), .int (nI p), .int (nI dg), .int (nI n), .int (nI t), .int (nI dep), .int (nI gn), .int (nI ck), .ref ms, .ref ch, .ref kp, .ref md, .ref rs, .ref pr])), (kp, .inl (g.1, 16, .inl (zk_ia Ks))), (md, .inl (g.1, 4, .inl (zk_ia Ds))), (rs, .inl (g.1, 31, .inl (zk_ia Rs)))] := Z.sub [0, 1, 2, 3] (by decide) rfl
  refine W.eq (g2 := F0 mm 18 ls [.int (nI 1), .ref hm]) rfl ?_
  refine nr_eq0 (tgt := 25) hx hb (by omega) dX8_load_18 (by decide) (fun c_2 => absurd c_2 (by decide)) (fun c_2 => ?_)
  refine lv_iconst (v := nI 0) hx hb dX8_load_21 (by decide) ?_
  refine lv_goto (tgt := 26) hx hb dX8_load_22 (by decide) ?_
  refine zk_put C Z in_X8 tyX8 tyX8_ok nmX8 0 rfl rfl 0 (by decide) q597 rfl rfl (v := .int (nI 0)) rfl rfl (Nat.le_of_ble_eq_true rfl) dX8_load_26 (fun H locs Z => ?_)
  have Z : zk_Z D A s H locs [(hm, .inr (7, [.int (nI 0), .int (nI 1), .int (nI p), .int (nI dg), .int (nI n), .int (nI t), .int (nI dep), .int (nI gn), .int (nI ck), .ref ms, .ref ch, .ref kp, .ref md, .ref rs, .ref pr])), (kp, .inl (g.1, 16, .inl (zk_ia Ks))), (md, .inl (g.1, 4, .inl (zk_ia Ds))), (rs, .inl (g.1, 31, .inl (zk_ia Rs)))] := Z
  refine lv_aload_n hx hb dX8_load_29 rfl (lv_at hl 0 rfl) ?_
  refine zk_get C Z in_X8 0 rfl rfl 0 (by decide) q597 rfl (v := .int (nI 0)) rfl dX8_load_30 ?_
  refine nr_le0 (tgt := 40) hx hb (by decide) dX8_load_33 (by decide) (fun c_3 => ?_) (fun c_3 => absurd c_3 (by decide))
  refine lv_aload_n hx hb dX8_load_40 rfl (lv_at hl 0 rfl) ?_
  refine lv_iload_n hx hb dX8_load_41 rfl (lv_at hl 1 rfl) ?_
  refine zk_callV (cells' := 0) (slots' := 0) (rest := []) (n := 1) (wr := []) C Z (f8_mdK l D g hm ms ch kp md rs pr 0 p dg n t dep gn ck Rs hRs R_ hR n31 hR31 t3 Ks hKs sl s3 d4 hW Ds hDs up hup hall hnone) [0, 1, 2, 3] [] rfl rfl (by decide) (by decide) (by decide) 0 7 rfl rfl rfl q744 q746 qs15 q26 q747 (by decide +kernel) rfl (Nat.le_of_ble_eq_true rfl) (Nat.le_of_ble_eq_true rfl) (Nat.le_of_ble_eq_true rfl) (Nat.le_of_ble_eq_true rfl) rfl rfl hl.1 rfl (Nat.le_of_ble_eq_true rfl) dX8_load_42 (fun v w1 H locs hq Z => ?_)
  obtain ⟨rfl, D1, hD1, rfl⟩ := hq
  have Z : zk_Z D A s H locs [(hm, .inr (7, [.int (nI 0), .int (nI 1), .int (nI p), .int (nI dg), .int (nI n), .int (nI t), .int (nI dep), .int (nI gn), .int (nI ck), .ref ms, .ref ch, .ref kp, .ref md, .ref rs, .ref pr])), (kp, .inl (g.1, 16, .inl (zk_ia Ks))), (md, .inl (g.1, 4, .inl (zk_ia D1))), (rs, .inl (g.1, 31, .inl (zk_ia Rs)))] := Z.sub [0, 1, 2, 3] (by decide) rfl
  refine W.eq (g2 := F0 mm 45 ls [.int (-1)]) rfl ?_
  refine lv_istore_n (lv' := [(2, .int (-1)), (0, .ref hm), (1, .int (nI sl))]) hx hb dX8_load_45 rfl hl (by decide) rfl (fun ls hl => ?_)
  refine lv_aload_n hx hb dX8_load_46 rfl (lv_at hl 1 rfl) ?_
  refine lv_iload_n hx hb dX8_load_47 rfl (lv_at hl 0 rfl) ?_
  refine lv_if_ge (tgt := 55) hx hb dX8_load_48 (by decide) (fun c_4 => absurd c_4 (by decide)) (fun c_4 => ?_)
  refine lv_iconst (v := nI 3) hx hb dX8_load_51 (by decide) ?_
  refine lv_goto (tgt := 59) hx hb dX8_load_52 (by decide) ?_
  refine zk_put C Z in_X8 tyX8 tyX8_ok nmX8 0 rfl rfl 0 (by decide) q597 rfl rfl (v := .int (nI 3)) rfl rfl (Nat.le_of_ble_eq_true rfl) dX8_load_59 (fun H locs Z => ?_)
  have Z : zk_Z D A s H locs [(hm, .inr (7, [.int (nI 3), .int (nI 1), .int (nI p), .int (nI dg), .int (nI n), .int (nI t), .int (nI dep), .int (nI gn), .int (nI ck), .ref ms, .ref ch, .ref kp, .ref md, .ref rs, .ref pr])), (kp, .inl (g.1, 16, .inl (zk_ia Ks))), (md, .inl (g.1, 4, .inl (zk_ia D1))), (rs, .inl (g.1, 31, .inl (zk_ia Rs)))] := Z
  refine lv_aload_n hx hb dX8_load_62 rfl (lv_at hl 1 rfl) ?_
  refine zk_get C Z in_X8 0 rfl rfl 0 (by decide) q597 rfl (v := .int (nI 3)) rfl dX8_load_63 ?_
  refine nr_le0 (tgt := 71) hx hb (by decide) dX8_load_66 (by decide) (fun c_5 => absurd c_5 (by decide)) (fun c_5 => ?_)
  refine lv_iconst (v := nI 0) hx hb dX8_load_69 (by decide) ?_
  exact zk_iret C hr hlocks Z ⟨rfl, D1, hD1, rfl⟩ (Nat.le_of_ble_eq_true rfl) (Nat.le_of_ble_eq_true rfl) dX8_load_70

set_option maxHeartbeats 4000000 in
theorem lp8_bg {pg : Program} {l : Launch} {ev : Env} {s : State} {mm : MethodId} {args : Array Value} {below : List Frame} {meth : Method} {cd : Code} {Q : State → Prop} {D : va_G} {g : G4} {A : Nat → Prop} (C : zk_C pg s mm cd args cX8_begin 7 RX8 D g A) (hm ms ch kp md rs pr : Nat) (x t dep g1 c1 : Nat) (Rs Pp : List Nat) (f1 f2 f3 : List Nat) (kk : ∀ (H : Heap) (locs : List Loc) (ls : Array Slot), zk_Z D A s H locs [(hm, .inr (7, [.int (nI 0), .int (nI 1), .int (nI x), .int (nI (mdg x)), .int (nI (zk_nn x)), .int (nI t), .int (nI dep), .int (nI g1), .int (nI c1), .ref ms, .ref ch, .ref kp, .ref md, .ref rs, .ref pr])), (ms, .inl (g.1, 4, .inl (zk_ia f1))), (ch, .inl (g.1, 4, .inl (zk_ia f2))), (kp, .inl (g.1, 16, .inl (zk_ia f3))), (rs, .inl (g.1, 31, .inl (zk_ia Rs))), (pr, .inl (g.1, 32, .inl (zk_ia Pp)))] → lv_has ls 7 [(0, .ref hm)] → W pg l ev (zk_R 3 0 0) s mm args below meth cd H locs 0 0 Q (F0 mm 179 ls [])) :
    ∀ (k : Nat) (i : Nat) (Ms Cs Ks : List Nat) (H : Heap) (locs : List Loc) (ls : Array Slot), (i + k = 16) → (Ms.length = 4) → (Cs.length = 4) → (Ks.length = 16) → (zk_it (fun i P => P.set (i % 4) 0) k i Ms = f1) → (zk_it (fun i P => P.set (i % 4) 0) k i Cs = f2) → (zk_it (fun i P => P.set i ((fun _ => 0) i)) k i Ks = f3) → zk_Z D A s H locs [(hm, .inr (7, [.int (nI 0), .int (nI 1), .int (nI x), .int (nI (mdg x)), .int (nI (zk_nn x)), .int (nI t), .int (nI dep), .int (nI g1), .int (nI c1), .ref ms, .ref ch, .ref kp, .ref md, .ref rs, .ref pr])), (ms, .inl (g.1, 4, .inl (zk_ia Ms))), (ch, .inl (g.1, 4, .inl (zk_ia Cs))), (kp, .inl (g.1, 16, .inl (zk_ia Ks))), (rs, .inl (g.1, 31, .inl (zk_ia Rs))), (pr, .inl (g.1, 32, .inl (zk_ia Pp)))] → lv_has ls 7 [(0, .ref hm), (6, .int (nI i))] → W pg l ev (zk_R 3 0 0) s mm args below meth cd H locs 0 0 Q (F0 mm 138 ls []) := by
  have hx := C.1.1
  have hb := C.1.2.1
  have hml := C.1.2.2.1
  have hown := C.1.2.2.2.1
  have hts := C.1.2.2.2.2
  intro k
  induction k with
  | zero =>
    intro i Ms Cs Ks H locs ls hik hMs hCs hKs hf1 hf2 hf3 Z hl
    have hf1 : Ms = f1 := hf1
    have hf2 : Cs = f2 := hf2
    have hf3 : Ks = f3 := hf3
    subst hf1
    subst hf2
    subst hf3
    refine lv_iload hx hb dX8_begin_138 (lv_at hl 1 rfl) ?_
    refine lv_bipush (v := nI 16) hx hb dX8_begin_140 (by decide) ?_
    refine nr_ge (tgt := 179) hx hb (by omega) (by omega) dX8_begin_142 (by decide) (fun c_1 => ?_) (fun c_1 => absurd c_1 (by omega))
    exact kk  H locs ls  Z (lv_sub hl [0] rfl)
  | succ k ih =>
    intro i Ms Cs Ks H locs ls hik hMs hCs hKs hf1 hf2 hf3 Z hl
    refine lv_iload hx hb dX8_begin_138 (lv_at hl 1 rfl) ?_
    refine lv_bipush (v := nI 16) hx hb dX8_begin_140 (by decide) ?_
    refine nr_ge (tgt := 179) hx hb (by omega) (by omega) dX8_begin_142 (by decide) (fun c_1 => absurd c_1 (by omega)) (fun c_1 => ?_)
    refine lv_aload_n hx hb dX8_begin_145 rfl (lv_at hl 0 rfl) ?_
    refine zk_get C Z in_X8 0 rfl rfl 11 (by decide) q608 rfl (v := .ref kp) rfl dX8_begin_146 ?_
    refine lv_iload hx hb dX8_begin_149 (lv_at hl 1 rfl) ?_
    refine lv_iconst (v := nI 0) hx hb dX8_begin_151 (by decide) ?_
    refine zk_iast C Z 3 rfl (by decide) (by omega) hKs dX8_begin_152 (fun H locs Z => ?_)
    have hlen_2 : (Ks.set i 0).length = 16 := by rw [List.length_set]; exact hKs
    have Z : zk_Z D A s H locs [(hm, .inr (7, [.int (nI 0), .int (nI 1), .int (nI x), .int (nI (mdg x)), .int (nI (zk_nn x)), .int (nI t), .int (nI dep), .int (nI g1), .int (nI c1), .ref ms, .ref ch, .ref kp, .ref md, .ref rs, .ref pr])), (ms, .inl (g.1, 4, .inl (zk_ia Ms))), (ch, .inl (g.1, 4, .inl (zk_ia Cs))), (kp, .inl (g.1, 16, .inl (zk_ia (Ks.set i 0)))), (rs, .inl (g.1, 31, .inl (zk_ia Rs))), (pr, .inl (g.1, 32, .inl (zk_ia Pp)))] := Z
    refine lv_aload_n hx hb dX8_begin_153 rfl (lv_at hl 0 rfl) ?_
    refine zk_get C Z in_X8 0 rfl rfl 9 (by decide) q606 rfl (v := .ref ms) rfl dX8_begin_154 ?_
    refine lv_iload hx hb dX8_begin_157 (lv_at hl 1 rfl) ?_
    refine lv_iconst (v := nI 4) hx hb dX8_begin_159 (by decide) ?_
    refine nr_irem hx hb (by omega) (by decide) (by decide) dX8_begin_160 ?_
    refine lv_iconst (v := nI 0) hx hb dX8_begin_161 (by decide) ?_
    refine zk_iast C Z 1 rfl (by decide) (by omega) hMs dX8_begin_162 (fun H locs Z => ?_)
    have hlen_3 : (Ms.set (i % 4) 0).length = 4 := by rw [List.length_set]; exact hMs
    have Z : zk_Z D A s H locs [(hm, .inr (7, [.int (nI 0), .int (nI 1), .int (nI x), .int (nI (mdg x)), .int (nI (zk_nn x)), .int (nI t), .int (nI dep), .int (nI g1), .int (nI c1), .ref ms, .ref ch, .ref kp, .ref md, .ref rs, .ref pr])), (ms, .inl (g.1, 4, .inl (zk_ia (Ms.set (i % 4) 0)))), (ch, .inl (g.1, 4, .inl (zk_ia Cs))), (kp, .inl (g.1, 16, .inl (zk_ia (Ks.set i 0)))), (rs, .inl (g.1, 31, .inl (zk_ia Rs))), (pr, .inl (g.1, 32, .inl (zk_ia Pp)))] := Z
    refine lv_aload_n hx hb dX8_begin_163 rfl (lv_at hl 0 rfl) ?_
    refine zk_get C Z in_X8 0 rfl rfl 10 (by decide) q607 rfl (v := .ref ch) rfl dX8_begin_164 ?_
    refine lv_iload hx hb dX8_begin_167 (lv_at hl 1 rfl) ?_
    refine lv_iconst (v := nI 4) hx hb dX8_begin_169 (by decide) ?_
    refine nr_irem hx hb (by omega) (by decide) (by decide) dX8_begin_170 ?_
    refine lv_iconst (v := nI 0) hx hb dX8_begin_171 (by decide) ?_
    refine zk_iast C Z 2 rfl (by decide) (by omega) hCs dX8_begin_172 (fun H locs Z => ?_)
    have hlen_4 : (Cs.set (i % 4) 0).length = 4 := by rw [List.length_set]; exact hCs
    have Z : zk_Z D A s H locs [(hm, .inr (7, [.int (nI 0), .int (nI 1), .int (nI x), .int (nI (mdg x)), .int (nI (zk_nn x)), .int (nI t), .int (nI dep), .int (nI g1), .int (nI c1), .ref ms, .ref ch, .ref kp, .ref md, .ref rs, .ref pr])), (ms, .inl (g.1, 4, .inl (zk_ia (Ms.set (i % 4) 0)))), (ch, .inl (g.1, 4, .inl (zk_ia (Cs.set (i % 4) 0)))), (kp, .inl (g.1, 16, .inl (zk_ia (Ks.set i 0)))), (rs, .inl (g.1, 31, .inl (zk_ia Rs))), (pr, .inl (g.1, 32, .inl (zk_ia Pp)))] := Z
    refine nr_iinc (n := 1) (lv' := [(6, .int (nI (i + 1))), (0, .ref hm)]) hx hb (by decide) dX8_begin_173 hl (k := 1) rfl (by decide) rfl (fun ls hl => ?_)
    refine lv_goto (tgt := 138) hx hb dX8_begin_176 (by decide) ?_
    exact ih (i + 1) (Ms.set (i % 4) 0) (Cs.set (i % 4) 0) (Ks.set i 0) H locs ls (by omega) hlen_3 hlen_4 hlen_2 hf1 hf2 hf3 Z (lv_sub hl [1, 0] rfl)

set_option maxHeartbeats 4000000 in
/-- model: begin -/
theorem m8_begin (l : Launch) (D : va_G) (g : G4) (hm ms ch kp md rs pr : Nat) (km bg p0 dg0 n0 t0 dep0 g0 c0 : Nat) (x t dep : Nat) (t1 : 1 ≤ t) (t3 : t ≤ 3) (d1 : 1 ≤ dep) (d4 : dep ≤ 4) (x8 : 8 ≤ x) (x63 : x ≤ 63) (Ms Cs Ks Rs Pp : List Nat) (hMs : Ms.length = 4) (hCs : Cs.length = 4) (hKs : Ks.length = 16) (hRs : Rs.length = 31) (hPp : Pp.length = 32) (hpr : (x, zk_nn x) ∈ zk_pr) : zk_M l yX8_begin (ws_ yX8_begin cX8_begin 7 (some .int)) (zk_R 3 0 0) D g [.ref hm, .int (nI x), .int (nI t), .int (nI dep)] [(hm, .inr (7, [.int (nI km), .int (nI bg), .int (nI p0), .int (nI dg0), .int (nI n0), .int (nI t0), .int (nI dep0), .int (nI g0), .int (nI c0), .ref ms, .ref ch, .ref kp, .ref md, .ref rs, .ref pr])), (ms, .inl (g.1, 4, .inl (zk_ia Ms))), (ch, .inl (g.1, 4, .inl (zk_ia Cs))), (kp, .inl (g.1, 16, .inl (zk_ia Ks))), (rs, .inl (g.1, 31, .inl (zk_ia Rs))), (pr, .inl (g.1, 32, .inl (zk_ia Pp)))] (fun v w => v = some (.int (nI (zk_nn x - lgn x (zk_nn x) t))) ∧ ∃ P1 R1 : List Nat, P1.length = 32 ∧ R1.length = 31 ∧ (∀ j, j < zk_nn x → R1.getD j 0 = rst (gnr x (zk_nn x) t) (lgn x (zk_nn x) t) j) ∧ w = [(hm, .inr (7, [.int (nI 0), .int (nI 1), .int (nI x), .int (nI (mdg x)), .int (nI (zk_nn x)), .int (nI t), .int (nI dep), .int (nI (gnr x (zk_nn x) t)), .int (nI (lgn x (zk_nn x) t)), .ref ms, .ref ch, .ref kp, .ref md, .ref rs, .ref pr])), (ms, .inl (g.1, 4, .inl (zk_ia zk_z4))), (ch, .inl (g.1, 4, .inl (zk_ia zk_z4))), (kp, .inl (g.1, 16, .inl (zk_ia (List.replicate 16 0)))), (rs, .inl (g.1, 31, .inl (zk_ia R1))), (pr, .inl (g.1, 32, .inl (zk_ia P1)))]) := by
  refine zk_ofW (by decide) (Nat.le_of_ble_eq_true rfl) ?_
  intro pg ev s mm below meth cd A C hr hlocks hname Z ls hl
  have hx := C.1.1
  have hb := C.1.2.1
  have hml := C.1.2.2.1
  have hown := C.1.2.2.2.1
  have hts := C.1.2.2.2.2
  have hl : lv_has ls 7 [(0, .ref hm), (1, .int (nI x)), (2, .int (nI t)), (3, .int (nI dep))] := hl
  obtain ⟨-, hlg1, hlg2, hlg3, -⟩ := rsv_ok _ hpr t (by omega) t1
  dsimp only at hlg1 hlg2 hlg3
  obtain ⟨H, hH⟩ : ∃ H, H = s.heap := ⟨_, rfl⟩
  obtain ⟨locs, hlocs⟩ : ∃ q : List Loc, q = [] := ⟨_, rfl⟩
  rw [← hH, ← hlocs] at Z ⊢
  refine lv_iload_n hx hb dX8_begin_0 rfl (lv_at hl 2 rfl) ?_
  refine lv_iconst (v := nI 1) hx hb dX8_begin_1 (by decide) ?_
  refine lv_iconst (v := nI 3) hx hb dX8_begin_2 (by decide) ?_
  refine zk_callS (cells' := 0) (slots' := 0) (rest := []) (n := 3) (wr := [(hm, .inr (7, [.int (nI km), .int (nI bg), .int (nI p0), .int (nI dg0), .int (nI n0), .int (nI t0), .int (nI dep0), .int (nI g0), .int (nI c0), .ref ms, .ref ch, .ref kp, .ref md, .ref rs, .ref pr])), (ms, .inl (g.1, 4, .inl (zk_ia Ms))), (ch, .inl (g.1, 4, .inl (zk_ia Cs))), (kp, .inl (g.1, 16, .inl (zk_ia Ks))), (rs, .inl (g.1, 31, .inl (zk_ia Rs))), (pr, .inl (g.1, 32, .inl (zk_ia Pp)))]) C Z (m8_in1 l D g (nI t) (nI 1) (nI 3) (zk_le t1 (by omega)) (zk_le t3 (by decide))) [] [0, 1, 2, 3, 4, 5] rfl rfl (by decide) (by decide) (by decide) q651 q652 q26 q653 (by decide +kernel) rfl (Nat.le_of_ble_eq_true rfl) (Nat.le_of_ble_eq_true rfl) (Nat.le_of_ble_eq_true rfl) (Nat.le_of_ble_eq_true rfl) rfl rfl hl.1 rfl (Nat.le_of_ble_eq_true rfl) dX8_begin_3 (fun v w1 H locs hq Z => ?_)
  obtain ⟨rfl, rfl⟩ := hq
  have Z : zk_Z D A s H locs [(hm, .inr (7, [.int (nI km), .int (nI bg), .int (nI p0), .int (nI dg0), .int (nI n0), .int (nI t0), .int (nI dep0), .int (nI g0), .int (nI c0), .ref ms, .ref ch, .ref kp, .ref md, .ref rs, .ref pr])), (ms, .inl (g.1, 4, .inl (zk_ia Ms))), (ch, .inl (g.1, 4, .inl (zk_ia Cs))), (kp, .inl (g.1, 16, .inl (zk_ia Ks))), (rs, .inl (g.1, 31, .inl (zk_ia Rs))), (pr, .inl (g.1, 32, .inl (zk_ia Pp)))] := Z.sub [0, 1, 2, 3, 4, 5] (by decide) rfl
  refine W.eq (g2 := F0 mm 6 ls [.int (nI 1)]) rfl ?_
  refine nr_eq0 (tgt := 33) hx hb (by omega) dX8_begin_6 (by decide) (fun c_1 => absurd c_1 (by decide)) (fun c_1 => ?_)
  refine lv_iload_n hx hb dX8_begin_9 rfl (lv_at hl 3 rfl) ?_
  refine lv_iconst (v := nI 1) hx hb dX8_begin_10 (by decide) ?_
  refine lv_iconst (v := nI 4) hx hb dX8_begin_11 (by decide) ?_
  refine zk_callS (cells' := 0) (slots' := 0) (rest := []) (n := 3) (wr := [(hm, .inr (7, [.int (nI km), .int (nI bg), .int (nI p0), .int (nI dg0), .int (nI n0), .int (nI t0), .int (nI dep0), .int (nI g0), .int (nI c0), .ref ms, .ref ch, .ref kp, .ref md, .ref rs, .ref pr])), (ms, .inl (g.1, 4, .inl (zk_ia Ms))), (ch, .inl (g.1, 4, .inl (zk_ia Cs))), (kp, .inl (g.1, 16, .inl (zk_ia Ks))), (rs, .inl (g.1, 31, .inl (zk_ia Rs))), (pr, .inl (g.1, 32, .inl (zk_ia Pp)))]) C Z (m8_in1 l D g (nI dep) (nI 1) (nI 4) (zk_le d1 (by omega)) (zk_le d4 (by decide))) [] [0, 1, 2, 3, 4, 5] rfl rfl (by decide) (by decide) (by decide) q651 q652 q26 q653 (by decide +kernel) rfl (Nat.le_of_ble_eq_true rfl) (Nat.le_of_ble_eq_true rfl) (Nat.le_of_ble_eq_true rfl) (Nat.le_of_ble_eq_true rfl) rfl rfl hl.1 rfl (Nat.le_of_ble_eq_true rfl) dX8_begin_12 (fun v w1 H locs hq Z => ?_)
  obtain ⟨rfl, rfl⟩ := hq
  have Z : zk_Z D A s H locs [(hm, .inr (7, [.int (nI km), .int (nI bg), .int (nI p0), .int (nI dg0), .int (nI n0), .int (nI t0), .int (nI dep0), .int (nI g0), .int (nI c0), .ref ms, .ref ch, .ref kp, .ref md, .ref rs, .ref pr])), (ms, .inl (g.1, 4, .inl (zk_ia Ms))), (ch, .inl (g.1, 4, .inl (zk_ia Cs))), (kp, .inl (g.1, 16, .inl (zk_ia Ks))), (rs, .inl (g.1, 31, .inl (zk_ia Rs))), (pr, .inl (g.1, 32, .inl (zk_ia Pp)))] := Z.sub [0, 1, 2, 3, 4, 5] (by decide) rfl
  refine W.eq (g2 := F0 mm 15 ls [.int (nI 1)]) rfl ?_
  refine nr_eq0 (tgt := 33) hx hb (by omega) dX8_begin_15 (by decide) (fun c_2 => absurd c_2 (by decide)) (fun c_2 => ?_)
  refine lv_iload_n hx hb dX8_begin_18 rfl (lv_at hl 1 rfl) ?_
  refine lv_bipush (v := nI 8) hx hb dX8_begin_19 (by decide) ?_
  refine lv_bipush (v := nI 63) hx hb dX8_begin_21 (by decide) ?_
  refine zk_callS (cells' := 0) (slots' := 0) (rest := []) (n := 3) (wr := [(hm, .inr (7, [.int (nI km), .int (nI bg), .int (nI p0), .int (nI dg0), .int (nI n0), .int (nI t0), .int (nI dep0), .int (nI g0), .int (nI c0), .ref ms, .ref ch, .ref kp, .ref md, .ref rs, .ref pr])), (ms, .inl (g.1, 4, .inl (zk_ia Ms))), (ch, .inl (g.1, 4, .inl (zk_ia Cs))), (kp, .inl (g.1, 16, .inl (zk_ia Ks))), (rs, .inl (g.1, 31, .inl (zk_ia Rs))), (pr, .inl (g.1, 32, .inl (zk_ia Pp)))]) C Z (m8_in1 l D g (nI x) (nI 8) (nI 63) (zk_le x8 (by omega)) (zk_le x63 (by decide))) [] [0, 1, 2, 3, 4, 5] rfl rfl (by decide) (by decide) (by decide) q651 q652 q26 q653 (by decide +kernel) rfl (Nat.le_of_ble_eq_true rfl) (Nat.le_of_ble_eq_true rfl) (Nat.le_of_ble_eq_true rfl) (Nat.le_of_ble_eq_true rfl) rfl rfl hl.1 rfl (Nat.le_of_ble_eq_true rfl) dX8_begin_23 (fun v w1 H locs hq Z => ?_)
  obtain ⟨rfl, rfl⟩ := hq
  have Z : zk_Z D A s H locs [(hm, .inr (7, [.int (nI km), .int (nI bg), .int (nI p0), .int (nI dg0), .int (nI n0), .int (nI t0), .int (nI dep0), .int (nI g0), .int (nI c0), .ref ms, .ref ch, .ref kp, .ref md, .ref rs, .ref pr])), (ms, .inl (g.1, 4, .inl (zk_ia Ms))), (ch, .inl (g.1, 4, .inl (zk_ia Cs))), (kp, .inl (g.1, 16, .inl (zk_ia Ks))), (rs, .inl (g.1, 31, .inl (zk_ia Rs))), (pr, .inl (g.1, 32, .inl (zk_ia Pp)))] := Z.sub [0, 1, 2, 3, 4, 5] (by decide) rfl
  refine W.eq (g2 := F0 mm 26 ls [.int (nI 1)]) rfl ?_
  refine nr_eq0 (tgt := 33) hx hb (by omega) dX8_begin_26 (by decide) (fun c_3 => absurd c_3 (by decide)) (fun c_3 => ?_)
  refine lv_iconst (v := nI 1) hx hb dX8_begin_29 (by decide) ?_
  refine lv_goto (tgt := 34) hx hb dX8_begin_30 (by decide) ?_
  refine lv_istore (lv' := [(4, .int (nI 1)), (0, .ref hm), (1, .int (nI x)), (2, .int (nI t)), (3, .int (nI dep))]) hx hb dX8_begin_34 hl (by decide) rfl (fun ls hl => ?_)
  refine lv_iload_n hx hb dX8_begin_36 rfl (lv_at hl 2 rfl) ?_
  refine lv_bipush (v := nI 31) hx hb dX8_begin_37 (by decide) ?_
  refine nr_le (tgt := 46) hx hb (by omega) (by decide) dX8_begin_39 (by decide) (fun c_4 => ?_) (fun c_4 => ?_)
  · refine lv_iload_n hx hb dX8_begin_46 rfl (lv_at hl 2 rfl) ?_
    refine lv_bipush (v := nI 15) hx hb dX8_begin_47 (by decide) ?_
    refine nr_le (tgt := 56) hx hb (by omega) (by decide) dX8_begin_49 (by decide) (fun c_5 => ?_) (fun c_5 => ?_)
    · refine lv_iconst (v := nI 3) hx hb dX8_begin_56 (by decide) ?_
      refine W.eq (g2 := F0 mm 57 ls [.int (nI (mdg x))]) (by unfold mdg; rw [if_pos (by omega)]) ?_
      refine lv_istore (lv' := [(5, .int (nI (mdg x))), (4, .int (nI 1)), (0, .ref hm), (1, .int (nI x)), (2, .int (nI t)), (3, .int (nI dep))]) hx hb dX8_begin_57 hl (by decide) rfl (fun ls hl => ?_)
      refine lv_aload_n hx hb dX8_begin_59 rfl (lv_at hl 2 rfl) ?_
      refine lv_iload hx hb dX8_begin_60 (lv_at hl 1 rfl) ?_
      refine nr_ne0 (tgt := 69) hx hb (by omega) dX8_begin_62 (by decide) (fun c_6 => ?_) (fun c_6 => absurd c_6 (by decide))
      refine lv_iload_n hx hb dX8_begin_69 rfl (lv_at hl 3 rfl) ?_
      refine lv_iload hx hb dX8_begin_70 (lv_at hl 0 rfl) ?_
      refine zk_callS (cells' := 0) (slots' := 0) (rest := [.ref hm]) (n := 2) (wr := [(hm, .inr (7, [.int (nI km), .int (nI bg), .int (nI p0), .int (nI dg0), .int (nI n0), .int (nI t0), .int (nI dep0), .int (nI g0), .int (nI c0), .ref ms, .ref ch, .ref kp, .ref md, .ref rs, .ref pr])), (ms, .inl (g.1, 4, .inl (zk_ia Ms))), (ch, .inl (g.1, 4, .inl (zk_ia Cs))), (kp, .inl (g.1, 16, .inl (zk_ia Ks))), (rs, .inl (g.1, 31, .inl (zk_ia Rs))), (pr, .inl (g.1, 32, .inl (zk_ia Pp)))]) C Z (m8_prim1 l D g x x8 x63 hpr) [] [0, 1, 2, 3, 4, 5] rfl rfl (by decide) (by decide) (by decide) q654 q655 q26 q656 (by decide +kernel) rfl (Nat.le_of_ble_eq_true rfl) (Nat.le_of_ble_eq_true rfl) (Nat.le_of_ble_eq_true rfl) (Nat.le_of_ble_eq_true rfl) rfl rfl hl.1 rfl (Nat.le_of_ble_eq_true rfl) dX8_begin_72 (fun v w1 H locs hq Z => ?_)
      obtain ⟨rfl, rfl⟩ := hq
      have Z : zk_Z D A s H locs [(hm, .inr (7, [.int (nI km), .int (nI bg), .int (nI p0), .int (nI dg0), .int (nI n0), .int (nI t0), .int (nI dep0), .int (nI g0), .int (nI c0), .ref ms, .ref ch, .ref kp, .ref md, .ref rs, .ref pr])), (ms, .inl (g.1, 4, .inl (zk_ia Ms))), (ch, .inl (g.1, 4, .inl (zk_ia Cs))), (kp, .inl (g.1, 16, .inl (zk_ia Ks))), (rs, .inl (g.1, 31, .inl (zk_ia Rs))), (pr, .inl (g.1, 32, .inl (zk_ia Pp)))] := Z.sub [0, 1, 2, 3, 4, 5] (by decide) rfl
      refine W.eq (g2 := F0 mm 75 ls [.int (nI 1), .ref hm]) rfl ?_
      refine nr_eq0 (tgt := 82) hx hb (by omega) dX8_begin_75 (by decide) (fun c_7 => absurd c_7 (by decide)) (fun c_7 => ?_)
      refine lv_iconst (v := nI 0) hx hb dX8_begin_78 (by decide) ?_
      refine lv_goto (tgt := 83) hx hb dX8_begin_79 (by decide) ?_
      refine zk_put C Z in_X8 tyX8 tyX8_ok nmX8 0 rfl rfl 0 (by decide) q597 rfl rfl (v := .int (nI 0)) rfl rfl (Nat.le_of_ble_eq_true rfl) dX8_begin_83 (fun H locs Z => ?_)
      have Z : zk_Z D A s H locs [(hm, .inr (7, [.int (nI 0), .int (nI bg), .int (nI p0), .int (nI dg0), .int (nI n0), .int (nI t0), .int (nI dep0), .int (nI g0), .int (nI c0), .ref ms, .ref ch, .ref kp, .ref md, .ref rs, .ref pr])), (ms, .inl (g.1, 4, .inl (zk_ia Ms))), (ch, .inl (g.1, 4, .inl (zk_ia Cs))), (kp, .inl (g.1, 16, .inl (zk_ia Ks))), (rs, .inl (g.1, 31, .inl (zk_ia Rs))), (pr, .inl (g.1, 32, .inl (zk_ia Pp)))] := Z
      refine lv_aload_n hx hb dX8_begin_86 rfl (lv_at hl 2 rfl) ?_
      refine zk_get C Z in_X8 0 rfl rfl 0 (by decide) q597 rfl (v := .int (nI 0)) rfl dX8_begin_87 ?_
      refine nr_le0 (tgt := 95) hx hb (by decide) dX8_begin_90 (by decide) (fun c_8 => ?_) (fun c_8 => absurd c_8 (by decide))
      refine lv_aload_n hx hb dX8_begin_95 rfl (lv_at hl 2 rfl) ?_
      refine lv_iconst (v := nI 1) hx hb dX8_begin_96 (by decide) ?_
      refine zk_put C Z in_X8 tyX8 tyX8_ok nmX8 0 rfl rfl 1 (by decide) q598 rfl rfl (v := .int (nI 1)) rfl rfl (Nat.le_of_ble_eq_true rfl) dX8_begin_97 (fun H locs Z => ?_)
      have Z : zk_Z D A s H locs [(hm, .inr (7, [.int (nI 0), .int (nI 1), .int (nI p0), .int (nI dg0), .int (nI n0), .int (nI t0), .int (nI dep0), .int (nI g0), .int (nI c0), .ref ms, .ref ch, .ref kp, .ref md, .ref rs, .ref pr])), (ms, .inl (g.1, 4, .inl (zk_ia Ms))), (ch, .inl (g.1, 4, .inl (zk_ia Cs))), (kp, .inl (g.1, 16, .inl (zk_ia Ks))), (rs, .inl (g.1, 31, .inl (zk_ia Rs))), (pr, .inl (g.1, 32, .inl (zk_ia Pp)))] := Z
      refine lv_aload_n hx hb dX8_begin_100 rfl (lv_at hl 2 rfl) ?_
      refine lv_iload_n hx hb dX8_begin_101 rfl (lv_at hl 3 rfl) ?_
      refine zk_put C Z in_X8 tyX8 tyX8_ok nmX8 0 rfl rfl 2 (by decide) q599 rfl rfl (v := .int (nI x)) rfl rfl (Nat.le_of_ble_eq_true rfl) dX8_begin_102 (fun H locs Z => ?_)
      have Z : zk_Z D A s H locs [(hm, .inr (7, [.int (nI 0), .int (nI 1), .int (nI x), .int (nI dg0), .int (nI n0), .int (nI t0), .int (nI dep0), .int (nI g0), .int (nI c0), .ref ms, .ref ch, .ref kp, .ref md, .ref rs, .ref pr])), (ms, .inl (g.1, 4, .inl (zk_ia Ms))), (ch, .inl (g.1, 4, .inl (zk_ia Cs))), (kp, .inl (g.1, 16, .inl (zk_ia Ks))), (rs, .inl (g.1, 31, .inl (zk_ia Rs))), (pr, .inl (g.1, 32, .inl (zk_ia Pp)))] := Z
      refine lv_aload_n hx hb dX8_begin_105 rfl (lv_at hl 2 rfl) ?_
      refine lv_iload hx hb dX8_begin_106 (lv_at hl 0 rfl) ?_
      refine zk_put C Z in_X8 tyX8 tyX8_ok nmX8 0 rfl rfl 3 (by decide) q600 rfl rfl (v := .int (nI (mdg x))) rfl rfl (Nat.le_of_ble_eq_true rfl) dX8_begin_108 (fun H locs Z => ?_)
      have Z : zk_Z D A s H locs [(hm, .inr (7, [.int (nI 0), .int (nI 1), .int (nI x), .int (nI (mdg x)), .int (nI n0), .int (nI t0), .int (nI dep0), .int (nI g0), .int (nI c0), .ref ms, .ref ch, .ref kp, .ref md, .ref rs, .ref pr])), (ms, .inl (g.1, 4, .inl (zk_ia Ms))), (ch, .inl (g.1, 4, .inl (zk_ia Cs))), (kp, .inl (g.1, 16, .inl (zk_ia Ks))), (rs, .inl (g.1, 31, .inl (zk_ia Rs))), (pr, .inl (g.1, 32, .inl (zk_ia Pp)))] := Z
      refine lv_aload_n hx hb dX8_begin_111 rfl (lv_at hl 2 rfl) ?_
      refine lv_iconst (v := nI 1) hx hb dX8_begin_112 (by decide) ?_
      refine lv_iload hx hb dX8_begin_113 (lv_at hl 0 rfl) ?_
      refine nr_ishl hx hb (by have := mdg_5 x; omega) dX8_begin_115 ?_
      rw [zk_1m x]
      refine lv_iconst (v := nI 1) hx hb dX8_begin_116 (by decide) ?_
      refine nr_isub hx hb (by omega) dX8_begin_117 ?_
      rw [show zk_nn x + 1 - 1 = zk_nn x from rfl]
      refine zk_put C Z in_X8 tyX8 tyX8_ok nmX8 0 rfl rfl 4 (by decide) q601 rfl rfl (v := .int (nI (zk_nn x))) rfl rfl (Nat.le_of_ble_eq_true rfl) dX8_begin_118 (fun H locs Z => ?_)
      have Z : zk_Z D A s H locs [(hm, .inr (7, [.int (nI 0), .int (nI 1), .int (nI x), .int (nI (mdg x)), .int (nI (zk_nn x)), .int (nI t0), .int (nI dep0), .int (nI g0), .int (nI c0), .ref ms, .ref ch, .ref kp, .ref md, .ref rs, .ref pr])), (ms, .inl (g.1, 4, .inl (zk_ia Ms))), (ch, .inl (g.1, 4, .inl (zk_ia Cs))), (kp, .inl (g.1, 16, .inl (zk_ia Ks))), (rs, .inl (g.1, 31, .inl (zk_ia Rs))), (pr, .inl (g.1, 32, .inl (zk_ia Pp)))] := Z
      refine lv_aload_n hx hb dX8_begin_121 rfl (lv_at hl 2 rfl) ?_
      refine lv_iload_n hx hb dX8_begin_122 rfl (lv_at hl 4 rfl) ?_
      refine zk_put C Z in_X8 tyX8 tyX8_ok nmX8 0 rfl rfl 5 (by decide) q602 rfl rfl (v := .int (nI t)) rfl rfl (Nat.le_of_ble_eq_true rfl) dX8_begin_123 (fun H locs Z => ?_)
      have Z : zk_Z D A s H locs [(hm, .inr (7, [.int (nI 0), .int (nI 1), .int (nI x), .int (nI (mdg x)), .int (nI (zk_nn x)), .int (nI t), .int (nI dep0), .int (nI g0), .int (nI c0), .ref ms, .ref ch, .ref kp, .ref md, .ref rs, .ref pr])), (ms, .inl (g.1, 4, .inl (zk_ia Ms))), (ch, .inl (g.1, 4, .inl (zk_ia Cs))), (kp, .inl (g.1, 16, .inl (zk_ia Ks))), (rs, .inl (g.1, 31, .inl (zk_ia Rs))), (pr, .inl (g.1, 32, .inl (zk_ia Pp)))] := Z
      refine lv_aload_n hx hb dX8_begin_126 rfl (lv_at hl 2 rfl) ?_
      refine lv_iload_n hx hb dX8_begin_127 rfl (lv_at hl 5 rfl) ?_
      refine zk_put C Z in_X8 tyX8 tyX8_ok nmX8 0 rfl rfl 6 (by decide) q603 rfl rfl (v := .int (nI dep)) rfl rfl (Nat.le_of_ble_eq_true rfl) dX8_begin_128 (fun H locs Z => ?_)
      have Z : zk_Z D A s H locs [(hm, .inr (7, [.int (nI 0), .int (nI 1), .int (nI x), .int (nI (mdg x)), .int (nI (zk_nn x)), .int (nI t), .int (nI dep), .int (nI g0), .int (nI c0), .ref ms, .ref ch, .ref kp, .ref md, .ref rs, .ref pr])), (ms, .inl (g.1, 4, .inl (zk_ia Ms))), (ch, .inl (g.1, 4, .inl (zk_ia Cs))), (kp, .inl (g.1, 16, .inl (zk_ia Ks))), (rs, .inl (g.1, 31, .inl (zk_ia Rs))), (pr, .inl (g.1, 32, .inl (zk_ia Pp)))] := Z
      refine lv_aload_n hx hb dX8_begin_131 rfl (lv_at hl 2 rfl) ?_
      refine zk_callV (cells' := 0) (slots' := 0) (rest := []) (n := 0) (wr := [(ms, .inl (g.1, 4, .inl (zk_ia Ms))), (ch, .inl (g.1, 4, .inl (zk_ia Cs))), (kp, .inl (g.1, 16, .inl (zk_ia Ks)))]) C Z (m8_mg l D g hm ms ch kp md rs pr 0 x (zk_nn x) t dep hpr t1 t3 g0 c0 Rs Pp hRs hPp) [0, 4, 5] [1, 2, 3] rfl rfl (by decide) (by decide) (by decide) 0 7 rfl rfl rfl q660 q662 qs8 q26 q663 (by decide +kernel) rfl (Nat.le_of_ble_eq_true rfl) (Nat.le_of_ble_eq_true rfl) (Nat.le_of_ble_eq_true rfl) (Nat.le_of_ble_eq_true rfl) rfl rfl hl.1 rfl (Nat.le_of_ble_eq_true rfl) dX8_begin_132 (fun v w1 H locs hq Z => ?_)
      obtain ⟨rfl, P1, R1, hP1, hR1, hR2, rfl⟩ := hq
      have Z : zk_Z D A s H locs [(hm, .inr (7, [.int (nI 0), .int (nI 1), .int (nI x), .int (nI (mdg x)), .int (nI (zk_nn x)), .int (nI t), .int (nI dep), .int (nI (gnr x (zk_nn x) t)), .int (nI (lgn x (zk_nn x) t)), .ref ms, .ref ch, .ref kp, .ref md, .ref rs, .ref pr])), (ms, .inl (g.1, 4, .inl (zk_ia Ms))), (ch, .inl (g.1, 4, .inl (zk_ia Cs))), (kp, .inl (g.1, 16, .inl (zk_ia Ks))), (rs, .inl (g.1, 31, .inl (zk_ia R1))), (pr, .inl (g.1, 32, .inl (zk_ia P1)))] := Z.sub [3, 0, 1, 2, 4, 5] (by decide) rfl
      refine W.eq (g2 := F0 mm 135 ls []) rfl ?_
      refine lv_iconst (v := nI 0) hx hb dX8_begin_135 (by decide) ?_
      refine lv_istore (lv' := [(6, .int (nI 0)), (5, .int (nI (mdg x))), (4, .int (nI 1)), (0, .ref hm), (1, .int (nI x)), (2, .int (nI t)), (3, .int (nI dep))]) hx hb dX8_begin_136 hl (by decide) rfl (fun ls hl => ?_)
      refine lp8_bg C hm ms ch kp md rs pr x t dep (gnr x (zk_nn x) t) (lgn x (zk_nn x) t) R1 P1 _ _ _ (fun H locs ls Z hl => ?_) 16 0 Ms Cs Ks H locs ls rfl hMs hCs hKs (zk_z44 hMs) (zk_z44 hCs) (zk_z16 hKs) Z (lv_sub hl [3, 0] rfl)
      refine lv_aload_n hx hb dX8_begin_179 rfl (lv_at hl 0 rfl) ?_
      refine zk_get C Z in_X8 0 rfl rfl 4 (by decide) q601 rfl (v := .int (nI (zk_nn x))) rfl dX8_begin_180 ?_
      refine lv_aload_n hx hb dX8_begin_183 rfl (lv_at hl 0 rfl) ?_
      refine zk_get C Z in_X8 0 rfl rfl 8 (by decide) q605 rfl (v := .int (nI (lgn x (zk_nn x) t))) rfl dX8_begin_184 ?_
      refine nr_isub hx hb (by omega) dX8_begin_187 ?_
      exact zk_iret C hr hlocks Z ⟨rfl, P1, R1, hP1, hR1, hR2, rfl⟩ (Nat.le_of_ble_eq_true rfl) (Nat.le_of_ble_eq_true rfl) dX8_begin_188
    · refine lv_iconst (v := nI 4) hx hb dX8_begin_52 (by decide) ?_
      refine lv_goto (tgt := 57) hx hb dX8_begin_53 (by decide) ?_
      refine W.eq (g2 := F0 mm 57 ls [.int (nI (mdg x))]) (by unfold mdg; rw [if_neg (by omega), if_pos (by omega)]) ?_
      refine lv_istore (lv' := [(5, .int (nI (mdg x))), (4, .int (nI 1)), (0, .ref hm), (1, .int (nI x)), (2, .int (nI t)), (3, .int (nI dep))]) hx hb dX8_begin_57 hl (by decide) rfl (fun ls hl => ?_)
      refine lv_aload_n hx hb dX8_begin_59 rfl (lv_at hl 2 rfl) ?_
      refine lv_iload hx hb dX8_begin_60 (lv_at hl 1 rfl) ?_
      refine nr_ne0 (tgt := 69) hx hb (by omega) dX8_begin_62 (by decide) (fun c_9 => ?_) (fun c_9 => absurd c_9 (by decide))
      refine lv_iload_n hx hb dX8_begin_69 rfl (lv_at hl 3 rfl) ?_
      refine lv_iload hx hb dX8_begin_70 (lv_at hl 0 rfl) ?_
      refine zk_callS (cells' := 0) (slots' := 0) (rest := [.ref hm]) (n := 2) (wr := [(hm, .inr (7, [.int (nI km), .int (nI bg), .int (nI p0), .int (nI dg0), .int (nI n0), .int (nI t0), .int (nI dep0), .int (nI g0), .int (nI c0), .ref ms, .ref ch, .ref kp, .ref md, .ref rs, .ref pr])), (ms, .inl (g.1, 4, .inl (zk_ia Ms))), (ch, .inl (g.1, 4, .inl (zk_ia Cs))), (kp, .inl (g.1, 16, .inl (zk_ia Ks))), (rs, .inl (g.1, 31, .inl (zk_ia Rs))), (pr, .inl (g.1, 32, .inl (zk_ia Pp)))]) C Z (m8_prim1 l D g x x8 x63 hpr) [] [0, 1, 2, 3, 4, 5] rfl rfl (by decide) (by decide) (by decide) q654 q655 q26 q656 (by decide +kernel) rfl (Nat.le_of_ble_eq_true rfl) (Nat.le_of_ble_eq_true rfl) (Nat.le_of_ble_eq_true rfl) (Nat.le_of_ble_eq_true rfl) rfl rfl hl.1 rfl (Nat.le_of_ble_eq_true rfl) dX8_begin_72 (fun v w1 H locs hq Z => ?_)
      obtain ⟨rfl, rfl⟩ := hq
      have Z : zk_Z D A s H locs [(hm, .inr (7, [.int (nI km), .int (nI bg), .int (nI p0), .int (nI dg0), .int (nI n0), .int (nI t0), .int (nI dep0), .int (nI g0), .int (nI c0), .ref ms, .ref ch, .ref kp, .ref md, .ref rs, .ref pr])), (ms, .inl (g.1, 4, .inl (zk_ia Ms))), (ch, .inl (g.1, 4, .inl (zk_ia Cs))), (kp, .inl (g.1, 16, .inl (zk_ia Ks))), (rs, .inl (g.1, 31, .inl (zk_ia Rs))), (pr, .inl (g.1, 32, .inl (zk_ia Pp)))] := Z.sub [0, 1, 2, 3, 4, 5] (by decide) rfl
      refine W.eq (g2 := F0 mm 75 ls [.int (nI 1), .ref hm]) rfl ?_
      refine nr_eq0 (tgt := 82) hx hb (by omega) dX8_begin_75 (by decide) (fun c_10 => absurd c_10 (by decide)) (fun c_10 => ?_)
      refine lv_iconst (v := nI 0) hx hb dX8_begin_78 (by decide) ?_
      refine lv_goto (tgt := 83) hx hb dX8_begin_79 (by decide) ?_
      refine zk_put C Z in_X8 tyX8 tyX8_ok nmX8 0 rfl rfl 0 (by decide) q597 rfl rfl (v := .int (nI 0)) rfl rfl (Nat.le_of_ble_eq_true rfl) dX8_begin_83 (fun H locs Z => ?_)
      have Z : zk_Z D A s H locs [(hm, .inr (7, [.int (nI 0), .int (nI bg), .int (nI p0), .int (nI dg0), .int (nI n0), .int (nI t0), .int (nI dep0), .int (nI g0), .int (nI c0), .ref ms, .ref ch, .ref kp, .ref md, .ref rs, .ref pr])), (ms, .inl (g.1, 4, .inl (zk_ia Ms))), (ch, .inl (g.1, 4, .inl (zk_ia Cs))), (kp, .inl (g.1, 16, .inl (zk_ia Ks))), (rs, .inl (g.1, 31, .inl (zk_ia Rs))), (pr, .inl (g.1, 32, .inl (zk_ia Pp)))] := Z
      refine lv_aload_n hx hb dX8_begin_86 rfl (lv_at hl 2 rfl) ?_
      refine zk_get C Z in_X8 0 rfl rfl 0 (by decide) q597 rfl (v := .int (nI 0)) rfl dX8_begin_87 ?_
      refine nr_le0 (tgt := 95) hx hb (by decide) dX8_begin_90 (by decide) (fun c_11 => ?_) (fun c_11 => absurd c_11 (by decide))
      refine lv_aload_n hx hb dX8_begin_95 rfl (lv_at hl 2 rfl) ?_
      refine lv_iconst (v := nI 1) hx hb dX8_begin_96 (by decide) ?_
      refine zk_put C Z in_X8 tyX8 tyX8_ok nmX8 0 rfl rfl 1 (by decide) q598 rfl rfl (v := .int (nI 1)) rfl rfl (Nat.le_of_ble_eq_true rfl) dX8_begin_97 (fun H locs Z => ?_)
      have Z : zk_Z D A s H locs [(hm, .inr (7, [.int (nI 0), .int (nI 1), .int (nI p0), .int (nI dg0), .int (nI n0), .int (nI t0), .int (nI dep0), .int (nI g0), .int (nI c0), .ref ms, .ref ch, .ref kp, .ref md, .ref rs, .ref pr])), (ms, .inl (g.1, 4, .inl (zk_ia Ms))), (ch, .inl (g.1, 4, .inl (zk_ia Cs))), (kp, .inl (g.1, 16, .inl (zk_ia Ks))), (rs, .inl (g.1, 31, .inl (zk_ia Rs))), (pr, .inl (g.1, 32, .inl (zk_ia Pp)))] := Z
      refine lv_aload_n hx hb dX8_begin_100 rfl (lv_at hl 2 rfl) ?_
      refine lv_iload_n hx hb dX8_begin_101 rfl (lv_at hl 3 rfl) ?_
      refine zk_put C Z in_X8 tyX8 tyX8_ok nmX8 0 rfl rfl 2 (by decide) q599 rfl rfl (v := .int (nI x)) rfl rfl (Nat.le_of_ble_eq_true rfl) dX8_begin_102 (fun H locs Z => ?_)
      have Z : zk_Z D A s H locs [(hm, .inr (7, [.int (nI 0), .int (nI 1), .int (nI x), .int (nI dg0), .int (nI n0), .int (nI t0), .int (nI dep0), .int (nI g0), .int (nI c0), .ref ms, .ref ch, .ref kp, .ref md, .ref rs, .ref pr])), (ms, .inl (g.1, 4, .inl (zk_ia Ms))), (ch, .inl (g.1, 4, .inl (zk_ia Cs))), (kp, .inl (g.1, 16, .inl (zk_ia Ks))), (rs, .inl (g.1, 31, .inl (zk_ia Rs))), (pr, .inl (g.1, 32, .inl (zk_ia Pp)))] := Z
      refine lv_aload_n hx hb dX8_begin_105 rfl (lv_at hl 2 rfl) ?_
      refine lv_iload hx hb dX8_begin_106 (lv_at hl 0 rfl) ?_
      refine zk_put C Z in_X8 tyX8 tyX8_ok nmX8 0 rfl rfl 3 (by decide) q600 rfl rfl (v := .int (nI (mdg x))) rfl rfl (Nat.le_of_ble_eq_true rfl) dX8_begin_108 (fun H locs Z => ?_)
      have Z : zk_Z D A s H locs [(hm, .inr (7, [.int (nI 0), .int (nI 1), .int (nI x), .int (nI (mdg x)), .int (nI n0), .int (nI t0), .int (nI dep0), .int (nI g0), .int (nI c0), .ref ms, .ref ch, .ref kp, .ref md, .ref rs, .ref pr])), (ms, .inl (g.1, 4, .inl (zk_ia Ms))), (ch, .inl (g.1, 4, .inl (zk_ia Cs))), (kp, .inl (g.1, 16, .inl (zk_ia Ks))), (rs, .inl (g.1, 31, .inl (zk_ia Rs))), (pr, .inl (g.1, 32, .inl (zk_ia Pp)))] := Z
      refine lv_aload_n hx hb dX8_begin_111 rfl (lv_at hl 2 rfl) ?_
      refine lv_iconst (v := nI 1) hx hb dX8_begin_112 (by decide) ?_
      refine lv_iload hx hb dX8_begin_113 (lv_at hl 0 rfl) ?_
      refine nr_ishl hx hb (by have := mdg_5 x; omega) dX8_begin_115 ?_
      rw [zk_1m x]
      refine lv_iconst (v := nI 1) hx hb dX8_begin_116 (by decide) ?_
      refine nr_isub hx hb (by omega) dX8_begin_117 ?_
      rw [show zk_nn x + 1 - 1 = zk_nn x from rfl]
      refine zk_put C Z in_X8 tyX8 tyX8_ok nmX8 0 rfl rfl 4 (by decide) q601 rfl rfl (v := .int (nI (zk_nn x))) rfl rfl (Nat.le_of_ble_eq_true rfl) dX8_begin_118 (fun H locs Z => ?_)
      have Z : zk_Z D A s H locs [(hm, .inr (7, [.int (nI 0), .int (nI 1), .int (nI x), .int (nI (mdg x)), .int (nI (zk_nn x)), .int (nI t0), .int (nI dep0), .int (nI g0), .int (nI c0), .ref ms, .ref ch, .ref kp, .ref md, .ref rs, .ref pr])), (ms, .inl (g.1, 4, .inl (zk_ia Ms))), (ch, .inl (g.1, 4, .inl (zk_ia Cs))), (kp, .inl (g.1, 16, .inl (zk_ia Ks))), (rs, .inl (g.1, 31, .inl (zk_ia Rs))), (pr, .inl (g.1, 32, .inl (zk_ia Pp)))] := Z
      refine lv_aload_n hx hb dX8_begin_121 rfl (lv_at hl 2 rfl) ?_
      refine lv_iload_n hx hb dX8_begin_122 rfl (lv_at hl 4 rfl) ?_
      refine zk_put C Z in_X8 tyX8 tyX8_ok nmX8 0 rfl rfl 5 (by decide) q602 rfl rfl (v := .int (nI t)) rfl rfl (Nat.le_of_ble_eq_true rfl) dX8_begin_123 (fun H locs Z => ?_)
      have Z : zk_Z D A s H locs [(hm, .inr (7, [.int (nI 0), .int (nI 1), .int (nI x), .int (nI (mdg x)), .int (nI (zk_nn x)), .int (nI t), .int (nI dep0), .int (nI g0), .int (nI c0), .ref ms, .ref ch, .ref kp, .ref md, .ref rs, .ref pr])), (ms, .inl (g.1, 4, .inl (zk_ia Ms))), (ch, .inl (g.1, 4, .inl (zk_ia Cs))), (kp, .inl (g.1, 16, .inl (zk_ia Ks))), (rs, .inl (g.1, 31, .inl (zk_ia Rs))), (pr, .inl (g.1, 32, .inl (zk_ia Pp)))] := Z
      refine lv_aload_n hx hb dX8_begin_126 rfl (lv_at hl 2 rfl) ?_
      refine lv_iload_n hx hb dX8_begin_127 rfl (lv_at hl 5 rfl) ?_
      refine zk_put C Z in_X8 tyX8 tyX8_ok nmX8 0 rfl rfl 6 (by decide) q603 rfl rfl (v := .int (nI dep)) rfl rfl (Nat.le_of_ble_eq_true rfl) dX8_begin_128 (fun H locs Z => ?_)
      have Z : zk_Z D A s H locs [(hm, .inr (7, [.int (nI 0), .int (nI 1), .int (nI x), .int (nI (mdg x)), .int (nI (zk_nn x)), .int (nI t), .int (nI dep), .int (nI g0), .int (nI c0), .ref ms, .ref ch, .ref kp, .ref md, .ref rs, .ref pr])), (ms, .inl (g.1, 4, .inl (zk_ia Ms))), (ch, .inl (g.1, 4, .inl (zk_ia Cs))), (kp, .inl (g.1, 16, .inl (zk_ia Ks))), (rs, .inl (g.1, 31, .inl (zk_ia Rs))), (pr, .inl (g.1, 32, .inl (zk_ia Pp)))] := Z
      refine lv_aload_n hx hb dX8_begin_131 rfl (lv_at hl 2 rfl) ?_
      refine zk_callV (cells' := 0) (slots' := 0) (rest := []) (n := 0) (wr := [(ms, .inl (g.1, 4, .inl (zk_ia Ms))), (ch, .inl (g.1, 4, .inl (zk_ia Cs))), (kp, .inl (g.1, 16, .inl (zk_ia Ks)))]) C Z (m8_mg l D g hm ms ch kp md rs pr 0 x (zk_nn x) t dep hpr t1 t3 g0 c0 Rs Pp hRs hPp) [0, 4, 5] [1, 2, 3] rfl rfl (by decide) (by decide) (by decide) 0 7 rfl rfl rfl q660 q662 qs8 q26 q663 (by decide +kernel) rfl (Nat.le_of_ble_eq_true rfl) (Nat.le_of_ble_eq_true rfl) (Nat.le_of_ble_eq_true rfl) (Nat.le_of_ble_eq_true rfl) rfl rfl hl.1 rfl (Nat.le_of_ble_eq_true rfl) dX8_begin_132 (fun v w1 H locs hq Z => ?_)
      obtain ⟨rfl, P1, R1, hP1, hR1, hR2, rfl⟩ := hq
      have Z : zk_Z D A s H locs [(hm, .inr (7, [.int (nI 0), .int (nI 1), .int (nI x), .int (nI (mdg x)), .int (nI (zk_nn x)), .int (nI t), .int (nI dep), .int (nI (gnr x (zk_nn x) t)), .int (nI (lgn x (zk_nn x) t)), .ref ms, .ref ch, .ref kp, .ref md, .ref rs, .ref pr])), (ms, .inl (g.1, 4, .inl (zk_ia Ms))), (ch, .inl (g.1, 4, .inl (zk_ia Cs))), (kp, .inl (g.1, 16, .inl (zk_ia Ks))), (rs, .inl (g.1, 31, .inl (zk_ia R1))), (pr, .inl (g.1, 32, .inl (zk_ia P1)))] := Z.sub [3, 0, 1, 2, 4, 5] (by decide) rfl
      refine W.eq (g2 := F0 mm 135 ls []) rfl ?_
      refine lv_iconst (v := nI 0) hx hb dX8_begin_135 (by decide) ?_
      refine lv_istore (lv' := [(6, .int (nI 0)), (5, .int (nI (mdg x))), (4, .int (nI 1)), (0, .ref hm), (1, .int (nI x)), (2, .int (nI t)), (3, .int (nI dep))]) hx hb dX8_begin_136 hl (by decide) rfl (fun ls hl => ?_)
      refine lp8_bg C hm ms ch kp md rs pr x t dep (gnr x (zk_nn x) t) (lgn x (zk_nn x) t) R1 P1 _ _ _ (fun H locs ls Z hl => ?_) 16 0 Ms Cs Ks H locs ls rfl hMs hCs hKs (zk_z44 hMs) (zk_z44 hCs) (zk_z16 hKs) Z (lv_sub hl [3, 0] rfl)
      refine lv_aload_n hx hb dX8_begin_179 rfl (lv_at hl 0 rfl) ?_
      refine zk_get C Z in_X8 0 rfl rfl 4 (by decide) q601 rfl (v := .int (nI (zk_nn x))) rfl dX8_begin_180 ?_
      refine lv_aload_n hx hb dX8_begin_183 rfl (lv_at hl 0 rfl) ?_
      refine zk_get C Z in_X8 0 rfl rfl 8 (by decide) q605 rfl (v := .int (nI (lgn x (zk_nn x) t))) rfl dX8_begin_184 ?_
      refine nr_isub hx hb (by omega) dX8_begin_187 ?_
      exact zk_iret C hr hlocks Z ⟨rfl, P1, R1, hP1, hR1, hR2, rfl⟩ (Nat.le_of_ble_eq_true rfl) (Nat.le_of_ble_eq_true rfl) dX8_begin_188
  · refine lv_iconst (v := nI 5) hx hb dX8_begin_42 (by decide) ?_
    refine lv_goto (tgt := 57) hx hb dX8_begin_43 (by decide) ?_
    refine W.eq (g2 := F0 mm 57 ls [.int (nI (mdg x))]) (by unfold mdg; rw [if_neg (by omega), if_neg (by omega)]) ?_
    refine lv_istore (lv' := [(5, .int (nI (mdg x))), (4, .int (nI 1)), (0, .ref hm), (1, .int (nI x)), (2, .int (nI t)), (3, .int (nI dep))]) hx hb dX8_begin_57 hl (by decide) rfl (fun ls hl => ?_)
    refine lv_aload_n hx hb dX8_begin_59 rfl (lv_at hl 2 rfl) ?_
    refine lv_iload hx hb dX8_begin_60 (lv_at hl 1 rfl) ?_
    refine nr_ne0 (tgt := 69) hx hb (by omega) dX8_begin_62 (by decide) (fun c_12 => ?_) (fun c_12 => absurd c_12 (by decide))
    refine lv_iload_n hx hb dX8_begin_69 rfl (lv_at hl 3 rfl) ?_
    refine lv_iload hx hb dX8_begin_70 (lv_at hl 0 rfl) ?_
    refine zk_callS (cells' := 0) (slots' := 0) (rest := [.ref hm]) (n := 2) (wr := [(hm, .inr (7, [.int (nI km), .int (nI bg), .int (nI p0), .int (nI dg0), .int (nI n0), .int (nI t0), .int (nI dep0), .int (nI g0), .int (nI c0), .ref ms, .ref ch, .ref kp, .ref md, .ref rs, .ref pr])), (ms, .inl (g.1, 4, .inl (zk_ia Ms))), (ch, .inl (g.1, 4, .inl (zk_ia Cs))), (kp, .inl (g.1, 16, .inl (zk_ia Ks))), (rs, .inl (g.1, 31, .inl (zk_ia Rs))), (pr, .inl (g.1, 32, .inl (zk_ia Pp)))]) C Z (m8_prim1 l D g x x8 x63 hpr) [] [0, 1, 2, 3, 4, 5] rfl rfl (by decide) (by decide) (by decide) q654 q655 q26 q656 (by decide +kernel) rfl (Nat.le_of_ble_eq_true rfl) (Nat.le_of_ble_eq_true rfl) (Nat.le_of_ble_eq_true rfl) (Nat.le_of_ble_eq_true rfl) rfl rfl hl.1 rfl (Nat.le_of_ble_eq_true rfl) dX8_begin_72 (fun v w1 H locs hq Z => ?_)
    obtain ⟨rfl, rfl⟩ := hq
    have Z : zk_Z D A s H locs [(hm, .inr (7, [.int (nI km), .int (nI bg), .int (nI p0), .int (nI dg0), .int (nI n0), .int (nI t0), .int (nI dep0), .int (nI g0), .int (nI c0), .ref ms, .ref ch, .ref kp, .ref md, .ref rs, .ref pr])), (ms, .inl (g.1, 4, .inl (zk_ia Ms))), (ch, .inl (g.1, 4, .inl (zk_ia Cs))), (kp, .inl (g.1, 16, .inl (zk_ia Ks))), (rs, .inl (g.1, 31, .inl (zk_ia Rs))), (pr, .inl (g.1, 32, .inl (zk_ia Pp)))] := Z.sub [0, 1, 2, 3, 4, 5] (by decide) rfl
    refine W.eq (g2 := F0 mm 75 ls [.int (nI 1), .ref hm]) rfl ?_
    refine nr_eq0 (tgt := 82) hx hb (by omega) dX8_begin_75 (by decide) (fun c_13 => absurd c_13 (by decide)) (fun c_13 => ?_)
    refine lv_iconst (v := nI 0) hx hb dX8_begin_78 (by decide) ?_
    refine lv_goto (tgt := 83) hx hb dX8_begin_79 (by decide) ?_
    refine zk_put C Z in_X8 tyX8 tyX8_ok nmX8 0 rfl rfl 0 (by decide) q597 rfl rfl (v := .int (nI 0)) rfl rfl (Nat.le_of_ble_eq_true rfl) dX8_begin_83 (fun H locs Z => ?_)
    have Z : zk_Z D A s H locs [(hm, .inr (7, [.int (nI 0), .int (nI bg), .int (nI p0), .int (nI dg0), .int (nI n0), .int (nI t0), .int (nI dep0), .int (nI g0), .int (nI c0), .ref ms, .ref ch, .ref kp, .ref md, .ref rs, .ref pr])), (ms, .inl (g.1, 4, .inl (zk_ia Ms))), (ch, .inl (g.1, 4, .inl (zk_ia Cs))), (kp, .inl (g.1, 16, .inl (zk_ia Ks))), (rs, .inl (g.1, 31, .inl (zk_ia Rs))), (pr, .inl (g.1, 32, .inl (zk_ia Pp)))] := Z
    refine lv_aload_n hx hb dX8_begin_86 rfl (lv_at hl 2 rfl) ?_
    refine zk_get C Z in_X8 0 rfl rfl 0 (by decide) q597 rfl (v := .int (nI 0)) rfl dX8_begin_87 ?_
    refine nr_le0 (tgt := 95) hx hb (by decide) dX8_begin_90 (by decide) (fun c_14 => ?_) (fun c_14 => absurd c_14 (by decide))
    refine lv_aload_n hx hb dX8_begin_95 rfl (lv_at hl 2 rfl) ?_
    refine lv_iconst (v := nI 1) hx hb dX8_begin_96 (by decide) ?_
    refine zk_put C Z in_X8 tyX8 tyX8_ok nmX8 0 rfl rfl 1 (by decide) q598 rfl rfl (v := .int (nI 1)) rfl rfl (Nat.le_of_ble_eq_true rfl) dX8_begin_97 (fun H locs Z => ?_)
    have Z : zk_Z D A s H locs [(hm, .inr (7, [.int (nI 0), .int (nI 1), .int (nI p0), .int (nI dg0), .int (nI n0), .int (nI t0), .int (nI dep0), .int (nI g0), .int (nI c0), .ref ms, .ref ch, .ref kp, .ref md, .ref rs, .ref pr])), (ms, .inl (g.1, 4, .inl (zk_ia Ms))), (ch, .inl (g.1, 4, .inl (zk_ia Cs))), (kp, .inl (g.1, 16, .inl (zk_ia Ks))), (rs, .inl (g.1, 31, .inl (zk_ia Rs))), (pr, .inl (g.1, 32, .inl (zk_ia Pp)))] := Z
    refine lv_aload_n hx hb dX8_begin_100 rfl (lv_at hl 2 rfl) ?_
    refine lv_iload_n hx hb dX8_begin_101 rfl (lv_at hl 3 rfl) ?_
    refine zk_put C Z in_X8 tyX8 tyX8_ok nmX8 0 rfl rfl 2 (by decide) q599 rfl rfl (v := .int (nI x)) rfl rfl (Nat.le_of_ble_eq_true rfl) dX8_begin_102 (fun H locs Z => ?_)
    have Z : zk_Z D A s H locs [(hm, .inr (7, [.int (nI 0), .int (nI 1), .int (nI x), .int (nI dg0), .int (nI n0), .int (nI t0), .int (nI dep0), .int (nI g0), .int (nI c0), .ref ms, .ref ch, .ref kp, .ref md, .ref rs, .ref pr])), (ms, .inl (g.1, 4, .inl (zk_ia Ms))), (ch, .inl (g.1, 4, .inl (zk_ia Cs))), (kp, .inl (g.1, 16, .inl (zk_ia Ks))), (rs, .inl (g.1, 31, .inl (zk_ia Rs))), (pr, .inl (g.1, 32, .inl (zk_ia Pp)))] := Z
    refine lv_aload_n hx hb dX8_begin_105 rfl (lv_at hl 2 rfl) ?_
    refine lv_iload hx hb dX8_begin_106 (lv_at hl 0 rfl) ?_
    refine zk_put C Z in_X8 tyX8 tyX8_ok nmX8 0 rfl rfl 3 (by decide) q600 rfl rfl (v := .int (nI (mdg x))) rfl rfl (Nat.le_of_ble_eq_true rfl) dX8_begin_108 (fun H locs Z => ?_)
    have Z : zk_Z D A s H locs [(hm, .inr (7, [.int (nI 0), .int (nI 1), .int (nI x), .int (nI (mdg x)), .int (nI n0), .int (nI t0), .int (nI dep0), .int (nI g0), .int (nI c0), .ref ms, .ref ch, .ref kp, .ref md, .ref rs, .ref pr])), (ms, .inl (g.1, 4, .inl (zk_ia Ms))), (ch, .inl (g.1, 4, .inl (zk_ia Cs))), (kp, .inl (g.1, 16, .inl (zk_ia Ks))), (rs, .inl (g.1, 31, .inl (zk_ia Rs))), (pr, .inl (g.1, 32, .inl (zk_ia Pp)))] := Z
    refine lv_aload_n hx hb dX8_begin_111 rfl (lv_at hl 2 rfl) ?_
    refine lv_iconst (v := nI 1) hx hb dX8_begin_112 (by decide) ?_
    refine lv_iload hx hb dX8_begin_113 (lv_at hl 0 rfl) ?_
    refine nr_ishl hx hb (by have := mdg_5 x; omega) dX8_begin_115 ?_
    rw [zk_1m x]
    refine lv_iconst (v := nI 1) hx hb dX8_begin_116 (by decide) ?_
    refine nr_isub hx hb (by omega) dX8_begin_117 ?_
    rw [show zk_nn x + 1 - 1 = zk_nn x from rfl]
    refine zk_put C Z in_X8 tyX8 tyX8_ok nmX8 0 rfl rfl 4 (by decide) q601 rfl rfl (v := .int (nI (zk_nn x))) rfl rfl (Nat.le_of_ble_eq_true rfl) dX8_begin_118 (fun H locs Z => ?_)
    have Z : zk_Z D A s H locs [(hm, .inr (7, [.int (nI 0), .int (nI 1), .int (nI x), .int (nI (mdg x)), .int (nI (zk_nn x)), .int (nI t0), .int (nI dep0), .int (nI g0), .int (nI c0), .ref ms, .ref ch, .ref kp, .ref md, .ref rs, .ref pr])), (ms, .inl (g.1, 4, .inl (zk_ia Ms))), (ch, .inl (g.1, 4, .inl (zk_ia Cs))), (kp, .inl (g.1, 16, .inl (zk_ia Ks))), (rs, .inl (g.1, 31, .inl (zk_ia Rs))), (pr, .inl (g.1, 32, .inl (zk_ia Pp)))] := Z
    refine lv_aload_n hx hb dX8_begin_121 rfl (lv_at hl 2 rfl) ?_
    refine lv_iload_n hx hb dX8_begin_122 rfl (lv_at hl 4 rfl) ?_
    refine zk_put C Z in_X8 tyX8 tyX8_ok nmX8 0 rfl rfl 5 (by decide) q602 rfl rfl (v := .int (nI t)) rfl rfl (Nat.le_of_ble_eq_true rfl) dX8_begin_123 (fun H locs Z => ?_)
    have Z : zk_Z D A s H locs [(hm, .inr (7, [.int (nI 0), .int (nI 1), .int (nI x), .int (nI (mdg x)), .int (nI (zk_nn x)), .int (nI t), .int (nI dep0), .int (nI g0), .int (nI c0), .ref ms, .ref ch, .ref kp, .ref md, .ref rs, .ref pr])), (ms, .inl (g.1, 4, .inl (zk_ia Ms))), (ch, .inl (g.1, 4, .inl (zk_ia Cs))), (kp, .inl (g.1, 16, .inl (zk_ia Ks))), (rs, .inl (g.1, 31, .inl (zk_ia Rs))), (pr, .inl (g.1, 32, .inl (zk_ia Pp)))] := Z
    refine lv_aload_n hx hb dX8_begin_126 rfl (lv_at hl 2 rfl) ?_
    refine lv_iload_n hx hb dX8_begin_127 rfl (lv_at hl 5 rfl) ?_
    refine zk_put C Z in_X8 tyX8 tyX8_ok nmX8 0 rfl rfl 6 (by decide) q603 rfl rfl (v := .int (nI dep)) rfl rfl (Nat.le_of_ble_eq_true rfl) dX8_begin_128 (fun H locs Z => ?_)
    have Z : zk_Z D A s H locs [(hm, .inr (7, [.int (nI 0), .int (nI 1), .int (nI x), .int (nI (mdg x)), .int (nI (zk_nn x)), .int (nI t), .int (nI dep), .int (nI g0), .int (nI c0), .ref ms, .ref ch, .ref kp, .ref md, .ref rs, .ref pr])), (ms, .inl (g.1, 4, .inl (zk_ia Ms))), (ch, .inl (g.1, 4, .inl (zk_ia Cs))), (kp, .inl (g.1, 16, .inl (zk_ia Ks))), (rs, .inl (g.1, 31, .inl (zk_ia Rs))), (pr, .inl (g.1, 32, .inl (zk_ia Pp)))] := Z
    refine lv_aload_n hx hb dX8_begin_131 rfl (lv_at hl 2 rfl) ?_
    refine zk_callV (cells' := 0) (slots' := 0) (rest := []) (n := 0) (wr := [(ms, .inl (g.1, 4, .inl (zk_ia Ms))), (ch, .inl (g.1, 4, .inl (zk_ia Cs))), (kp, .inl (g.1, 16, .inl (zk_ia Ks)))]) C Z (m8_mg l D g hm ms ch kp md rs pr 0 x (zk_nn x) t dep hpr t1 t3 g0 c0 Rs Pp hRs hPp) [0, 4, 5] [1, 2, 3] rfl rfl (by decide) (by decide) (by decide) 0 7 rfl rfl rfl q660 q662 qs8 q26 q663 (by decide +kernel) rfl (Nat.le_of_ble_eq_true rfl) (Nat.le_of_ble_eq_true rfl) (Nat.le_of_ble_eq_true rfl) (Nat.le_of_ble_eq_true rfl) rfl rfl hl.1 rfl (Nat.le_of_ble_eq_true rfl) dX8_begin_132 (fun v w1 H locs hq Z => ?_)
    obtain ⟨rfl, P1, R1, hP1, hR1, hR2, rfl⟩ := hq
    have Z : zk_Z D A s H locs [(hm, .inr (7, [.int (nI 0), .int (nI 1), .int (nI x), .int (nI (mdg x)), .int (nI (zk_nn x)), .int (nI t), .int (nI dep), .int (nI (gnr x (zk_nn x) t)), .int (nI (lgn x (zk_nn x) t)), .ref ms, .ref ch, .ref kp, .ref md, .ref rs, .ref pr])), (ms, .inl (g.1, 4, .inl (zk_ia Ms))), (ch, .inl (g.1, 4, .inl (zk_ia Cs))), (kp, .inl (g.1, 16, .inl (zk_ia Ks))), (rs, .inl (g.1, 31, .inl (zk_ia R1))), (pr, .inl (g.1, 32, .inl (zk_ia P1)))] := Z.sub [3, 0, 1, 2, 4, 5] (by decide) rfl
    refine W.eq (g2 := F0 mm 135 ls []) rfl ?_
    refine lv_iconst (v := nI 0) hx hb dX8_begin_135 (by decide) ?_
    refine lv_istore (lv' := [(6, .int (nI 0)), (5, .int (nI (mdg x))), (4, .int (nI 1)), (0, .ref hm), (1, .int (nI x)), (2, .int (nI t)), (3, .int (nI dep))]) hx hb dX8_begin_136 hl (by decide) rfl (fun ls hl => ?_)
    refine lp8_bg C hm ms ch kp md rs pr x t dep (gnr x (zk_nn x) t) (lgn x (zk_nn x) t) R1 P1 _ _ _ (fun H locs ls Z hl => ?_) 16 0 Ms Cs Ks H locs ls rfl hMs hCs hKs (zk_z44 hMs) (zk_z44 hCs) (zk_z16 hKs) Z (lv_sub hl [3, 0] rfl)
    refine lv_aload_n hx hb dX8_begin_179 rfl (lv_at hl 0 rfl) ?_
    refine zk_get C Z in_X8 0 rfl rfl 4 (by decide) q601 rfl (v := .int (nI (zk_nn x))) rfl dX8_begin_180 ?_
    refine lv_aload_n hx hb dX8_begin_183 rfl (lv_at hl 0 rfl) ?_
    refine zk_get C Z in_X8 0 rfl rfl 8 (by decide) q605 rfl (v := .int (nI (lgn x (zk_nn x) t))) rfl dX8_begin_184 ?_
    refine nr_isub hx hb (by omega) dX8_begin_187 ?_
    exact zk_iret C hr hlocks Z ⟨rfl, P1, R1, hP1, hR1, hR2, rfl⟩ (Nat.le_of_ble_eq_true rfl) (Nat.le_of_ble_eq_true rfl) dX8_begin_188

set_option maxHeartbeats 4000000 in
/-- model: begin, not primitive -/
theorem w8_begin_p (l : Launch) (D : va_G) (g : G4) (hm ms ch kp md rs pr : Nat) (km bg p0 dg0 n0 t0 dep0 g0 c0 : Nat) (x t dep : Nat) (t1 : 1 ≤ t) (t3 : t ≤ 3) (d1 : 1 ≤ dep) (d4 : dep ≤ 4) (x8 : 8 ≤ x) (x63 : x ≤ 63) (hpr : (x, zk_nn x) ∉ zk_pr) : zk_M l yX8_begin (ws_ yX8_begin cX8_begin 7 (some .int)) (zk_R 3 0 0) D g [.ref hm, .int (nI x), .int (nI t), .int (nI dep)] [(hm, .inr (7, [.int (nI km), .int (nI bg), .int (nI p0), .int (nI dg0), .int (nI n0), .int (nI t0), .int (nI dep0), .int (nI g0), .int (nI c0), .ref ms, .ref ch, .ref kp, .ref md, .ref rs, .ref pr]))] (zk_D (some (.int (nI 0))) [(hm, .inr (7, [.int (nI 2), .int (nI bg), .int (nI p0), .int (nI dg0), .int (nI n0), .int (nI t0), .int (nI dep0), .int (nI g0), .int (nI c0), .ref ms, .ref ch, .ref kp, .ref md, .ref rs, .ref pr]))]) := by
  refine zk_ofW (by decide) (Nat.le_of_ble_eq_true rfl) ?_
  intro pg ev s mm below meth cd A C hr hlocks hname Z ls hl
  have hx := C.1.1
  have hb := C.1.2.1
  have hml := C.1.2.2.1
  have hown := C.1.2.2.2.1
  have hts := C.1.2.2.2.2
  have hl : lv_has ls 7 [(0, .ref hm), (1, .int (nI x)), (2, .int (nI t)), (3, .int (nI dep))] := hl
  refine lv_iload_n hx hb dX8_begin_0 rfl (lv_at hl 2 rfl) ?_
  refine lv_iconst (v := nI 1) hx hb dX8_begin_1 (by decide) ?_
  refine lv_iconst (v := nI 3) hx hb dX8_begin_2 (by decide) ?_
  refine zk_callS (cells' := 0) (slots' := 0) (rest := []) (n := 3) (wr := [(hm, .inr (7, [.int (nI km), .int (nI bg), .int (nI p0), .int (nI dg0), .int (nI n0), .int (nI t0), .int (nI dep0), .int (nI g0), .int (nI c0), .ref ms, .ref ch, .ref kp, .ref md, .ref rs, .ref pr]))]) C Z (m8_in1 l D g (nI t) (nI 1) (nI 3) (zk_le t1 (by omega)) (zk_le t3 (by decide))) [] [0] rfl rfl (by decide) (by decide) (by decide) q651 q652 q26 q653 (by decide +kernel) rfl (Nat.le_of_ble_eq_true rfl) (Nat.le_of_ble_eq_true rfl) (Nat.le_of_ble_eq_true rfl) (Nat.le_of_ble_eq_true rfl) rfl rfl hl.1 rfl (Nat.le_of_ble_eq_true rfl) dX8_begin_3 (fun v w1 H locs hq Z => ?_)
  obtain ⟨rfl, rfl⟩ := hq
  have Z : zk_Z D A s H locs [(hm, .inr (7, [.int (nI km), .int (nI bg), .int (nI p0), .int (nI dg0), .int (nI n0), .int (nI t0), .int (nI dep0), .int (nI g0), .int (nI c0), .ref ms, .ref ch, .ref kp, .ref md, .ref rs, .ref pr]))] := Z.sub [0] (by decide) rfl
  refine W.eq (g2 := F0 mm 6 ls [.int (nI 1)]) rfl ?_
  refine nr_eq0 (tgt := 33) hx hb (by omega) dX8_begin_6 (by decide) (fun c_1 => absurd c_1 (by decide)) (fun c_1 => ?_)
  refine lv_iload_n hx hb dX8_begin_9 rfl (lv_at hl 3 rfl) ?_
  refine lv_iconst (v := nI 1) hx hb dX8_begin_10 (by decide) ?_
  refine lv_iconst (v := nI 4) hx hb dX8_begin_11 (by decide) ?_
  refine zk_callS (cells' := 0) (slots' := 0) (rest := []) (n := 3) (wr := [(hm, .inr (7, [.int (nI km), .int (nI bg), .int (nI p0), .int (nI dg0), .int (nI n0), .int (nI t0), .int (nI dep0), .int (nI g0), .int (nI c0), .ref ms, .ref ch, .ref kp, .ref md, .ref rs, .ref pr]))]) C Z (m8_in1 l D g (nI dep) (nI 1) (nI 4) (zk_le d1 (by omega)) (zk_le d4 (by decide))) [] [0] rfl rfl (by decide) (by decide) (by decide) q651 q652 q26 q653 (by decide +kernel) rfl (Nat.le_of_ble_eq_true rfl) (Nat.le_of_ble_eq_true rfl) (Nat.le_of_ble_eq_true rfl) (Nat.le_of_ble_eq_true rfl) rfl rfl hl.1 rfl (Nat.le_of_ble_eq_true rfl) dX8_begin_12 (fun v w1 H locs hq Z => ?_)
  obtain ⟨rfl, rfl⟩ := hq
  have Z : zk_Z D A s H locs [(hm, .inr (7, [.int (nI km), .int (nI bg), .int (nI p0), .int (nI dg0), .int (nI n0), .int (nI t0), .int (nI dep0), .int (nI g0), .int (nI c0), .ref ms, .ref ch, .ref kp, .ref md, .ref rs, .ref pr]))] := Z.sub [0] (by decide) rfl
  refine W.eq (g2 := F0 mm 15 ls [.int (nI 1)]) rfl ?_
  refine nr_eq0 (tgt := 33) hx hb (by omega) dX8_begin_15 (by decide) (fun c_2 => absurd c_2 (by decide)) (fun c_2 => ?_)
  refine lv_iload_n hx hb dX8_begin_18 rfl (lv_at hl 1 rfl) ?_
  refine lv_bipush (v := nI 8) hx hb dX8_begin_19 (by decide) ?_
  refine lv_bipush (v := nI 63) hx hb dX8_begin_21 (by decide) ?_
  refine zk_callS (cells' := 0) (slots' := 0) (rest := []) (n := 3) (wr := [(hm, .inr (7, [.int (nI km), .int (nI bg), .int (nI p0), .int (nI dg0), .int (nI n0), .int (nI t0), .int (nI dep0), .int (nI g0), .int (nI c0), .ref ms, .ref ch, .ref kp, .ref md, .ref rs, .ref pr]))]) C Z (m8_in1 l D g (nI x) (nI 8) (nI 63) (zk_le x8 (by omega)) (zk_le x63 (by decide))) [] [0] rfl rfl (by decide) (by decide) (by decide) q651 q652 q26 q653 (by decide +kernel) rfl (Nat.le_of_ble_eq_true rfl) (Nat.le_of_ble_eq_true rfl) (Nat.le_of_ble_eq_true rfl) (Nat.le_of_ble_eq_true rfl) rfl rfl hl.1 rfl (Nat.le_of_ble_eq_true rfl) dX8_begin_23 (fun v w1 H locs hq Z => ?_)
  obtain ⟨rfl, rfl⟩ := hq
  have Z : zk_Z D A s H locs [(hm, .inr (7, [.int (nI km), .int (nI bg), .int (nI p0), .int (nI dg0), .int (nI n0), .int (nI t0), .int (nI dep0), .int (nI g0), .int (nI c0), .ref ms, .ref ch, .ref kp, .ref md, .ref rs, .ref pr]))] := Z.sub [0] (by decide) rfl
  refine W.eq (g2 := F0 mm 26 ls [.int (nI 1)]) rfl ?_
  refine nr_eq0 (tgt := 33) hx hb (by omega) dX8_begin_26 (by decide) (fun c_3 => absurd c_3 (by decide)) (fun c_3 => ?_)
  refine lv_iconst (v := nI 1) hx hb dX8_begin_29 (by decide) ?_
  refine lv_goto (tgt := 34) hx hb dX8_begin_30 (by decide) ?_
  refine lv_istore (lv' := [(4, .int (nI 1)), (0, .ref hm), (1, .int (nI x)), (2, .int (nI t)), (3, .int (nI dep))]) hx hb dX8_begin_34 hl (by decide) rfl (fun ls hl => ?_)
  refine lv_iload_n hx hb dX8_begin_36 rfl (lv_at hl 2 rfl) ?_
  refine lv_bipush (v := nI 31) hx hb dX8_begin_37 (by decide) ?_
  refine nr_le (tgt := 46) hx hb (by omega) (by decide) dX8_begin_39 (by decide) (fun c_4 => ?_) (fun c_4 => ?_)
  · refine lv_iload_n hx hb dX8_begin_46 rfl (lv_at hl 2 rfl) ?_
    refine lv_bipush (v := nI 15) hx hb dX8_begin_47 (by decide) ?_
    refine nr_le (tgt := 56) hx hb (by omega) (by decide) dX8_begin_49 (by decide) (fun c_5 => ?_) (fun c_5 => ?_)
    · refine lv_iconst (v := nI 3) hx hb dX8_begin_56 (by decide) ?_
      refine W.eq (g2 := F0 mm 57 ls [.int (nI (mdg x))]) (by unfold mdg; rw [if_pos (by omega)]) ?_
      refine lv_istore (lv' := [(5, .int (nI (mdg x))), (4, .int (nI 1)), (0, .ref hm), (1, .int (nI x)), (2, .int (nI t)), (3, .int (nI dep))]) hx hb dX8_begin_57 hl (by decide) rfl (fun ls hl => ?_)
      refine lv_aload_n hx hb dX8_begin_59 rfl (lv_at hl 2 rfl) ?_
      refine lv_iload hx hb dX8_begin_60 (lv_at hl 1 rfl) ?_
      refine nr_ne0 (tgt := 69) hx hb (by omega) dX8_begin_62 (by decide) (fun c_6 => ?_) (fun c_6 => absurd c_6 (by decide))
      refine lv_iload_n hx hb dX8_begin_69 rfl (lv_at hl 3 rfl) ?_
      refine lv_iload hx hb dX8_begin_70 (lv_at hl 0 rfl) ?_
      refine zk_callS (cells' := 0) (slots' := 0) (rest := [.ref hm]) (n := 2) (wr := [(hm, .inr (7, [.int (nI km), .int (nI bg), .int (nI p0), .int (nI dg0), .int (nI n0), .int (nI t0), .int (nI dep0), .int (nI g0), .int (nI c0), .ref ms, .ref ch, .ref kp, .ref md, .ref rs, .ref pr]))]) C Z (m8_prim0 l D g x x8 x63 hpr) [] [0] rfl rfl (by decide) (by decide) (by decide) q654 q655 q26 q656 (by decide +kernel) rfl (Nat.le_of_ble_eq_true rfl) (Nat.le_of_ble_eq_true rfl) (Nat.le_of_ble_eq_true rfl) (Nat.le_of_ble_eq_true rfl) rfl rfl hl.1 rfl (Nat.le_of_ble_eq_true rfl) dX8_begin_72 (fun v w1 H locs hq Z => ?_)
      obtain ⟨rfl, rfl⟩ := hq
      have Z : zk_Z D A s H locs [(hm, .inr (7, [.int (nI km), .int (nI bg), .int (nI p0), .int (nI dg0), .int (nI n0), .int (nI t0), .int (nI dep0), .int (nI g0), .int (nI c0), .ref ms, .ref ch, .ref kp, .ref md, .ref rs, .ref pr]))] := Z.sub [0] (by decide) rfl
      refine W.eq (g2 := F0 mm 75 ls [.int (nI 0), .ref hm]) rfl ?_
      refine nr_eq0 (tgt := 82) hx hb (by omega) dX8_begin_75 (by decide) (fun c_7 => ?_) (fun c_7 => absurd c_7 (fun q => q rfl))
      refine lv_iconst (v := nI 2) hx hb dX8_begin_82 (by decide) ?_
      refine zk_put C Z in_X8 tyX8 tyX8_ok nmX8 0 rfl rfl 0 (by decide) q597 rfl rfl (v := .int (nI 2)) rfl rfl (Nat.le_of_ble_eq_true rfl) dX8_begin_83 (fun H locs Z => ?_)
      have Z : zk_Z D A s H locs [(hm, .inr (7, [.int (nI 2), .int (nI bg), .int (nI p0), .int (nI dg0), .int (nI n0), .int (nI t0), .int (nI dep0), .int (nI g0), .int (nI c0), .ref ms, .ref ch, .ref kp, .ref md, .ref rs, .ref pr]))] := Z
      refine lv_aload_n hx hb dX8_begin_86 rfl (lv_at hl 2 rfl) ?_
      refine zk_get C Z in_X8 0 rfl rfl 0 (by decide) q597 rfl (v := .int (nI 2)) rfl dX8_begin_87 ?_
      refine nr_le0 (tgt := 95) hx hb (by decide) dX8_begin_90 (by decide) (fun c_8 => absurd c_8 (by decide)) (fun c_8 => ?_)
      refine lv_iconst (v := nI 0) hx hb dX8_begin_93 (by decide) ?_
      exact zk_iret C hr hlocks Z ⟨rfl, rfl⟩ (Nat.le_of_ble_eq_true rfl) (Nat.le_of_ble_eq_true rfl) dX8_begin_94
    · refine lv_iconst (v := nI 4) hx hb dX8_begin_52 (by decide) ?_
      refine lv_goto (tgt := 57) hx hb dX8_begin_53 (by decide) ?_
      refine W.eq (g2 := F0 mm 57 ls [.int (nI (mdg x))]) (by unfold mdg; rw [if_neg (by omega), if_pos (by omega)]) ?_
      refine lv_istore (lv' := [(5, .int (nI (mdg x))), (4, .int (nI 1)), (0, .ref hm), (1, .int (nI x)), (2, .int (nI t)), (3, .int (nI dep))]) hx hb dX8_begin_57 hl (by decide) rfl (fun ls hl => ?_)
      refine lv_aload_n hx hb dX8_begin_59 rfl (lv_at hl 2 rfl) ?_
      refine lv_iload hx hb dX8_begin_60 (lv_at hl 1 rfl) ?_
      refine nr_ne0 (tgt := 69) hx hb (by omega) dX8_begin_62 (by decide) (fun c_9 => ?_) (fun c_9 => absurd c_9 (by decide))
      refine lv_iload_n hx hb dX8_begin_69 rfl (lv_at hl 3 rfl) ?_
      refine lv_iload hx hb dX8_begin_70 (lv_at hl 0 rfl) ?_
      refine zk_callS (cells' := 0) (slots' := 0) (rest := [.ref hm]) (n := 2) (wr := [(hm, .inr (7, [.int (nI km), .int (nI bg), .int (nI p0), .int (nI dg0), .int (nI n0), .int (nI t0), .int (nI dep0), .int (nI g0), .int (nI c0), .ref ms, .ref ch, .ref kp, .ref md, .ref rs, .ref pr]))]) C Z (m8_prim0 l D g x x8 x63 hpr) [] [0] rfl rfl (by decide) (by decide) (by decide) q654 q655 q26 q656 (by decide +kernel) rfl (Nat.le_of_ble_eq_true rfl) (Nat.le_of_ble_eq_true rfl) (Nat.le_of_ble_eq_true rfl) (Nat.le_of_ble_eq_true rfl) rfl rfl hl.1 rfl (Nat.le_of_ble_eq_true rfl) dX8_begin_72 (fun v w1 H locs hq Z => ?_)
      obtain ⟨rfl, rfl⟩ := hq
      have Z : zk_Z D A s H locs [(hm, .inr (7, [.int (nI km), .int (nI bg), .int (nI p0), .int (nI dg0), .int (nI n0), .int (nI t0), .int (nI dep0), .int (nI g0), .int (nI c0), .ref ms, .ref ch, .ref kp, .ref md, .ref rs, .ref pr]))] := Z.sub [0] (by decide) rfl
      refine W.eq (g2 := F0 mm 75 ls [.int (nI 0), .ref hm]) rfl ?_
      refine nr_eq0 (tgt := 82) hx hb (by omega) dX8_begin_75 (by decide) (fun c_10 => ?_) (fun c_10 => absurd c_10 (fun q => q rfl))
      refine lv_iconst (v := nI 2) hx hb dX8_begin_82 (by decide) ?_
      refine zk_put C Z in_X8 tyX8 tyX8_ok nmX8 0 rfl rfl 0 (by decide) q597 rfl rfl (v := .int (nI 2)) rfl rfl (Nat.le_of_ble_eq_true rfl) dX8_begin_83 (fun H locs Z => ?_)
      have Z : zk_Z D A s H locs [(hm, .inr (7, [.int (nI 2), .int (nI bg), .int (nI p0), .int (nI dg0), .int (nI n0), .int (nI t0), .int (nI dep0), .int (nI g0), .int (nI c0), .ref ms, .ref ch, .ref kp, .ref md, .ref rs, .ref pr]))] := Z
      refine lv_aload_n hx hb dX8_begin_86 rfl (lv_at hl 2 rfl) ?_
      refine zk_get C Z in_X8 0 rfl rfl 0 (by decide) q597 rfl (v := .int (nI 2)) rfl dX8_begin_87 ?_
      refine nr_le0 (tgt := 95) hx hb (by decide) dX8_begin_90 (by decide) (fun c_11 => absurd c_11 (by decide)) (fun c_11 => ?_)
      refine lv_iconst (v := nI 0) hx hb dX8_begin_93 (by decide) ?_
      exact zk_iret C hr hlocks Z ⟨rfl, rfl⟩ (Nat.le_of_ble_eq_true rfl) (Nat.le_of_ble_eq_true rfl) dX8_begin_94
  · refine lv_iconst (v := nI 5) hx hb dX8_begin_42 (by decide) ?_
    refine lv_goto (tgt := 57) hx hb dX8_begin_43 (by decide) ?_
    refine W.eq (g2 := F0 mm 57 ls [.int (nI (mdg x))]) (by unfold mdg; rw [if_neg (by omega), if_neg (by omega)]) ?_
    refine lv_istore (lv' := [(5, .int (nI (mdg x))), (4, .int (nI 1)), (0, .ref hm), (1, .int (nI x)), (2, .int (nI t)), (3, .int (nI dep))]) hx hb dX8_begin_57 hl (by decide) rfl (fun ls hl => ?_)
    refine lv_aload_n hx hb dX8_begin_59 rfl (lv_at hl 2 rfl) ?_
    refine lv_iload hx hb dX8_begin_60 (lv_at hl 1 rfl) ?_
    refine nr_ne0 (tgt := 69) hx hb (by omega) dX8_begin_62 (by decide) (fun c_12 => ?_) (fun c_12 => absurd c_12 (by decide))
    refine lv_iload_n hx hb dX8_begin_69 rfl (lv_at hl 3 rfl) ?_
    refine lv_iload hx hb dX8_begin_70 (lv_at hl 0 rfl) ?_
    refine zk_callS (cells' := 0) (slots' := 0) (rest := [.ref hm]) (n := 2) (wr := [(hm, .inr (7, [.int (nI km), .int (nI bg), .int (nI p0), .int (nI dg0), .int (nI n0), .int (nI t0), .int (nI dep0), .int (nI g0), .int (nI c0), .ref ms, .ref ch, .ref kp, .ref md, .ref rs, .ref pr]))]) C Z (m8_prim0 l D g x x8 x63 hpr) [] [0] rfl rfl (by decide) (by decide) (by decide) q654 q655 q26 q656 (by decide +kernel) rfl (Nat.le_of_ble_eq_true rfl) (Nat.le_of_ble_eq_true rfl) (Nat.le_of_ble_eq_true rfl) (Nat.le_of_ble_eq_true rfl) rfl rfl hl.1 rfl (Nat.le_of_ble_eq_true rfl) dX8_begin_72 (fun v w1 H locs hq Z => ?_)
    obtain ⟨rfl, rfl⟩ := hq
    have Z : zk_Z D A s H locs [(hm, .inr (7, [.int (nI km), .int (nI bg), .int (nI p0), .int (nI dg0), .int (nI n0), .int (nI t0), .int (nI dep0), .int (nI g0), .int (nI c0), .ref ms, .ref ch, .ref kp, .ref md, .ref rs, .ref pr]))] := Z.sub [0] (by decide) rfl
    refine W.eq (g2 := F0 mm 75 ls [.int (nI 0), .ref hm]) rfl ?_
    refine nr_eq0 (tgt := 82) hx hb (by omega) dX8_begin_75 (by decide) (fun c_13 => ?_) (fun c_13 => absurd c_13 (fun q => q rfl))
    refine lv_iconst (v := nI 2) hx hb dX8_begin_82 (by decide) ?_
    refine zk_put C Z in_X8 tyX8 tyX8_ok nmX8 0 rfl rfl 0 (by decide) q597 rfl rfl (v := .int (nI 2)) rfl rfl (Nat.le_of_ble_eq_true rfl) dX8_begin_83 (fun H locs Z => ?_)
    have Z : zk_Z D A s H locs [(hm, .inr (7, [.int (nI 2), .int (nI bg), .int (nI p0), .int (nI dg0), .int (nI n0), .int (nI t0), .int (nI dep0), .int (nI g0), .int (nI c0), .ref ms, .ref ch, .ref kp, .ref md, .ref rs, .ref pr]))] := Z
    refine lv_aload_n hx hb dX8_begin_86 rfl (lv_at hl 2 rfl) ?_
    refine zk_get C Z in_X8 0 rfl rfl 0 (by decide) q597 rfl (v := .int (nI 2)) rfl dX8_begin_87 ?_
    refine nr_le0 (tgt := 95) hx hb (by decide) dX8_begin_90 (by decide) (fun c_14 => absurd c_14 (by decide)) (fun c_14 => ?_)
    refine lv_iconst (v := nI 0) hx hb dX8_begin_93 (by decide) ?_
    exact zk_iret C hr hlocks Z ⟨rfl, rfl⟩ (Nat.le_of_ble_eq_true rfl) (Nat.le_of_ble_eq_true rfl) dX8_begin_94

set_option maxHeartbeats 4000000 in
/-- model: begin, out of bounds -/
theorem w8_begin_a (l : Launch) (D : va_G) (g : G4) (hm ms ch kp md rs pr : Nat) (km bg p0 dg0 n0 t0 dep0 g0 c0 : Nat) (x t dep : Int32) (h0_ : ¬ (nI 1 ≤ t ∧ t ≤ nI 3)) : zk_M l yX8_begin (ws_ yX8_begin cX8_begin 7 (some .int)) (zk_R 3 0 0) D g [.ref hm, .int x, .int t, .int dep] [(hm, .inr (7, [.int (nI km), .int (nI bg), .int (nI p0), .int (nI dg0), .int (nI n0), .int (nI t0), .int (nI dep0), .int (nI g0), .int (nI c0), .ref ms, .ref ch, .ref kp, .ref md, .ref rs, .ref pr]))] (zk_D (some (.int (nI 0))) [(hm, .inr (7, [.int (nI 1), .int (nI bg), .int (nI p0), .int (nI dg0), .int (nI n0), .int (nI t0), .int (nI dep0), .int (nI g0), .int (nI c0), .ref ms, .ref ch, .ref kp, .ref md, .ref rs, .ref pr]))]) := by
  refine zk_ofW (by decide) (Nat.le_of_ble_eq_true rfl) ?_
  intro pg ev s mm below meth cd A C hr hlocks hname Z ls hl
  have hx := C.1.1
  have hb := C.1.2.1
  have hml := C.1.2.2.1
  have hown := C.1.2.2.2.1
  have hts := C.1.2.2.2.2
  have hl : lv_has ls 7 [(0, .ref hm), (1, .int x), (2, .int t), (3, .int dep)] := hl
  refine lv_iload_n hx hb dX8_begin_0 rfl (lv_at hl 2 rfl) ?_
  refine lv_iconst (v := nI 1) hx hb dX8_begin_1 (by decide) ?_
  refine lv_iconst (v := nI 3) hx hb dX8_begin_2 (by decide) ?_
  refine zk_callS (cells' := 0) (slots' := 0) (rest := []) (n := 3) (wr := [(hm, .inr (7, [.int (nI km), .int (nI bg), .int (nI p0), .int (nI dg0), .int (nI n0), .int (nI t0), .int (nI dep0), .int (nI g0), .int (nI c0), .ref ms, .ref ch, .ref kp, .ref md, .ref rs, .ref pr]))]) C Z (m8_in0 l D g t (nI 1) (nI 3) h0_) [] [0] rfl rfl (by decide) (by decide) (by decide) q651 q652 q26 q653 (by decide +kernel) rfl (Nat.le_of_ble_eq_true rfl) (Nat.le_of_ble_eq_true rfl) (Nat.le_of_ble_eq_true rfl) (Nat.le_of_ble_eq_true rfl) rfl rfl hl.1 rfl (Nat.le_of_ble_eq_true rfl) dX8_begin_3 (fun v w1 H locs hq Z => ?_)
  obtain ⟨rfl, rfl⟩ := hq
  have Z : zk_Z D A s H locs [(hm, .inr (7, [.int (nI km), .int (nI bg), .int (nI p0), .int (nI dg0), .int (nI n0), .int (nI t0), .int (nI dep0), .int (nI g0), .int (nI c0), .ref ms, .ref ch, .ref kp, .ref md, .ref rs, .ref pr]))] := Z.sub [0] (by decide) rfl
  refine W.eq (g2 := F0 mm 6 ls [.int (nI 0)]) rfl ?_
  refine nr_eq0 (tgt := 33) hx hb (by omega) dX8_begin_6 (by decide) (fun c_1 => ?_) (fun c_1 => absurd c_1 (fun q => q rfl))
  refine lv_iconst (v := nI 0) hx hb dX8_begin_33 (by decide) ?_
  refine lv_istore (lv' := [(4, .int (nI 0)), (0, .ref hm), (1, .int x), (2, .int t), (3, .int dep)]) hx hb dX8_begin_34 hl (by decide) rfl (fun ls hl => ?_)
  refine lv_iload_n hx hb dX8_begin_36 rfl (lv_at hl 2 rfl) ?_
  refine lv_bipush (v := nI 31) hx hb dX8_begin_37 (by decide) ?_
  refine lv_icmp_le (tgt := 46) hx hb dX8_begin_39 (by decide) (fun c_2 => ?_) (fun c_2 => ?_)
  · refine lv_iload_n hx hb dX8_begin_46 rfl (lv_at hl 2 rfl) ?_
    refine lv_bipush (v := nI 15) hx hb dX8_begin_47 (by decide) ?_
    refine lv_icmp_le (tgt := 56) hx hb dX8_begin_49 (by decide) (fun c_3 => ?_) (fun c_3 => ?_)
    · refine lv_iconst (v := nI 3) hx hb dX8_begin_56 (by decide) ?_
      refine lv_istore (lv' := [(5, .int (nI 3)), (4, .int (nI 0)), (0, .ref hm), (1, .int x), (2, .int t), (3, .int dep)]) hx hb dX8_begin_57 hl (by decide) rfl (fun ls hl => ?_)
      refine lv_aload_n hx hb dX8_begin_59 rfl (lv_at hl 2 rfl) ?_
      refine lv_iload hx hb dX8_begin_60 (lv_at hl 1 rfl) ?_
      refine nr_ne0 (tgt := 69) hx hb (by omega) dX8_begin_62 (by decide) (fun c_4 => absurd c_4 (fun q => q rfl)) (fun c_4 => ?_)
      refine lv_iconst (v := nI 1) hx hb dX8_begin_65 (by decide) ?_
      refine lv_goto (tgt := 83) hx hb dX8_begin_66 (by decide) ?_
      refine zk_put C Z in_X8 tyX8 tyX8_ok nmX8 0 rfl rfl 0 (by decide) q597 rfl rfl (v := .int (nI 1)) rfl rfl (Nat.le_of_ble_eq_true rfl) dX8_begin_83 (fun H locs Z => ?_)
      have Z : zk_Z D A s H locs [(hm, .inr (7, [.int (nI 1), .int (nI bg), .int (nI p0), .int (nI dg0), .int (nI n0), .int (nI t0), .int (nI dep0), .int (nI g0), .int (nI c0), .ref ms, .ref ch, .ref kp, .ref md, .ref rs, .ref pr]))] := Z
      refine lv_aload_n hx hb dX8_begin_86 rfl (lv_at hl 2 rfl) ?_
      refine zk_get C Z in_X8 0 rfl rfl 0 (by decide) q597 rfl (v := .int (nI 1)) rfl dX8_begin_87 ?_
      refine nr_le0 (tgt := 95) hx hb (by decide) dX8_begin_90 (by decide) (fun c_5 => absurd c_5 (by decide)) (fun c_5 => ?_)
      refine lv_iconst (v := nI 0) hx hb dX8_begin_93 (by decide) ?_
      exact zk_iret C hr hlocks Z ⟨rfl, rfl⟩ (Nat.le_of_ble_eq_true rfl) (Nat.le_of_ble_eq_true rfl) dX8_begin_94
    · refine lv_iconst (v := nI 4) hx hb dX8_begin_52 (by decide) ?_
      refine lv_goto (tgt := 57) hx hb dX8_begin_53 (by decide) ?_
      refine lv_istore (lv' := [(5, .int (nI 4)), (4, .int (nI 0)), (0, .ref hm), (1, .int x), (2, .int t), (3, .int dep)]) hx hb dX8_begin_57 hl (by decide) rfl (fun ls hl => ?_)
      refine lv_aload_n hx hb dX8_begin_59 rfl (lv_at hl 2 rfl) ?_
      refine lv_iload hx hb dX8_begin_60 (lv_at hl 1 rfl) ?_
      refine nr_ne0 (tgt := 69) hx hb (by omega) dX8_begin_62 (by decide) (fun c_6 => absurd c_6 (fun q => q rfl)) (fun c_6 => ?_)
      refine lv_iconst (v := nI 1) hx hb dX8_begin_65 (by decide) ?_
      refine lv_goto (tgt := 83) hx hb dX8_begin_66 (by decide) ?_
      refine zk_put C Z in_X8 tyX8 tyX8_ok nmX8 0 rfl rfl 0 (by decide) q597 rfl rfl (v := .int (nI 1)) rfl rfl (Nat.le_of_ble_eq_true rfl) dX8_begin_83 (fun H locs Z => ?_)
      have Z : zk_Z D A s H locs [(hm, .inr (7, [.int (nI 1), .int (nI bg), .int (nI p0), .int (nI dg0), .int (nI n0), .int (nI t0), .int (nI dep0), .int (nI g0), .int (nI c0), .ref ms, .ref ch, .ref kp, .ref md, .ref rs, .ref pr]))] := Z
      refine lv_aload_n hx hb dX8_begin_86 rfl (lv_at hl 2 rfl) ?_
      refine zk_get C Z in_X8 0 rfl rfl 0 (by decide) q597 rfl (v := .int (nI 1)) rfl dX8_begin_87 ?_
      refine nr_le0 (tgt := 95) hx hb (by decide) dX8_begin_90 (by decide) (fun c_7 => absurd c_7 (by decide)) (fun c_7 => ?_)
      refine lv_iconst (v := nI 0) hx hb dX8_begin_93 (by decide) ?_
      exact zk_iret C hr hlocks Z ⟨rfl, rfl⟩ (Nat.le_of_ble_eq_true rfl) (Nat.le_of_ble_eq_true rfl) dX8_begin_94
  · refine lv_iconst (v := nI 5) hx hb dX8_begin_42 (by decide) ?_
    refine lv_goto (tgt := 57) hx hb dX8_begin_43 (by decide) ?_
    refine lv_istore (lv' := [(5, .int (nI 5)), (4, .int (nI 0)), (0, .ref hm), (1, .int x), (2, .int t), (3, .int dep)]) hx hb dX8_begin_57 hl (by decide) rfl (fun ls hl => ?_)
    refine lv_aload_n hx hb dX8_begin_59 rfl (lv_at hl 2 rfl) ?_
    refine lv_iload hx hb dX8_begin_60 (lv_at hl 1 rfl) ?_
    refine nr_ne0 (tgt := 69) hx hb (by omega) dX8_begin_62 (by decide) (fun c_8 => absurd c_8 (fun q => q rfl)) (fun c_8 => ?_)
    refine lv_iconst (v := nI 1) hx hb dX8_begin_65 (by decide) ?_
    refine lv_goto (tgt := 83) hx hb dX8_begin_66 (by decide) ?_
    refine zk_put C Z in_X8 tyX8 tyX8_ok nmX8 0 rfl rfl 0 (by decide) q597 rfl rfl (v := .int (nI 1)) rfl rfl (Nat.le_of_ble_eq_true rfl) dX8_begin_83 (fun H locs Z => ?_)
    have Z : zk_Z D A s H locs [(hm, .inr (7, [.int (nI 1), .int (nI bg), .int (nI p0), .int (nI dg0), .int (nI n0), .int (nI t0), .int (nI dep0), .int (nI g0), .int (nI c0), .ref ms, .ref ch, .ref kp, .ref md, .ref rs, .ref pr]))] := Z
    refine lv_aload_n hx hb dX8_begin_86 rfl (lv_at hl 2 rfl) ?_
    refine zk_get C Z in_X8 0 rfl rfl 0 (by decide) q597 rfl (v := .int (nI 1)) rfl dX8_begin_87 ?_
    refine nr_le0 (tgt := 95) hx hb (by decide) dX8_begin_90 (by decide) (fun c_9 => absurd c_9 (by decide)) (fun c_9 => ?_)
    refine lv_iconst (v := nI 0) hx hb dX8_begin_93 (by decide) ?_
    exact zk_iret C hr hlocks Z ⟨rfl, rfl⟩ (Nat.le_of_ble_eq_true rfl) (Nat.le_of_ble_eq_true rfl) dX8_begin_94

set_option maxHeartbeats 4000000 in
/-- model: begin, out of bounds -/
theorem w8_begin_b (l : Launch) (D : va_G) (g : G4) (hm ms ch kp md rs pr : Nat) (km bg p0 dg0 n0 t0 dep0 g0 c0 : Nat) (x t dep : Int32) (h1_ : nI 1 ≤ t ∧ t ≤ nI 3) (h0_ : ¬ (nI 1 ≤ dep ∧ dep ≤ nI 4)) : zk_M l yX8_begin (ws_ yX8_begin cX8_begin 7 (some .int)) (zk_R 3 0 0) D g [.ref hm, .int x, .int t, .int dep] [(hm, .inr (7, [.int (nI km), .int (nI bg), .int (nI p0), .int (nI dg0), .int (nI n0), .int (nI t0), .int (nI dep0), .int (nI g0), .int (nI c0), .ref ms, .ref ch, .ref kp, .ref md, .ref rs, .ref pr]))] (zk_D (some (.int (nI 0))) [(hm, .inr (7, [.int (nI 1), .int (nI bg), .int (nI p0), .int (nI dg0), .int (nI n0), .int (nI t0), .int (nI dep0), .int (nI g0), .int (nI c0), .ref ms, .ref ch, .ref kp, .ref md, .ref rs, .ref pr]))]) := by
  refine zk_ofW (by decide) (Nat.le_of_ble_eq_true rfl) ?_
  intro pg ev s mm below meth cd A C hr hlocks hname Z ls hl
  have hx := C.1.1
  have hb := C.1.2.1
  have hml := C.1.2.2.1
  have hown := C.1.2.2.2.1
  have hts := C.1.2.2.2.2
  have hl : lv_has ls 7 [(0, .ref hm), (1, .int x), (2, .int t), (3, .int dep)] := hl
  refine lv_iload_n hx hb dX8_begin_0 rfl (lv_at hl 2 rfl) ?_
  refine lv_iconst (v := nI 1) hx hb dX8_begin_1 (by decide) ?_
  refine lv_iconst (v := nI 3) hx hb dX8_begin_2 (by decide) ?_
  refine zk_callS (cells' := 0) (slots' := 0) (rest := []) (n := 3) (wr := [(hm, .inr (7, [.int (nI km), .int (nI bg), .int (nI p0), .int (nI dg0), .int (nI n0), .int (nI t0), .int (nI dep0), .int (nI g0), .int (nI c0), .ref ms, .ref ch, .ref kp, .ref md, .ref rs, .ref pr]))]) C Z (m8_in1 l D g t (nI 1) (nI 3) h1_.1 h1_.2) [] [0] rfl rfl (by decide) (by decide) (by decide) q651 q652 q26 q653 (by decide +kernel) rfl (Nat.le_of_ble_eq_true rfl) (Nat.le_of_ble_eq_true rfl) (Nat.le_of_ble_eq_true rfl) (Nat.le_of_ble_eq_true rfl) rfl rfl hl.1 rfl (Nat.le_of_ble_eq_true rfl) dX8_begin_3 (fun v w1 H locs hq Z => ?_)
  obtain ⟨rfl, rfl⟩ := hq
  have Z : zk_Z D A s H locs [(hm, .inr (7, [.int (nI km), .int (nI bg), .int (nI p0), .int (nI dg0), .int (nI n0), .int (nI t0), .int (nI dep0), .int (nI g0), .int (nI c0), .ref ms, .ref ch, .ref kp, .ref md, .ref rs, .ref pr]))] := Z.sub [0] (by decide) rfl
  refine W.eq (g2 := F0 mm 6 ls [.int (nI 1)]) rfl ?_
  refine nr_eq0 (tgt := 33) hx hb (by omega) dX8_begin_6 (by decide) (fun c_1 => absurd c_1 (by decide)) (fun c_1 => ?_)
  refine lv_iload_n hx hb dX8_begin_9 rfl (lv_at hl 3 rfl) ?_
  refine lv_iconst (v := nI 1) hx hb dX8_begin_10 (by decide) ?_
  refine lv_iconst (v := nI 4) hx hb dX8_begin_11 (by decide) ?_
  refine zk_callS (cells' := 0) (slots' := 0) (rest := []) (n := 3) (wr := [(hm, .inr (7, [.int (nI km), .int (nI bg), .int (nI p0), .int (nI dg0), .int (nI n0), .int (nI t0), .int (nI dep0), .int (nI g0), .int (nI c0), .ref ms, .ref ch, .ref kp, .ref md, .ref rs, .ref pr]))]) C Z (m8_in0 l D g dep (nI 1) (nI 4) h0_) [] [0] rfl rfl (by decide) (by decide) (by decide) q651 q652 q26 q653 (by decide +kernel) rfl (Nat.le_of_ble_eq_true rfl) (Nat.le_of_ble_eq_true rfl) (Nat.le_of_ble_eq_true rfl) (Nat.le_of_ble_eq_true rfl) rfl rfl hl.1 rfl (Nat.le_of_ble_eq_true rfl) dX8_begin_12 (fun v w1 H locs hq Z => ?_)
  obtain ⟨rfl, rfl⟩ := hq
  have Z : zk_Z D A s H locs [(hm, .inr (7, [.int (nI km), .int (nI bg), .int (nI p0), .int (nI dg0), .int (nI n0), .int (nI t0), .int (nI dep0), .int (nI g0), .int (nI c0), .ref ms, .ref ch, .ref kp, .ref md, .ref rs, .ref pr]))] := Z.sub [0] (by decide) rfl
  refine W.eq (g2 := F0 mm 15 ls [.int (nI 0)]) rfl ?_
  refine nr_eq0 (tgt := 33) hx hb (by omega) dX8_begin_15 (by decide) (fun c_2 => ?_) (fun c_2 => absurd c_2 (fun q => q rfl))
  refine lv_iconst (v := nI 0) hx hb dX8_begin_33 (by decide) ?_
  refine lv_istore (lv' := [(4, .int (nI 0)), (0, .ref hm), (1, .int x), (2, .int t), (3, .int dep)]) hx hb dX8_begin_34 hl (by decide) rfl (fun ls hl => ?_)
  refine lv_iload_n hx hb dX8_begin_36 rfl (lv_at hl 2 rfl) ?_
  refine lv_bipush (v := nI 31) hx hb dX8_begin_37 (by decide) ?_
  refine lv_icmp_le (tgt := 46) hx hb dX8_begin_39 (by decide) (fun c_3 => ?_) (fun c_3 => ?_)
  · refine lv_iload_n hx hb dX8_begin_46 rfl (lv_at hl 2 rfl) ?_
    refine lv_bipush (v := nI 15) hx hb dX8_begin_47 (by decide) ?_
    refine lv_icmp_le (tgt := 56) hx hb dX8_begin_49 (by decide) (fun c_4 => ?_) (fun c_4 => ?_)
    · refine lv_iconst (v := nI 3) hx hb dX8_begin_56 (by decide) ?_
      refine lv_istore (lv' := [(5, .int (nI 3)), (4, .int (nI 0)), (0, .ref hm), (1, .int x), (2, .int t), (3, .int dep)]) hx hb dX8_begin_57 hl (by decide) rfl (fun ls hl => ?_)
      refine lv_aload_n hx hb dX8_begin_59 rfl (lv_at hl 2 rfl) ?_
      refine lv_iload hx hb dX8_begin_60 (lv_at hl 1 rfl) ?_
      refine nr_ne0 (tgt := 69) hx hb (by omega) dX8_begin_62 (by decide) (fun c_5 => absurd c_5 (fun q => q rfl)) (fun c_5 => ?_)
      refine lv_iconst (v := nI 1) hx hb dX8_begin_65 (by decide) ?_
      refine lv_goto (tgt := 83) hx hb dX8_begin_66 (by decide) ?_
      refine zk_put C Z in_X8 tyX8 tyX8_ok nmX8 0 rfl rfl 0 (by decide) q597 rfl rfl (v := .int (nI 1)) rfl rfl (Nat.le_of_ble_eq_true rfl) dX8_begin_83 (fun H locs Z => ?_)
      have Z : zk_Z D A s H locs [(hm, .inr (7, [.int (nI 1), .int (nI bg), .int (nI p0), .int (nI dg0), .int (nI n0), .int (nI t0), .int (nI dep0), .int (nI g0), .int (nI c0), .ref ms, .ref ch, .ref kp, .ref md, .ref rs, .ref pr]))] := Z
      refine lv_aload_n hx hb dX8_begin_86 rfl (lv_at hl 2 rfl) ?_
      refine zk_get C Z in_X8 0 rfl rfl 0 (by decide) q597 rfl (v := .int (nI 1)) rfl dX8_begin_87 ?_
      refine nr_le0 (tgt := 95) hx hb (by decide) dX8_begin_90 (by decide) (fun c_6 => absurd c_6 (by decide)) (fun c_6 => ?_)
      refine lv_iconst (v := nI 0) hx hb dX8_begin_93 (by decide) ?_
      exact zk_iret C hr hlocks Z ⟨rfl, rfl⟩ (Nat.le_of_ble_eq_true rfl) (Nat.le_of_ble_eq_true rfl) dX8_begin_94
    · refine lv_iconst (v := nI 4) hx hb dX8_begin_52 (by decide) ?_
      refine lv_goto (tgt := 57) hx hb dX8_begin_53 (by decide) ?_
      refine lv_istore (lv' := [(5, .int (nI 4)), (4, .int (nI 0)), (0, .ref hm), (1, .int x), (2, .int t), (3, .int dep)]) hx hb dX8_begin_57 hl (by decide) rfl (fun ls hl => ?_)
      refine lv_aload_n hx hb dX8_begin_59 rfl (lv_at hl 2 rfl) ?_
      refine lv_iload hx hb dX8_begin_60 (lv_at hl 1 rfl) ?_
      refine nr_ne0 (tgt := 69) hx hb (by omega) dX8_begin_62 (by decide) (fun c_7 => absurd c_7 (fun q => q rfl)) (fun c_7 => ?_)
      refine lv_iconst (v := nI 1) hx hb dX8_begin_65 (by decide) ?_
      refine lv_goto (tgt := 83) hx hb dX8_begin_66 (by decide) ?_
      refine zk_put C Z in_X8 tyX8 tyX8_ok nmX8 0 rfl rfl 0 (by decide) q597 rfl rfl (v := .int (nI 1)) rfl rfl (Nat.le_of_ble_eq_true rfl) dX8_begin_83 (fun H locs Z => ?_)
      have Z : zk_Z D A s H locs [(hm, .inr (7, [.int (nI 1), .int (nI bg), .int (nI p0), .int (nI dg0), .int (nI n0), .int (nI t0), .int (nI dep0), .int (nI g0), .int (nI c0), .ref ms, .ref ch, .ref kp, .ref md, .ref rs, .ref pr]))] := Z
      refine lv_aload_n hx hb dX8_begin_86 rfl (lv_at hl 2 rfl) ?_
      refine zk_get C Z in_X8 0 rfl rfl 0 (by decide) q597 rfl (v := .int (nI 1)) rfl dX8_begin_87 ?_
      refine nr_le0 (tgt := 95) hx hb (by decide) dX8_begin_90 (by decide) (fun c_8 => absurd c_8 (by decide)) (fun c_8 => ?_)
      refine lv_iconst (v := nI 0) hx hb dX8_begin_93 (by decide) ?_
      exact zk_iret C hr hlocks Z ⟨rfl, rfl⟩ (Nat.le_of_ble_eq_true rfl) (Nat.le_of_ble_eq_true rfl) dX8_begin_94
  · refine lv_iconst (v := nI 5) hx hb dX8_begin_42 (by decide) ?_
    refine lv_goto (tgt := 57) hx hb dX8_begin_43 (by decide) ?_
    refine lv_istore (lv' := [(5, .int (nI 5)), (4, .int (nI 0)), (0, .ref hm), (1, .int x), (2, .int t), (3, .int dep)]) hx hb dX8_begin_57 hl (by decide) rfl (fun ls hl => ?_)
    refine lv_aload_n hx hb dX8_begin_59 rfl (lv_at hl 2 rfl) ?_
    refine lv_iload hx hb dX8_begin_60 (lv_at hl 1 rfl) ?_
    refine nr_ne0 (tgt := 69) hx hb (by omega) dX8_begin_62 (by decide) (fun c_9 => absurd c_9 (fun q => q rfl)) (fun c_9 => ?_)
    refine lv_iconst (v := nI 1) hx hb dX8_begin_65 (by decide) ?_
    refine lv_goto (tgt := 83) hx hb dX8_begin_66 (by decide) ?_
    refine zk_put C Z in_X8 tyX8 tyX8_ok nmX8 0 rfl rfl 0 (by decide) q597 rfl rfl (v := .int (nI 1)) rfl rfl (Nat.le_of_ble_eq_true rfl) dX8_begin_83 (fun H locs Z => ?_)
    have Z : zk_Z D A s H locs [(hm, .inr (7, [.int (nI 1), .int (nI bg), .int (nI p0), .int (nI dg0), .int (nI n0), .int (nI t0), .int (nI dep0), .int (nI g0), .int (nI c0), .ref ms, .ref ch, .ref kp, .ref md, .ref rs, .ref pr]))] := Z
    refine lv_aload_n hx hb dX8_begin_86 rfl (lv_at hl 2 rfl) ?_
    refine zk_get C Z in_X8 0 rfl rfl 0 (by decide) q597 rfl (v := .int (nI 1)) rfl dX8_begin_87 ?_
    refine nr_le0 (tgt := 95) hx hb (by decide) dX8_begin_90 (by decide) (fun c_10 => absurd c_10 (by decide)) (fun c_10 => ?_)
    refine lv_iconst (v := nI 0) hx hb dX8_begin_93 (by decide) ?_
    exact zk_iret C hr hlocks Z ⟨rfl, rfl⟩ (Nat.le_of_ble_eq_true rfl) (Nat.le_of_ble_eq_true rfl) dX8_begin_94

set_option maxHeartbeats 4000000 in
/-- model: begin, out of bounds -/
theorem w8_begin_c (l : Launch) (D : va_G) (g : G4) (hm ms ch kp md rs pr : Nat) (km bg p0 dg0 n0 t0 dep0 g0 c0 : Nat) (x t dep : Int32) (h1_ : nI 1 ≤ t ∧ t ≤ nI 3) (h2_ : nI 1 ≤ dep ∧ dep ≤ nI 4) (h0_ : ¬ (nI 8 ≤ x ∧ x ≤ nI 63)) : zk_M l yX8_begin (ws_ yX8_begin cX8_begin 7 (some .int)) (zk_R 3 0 0) D g [.ref hm, .int x, .int t, .int dep] [(hm, .inr (7, [.int (nI km), .int (nI bg), .int (nI p0), .int (nI dg0), .int (nI n0), .int (nI t0), .int (nI dep0), .int (nI g0), .int (nI c0), .ref ms, .ref ch, .ref kp, .ref md, .ref rs, .ref pr]))] (zk_D (some (.int (nI 0))) [(hm, .inr (7, [.int (nI 1), .int (nI bg), .int (nI p0), .int (nI dg0), .int (nI n0), .int (nI t0), .int (nI dep0), .int (nI g0), .int (nI c0), .ref ms, .ref ch, .ref kp, .ref md, .ref rs, .ref pr]))]) := by
  refine zk_ofW (by decide) (Nat.le_of_ble_eq_true rfl) ?_
  intro pg ev s mm below meth cd A C hr hlocks hname Z ls hl
  have hx := C.1.1
  have hb := C.1.2.1
  have hml := C.1.2.2.1
  have hown := C.1.2.2.2.1
  have hts := C.1.2.2.2.2
  have hl : lv_has ls 7 [(0, .ref hm), (1, .int x), (2, .int t), (3, .int dep)] := hl
  refine lv_iload_n hx hb dX8_begin_0 rfl (lv_at hl 2 rfl) ?_
  refine lv_iconst (v := nI 1) hx hb dX8_begin_1 (by decide) ?_
  refine lv_iconst (v := nI 3) hx hb dX8_begin_2 (by decide) ?_
  refine zk_callS (cells' := 0) (slots' := 0) (rest := []) (n := 3) (wr := [(hm, .inr (7, [.int (nI km), .int (nI bg), .int (nI p0), .int (nI dg0), .int (nI n0), .int (nI t0), .int (nI dep0), .int (nI g0), .int (nI c0), .ref ms, .ref ch, .ref kp, .ref md, .ref rs, .ref pr]))]) C Z (m8_in1 l D g t (nI 1) (nI 3) h1_.1 h1_.2) [] [0] rfl rfl (by decide) (by decide) (by decide) q651 q652 q26 q653 (by decide +kernel) rfl (Nat.le_of_ble_eq_true rfl) (Nat.le_of_ble_eq_true rfl) (Nat.le_of_ble_eq_true rfl) (Nat.le_of_ble_eq_true rfl) rfl rfl hl.1 rfl (Nat.le_of_ble_eq_true rfl) dX8_begin_3 (fun v w1 H locs hq Z => ?_)
  obtain ⟨rfl, rfl⟩ := hq
  have Z : zk_Z D A s H locs [(hm, .inr (7, [.int (nI km), .int (nI bg), .int (nI p0), .int (nI dg0), .int (nI n0), .int (nI t0), .int (nI dep0), .int (nI g0), .int (nI c0), .ref ms, .ref ch, .ref kp, .ref md, .ref rs, .ref pr]))] := Z.sub [0] (by decide) rfl
  refine W.eq (g2 := F0 mm 6 ls [.int (nI 1)]) rfl ?_
  refine nr_eq0 (tgt := 33) hx hb (by omega) dX8_begin_6 (by decide) (fun c_1 => absurd c_1 (by decide)) (fun c_1 => ?_)
  refine lv_iload_n hx hb dX8_begin_9 rfl (lv_at hl 3 rfl) ?_
  refine lv_iconst (v := nI 1) hx hb dX8_begin_10 (by decide) ?_
  refine lv_iconst (v := nI 4) hx hb dX8_begin_11 (by decide) ?_
  refine zk_callS (cells' := 0) (slots' := 0) (rest := []) (n := 3) (wr := [(hm, .inr (7, [.int (nI km), .int (nI bg), .int (nI p0), .int (nI dg0), .int (nI n0), .int (nI t0), .int (nI dep0), .int (nI g0), .int (nI c0), .ref ms, .ref ch, .ref kp, .ref md, .ref rs, .ref pr]))]) C Z (m8_in1 l D g dep (nI 1) (nI 4) h2_.1 h2_.2) [] [0] rfl rfl (by decide) (by decide) (by decide) q651 q652 q26 q653 (by decide +kernel) rfl (Nat.le_of_ble_eq_true rfl) (Nat.le_of_ble_eq_true rfl) (Nat.le_of_ble_eq_true rfl) (Nat.le_of_ble_eq_true rfl) rfl rfl hl.1 rfl (Nat.le_of_ble_eq_true rfl) dX8_begin_12 (fun v w1 H locs hq Z => ?_)
  obtain ⟨rfl, rfl⟩ := hq
  have Z : zk_Z D A s H locs [(hm, .inr (7, [.int (nI km), .int (nI bg), .int (nI p0), .int (nI dg0), .int (nI n0), .int (nI t0), .int (nI dep0), .int (nI g0), .int (nI c0), .ref ms, .ref ch, .ref kp, .ref md, .ref rs, .ref pr]))] := Z.sub [0] (by decide) rfl
  refine W.eq (g2 := F0 mm 15 ls [.int (nI 1)]) rfl ?_
  refine nr_eq0 (tgt := 33) hx hb (by omega) dX8_begin_15 (by decide) (fun c_2 => absurd c_2 (by decide)) (fun c_2 => ?_)
  refine lv_iload_n hx hb dX8_begin_18 rfl (lv_at hl 1 rfl) ?_
  refine lv_bipush (v := nI 8) hx hb dX8_begin_19 (by decide) ?_
  refine lv_bipush (v := nI 63) hx hb dX8_begin_21 (by decide) ?_
  refine zk_callS (cells' := 0) (slots' := 0) (rest := []) (n := 3) (wr := [(hm, .inr (7, [.int (nI km), .int (nI bg), .int (nI p0), .int (nI dg0), .int (nI n0), .int (nI t0), .int (nI dep0), .int (nI g0), .int (nI c0), .ref ms, .ref ch, .ref kp, .ref md, .ref rs, .ref pr]))]) C Z (m8_in0 l D g x (nI 8) (nI 63) h0_) [] [0] rfl rfl (by decide) (by decide) (by decide) q651 q652 q26 q653 (by decide +kernel) rfl (Nat.le_of_ble_eq_true rfl) (Nat.le_of_ble_eq_true rfl) (Nat.le_of_ble_eq_true rfl) (Nat.le_of_ble_eq_true rfl) rfl rfl hl.1 rfl (Nat.le_of_ble_eq_true rfl) dX8_begin_23 (fun v w1 H locs hq Z => ?_)
  obtain ⟨rfl, rfl⟩ := hq
  have Z : zk_Z D A s H locs [(hm, .inr (7, [.int (nI km), .int (nI bg), .int (nI p0), .int (nI dg0), .int (nI n0), .int (nI t0), .int (nI dep0), .int (nI g0), .int (nI c0), .ref ms, .ref ch, .ref kp, .ref md, .ref rs, .ref pr]))] := Z.sub [0] (by decide) rfl
  refine W.eq (g2 := F0 mm 26 ls [.int (nI 0)]) rfl ?_
  refine nr_eq0 (tgt := 33) hx hb (by omega) dX8_begin_26 (by decide) (fun c_3 => ?_) (fun c_3 => absurd c_3 (fun q => q rfl))
  refine lv_iconst (v := nI 0) hx hb dX8_begin_33 (by decide) ?_
  refine lv_istore (lv' := [(4, .int (nI 0)), (0, .ref hm), (1, .int x), (2, .int t), (3, .int dep)]) hx hb dX8_begin_34 hl (by decide) rfl (fun ls hl => ?_)
  refine lv_iload_n hx hb dX8_begin_36 rfl (lv_at hl 2 rfl) ?_
  refine lv_bipush (v := nI 31) hx hb dX8_begin_37 (by decide) ?_
  refine lv_icmp_le (tgt := 46) hx hb dX8_begin_39 (by decide) (fun c_4 => ?_) (fun c_4 => ?_)
  · refine lv_iload_n hx hb dX8_begin_46 rfl (lv_at hl 2 rfl) ?_
    refine lv_bipush (v := nI 15) hx hb dX8_begin_47 (by decide) ?_
    refine lv_icmp_le (tgt := 56) hx hb dX8_begin_49 (by decide) (fun c_5 => ?_) (fun c_5 => ?_)
    · refine lv_iconst (v := nI 3) hx hb dX8_begin_56 (by decide) ?_
      refine lv_istore (lv' := [(5, .int (nI 3)), (4, .int (nI 0)), (0, .ref hm), (1, .int x), (2, .int t), (3, .int dep)]) hx hb dX8_begin_57 hl (by decide) rfl (fun ls hl => ?_)
      refine lv_aload_n hx hb dX8_begin_59 rfl (lv_at hl 2 rfl) ?_
      refine lv_iload hx hb dX8_begin_60 (lv_at hl 1 rfl) ?_
      refine nr_ne0 (tgt := 69) hx hb (by omega) dX8_begin_62 (by decide) (fun c_6 => absurd c_6 (fun q => q rfl)) (fun c_6 => ?_)
      refine lv_iconst (v := nI 1) hx hb dX8_begin_65 (by decide) ?_
      refine lv_goto (tgt := 83) hx hb dX8_begin_66 (by decide) ?_
      refine zk_put C Z in_X8 tyX8 tyX8_ok nmX8 0 rfl rfl 0 (by decide) q597 rfl rfl (v := .int (nI 1)) rfl rfl (Nat.le_of_ble_eq_true rfl) dX8_begin_83 (fun H locs Z => ?_)
      have Z : zk_Z D A s H locs [(hm, .inr (7, [.int (nI 1), .int (nI bg), .int (nI p0), .int (nI dg0), .int (nI n0), .int (nI t0), .int (nI dep0), .int (nI g0), .int (nI c0), .ref ms, .ref ch, .ref kp, .ref md, .ref rs, .ref pr]))] := Z
      refine lv_aload_n hx hb dX8_begin_86 rfl (lv_at hl 2 rfl) ?_
      refine zk_get C Z in_X8 0 rfl rfl 0 (by decide) q597 rfl (v := .int (nI 1)) rfl dX8_begin_87 ?_
      refine nr_le0 (tgt := 95) hx hb (by decide) dX8_begin_90 (by decide) (fun c_7 => absurd c_7 (by decide)) (fun c_7 => ?_)
      refine lv_iconst (v := nI 0) hx hb dX8_begin_93 (by decide) ?_
      exact zk_iret C hr hlocks Z ⟨rfl, rfl⟩ (Nat.le_of_ble_eq_true rfl) (Nat.le_of_ble_eq_true rfl) dX8_begin_94
    · refine lv_iconst (v := nI 4) hx hb dX8_begin_52 (by decide) ?_
      refine lv_goto (tgt := 57) hx hb dX8_begin_53 (by decide) ?_
      refine lv_istore (lv' := [(5, .int (nI 4)), (4, .int (nI 0)), (0, .ref hm), (1, .int x), (2, .int t), (3, .int dep)]) hx hb dX8_begin_57 hl (by decide) rfl (fun ls hl => ?_)
      refine lv_aload_n hx hb dX8_begin_59 rfl (lv_at hl 2 rfl) ?_
      refine lv_iload hx hb dX8_begin_60 (lv_at hl 1 rfl) ?_
      refine nr_ne0 (tgt := 69) hx hb (by omega) dX8_begin_62 (by decide) (fun c_8 => absurd c_8 (fun q => q rfl)) (fun c_8 => ?_)
      refine lv_iconst (v := nI 1) hx hb dX8_begin_65 (by decide) ?_
      refine lv_goto (tgt := 83) hx hb dX8_begin_66 (by decide) ?_
      refine zk_put C Z in_X8 tyX8 tyX8_ok nmX8 0 rfl rfl 0 (by decide) q597 rfl rfl (v := .int (nI 1)) rfl rfl (Nat.le_of_ble_eq_true rfl) dX8_begin_83 (fun H locs Z => ?_)
      have Z : zk_Z D A s H locs [(hm, .inr (7, [.int (nI 1), .int (nI bg), .int (nI p0), .int (nI dg0), .int (nI n0), .int (nI t0), .int (nI dep0), .int (nI g0), .int (nI c0), .ref ms, .ref ch, .ref kp, .ref md, .ref rs, .ref pr]))] := Z
      refine lv_aload_n hx hb dX8_begin_86 rfl (lv_at hl 2 rfl) ?_
      refine zk_get C Z in_X8 0 rfl rfl 0 (by decide) q597 rfl (v := .int (nI 1)) rfl dX8_begin_87 ?_
      refine nr_le0 (tgt := 95) hx hb (by decide) dX8_begin_90 (by decide) (fun c_9 => absurd c_9 (by decide)) (fun c_9 => ?_)
      refine lv_iconst (v := nI 0) hx hb dX8_begin_93 (by decide) ?_
      exact zk_iret C hr hlocks Z ⟨rfl, rfl⟩ (Nat.le_of_ble_eq_true rfl) (Nat.le_of_ble_eq_true rfl) dX8_begin_94
  · refine lv_iconst (v := nI 5) hx hb dX8_begin_42 (by decide) ?_
    refine lv_goto (tgt := 57) hx hb dX8_begin_43 (by decide) ?_
    refine lv_istore (lv' := [(5, .int (nI 5)), (4, .int (nI 0)), (0, .ref hm), (1, .int x), (2, .int t), (3, .int dep)]) hx hb dX8_begin_57 hl (by decide) rfl (fun ls hl => ?_)
    refine lv_aload_n hx hb dX8_begin_59 rfl (lv_at hl 2 rfl) ?_
    refine lv_iload hx hb dX8_begin_60 (lv_at hl 1 rfl) ?_
    refine nr_ne0 (tgt := 69) hx hb (by omega) dX8_begin_62 (by decide) (fun c_10 => absurd c_10 (fun q => q rfl)) (fun c_10 => ?_)
    refine lv_iconst (v := nI 1) hx hb dX8_begin_65 (by decide) ?_
    refine lv_goto (tgt := 83) hx hb dX8_begin_66 (by decide) ?_
    refine zk_put C Z in_X8 tyX8 tyX8_ok nmX8 0 rfl rfl 0 (by decide) q597 rfl rfl (v := .int (nI 1)) rfl rfl (Nat.le_of_ble_eq_true rfl) dX8_begin_83 (fun H locs Z => ?_)
    have Z : zk_Z D A s H locs [(hm, .inr (7, [.int (nI 1), .int (nI bg), .int (nI p0), .int (nI dg0), .int (nI n0), .int (nI t0), .int (nI dep0), .int (nI g0), .int (nI c0), .ref ms, .ref ch, .ref kp, .ref md, .ref rs, .ref pr]))] := Z
    refine lv_aload_n hx hb dX8_begin_86 rfl (lv_at hl 2 rfl) ?_
    refine zk_get C Z in_X8 0 rfl rfl 0 (by decide) q597 rfl (v := .int (nI 1)) rfl dX8_begin_87 ?_
    refine nr_le0 (tgt := 95) hx hb (by decide) dX8_begin_90 (by decide) (fun c_11 => absurd c_11 (by decide)) (fun c_11 => ?_)
    refine lv_iconst (v := nI 0) hx hb dX8_begin_93 (by decide) ?_
    exact zk_iret C hr hlocks Z ⟨rfl, rfl⟩ (Nat.le_of_ble_eq_true rfl) (Nat.le_of_ble_eq_true rfl) dX8_begin_94

