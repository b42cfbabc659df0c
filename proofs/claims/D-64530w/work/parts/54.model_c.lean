/-! ===== model: encode, burst, noise, syndrome, take, save ===== -/
set_option maxRecDepth 100000
/-- the model's word of a message -/
noncomputable def eno (R : Nat → Nat) (n ck x : Nat) : Nat := x <<< ck ||| rmd R n (x <<< ck)
noncomputable def mcF (R : Nat → Nat) (n ck : Nat) (M : List Nat) (w : Nat) (c : List Nat) : List Nat := c.set w (eno R n ck (M.getD w 0))
noncomputable def moF (R : Nat → Nat) (n ck : Nat) (M : List Nat) (w s : Nat) : Nat := s + one (eno R n ck (M.getD w 0))
/-- the model's syndrome -/
noncomputable def soF (p n wd j i s : Nat) : Nat := if wd >>> i &&& 1 = 1 then s ^^^ pw p (i * j % n) else s
noncomputable def sof (p n wd j : Nat) : Nat := zk_it (soF p n wd j) n 0 0
def tkC (D : List Nat) (w : Nat) (c : List Nat) : List Nat := c.set w (D.getD w 0)
def tkM (ck : Nat) (D : List Nat) (w : Nat) (c : List Nat) : List Nat := c.set w (D.getD w 0 >>> ck)
def svF (s : Nat) (C : List Nat) (w : Nat) (k : List Nat) : List Nat := k.set (4 * s + w) (C.getD w 0)
set_option maxHeartbeats 4000000 in
theorem lp8_enc {pg : Program} {l : Launch} {ev : Env} {s : State} {mm : MethodId} {args : Array Value} {below : List Frame} {meth : Method} {cd : Code} {Q : State → Prop} {D : va_G} {g : G4} {A : Nat → Prop} (C : zk_C pg s mm cd args cX8_encode 4 RX8 D g A) (hm ms ch kp md rs pr : Nat) (km p dg n t dep gn ck : Nat) (Rs : List Nat) (hRs : Rs.length = 31) (R_ : Nat → Nat) (hR : ∀ i, i < n → Rs.getD i 0 = R_ i) (n31 : n ≤ 31) (Ms : List Nat) (hMs : Ms.length = 4) (d4 : dep ≤ 4) (ckn : ck < n) (hx9 : ∀ j, Ms.getD j 0 <<< ck < 2 ^ 31) (hE : ∀ j, eno R_ n ck (Ms.getD j 0) < 2 ^ 31) (finC : List Nat) (finN : Nat) (kk : ∀ (H : Heap) (locs : List Loc) (ls : Array Slot), zk_Z D A s H locs [(hm, .inr (7, [.int (nI 0), .int (nI 1), .int (nI p), .int (nI dg), .int (nI n), .int (nI t), .int (nI dep), .int (nI gn), .int (nI ck), .ref ms, .ref ch, .ref kp, .ref md, .ref rs, .ref pr])), (ms, .inl (g.1, 4, .inl (zk_ia Ms))), (ch, .inl (g.1, 4, .inl (zk_ia finC))), (rs, .inl (g.1, 31, .inl (zk_ia Rs)))] → lv_has ls 4 [(0, .ref hm), (1, .int (nI finN))] → W pg l ev (zk_R 1 0 0) s mm args below meth cd H locs 0 0 Q (F0 mm 78 ls [])) :
    ∀ (k : Nat) (w : Nat) (Cs : List Nat) (nn : Nat) (H : Heap) (locs : List Loc) (ls : Array Slot), (w + k = dep) → (Cs.length = 4) → (zk_it (mcF R_ n ck Ms) k w Cs = finC) → (zk_it (moF R_ n ck Ms) k w nn = finN) → zk_Z D A s H locs [(hm, .inr (7, [.int (nI 0), .int (nI 1), .int (nI p), .int (nI dg), .int (nI n), .int (nI t), .int (nI dep), .int (nI gn), .int (nI ck), .ref ms, .ref ch, .ref kp, .ref md, .ref rs, .ref pr])), (ms, .inl (g.1, 4, .inl (zk_ia Ms))), (ch, .inl (g.1, 4, .inl (zk_ia Cs))), (rs, .inl (g.1, 31, .inl (zk_ia Rs)))] → lv_has ls 4 [(0, .ref hm), (1, .int (nI nn)), (2, .int (nI w))] → W pg l ev (zk_R 1 0 0) s mm args below meth cd H locs 0 0 Q (F0 mm 20 ls []) := by
  have hx := C.1.1
  have hb := C.1.2.1
  have hml := C.1.2.2.1
  have hown := C.1.2.2.2.1
  have hts := C.1.2.2.2.2
  intro k
  induction k with
  | zero =>
    intro w Cs nn H locs ls hik hCs hf1 hf2 Z hl
    have hf1 : Cs = finC := hf1
    have hf2 : nn = finN := hf2
    subst hf1
    subst hf2
    refine lv_iload_n hx hb dX8_encode_20 rfl (lv_at hl 2 rfl) ?_
    refine lv_aload_n hx hb dX8_encode_21 rfl (lv_at hl 0 rfl) ?_
    refine zk_get C Z in_X8 0 rfl rfl 6 (by decide) q603 rfl (v := .int (nI dep)) rfl dX8_encode_22 ?_
    refine nr_ge (tgt := 78) hx hb (by omega) (by omega) dX8_encode_25 (by decide) (fun c_1 => ?_) (fun c_1 => absurd c_1 (by omega))
    exact kk  H locs ls  Z (lv_sub hl [0, 1] rfl)
  | succ k ih =>
    intro w Cs nn H locs ls hik hCs hf1 hf2 Z hl
    refine lv_iload_n hx hb dX8_encode_20 rfl (lv_at hl 2 rfl) ?_
    refine lv_aload_n hx hb dX8_encode_21 rfl (lv_at hl 0 rfl) ?_
    refine zk_get C Z in_X8 0 rfl rfl 6 (by decide) q603 rfl (v := .int (nI dep)) rfl dX8_encode_22 ?_
    refine nr_ge (tgt := 78) hx hb (by omega) (by omega) dX8_encode_25 (by decide) (fun c_1 => absurd c_1 (by omega)) (fun c_1 => ?_)
    refine lv_aload_n hx hb dX8_encode_28 rfl (lv_at hl 0 rfl) ?_
    refine zk_get C Z in_X8 0 rfl rfl 1 (by decide) q598 rfl (v := .int (nI 1)) rfl dX8_encode_29 ?_
    refine nr_eq0 (tgt := 78) hx hb (by omega) dX8_encode_32 (by decide) (fun c_2 => absurd c_2 (by decide)) (fun c_2 => ?_)
    refine lv_aload_n hx hb dX8_encode_35 rfl (lv_at hl 0 rfl) ?_
    refine zk_get C Z in_X8 0 rfl rfl 9 (by decide) q606 rfl (v := .ref ms) rfl dX8_encode_36 ?_
    refine lv_iload_n hx hb dX8_encode_39 rfl (lv_at hl 2 rfl) ?_
    refine zk_iald C Z 1 rfl (by decide) (by omega) dX8_encode_40 ?_
    refine lv_aload_n hx hb dX8_encode_41 rfl (lv_at hl 0 rfl) ?_
    refine zk_get C Z in_X8 0 rfl rfl 8 (by decide) q605 rfl (v := .int (nI ck)) rfl dX8_encode_42 ?_
    refine nr_ishl hx hb (by omega) dX8_encode_45 ?_
    refine lv_istore_n (lv' := [(3, .int (nI ((Ms.getD w 0) <<< ck))), (0, .ref hm), (1, .int (nI nn)), (2, .int (nI w))]) hx hb dX8_encode_46 rfl hl (by decide) rfl (fun ls hl => ?_)
    refine lv_aload_n hx hb dX8_encode_47 rfl (lv_at hl 1 rfl) ?_
    refine zk_get C Z in_X8 0 rfl rfl 10 (by decide) q607 rfl (v := .ref ch) rfl dX8_encode_48 ?_
    refine lv_iload_n hx hb dX8_encode_51 rfl (lv_at hl 3 rfl) ?_
    refine lv_iload_n hx hb dX8_encode_52 rfl (lv_at hl 0 rfl) ?_
    refine lv_aload_n hx hb dX8_encode_53 rfl (lv_at hl 1 rfl) ?_
    refine lv_iload_n hx hb dX8_encode_54 rfl (lv_at hl 0 rfl) ?_
    refine zk_callV (cells' := 0) (slots' := 0) (rest := [.int (nI ((Ms.getD w 0) <<< ck)), .int (nI w), .ref ch]) (n := 1) (wr := [(ms, .inl (g.1, 4, .inl (zk_ia Ms))), (ch, .inl (g.1, 4, .inl (zk_ia Cs)))]) C Z (m8_rem l D g hm ms ch kp md rs pr 0 1 p dg n t dep gn ck ((Ms.getD w 0) <<< ck) Rs hRs R_ hR n31 (hx9 _)) [0, 3] [1, 2] rfl rfl (by decide) (by decide) (by decide) 0 7 rfl rfl rfl q708 q710 qs12 q26 q711 (by decide +kernel) rfl (Nat.le_of_ble_eq_true rfl) (Nat.le_of_ble_eq_true rfl) (Nat.le_of_ble_eq_true rfl) (Nat.le_of_ble_eq_true rfl) rfl rfl hl.1 rfl (Nat.le_of_ble_eq_true rfl) dX8_encode_55 (fun v w1 H locs hq Z => ?_)
    obtain ⟨rfl, rfl⟩ := hq
    have Z : zk_Z D A s H locs [(hm, .inr (7, [.int (nI 0), .int (nI 1), .int (nI p), .int (nI dg), .int (nI n), .int (nI t), .int (nI dep), .int (nI gn), .int (nI ck), .ref ms, .ref ch, .ref kp, .ref md, .ref rs, .ref pr])), (ms, .inl (g.1, 4, .inl (zk_ia Ms))), (ch, .inl (g.1, 4, .inl (zk_ia Cs))), (rs, .inl (g.1, 31, .inl (zk_ia Rs)))] := Z.sub [2, 0, 1, 3] (by decide) rfl
    refine W.eq (g2 := F0 mm 58 ls [.int (nI (rmd R_ n ((Ms.getD w 0) <<< ck))), .int (nI ((Ms.getD w 0) <<< ck)), .int (nI w), .ref ch]) rfl ?_
    refine nr_ior hx hb dX8_encode_58 ?_
    rw [show Ms.getD w 0 <<< ck ||| rmd R_ n (Ms.getD w 0 <<< ck) = eno R_ n ck (Ms.getD w 0) from rfl]
    refine zk_iast C Z 2 rfl (by decide) (by omega) hCs dX8_encode_59 (fun H locs Z => ?_)
    have hlen_3 : (Cs.set w (eno R_ n ck (Ms.getD w 0))).length = 4 := by rw [List.length_set]; exact hCs
    have Z : zk_Z D A s H locs [(hm, .inr (7, [.int (nI 0), .int (nI 1), .int (nI p), .int (nI dg), .int (nI n), .int (nI t), .int (nI dep), .int (nI gn), .int (nI ck), .ref ms, .ref ch, .ref kp, .ref md, .ref rs, .ref pr])), (ms, .inl (g.1, 4, .inl (zk_ia Ms))), (ch, .inl (g.1, 4, .inl (zk_ia (Cs.set w (eno R_ n ck (Ms.getD w 0)))))), (rs, .inl (g.1, 31, .inl (zk_ia Rs)))] := Z
    refine lv_iload_n hx hb dX8_encode_60 rfl (lv_at hl 2 rfl) ?_
    refine lv_aload_n hx hb dX8_encode_61 rfl (lv_at hl 1 rfl) ?_
    refine zk_get C Z in_X8 0 rfl rfl 10 (by decide) q607 rfl (v := .ref ch) rfl dX8_encode_62 ?_
    refine lv_iload_n hx hb dX8_encode_65 rfl (lv_at hl 3 rfl) ?_
    refine zk_iald C Z 2 rfl (by decide) (by omega) dX8_encode_66 ?_
    rw [show (Cs.set w (eno R_ n ck (Ms.getD w 0))).getD w 0 = eno R_ n ck (Ms.getD w 0) from zk_sg (by omega)]
    refine zk_callS (cells' := 0) (slots' := 0) (rest := [.int (nI nn)]) (n := 1) (wr := [(hm, .inr (7, [.int (nI 0), .int (nI 1), .int (nI p), .int (nI dg), .int (nI n), .int (nI t), .int (nI dep), .int (nI gn), .int (nI ck), .ref ms, .ref ch, .ref kp, .ref md, .ref rs, .ref pr])), (ms, .inl (g.1, 4, .inl (zk_ia Ms))), (ch, .inl (g.1, 4, .inl (zk_ia (Cs.set w (eno R_ n ck (Ms.getD w 0)))))), (rs, .inl (g.1, 31, .inl (zk_ia Rs)))]) C Z (m8_ones l D g (eno R_ n ck (Ms.getD w 0)) (hE _)) [] [0, 1, 2, 3] rfl rfl (by decide) (by decide) (by decide) q712 q713 q26 q714 (by decide +kernel) rfl (Nat.le_of_ble_eq_true rfl) (Nat.le_of_ble_eq_true rfl) (Nat.le_of_ble_eq_true rfl) (Nat.le_of_ble_eq_true rfl) rfl rfl hl.1 rfl (Nat.le_of_ble_eq_true rfl) dX8_encode_67 (fun v w1 H locs hq Z => ?_)
    obtain ⟨rfl, rfl⟩ := hq
    have Z : zk_Z D A s H locs [(hm, .inr (7, [.int (nI 0), .int (nI 1), .int (nI p), .int (nI dg), .int (nI n), .int (nI t), .int (nI dep), .int (nI gn), .int (nI ck), .ref ms, .ref ch, .ref kp, .ref md, .ref rs, .ref pr])), (ms, .inl (g.1, 4, .inl (zk_ia Ms))), (ch, .inl (g.1, 4, .inl (zk_ia (Cs.set w (eno R_ n ck (Ms.getD w 0)))))), (rs, .inl (g.1, 31, .inl (zk_ia Rs)))] := Z.sub [0, 1, 2, 3] (by decide) rfl
    refine W.eq (g2 := F0 mm 70 ls [.int (nI (one (eno R_ n ck (Ms.getD w 0)))), .int (nI nn)]) rfl ?_
    refine nr_iadd hx hb dX8_encode_70 ?_
    refine lv_istore_n (lv' := [(1, .int (nI (nn + (one (eno R_ n ck (Ms.getD w 0)))))), (3, .int (nI ((Ms.getD w 0) <<< ck))), (0, .ref hm), (2, .int (nI w))]) hx hb dX8_encode_71 rfl hl (by decide) rfl (fun ls hl => ?_)
    refine nr_iinc (n := 1) (lv' := [(2, .int (nI (w + 1))), (1, .int (nI (nn + (one (eno R_ n ck (Ms.getD w 0)))))), (3, .int (nI ((Ms.getD w 0) <<< ck))), (0, .ref hm)]) hx hb (by decide) dX8_encode_72 hl (k := 3) rfl (by decide) rfl (fun ls hl => ?_)
    refine lv_goto (tgt := 20) hx hb dX8_encode_75 (by decide) ?_
    exact ih (w + 1) (Cs.set w (eno R_ n ck (Ms.getD w 0))) (nn + (one (eno R_ n ck (Ms.getD w 0)))) H locs ls (by omega) hlen_3 hf1 hf2 Z (lv_sub hl [3, 1, 0] rfl)

set_option maxHeartbeats 4000000 in
/-- model: encode -/
theorem m8_enc (l : Launch) (D : va_G) (g : G4) (hm ms ch kp md rs pr : Nat) (km p dg n t dep gn ck : Nat) (Rs : List Nat) (hRs : Rs.length = 31) (R_ : Nat → Nat) (hR : ∀ i, i < n → Rs.getD i 0 = R_ i) (n31 : n ≤ 31) (Ms : List Nat) (hMs : Ms.length = 4) (d4 : dep ≤ 4) (ckn : ck < n) (hx9 : ∀ j, Ms.getD j 0 <<< ck < 2 ^ 31) (hE : ∀ j, eno R_ n ck (Ms.getD j 0) < 2 ^ 31) (Cs : List Nat) (hCs : Cs.length = 4) : zk_M l yX8_encode (ws_ yX8_encode cX8_encode 4 (some .int)) (zk_R 1 0 0) D g [.ref hm] [(hm, .inr (7, [.int (nI km), .int (nI 1), .int (nI p), .int (nI dg), .int (nI n), .int (nI t), .int (nI dep), .int (nI gn), .int (nI ck), .ref ms, .ref ch, .ref kp, .ref md, .ref rs, .ref pr])), (ms, .inl (g.1, 4, .inl (zk_ia Ms))), (ch, .inl (g.1, 4, .inl (zk_ia Cs))), (rs, .inl (g.1, 31, .inl (zk_ia Rs)))] (zk_D (some (.int (nI (zk_it (moF R_ n ck Ms) dep 0 0)))) [(hm, .inr (7, [.int (nI 0), .int (nI 1), .int (nI p), .int (nI dg), .int (nI n), .int (nI t), .int (nI dep), .int (nI gn), .int (nI ck), .ref ms, .ref ch, .ref kp, .ref md, .ref rs, .ref pr])), (ms, .inl (g.1, 4, .inl (zk_ia Ms))), (ch, .inl (g.1, 4, .inl (zk_ia (zk_it (mcF R_ n ck Ms) dep 0 Cs)))), (rs, .inl (g.1, 31, .inl (zk_ia Rs)))]) := by
  refine zk_ofW (by decide) (Nat.le_of_ble_eq_true rfl) ?_
  intro pg ev s mm below meth cd A C hr hlocks hname Z ls hl
  have hx := C.1.1
  have hb := C.1.2.1
  have hml := C.1.2.2.1
  have hown := C.1.2.2.2.1
  have hts := C.1.2.2.2.2
  have hl : lv_has ls 4 [(0, .ref hm)] := hl
  obtain ⟨H, hH⟩ : ∃ H, H = s.heap := ⟨_, rfl⟩
  obtain ⟨locs, hlocs⟩ : ∃ q : List Loc, q = [] := ⟨_, rfl⟩
  rw [← hH, ← hlocs] at Z ⊢
  refine lv_aload_n hx hb dX8_encode_0 rfl (lv_at hl 0 rfl) ?_
  refine lv_aload_n hx hb dX8_encode_1 rfl (lv_at hl 0 rfl) ?_
  refine zk_get C Z in_X8 0 rfl rfl 1 (by decide) q598 rfl (v := .int (nI 1)) rfl dX8_encode_2 ?_
  refine nr_eq0 (tgt := 12) hx hb (by omega) dX8_encode_5 (by decide) (fun c_1 => absurd c_1 (by decide)) (fun c_1 => ?_)
  refine lv_iconst (v := nI 0) hx hb dX8_encode_8 (by decide) ?_
  refine lv_goto (tgt := 13) hx hb dX8_encode_9 (by decide) ?_
  refine zk_put C Z in_X8 tyX8 tyX8_ok nmX8 0 rfl rfl 0 (by decide) q597 rfl rfl (v := .int (nI 0)) rfl rfl (Nat.le_of_ble_eq_true rfl) dX8_encode_13 (fun H locs Z => ?_)
  have Z : zk_Z D A s H locs [(hm, .inr (7, [.int (nI 0), .int (nI 1), .int (nI p), .int (nI dg), .int (nI n), .int (nI t), .int (nI dep), .int (nI gn), .int (nI ck), .ref ms, .ref ch, .ref kp, .ref md, .ref rs, .ref pr])), (ms, .inl (g.1, 4, .inl (zk_ia Ms))), (ch, .inl (g.1, 4, .inl (zk_ia Cs))), (rs, .inl (g.1, 31, .inl (zk_ia Rs)))] := Z
  refine lv_iconst (v := nI 0) hx hb dX8_encode_16 (by decide) ?_
  refine lv_istore_n (lv' := [(1, .int (nI 0)), (0, .ref hm)]) hx hb dX8_encode_17 rfl hl (by decide) rfl (fun ls hl => ?_)
  refine lv_iconst (v := nI 0) hx hb dX8_encode_18 (by decide) ?_
  refine lv_istore_n (lv' := [(2, .int (nI 0)), (1, .int (nI 0)), (0, .ref hm)]) hx hb dX8_encode_19 rfl hl (by decide) rfl (fun ls hl => ?_)
  refine lp8_enc C hm ms ch kp md rs pr km p dg n t dep gn ck Rs hRs R_ hR n31 Ms hMs d4 ckn hx9 hE _ _ (fun H locs ls Z hl => ?_) dep 0 Cs 0 H locs ls (by omega) hCs rfl rfl Z (lv_sub hl [2, 1, 0] rfl)
  refine lv_iload_n hx hb dX8_encode_78 rfl (lv_at hl 1 rfl) ?_
  exact zk_iret C hr hlocks Z ⟨rfl, rfl⟩ (Nat.le_of_ble_eq_true rfl) (Nat.le_of_ble_eq_true rfl) dX8_encode_79

set_option maxHeartbeats 4000000 in
/-- model: encode, not begun -/
theorem v8_enc (l : Launch) (D : va_G) (g : G4) (hm ms ch kp md rs pr : Nat) (km : Nat) : zk_M l yX8_encode (ws_ yX8_encode cX8_encode 4 (some .int)) (zk_R 0 0 0) D g [.ref hm] [(hm, .inr (7, [.int (nI km), .int (nI 0), .int (nI 0), .int (nI 0), .int (nI 0), .int (nI 0), .int (nI 0), .int (nI 0), .int (nI 0), .ref ms, .ref ch, .ref kp, .ref md, .ref rs, .ref pr]))] (zk_D (some (.int (nI 0))) [(hm, .inr (7, [.int (nI 1), .int (nI 0), .int (nI 0), .int (nI 0), .int (nI 0), .int (nI 0), .int (nI 0), .int (nI 0), .int (nI 0), .ref ms, .ref ch, .ref kp, .ref md, .ref rs, .ref pr]))]) := by
  refine zk_ofW (by decide) (Nat.le_of_ble_eq_true rfl) ?_
  intro pg ev s mm below meth cd A C hr hlocks hname Z ls hl
  have hx := C.1.1
  have hb := C.1.2.1
  have hml := C.1.2.2.1
  have hown := C.1.2.2.2.1
  have hts := C.1.2.2.2.2
  have hl : lv_has ls 4 [(0, .ref hm)] := hl
  refine lv_aload_n hx hb dX8_encode_0 rfl (lv_at hl 0 rfl) ?_
  refine lv_aload_n hx hb dX8_encode_1 rfl (lv_at hl 0 rfl) ?_
  refine zk_get C Z in_X8 0 rfl rfl 1 (by decide) q598 rfl (v := .int (nI 0)) rfl dX8_encode_2 ?_
  refine nr_eq0 (tgt := 12) hx hb (by omega) dX8_encode_5 (by decide) (fun c_1 => ?_) (fun c_1 => absurd c_1 (fun q => q rfl))
  refine lv_iconst (v := nI 1) hx hb dX8_encode_12 (by decide) ?_
  refine zk_put C Z in_X8 tyX8 tyX8_ok nmX8 0 rfl rfl 0 (by decide) q597 rfl rfl (v := .int (nI 1)) rfl rfl (Nat.le_of_ble_eq_true rfl) dX8_encode_13 (fun H locs Z => ?_)
  have Z : zk_Z D A s H locs [(hm, .inr (7, [.int (nI 1), .int (nI 0), .int (nI 0), .int (nI 0), .int (nI 0), .int (nI 0), .int (nI 0), .int (nI 0), .int (nI 0), .ref ms, .ref ch, .ref kp, .ref md, .ref rs, .ref pr]))] := Z
  refine lv_iconst (v := nI 0) hx hb dX8_encode_16 (by decide) ?_
  refine lv_istore_n (lv' := [(1, .int (nI 0)), (0, .ref hm)]) hx hb dX8_encode_17 rfl hl (by decide) rfl (fun ls hl => ?_)
  refine lv_iconst (v := nI 0) hx hb dX8_encode_18 (by decide) ?_
  refine lv_istore_n (lv' := [(2, .int (nI 0)), (1, .int (nI 0)), (0, .ref hm)]) hx hb dX8_encode_19 rfl hl (by decide) rfl (fun ls hl => ?_)
  refine lv_iload_n hx hb dX8_encode_20 rfl (lv_at hl 0 rfl) ?_
  refine lv_aload_n hx hb dX8_encode_21 rfl (lv_at hl 2 rfl) ?_
  refine zk_get C Z in_X8 0 rfl rfl 6 (by decide) q603 rfl (v := .int (nI 0)) rfl dX8_encode_22 ?_
  refine nr_ge (tgt := 78) hx hb (by decide) (by decide) dX8_encode_25 (by decide) (fun c_2 => ?_) (fun c_2 => absurd c_2 (by decide))
  refine lv_iload_n hx hb dX8_encode_78 rfl (lv_at hl 1 rfl) ?_
  exact zk_iret C hr hlocks Z ⟨rfl, rfl⟩ (Nat.le_of_ble_eq_true rfl) (Nat.le_of_ble_eq_true rfl) dX8_encode_79

set_option maxHeartbeats 4000000 in
theorem lp8_burst {pg : Program} {l : Launch} {ev : Env} {s : State} {mm : MethodId} {args : Array Value} {below : List Frame} {meth : Method} {cd : Code} {Q : State → Prop} {D : va_G} {g : G4} {A : Nat → Prop} (C : zk_C pg s mm cd args cX8_burst 5 RX8 D g A) (hm ms ch kp md rs pr : Nat) (km p dg n t dep gn ck : Nat) (d4 : dep ≤ 4) (d1 : 1 ≤ dep) (n31 : n ≤ 31) (i m : Nat) (him : i + m ≤ dep * n) (fin : List Nat) (kk : ∀ (H : Heap) (locs : List Loc) (ls : Array Slot), zk_Z D A s H locs [(hm, .inr (7, [.int (nI 0), .int (nI 1), .int (nI p), .int (nI dg), .int (nI n), .int (nI t), .int (nI dep), .int (nI gn), .int (nI ck), .ref ms, .ref ch, .ref kp, .ref md, .ref rs, .ref pr])), (ch, .inl (g.1, 4, .inl (zk_ia fin)))] → lv_has ls 5 [(0, .ref hm)] → W pg l ev (zk_R 1 0 0) s mm args below meth cd H locs 0 0 Q (F0 mm 98 ls [])) :
    ∀ (k : Nat) (j : Nat) (Cs : List Nat) (H : Heap) (locs : List Loc) (ls : Array Slot), (j + k = m) → (Cs.length = 4) → (zk_it (flF dep) k (i + j) Cs = fin) → zk_Z D A s H locs [(hm, .inr (7, [.int (nI 0), .int (nI 1), .int (nI p), .int (nI dg), .int (nI n), .int (nI t), .int (nI dep), .int (nI gn), .int (nI ck), .ref ms, .ref ch, .ref kp, .ref md, .ref rs, .ref pr])), (ch, .inl (g.1, 4, .inl (zk_ia Cs)))] → lv_has ls 5 [(0, .ref hm), (1, .int (nI i)), (2, .int (nI m)), (4, .int (nI j))] → W pg l ev (zk_R 1 0 0) s mm args below meth cd H locs 0 0 Q (F0 mm 71 ls []) := by
  have hx := C.1.1
  have hb := C.1.2.1
  have hml := C.1.2.2.1
  have hown := C.1.2.2.2.1
  have hts := C.1.2.2.2.2
  have hdk := Nat.mul_le_mul d4 n31
  intro k
  induction k with
  | zero =>
    intro j Cs H locs ls hik hCs hfin Z hl
    have hfin : Cs = fin := hfin
    subst hfin
    refine lv_iload hx hb dX8_burst_71 (lv_at hl 3 rfl) ?_
    refine lv_iload_n hx hb dX8_burst_73 rfl (lv_at hl 2 rfl) ?_
    refine nr_ge (tgt := 98) hx hb (by omega) (by omega) dX8_burst_74 (by decide) (fun c_1 => ?_) (fun c_1 => absurd c_1 (by omega))
    exact kk  H locs ls  Z (lv_sub hl [0] rfl)
  | succ k ih =>
    intro j Cs H locs ls hik hCs hfin Z hl
    refine lv_iload hx hb dX8_burst_71 (lv_at hl 3 rfl) ?_
    refine lv_iload_n hx hb dX8_burst_73 rfl (lv_at hl 2 rfl) ?_
    refine nr_ge (tgt := 98) hx hb (by omega) (by omega) dX8_burst_74 (by decide) (fun c_1 => absurd c_1 (by omega)) (fun c_1 => ?_)
    refine lv_aload_n hx hb dX8_burst_77 rfl (lv_at hl 0 rfl) ?_
    refine zk_get C Z in_X8 0 rfl rfl 0 (by decide) q597 rfl (v := .int (nI 0)) rfl dX8_burst_78 ?_
    refine nr_ne0 (tgt := 98) hx hb (by decide) dX8_burst_81 (by decide) (fun c_2 => absurd c_2 (fun q => q rfl)) (fun c_2 => ?_)
    refine lv_aload_n hx hb dX8_burst_84 rfl (lv_at hl 0 rfl) ?_
    refine lv_iload_n hx hb dX8_burst_85 rfl (lv_at hl 1 rfl) ?_
    refine lv_iload hx hb dX8_burst_86 (lv_at hl 3 rfl) ?_
    refine nr_iadd hx hb dX8_burst_88 ?_
    have hlen_3 : (flF dep (i + j) Cs).length = 4 := by rw [flF_len]; exact hCs
    refine zk_callV (cells' := 0) (slots' := 0) (rest := []) (n := 1) (wr := []) C Z (m8_flip l D g hm ms ch kp md rs pr 0 p dg n t dep gn ck Cs hCs d4 d1 n31 (i + j) (by omega)) [0, 1] [] rfl rfl (by decide) (by decide) (by decide) 0 7 rfl rfl rfl q727 q729 qs14 q26 q730 (by decide +kernel) rfl (Nat.le_of_ble_eq_true rfl) (Nat.le_of_ble_eq_true rfl) (Nat.le_of_ble_eq_true rfl) (Nat.le_of_ble_eq_true rfl) rfl rfl hl.1 rfl (Nat.le_of_ble_eq_true rfl) dX8_burst_89 (fun v w1 H locs hq Z => ?_)
    obtain ⟨rfl, rfl⟩ := hq
    have Z : zk_Z D A s H locs [(hm, .inr (7, [.int (nI 0), .int (nI 1), .int (nI p), .int (nI dg), .int (nI n), .int (nI t), .int (nI dep), .int (nI gn), .int (nI ck), .ref ms, .ref ch, .ref kp, .ref md, .ref rs, .ref pr])), (ch, .inl (g.1, 4, .inl (zk_ia (flF dep (i + j) Cs))))] := Z.sub [0, 1] (by decide) rfl
    refine W.eq (g2 := F0 mm 92 ls []) rfl ?_
    refine nr_iinc (n := 1) (lv' := [(4, .int (nI (j + 1))), (0, .ref hm), (1, .int (nI i)), (2, .int (nI m))]) hx hb (by decide) dX8_burst_92 hl (k := 3) rfl (by decide) rfl (fun ls hl => ?_)
    refine lv_goto (tgt := 71) hx hb dX8_burst_95 (by decide) ?_
    exact ih (j + 1) (flF dep (i + j) Cs) H locs ls (by omega) hlen_3 (by rw [show i + (j + 1) = i + j + 1 from rfl]; exact hfin) Z (lv_sub hl [1, 2, 3, 0] rfl)

set_option maxHeartbeats 4000000 in
/-- model: burst -/
theorem m8_burst (l : Launch) (D : va_G) (g : G4) (hm ms ch kp md rs pr : Nat) (km p dg n t dep gn ck : Nat) (Cs : List Nat) (hCs : Cs.length = 4) (d4 : dep ≤ 4) (d1 : 1 ≤ dep) (n31 : n ≤ 31) (i m : Nat) (hi : i < dep * n) (hm_ : m ≤ dep * n - i) (m1 : 1 ≤ m) (m124 : m ≤ 124) : zk_M l yX8_burst (ws_ yX8_burst cX8_burst 5 none) (zk_R 1 0 0) D g [.ref hm, .int (nI i), .int (nI m)] [(hm, .inr (7, [.int (nI km), .int (nI 1), .int (nI p), .int (nI dg), .int (nI n), .int (nI t), .int (nI dep), .int (nI gn), .int (nI ck), .ref ms, .ref ch, .ref kp, .ref md, .ref rs, .ref pr])), (ch, .inl (g.1, 4, .inl (zk_ia Cs)))] (zk_D none [(hm, .inr (7, [.int (nI 0), .int (nI 1), .int (nI p), .int (nI dg), .int (nI n), .int (nI t), .int (nI dep), .int (nI gn), .int (nI ck), .ref ms, .ref ch, .ref kp, .ref md, .ref rs, .ref pr])), (ch, .inl (g.1, 4, .inl (zk_ia (zk_it (flF dep) m i Cs))))]) := by
  refine zk_ofW (by decide) (Nat.le_of_ble_eq_true rfl) ?_
  intro pg ev s mm below meth cd A C hr hlocks hname Z ls hl
  have hx := C.1.1
  have hb := C.1.2.1
  have hml := C.1.2.2.1
  have hown := C.1.2.2.2.1
  have hts := C.1.2.2.2.2
  have hl : lv_has ls 5 [(0, .ref hm), (1, .int (nI i)), (2, .int (nI m))] := hl
  have hdk := Nat.mul_le_mul d4 n31
  obtain ⟨H, hH⟩ : ∃ H, H = s.heap := ⟨_, rfl⟩
  obtain ⟨locs, hlocs⟩ : ∃ q : List Loc, q = [] := ⟨_, rfl⟩
  rw [← hH, ← hlocs] at Z ⊢
  refine lv_iload_n hx hb dX8_burst_0 rfl (lv_at hl 1 rfl) ?_
  refine lv_iconst (v := nI 0) hx hb dX8_burst_1 (by decide) ?_
  refine lv_aload_n hx hb dX8_burst_2 rfl (lv_at hl 0 rfl) ?_
  refine zk_callV (cells' := 0) (slots' := 0) (rest := [.int (nI 0), .int (nI i)]) (n := 0) (wr := [(ch, .inl (g.1, 4, .inl (zk_ia Cs)))]) C Z (m8_cb l D g hm ms ch kp md rs pr km p dg n t dep gn ck) [0] [1] rfl rfl (by decide) (by decide) (by decide) 0 7 rfl rfl rfl q719 q721 qs13 q26 q722 (by decide +kernel) rfl (Nat.le_of_ble_eq_true rfl) (Nat.le_of_ble_eq_true rfl) (Nat.le_of_ble_eq_true rfl) (Nat.le_of_ble_eq_true rfl) rfl rfl hl.1 rfl (Nat.le_of_ble_eq_true rfl) dX8_burst_3 (fun v w1 H locs hq Z => ?_)
  obtain ⟨rfl, rfl⟩ := hq
  have Z : zk_Z D A s H locs [(hm, .inr (7, [.int (nI km), .int (nI 1), .int (nI p), .int (nI dg), .int (nI n), .int (nI t), .int (nI dep), .int (nI gn), .int (nI ck), .ref ms, .ref ch, .ref kp, .ref md, .ref rs, .ref pr])), (ch, .inl (g.1, 4, .inl (zk_ia Cs)))] := Z.sub [1, 0] (by decide) rfl
  refine W.eq (g2 := F0 mm 6 ls [.int (nI (dep * n)), .int (nI 0), .int (nI i)]) rfl ?_
  refine lv_iconst (v := nI 1) hx hb dX8_burst_6 (by decide) ?_
  refine nr_isub hx hb (by omega) dX8_burst_7 ?_
  refine zk_callS (cells' := 0) (slots' := 0) (rest := []) (n := 3) (wr := [(hm, .inr (7, [.int (nI km), .int (nI 1), .int (nI p), .int (nI dg), .int (nI n), .int (nI t), .int (nI dep), .int (nI gn), .int (nI ck), .ref ms, .ref ch, .ref kp, .ref md, .ref rs, .ref pr])), (ch, .inl (g.1, 4, .inl (zk_ia Cs)))]) C Z (m8_in1 l D g (nI i) (nI 0) (nI ((dep * n) - 1)) (zk_le (Nat.zero_le i) (by omega)) (zk_le (by omega) (by omega))) [] [0, 1] rfl rfl (by decide) (by decide) (by decide) q651 q652 q26 q653 (by decide +kernel) rfl (Nat.le_of_ble_eq_true rfl) (Nat.le_of_ble_eq_true rfl) (Nat.le_of_ble_eq_true rfl) (Nat.le_of_ble_eq_true rfl) rfl rfl hl.1 rfl (Nat.le_of_ble_eq_true rfl) dX8_burst_8 (fun v w1 H locs hq Z => ?_)
  obtain ⟨rfl, rfl⟩ := hq
  have Z : zk_Z D A s H locs [(hm, .inr (7, [.int (nI km), .int (nI 1), .int (nI p), .int (nI dg), .int (nI n), .int (nI t), .int (nI dep), .int (nI gn), .int (nI ck), .ref ms, .ref ch, .ref kp, .ref md, .ref rs, .ref pr])), (ch, .inl (g.1, 4, .inl (zk_ia Cs)))] := Z.sub [0, 1] (by decide) rfl
  refine W.eq (g2 := F0 mm 11 ls [.int (nI 1)]) rfl ?_
  refine nr_eq0 (tgt := 24) hx hb (by omega) dX8_burst_11 (by decide) (fun c_1 => absurd c_1 (by decide)) (fun c_1 => ?_)
  refine lv_iload_n hx hb dX8_burst_14 rfl (lv_at hl 2 rfl) ?_
  refine lv_aload_n hx hb dX8_burst_15 rfl (lv_at hl 0 rfl) ?_
  refine zk_callV (cells' := 0) (slots' := 0) (rest := [.int (nI m)]) (n := 0) (wr := [(ch, .inl (g.1, 4, .inl (zk_ia Cs)))]) C Z (m8_cb l D g hm ms ch kp md rs pr km p dg n t dep gn ck) [0] [1] rfl rfl (by decide) (by decide) (by decide) 0 7 rfl rfl rfl q719 q721 qs13 q26 q722 (by decide +kernel) rfl (Nat.le_of_ble_eq_true rfl) (Nat.le_of_ble_eq_true rfl) (Nat.le_of_ble_eq_true rfl) (Nat.le_of_ble_eq_true rfl) rfl rfl hl.1 rfl (Nat.le_of_ble_eq_true rfl) dX8_burst_16 (fun v w1 H locs hq Z => ?_)
  obtain ⟨rfl, rfl⟩ := hq
  have Z : zk_Z D A s H locs [(hm, .inr (7, [.int (nI km), .int (nI 1), .int (nI p), .int (nI dg), .int (nI n), .int (nI t), .int (nI dep), .int (nI gn), .int (nI ck), .ref ms, .ref ch, .ref kp, .ref md, .ref rs, .ref pr])), (ch, .inl (g.1, 4, .inl (zk_ia Cs)))] := Z.sub [1, 0] (by decide) rfl
  refine W.eq (g2 := F0 mm 19 ls [.int (nI (dep * n)), .int (nI m)]) rfl ?_
  refine lv_iload_n hx hb dX8_burst_19 rfl (lv_at hl 1 rfl) ?_
  refine nr_isub hx hb (by omega) dX8_burst_20 ?_
  refine nr_le (tgt := 28) hx hb (by omega) (by omega) dX8_burst_21 (by decide) (fun c_2 => ?_) (fun c_2 => absurd c_2 (by omega))
  refine lv_iconst (v := nI 0) hx hb dX8_burst_28 (by decide) ?_
  refine lv_istore_n (lv' := [(3, .int (nI 0)), (0, .ref hm), (1, .int (nI i)), (2, .int (nI m))]) hx hb dX8_burst_29 rfl hl (by decide) rfl (fun ls hl => ?_)
  refine lv_aload_n hx hb dX8_burst_30 rfl (lv_at hl 1 rfl) ?_
  refine lv_aload_n hx hb dX8_burst_31 rfl (lv_at hl 1 rfl) ?_
  refine zk_get C Z in_X8 0 rfl rfl 1 (by decide) q598 rfl (v := .int (nI 1)) rfl dX8_burst_32 ?_
  refine nr_ne0 (tgt := 42) hx hb (by omega) dX8_burst_35 (by decide) (fun c_3 => ?_) (fun c_3 => absurd c_3 (by decide))
  refine lv_iload_n hx hb dX8_burst_42 rfl (lv_at hl 0 rfl) ?_
  refine nr_eq0 (tgt := 50) hx hb (by decide) dX8_burst_43 (by decide) (fun c_4 => ?_) (fun c_4 => absurd c_4 (fun q => q rfl))
  refine lv_iload_n hx hb dX8_burst_50 rfl (lv_at hl 3 rfl) ?_
  refine lv_iconst (v := nI 1) hx hb dX8_burst_51 (by decide) ?_
  refine lv_bipush (v := nI 124) hx hb dX8_burst_52 (by decide) ?_
  refine zk_callS (cells' := 0) (slots' := 0) (rest := [.ref hm]) (n := 3) (wr := [(hm, .inr (7, [.int (nI km), .int (nI 1), .int (nI p), .int (nI dg), .int (nI n), .int (nI t), .int (nI dep), .int (nI gn), .int (nI ck), .ref ms, .ref ch, .ref kp, .ref md, .ref rs, .ref pr])), (ch, .inl (g.1, 4, .inl (zk_ia Cs)))]) C Z (m8_in1 l D g (nI m) (nI 1) (nI 124) (zk_le m1 (by omega)) (zk_le m124 (by decide))) [] [0, 1] rfl rfl (by decide) (by decide) (by decide) q651 q652 q26 q653 (by decide +kernel) rfl (Nat.le_of_ble_eq_true rfl) (Nat.le_of_ble_eq_true rfl) (Nat.le_of_ble_eq_true rfl) (Nat.le_of_ble_eq_true rfl) rfl rfl hl.1 rfl (Nat.le_of_ble_eq_true rfl) dX8_burst_54 (fun v w1 H locs hq Z => ?_)
  obtain ⟨rfl, rfl⟩ := hq
  have Z : zk_Z D A s H locs [(hm, .inr (7, [.int (nI km), .int (nI 1), .int (nI p), .int (nI dg), .int (nI n), .int (nI t), .int (nI dep), .int (nI gn), .int (nI ck), .ref ms, .ref ch, .ref kp, .ref md, .ref rs, .ref pr])), (ch, .inl (g.1, 4, .inl (zk_ia Cs)))] := Z.sub [0, 1] (by decide) rfl
  refine W.eq (g2 := F0 mm 57 ls [.int (nI 1), .ref hm]) rfl ?_
  refine nr_eq0 (tgt := 64) hx hb (by omega) dX8_burst_57 (by decide) (fun c_5 => absurd c_5 (by decide)) (fun c_5 => ?_)
  refine lv_iconst (v := nI 0) hx hb dX8_burst_60 (by decide) ?_
  refine lv_goto (tgt := 65) hx hb dX8_burst_61 (by decide) ?_
  refine zk_put C Z in_X8 tyX8 tyX8_ok nmX8 0 rfl rfl 0 (by decide) q597 rfl rfl (v := .int (nI 0)) rfl rfl (Nat.le_of_ble_eq_true rfl) dX8_burst_65 (fun H locs Z => ?_)
  have Z : zk_Z D A s H locs [(hm, .inr (7, [.int (nI 0), .int (nI 1), .int (nI p), .int (nI dg), .int (nI n), .int (nI t), .int (nI dep), .int (nI gn), .int (nI ck), .ref ms, .ref ch, .ref kp, .ref md, .ref rs, .ref pr])), (ch, .inl (g.1, 4, .inl (zk_ia Cs)))] := Z
  refine lv_iconst (v := nI 0) hx hb dX8_burst_68 (by decide) ?_
  refine lv_istore (lv' := [(4, .int (nI 0)), (3, .int (nI 0)), (0, .ref hm), (1, .int (nI i)), (2, .int (nI m))]) hx hb dX8_burst_69 hl (by decide) rfl (fun ls hl => ?_)
  refine lp8_burst C hm ms ch kp md rs pr km p dg n t dep gn ck d4 d1 n31 i m (by omega) _ (fun H locs ls Z hl => ?_) m 0 Cs H locs ls (by omega) hCs rfl Z (lv_sub hl [2, 3, 4, 0] rfl)
  exact zk_vret C hr hlocks Z ⟨rfl, rfl⟩ (Nat.le_of_ble_eq_true rfl) (Nat.le_of_ble_eq_true rfl) dX8_burst_98

set_option maxHeartbeats 4000000 in
/-- model: burst, none such -/
theorem w8_burst_i (l : Launch) (D : va_G) (g : G4) (hm ms ch kp md rs pr : Nat) (km p dg n t dep gn ck : Nat) (i m : Int32) (d1 : 1 ≤ dep * n) (h0_ : ¬ (nI 0 ≤ i ∧ i ≤ nI (dep * n - 1))) : zk_M l yX8_burst (ws_ yX8_burst cX8_burst 5 none) (zk_R 1 0 0) D g [.ref hm, .int i, .int m] [(hm, .inr (7, [.int (nI km), .int (nI 1), .int (nI p), .int (nI dg), .int (nI n), .int (nI t), .int (nI dep), .int (nI gn), .int (nI ck), .ref ms, .ref ch, .ref kp, .ref md, .ref rs, .ref pr]))] (zk_D none [(hm, .inr (7, [.int (nI 2), .int (nI 1), .int (nI p), .int (nI dg), .int (nI n), .int (nI t), .int (nI dep), .int (nI gn), .int (nI ck), .ref ms, .ref ch, .ref kp, .ref md, .ref rs, .ref pr]))]) := by
  refine zk_ofW (by decide) (Nat.le_of_ble_eq_true rfl) ?_
  intro pg ev s mm below meth cd A C hr hlocks hname Z ls hl
  have hx := C.1.1
  have hb := C.1.2.1
  have hml := C.1.2.2.1
  have hown := C.1.2.2.2.1
  have hts := C.1.2.2.2.2
  have hl : lv_has ls 5 [(0, .ref hm), (1, .int i), (2, .int m)] := hl
  refine lv_iload_n hx hb dX8_burst_0 rfl (lv_at hl 1 rfl) ?_
  refine lv_iconst (v := nI 0) hx hb dX8_burst_1 (by decide) ?_
  refine lv_aload_n hx hb dX8_burst_2 rfl (lv_at hl 0 rfl) ?_
  refine zk_callV (cells' := 0) (slots' := 0) (rest := [.int (nI 0), .int i]) (n := 0) (wr := []) C Z (m8_cb l D g hm ms ch kp md rs pr km p dg n t dep gn ck) [0] [] rfl rfl (by decide) (by decide) (by decide) 0 7 rfl rfl rfl q719 q721 qs13 q26 q722 (by decide +kernel) rfl (Nat.le_of_ble_eq_true rfl) (Nat.le_of_ble_eq_true rfl) (Nat.le_of_ble_eq_true rfl) (Nat.le_of_ble_eq_true rfl) rfl rfl hl.1 rfl (Nat.le_of_ble_eq_true rfl) dX8_burst_3 (fun v w1 H locs hq Z => ?_)
  obtain ⟨rfl, rfl⟩ := hq
  have Z : zk_Z D A s H locs [(hm, .inr (7, [.int (nI km), .int (nI 1), .int (nI p), .int (nI dg), .int (nI n), .int (nI t), .int (nI dep), .int (nI gn), .int (nI ck), .ref ms, .ref ch, .ref kp, .ref md, .ref rs, .ref pr]))] := Z.sub [0] (by decide) rfl
  refine W.eq (g2 := F0 mm 6 ls [.int (nI (dep * n)), .int (nI 0), .int i]) rfl ?_
  refine lv_iconst (v := nI 1) hx hb dX8_burst_6 (by decide) ?_
  refine nr_isub hx hb d1 dX8_burst_7 ?_
  refine zk_callS (cells' := 0) (slots' := 0) (rest := []) (n := 3) (wr := [(hm, .inr (7, [.int (nI km), .int (nI 1), .int (nI p), .int (nI dg), .int (nI n), .int (nI t), .int (nI dep), .int (nI gn), .int (nI ck), .ref ms, .ref ch, .ref kp, .ref md, .ref rs, .ref pr]))]) C Z (m8_in0 l D g i (nI 0) (nI ((dep * n) - 1)) h0_) [] [0] rfl rfl (by decide) (by decide) (by decide) q651 q652 q26 q653 (by decide +kernel) rfl (Nat.le_of_ble_eq_true rfl) (Nat.le_of_ble_eq_true rfl) (Nat.le_of_ble_eq_true rfl) (Nat.le_of_ble_eq_true rfl) rfl rfl hl.1 rfl (Nat.le_of_ble_eq_true rfl) dX8_burst_8 (fun v w1 H locs hq Z => ?_)
  obtain ⟨rfl, rfl⟩ := hq
  have Z : zk_Z D A s H locs [(hm, .inr (7, [.int (nI km), .int (nI 1), .int (nI p), .int (nI dg), .int (nI n), .int (nI t), .int (nI dep), .int (nI gn), .int (nI ck), .ref ms, .ref ch, .ref kp, .ref md, .ref rs, .ref pr]))] := Z.sub [0] (by decide) rfl
  refine W.eq (g2 := F0 mm 11 ls [.int (nI 0)]) rfl ?_
  refine nr_eq0 (tgt := 24) hx hb (by omega) dX8_burst_11 (by decide) (fun c_1 => ?_) (fun c_1 => absurd c_1 (fun q => q rfl))
  refine lv_iconst (v := nI 1) hx hb dX8_burst_24 (by decide) ?_
  refine lv_goto (tgt := 29) hx hb dX8_burst_25 (by decide) ?_
  refine lv_istore_n (lv' := [(3, .int (nI 1)), (0, .ref hm), (1, .int i), (2, .int m)]) hx hb dX8_burst_29 rfl hl (by decide) rfl (fun ls hl => ?_)
  refine lv_aload_n hx hb dX8_burst_30 rfl (lv_at hl 1 rfl) ?_
  refine lv_aload_n hx hb dX8_burst_31 rfl (lv_at hl 1 rfl) ?_
  refine zk_get C Z in_X8 0 rfl rfl 1 (by decide) q598 rfl (v := .int (nI 1)) rfl dX8_burst_32 ?_
  refine nr_ne0 (tgt := 42) hx hb (by omega) dX8_burst_35 (by decide) (fun c_2 => ?_) (fun c_2 => absurd c_2 (by decide))
  refine lv_iload_n hx hb dX8_burst_42 rfl (lv_at hl 0 rfl) ?_
  refine nr_eq0 (tgt := 50) hx hb (by decide) dX8_burst_43 (by decide) (fun c_3 => absurd c_3 (by decide)) (fun c_3 => ?_)
  refine lv_iconst (v := nI 2) hx hb dX8_burst_46 (by decide) ?_
  refine lv_goto (tgt := 65) hx hb dX8_burst_47 (by decide) ?_
  refine zk_put C Z in_X8 tyX8 tyX8_ok nmX8 0 rfl rfl 0 (by decide) q597 rfl rfl (v := .int (nI 2)) rfl rfl (Nat.le_of_ble_eq_true rfl) dX8_burst_65 (fun H locs Z => ?_)
  have Z : zk_Z D A s H locs [(hm, .inr (7, [.int (nI 2), .int (nI 1), .int (nI p), .int (nI dg), .int (nI n), .int (nI t), .int (nI dep), .int (nI gn), .int (nI ck), .ref ms, .ref ch, .ref kp, .ref md, .ref rs, .ref pr]))] := Z
  refine lv_iconst (v := nI 0) hx hb dX8_burst_68 (by decide) ?_
  refine lv_istore (lv' := [(4, .int (nI 0)), (3, .int (nI 1)), (0, .ref hm), (1, .int i), (2, .int m)]) hx hb dX8_burst_69 hl (by decide) rfl (fun ls hl => ?_)
  refine lv_iload hx hb dX8_burst_71 (lv_at hl 0 rfl) ?_
  refine lv_iload_n hx hb dX8_burst_73 rfl (lv_at hl 4 rfl) ?_
  refine lv_icmp_ge (tgt := 98) hx hb dX8_burst_74 (by decide) (fun c_4 => ?_) (fun c_4 => ?_)
  · exact zk_vret C hr hlocks Z ⟨rfl, rfl⟩ (Nat.le_of_ble_eq_true rfl) (Nat.le_of_ble_eq_true rfl) dX8_burst_98
  · refine lv_aload_n hx hb dX8_burst_77 rfl (lv_at hl 2 rfl) ?_
    refine zk_get C Z in_X8 0 rfl rfl 0 (by decide) q597 rfl (v := .int (nI 2)) rfl dX8_burst_78 ?_
    refine nr_ne0 (tgt := 98) hx hb (by decide) dX8_burst_81 (by decide) (fun c_5 => ?_) (fun c_5 => absurd c_5 (by decide))
    exact zk_vret C hr hlocks Z ⟨rfl, rfl⟩ (Nat.le_of_ble_eq_true rfl) (Nat.le_of_ble_eq_true rfl) dX8_burst_98

set_option maxHeartbeats 4000000 in
/-- model: burst, too many -/
theorem w8_burst_m (l : Launch) (D : va_G) (g : G4) (hm ms ch kp md rs pr : Nat) (km p dg n t dep gn ck : Nat) (i m : Int32) (d1 : 1 ≤ dep * n) (hi_ : nI 0 ≤ i ∧ i ≤ nI (dep * n - 1)) (hm_ : nI (dep * n) - i < m) : zk_M l yX8_burst (ws_ yX8_burst cX8_burst 5 none) (zk_R 1 0 0) D g [.ref hm, .int i, .int m] [(hm, .inr (7, [.int (nI km), .int (nI 1), .int (nI p), .int (nI dg), .int (nI n), .int (nI t), .int (nI dep), .int (nI gn), .int (nI ck), .ref ms, .ref ch, .ref kp, .ref md, .ref rs, .ref pr]))] (zk_D none [(hm, .inr (7, [.int (nI 2), .int (nI 1), .int (nI p), .int (nI dg), .int (nI n), .int (nI t), .int (nI dep), .int (nI gn), .int (nI ck), .ref ms, .ref ch, .ref kp, .ref md, .ref rs, .ref pr]))]) := by
  refine zk_ofW (by decide) (Nat.le_of_ble_eq_true rfl) ?_
  intro pg ev s mm below meth cd A C hr hlocks hname Z ls hl
  have hx := C.1.1
  have hb := C.1.2.1
  have hml := C.1.2.2.1
  have hown := C.1.2.2.2.1
  have hts := C.1.2.2.2.2
  have hl : lv_has ls 5 [(0, .ref hm), (1, .int i), (2, .int m)] := hl
  refine lv_iload_n hx hb dX8_burst_0 rfl (lv_at hl 1 rfl) ?_
  refine lv_iconst (v := nI 0) hx hb dX8_burst_1 (by decide) ?_
  refine lv_aload_n hx hb dX8_burst_2 rfl (lv_at hl 0 rfl) ?_
  refine zk_callV (cells' := 0) (slots' := 0) (rest := [.int (nI 0), .int i]) (n := 0) (wr := []) C Z (m8_cb l D g hm ms ch kp md rs pr km p dg n t dep gn ck) [0] [] rfl rfl (by decide) (by decide) (by decide) 0 7 rfl rfl rfl q719 q721 qs13 q26 q722 (by decide +kernel) rfl (Nat.le_of_ble_eq_true rfl) (Nat.le_of_ble_eq_true rfl) (Nat.le_of_ble_eq_true rfl) (Nat.le_of_ble_eq_true rfl) rfl rfl hl.1 rfl (Nat.le_of_ble_eq_true rfl) dX8_burst_3 (fun v w1 H locs hq Z => ?_)
  obtain ⟨rfl, rfl⟩ := hq
  have Z : zk_Z D A s H locs [(hm, .inr (7, [.int (nI km), .int (nI 1), .int (nI p), .int (nI dg), .int (nI n), .int (nI t), .int (nI dep), .int (nI gn), .int (nI ck), .ref ms, .ref ch, .ref kp, .ref md, .ref rs, .ref pr]))] := Z.sub [0] (by decide) rfl
  refine W.eq (g2 := F0 mm 6 ls [.int (nI (dep * n)), .int (nI 0), .int i]) rfl ?_
  refine lv_iconst (v := nI 1) hx hb dX8_burst_6 (by decide) ?_
  refine nr_isub hx hb d1 dX8_burst_7 ?_
  refine zk_callS (cells' := 0) (slots' := 0) (rest := []) (n := 3) (wr := [(hm, .inr (7, [.int (nI km), .int (nI 1), .int (nI p), .int (nI dg), .int (nI n), .int (nI t), .int (nI dep), .int (nI gn), .int (nI ck), .ref ms, .ref ch, .ref kp, .ref md, .ref rs, .ref pr]))]) C Z (m8_in1 l D g i (nI 0) (nI ((dep * n) - 1)) hi_.1 hi_.2) [] [0] rfl rfl (by decide) (by decide) (by decide) q651 q652 q26 q653 (by decide +kernel) rfl (Nat.le_of_ble_eq_true rfl) (Nat.le_of_ble_eq_true rfl) (Nat.le_of_ble_eq_true rfl) (Nat.le_of_ble_eq_true rfl) rfl rfl hl.1 rfl (Nat.le_of_ble_eq_true rfl) dX8_burst_8 (fun v w1 H locs hq Z => ?_)
  obtain ⟨rfl, rfl⟩ := hq
  have Z : zk_Z D A s H locs [(hm, .inr (7, [.int (nI km), .int (nI 1), .int (nI p), .int (nI dg), .int (nI n), .int (nI t), .int (nI dep), .int (nI gn), .int (nI ck), .ref ms, .ref ch, .ref kp, .ref md, .ref rs, .ref pr]))] := Z.sub [0] (by decide) rfl
  refine W.eq (g2 := F0 mm 11 ls [.int (nI 1)]) rfl ?_
  refine nr_eq0 (tgt := 24) hx hb (by omega) dX8_burst_11 (by decide) (fun c_1 => absurd c_1 (by decide)) (fun c_1 => ?_)
  refine lv_iload_n hx hb dX8_burst_14 rfl (lv_at hl 2 rfl) ?_
  refine lv_aload_n hx hb dX8_burst_15 rfl (lv_at hl 0 rfl) ?_
  refine zk_callV (cells' := 0) (slots' := 0) (rest := [.int m]) (n := 0) (wr := []) C Z (m8_cb l D g hm ms ch kp md rs pr km p dg n t dep gn ck) [0] [] rfl rfl (by decide) (by decide) (by decide) 0 7 rfl rfl rfl q719 q721 qs13 q26 q722 (by decide +kernel) rfl (Nat.le_of_ble_eq_true rfl) (Nat.le_of_ble_eq_true rfl) (Nat.le_of_ble_eq_true rfl) (Nat.le_of_ble_eq_true rfl) rfl rfl hl.1 rfl (Nat.le_of_ble_eq_true rfl) dX8_burst_16 (fun v w1 H locs hq Z => ?_)
  obtain ⟨rfl, rfl⟩ := hq
  have Z : zk_Z D A s H locs [(hm, .inr (7, [.int (nI km), .int (nI 1), .int (nI p), .int (nI dg), .int (nI n), .int (nI t), .int (nI dep), .int (nI gn), .int (nI ck), .ref ms, .ref ch, .ref kp, .ref md, .ref rs, .ref pr]))] := Z.sub [0] (by decide) rfl
  refine W.eq (g2 := F0 mm 19 ls [.int (nI (dep * n)), .int m]) rfl ?_
  refine lv_iload_n hx hb dX8_burst_19 rfl (lv_at hl 1 rfl) ?_
  refine lv_isub hx hb dX8_burst_20 ?_
  refine lv_icmp_le (tgt := 28) hx hb dX8_burst_21 (by decide) (fun c_2 => absurd hm_ (Int32.not_lt.mpr c_2)) (fun c_2 => ?_)
  refine lv_iconst (v := nI 1) hx hb dX8_burst_24 (by decide) ?_
  refine lv_goto (tgt := 29) hx hb dX8_burst_25 (by decide) ?_
  refine lv_istore_n (lv' := [(3, .int (nI 1)), (0, .ref hm), (1, .int i), (2, .int m)]) hx hb dX8_burst_29 rfl hl (by decide) rfl (fun ls hl => ?_)
  refine lv_aload_n hx hb dX8_burst_30 rfl (lv_at hl 1 rfl) ?_
  refine lv_aload_n hx hb dX8_burst_31 rfl (lv_at hl 1 rfl) ?_
  refine zk_get C Z in_X8 0 rfl rfl 1 (by decide) q598 rfl (v := .int (nI 1)) rfl dX8_burst_32 ?_
  refine nr_ne0 (tgt := 42) hx hb (by omega) dX8_burst_35 (by decide) (fun c_3 => ?_) (fun c_3 => absurd c_3 (by decide))
  refine lv_iload_n hx hb dX8_burst_42 rfl (lv_at hl 0 rfl) ?_
  refine nr_eq0 (tgt := 50) hx hb (by decide) dX8_burst_43 (by decide) (fun c_4 => absurd c_4 (by decide)) (fun c_4 => ?_)
  refine lv_iconst (v := nI 2) hx hb dX8_burst_46 (by decide) ?_
  refine lv_goto (tgt := 65) hx hb dX8_burst_47 (by decide) ?_
  refine zk_put C Z in_X8 tyX8 tyX8_ok nmX8 0 rfl rfl 0 (by decide) q597 rfl rfl (v := .int (nI 2)) rfl rfl (Nat.le_of_ble_eq_true rfl) dX8_burst_65 (fun H locs Z => ?_)
  have Z : zk_Z D A s H locs [(hm, .inr (7, [.int (nI 2), .int (nI 1), .int (nI p), .int (nI dg), .int (nI n), .int (nI t), .int (nI dep), .int (nI gn), .int (nI ck), .ref ms, .ref ch, .ref kp, .ref md, .ref rs, .ref pr]))] := Z
  refine lv_iconst (v := nI 0) hx hb dX8_burst_68 (by decide) ?_
  refine lv_istore (lv' := [(4, .int (nI 0)), (3, .int (nI 1)), (0, .ref hm), (1, .int i), (2, .int m)]) hx hb dX8_burst_69 hl (by decide) rfl (fun ls hl => ?_)
  refine lv_iload hx hb dX8_burst_71 (lv_at hl 0 rfl) ?_
  refine lv_iload_n hx hb dX8_burst_73 rfl (lv_at hl 4 rfl) ?_
  refine lv_icmp_ge (tgt := 98) hx hb dX8_burst_74 (by decide) (fun c_5 => ?_) (fun c_5 => ?_)
  · exact zk_vret C hr hlocks Z ⟨rfl, rfl⟩ (Nat.le_of_ble_eq_true rfl) (Nat.le_of_ble_eq_true rfl) dX8_burst_98
  · refine lv_aload_n hx hb dX8_burst_77 rfl (lv_at hl 2 rfl) ?_
    refine zk_get C Z in_X8 0 rfl rfl 0 (by decide) q597 rfl (v := .int (nI 2)) rfl dX8_burst_78 ?_
    refine nr_ne0 (tgt := 98) hx hb (by decide) dX8_burst_81 (by decide) (fun c_6 => ?_) (fun c_6 => absurd c_6 (by decide))
    exact zk_vret C hr hlocks Z ⟨rfl, rfl⟩ (Nat.le_of_ble_eq_true rfl) (Nat.le_of_ble_eq_true rfl) dX8_burst_98

set_option maxHeartbeats 4000000 in
/-- model: burst, out of bounds -/
theorem w8_burst_n (l : Launch) (D : va_G) (g : G4) (hm ms ch kp md rs pr : Nat) (km p dg n t dep gn ck : Nat) (i m : Int32) (d1 : 1 ≤ dep * n) (hi_ : nI 0 ≤ i ∧ i ≤ nI (dep * n - 1)) (hm_ : ¬ nI (dep * n) - i < m) (h0_ : ¬ (nI 1 ≤ m ∧ m ≤ nI 124)) : zk_M l yX8_burst (ws_ yX8_burst cX8_burst 5 none) (zk_R 1 0 0) D g [.ref hm, .int i, .int m] [(hm, .inr (7, [.int (nI km), .int (nI 1), .int (nI p), .int (nI dg), .int (nI n), .int (nI t), .int (nI dep), .int (nI gn), .int (nI ck), .ref ms, .ref ch, .ref kp, .ref md, .ref rs, .ref pr]))] (zk_D none [(hm, .inr (7, [.int (nI 3), .int (nI 1), .int (nI p), .int (nI dg), .int (nI n), .int (nI t), .int (nI dep), .int (nI gn), .int (nI ck), .ref ms, .ref ch, .ref kp, .ref md, .ref rs, .ref pr]))]) := by
  refine zk_ofW (by decide) (Nat.le_of_ble_eq_true rfl) ?_
  intro pg ev s mm below meth cd A C hr hlocks hname Z ls hl
  have hx := C.1.1
  have hb := C.1.2.1
  have hml := C.1.2.2.1
  have hown := C.1.2.2.2.1
  have hts := C.1.2.2.2.2
  have hl : lv_has ls 5 [(0, .ref hm), (1, .int i), (2, .int m)] := hl
  refine lv_iload_n hx hb dX8_burst_0 rfl (lv_at hl 1 rfl) ?_
  refine lv_iconst (v := nI 0) hx hb dX8_burst_1 (by decide) ?_
  refine lv_aload_n hx hb dX8_burst_2 rfl (lv_at hl 0 rfl) ?_
  refine zk_callV (cells' := 0) (slots' := 0) (rest := [.int (nI 0), .int i]) (n := 0) (wr := []) C Z (m8_cb l D g hm ms ch kp md rs pr km p dg n t dep gn ck) [0] [] rfl rfl (by decide) (by decide) (by decide) 0 7 rfl rfl rfl q719 q721 qs13 q26 q722 (by decide +kernel) rfl (Nat.le_of_ble_eq_true rfl) (Nat.le_of_ble_eq_true rfl) (Nat.le_of_ble_eq_true rfl) (Nat.le_of_ble_eq_true rfl) rfl rfl hl.1 rfl (Nat.le_of_ble_eq_true rfl) dX8_burst_3 (fun v w1 H locs hq Z => ?_)
  obtain ⟨rfl, rfl⟩ := hq
  have Z : zk_Z D A s H locs [(hm, .inr (7, [.int (nI km), .int (nI 1), .int (nI p), .int (nI dg), .int (nI n), .int (nI t), .int (nI dep), .int (nI gn), .int (nI ck), .ref ms, .ref ch, .ref kp, .ref md, .ref rs, .ref pr]))] := Z.sub [0] (by decide) rfl
  refine W.eq (g2 := F0 mm 6 ls [.int (nI (dep * n)), .int (nI 0), .int i]) rfl ?_
  refine lv_iconst (v := nI 1) hx hb dX8_burst_6 (by decide) ?_
  refine nr_isub hx hb d1 dX8_burst_7 ?_
  refine zk_callS (cells' := 0) (slots' := 0) (rest := []) (n := 3) (wr := [(hm, .inr (7, [.int (nI km), .int (nI 1), .int (nI p), .int (nI dg), .int (nI n), .int (nI t), .int (nI dep), .int (nI gn), .int (nI ck), .ref ms, .ref ch, .ref kp, .ref md, .ref rs, .ref pr]))]) C Z (m8_in1 l D g i (nI 0) (nI ((dep * n) - 1)) hi_.1 hi_.2) [] [0] rfl rfl (by decide) (by decide) (by decide) q651 q652 q26 q653 (by decide +kernel) rfl (Nat.le_of_ble_eq_true rfl) (Nat.le_of_ble_eq_true rfl) (Nat.le_of_ble_eq_true rfl) (Nat.le_of_ble_eq_true rfl) rfl rfl hl.1 rfl (Nat.le_of_ble_eq_true rfl) dX8_burst_8 (fun v w1 H locs hq Z => ?_)
  obtain ⟨rfl, rfl⟩ := hq
  have Z : zk_Z D A s H locs [(hm, .inr (7, [.int (nI km), .int (nI 1), .int (nI p), .int (nI dg), .int (nI n), .int (nI t), .int (nI dep), .int (nI gn), .int (nI ck), .ref ms, .ref ch, .ref kp, .ref md, .ref rs, .ref pr]))] := Z.sub [0] (by decide) rfl
  refine W.eq (g2 := F0 mm 11 ls [.int (nI 1)]) rfl ?_
  refine nr_eq0 (tgt := 24) hx hb (by omega) dX8_burst_11 (by decide) (fun c_1 => absurd c_1 (by decide)) (fun c_1 => ?_)
  refine lv_iload_n hx hb dX8_burst_14 rfl (lv_at hl 2 rfl) ?_
  refine lv_aload_n hx hb dX8_burst_15 rfl (lv_at hl 0 rfl) ?_
  refine zk_callV (cells' := 0) (slots' := 0) (rest := [.int m]) (n := 0) (wr := []) C Z (m8_cb l D g hm ms ch kp md rs pr km p dg n t dep gn ck) [0] [] rfl rfl (by decide) (by decide) (by decide) 0 7 rfl rfl rfl q719 q721 qs13 q26 q722 (by decide +kernel) rfl (Nat.le_of_ble_eq_true rfl) (Nat.le_of_ble_eq_true rfl) (Nat.le_of_ble_eq_true rfl) (Nat.le_of_ble_eq_true rfl) rfl rfl hl.1 rfl (Nat.le_of_ble_eq_true rfl) dX8_burst_16 (fun v w1 H locs hq Z => ?_)
  obtain ⟨rfl, rfl⟩ := hq
  have Z : zk_Z D A s H locs [(hm, .inr (7, [.int (nI km), .int (nI 1), .int (nI p), .int (nI dg), .int (nI n), .int (nI t), .int (nI dep), .int (nI gn), .int (nI ck), .ref ms, .ref ch, .ref kp, .ref md, .ref rs, .ref pr]))] := Z.sub [0] (by decide) rfl
  refine W.eq (g2 := F0 mm 19 ls [.int (nI (dep * n)), .int m]) rfl ?_
  refine lv_iload_n hx hb dX8_burst_19 rfl (lv_at hl 1 rfl) ?_
  refine lv_isub hx hb dX8_burst_20 ?_
  refine lv_icmp_le (tgt := 28) hx hb dX8_burst_21 (by decide) (fun c_2 => ?_) (fun c_2 => absurd c_2 (fun q => q (Int32.not_lt.mp hm_)))
  refine lv_iconst (v := nI 0) hx hb dX8_burst_28 (by decide) ?_
  refine lv_istore_n (lv' := [(3, .int (nI 0)), (0, .ref hm), (1, .int i), (2, .int m)]) hx hb dX8_burst_29 rfl hl (by decide) rfl (fun ls hl => ?_)
  refine lv_aload_n hx hb dX8_burst_30 rfl (lv_at hl 1 rfl) ?_
  refine lv_aload_n hx hb dX8_burst_31 rfl (lv_at hl 1 rfl) ?_
  refine zk_get C Z in_X8 0 rfl rfl 1 (by decide) q598 rfl (v := .int (nI 1)) rfl dX8_burst_32 ?_
  refine nr_ne0 (tgt := 42) hx hb (by omega) dX8_burst_35 (by decide) (fun c_3 => ?_) (fun c_3 => absurd c_3 (by decide))
  refine lv_iload_n hx hb dX8_burst_42 rfl (lv_at hl 0 rfl) ?_
  refine nr_eq0 (tgt := 50) hx hb (by decide) dX8_burst_43 (by decide) (fun c_4 => ?_) (fun c_4 => absurd c_4 (fun q => q rfl))
  refine lv_iload_n hx hb dX8_burst_50 rfl (lv_at hl 3 rfl) ?_
  refine lv_iconst (v := nI 1) hx hb dX8_burst_51 (by decide) ?_
  refine lv_bipush (v := nI 124) hx hb dX8_burst_52 (by decide) ?_
  refine zk_callS (cells' := 0) (slots' := 0) (rest := [.ref hm]) (n := 3) (wr := [(hm, .inr (7, [.int (nI km), .int (nI 1), .int (nI p), .int (nI dg), .int (nI n), .int (nI t), .int (nI dep), .int (nI gn), .int (nI ck), .ref ms, .ref ch, .ref kp, .ref md, .ref rs, .ref pr]))]) C Z (m8_in0 l D g m (nI 1) (nI 124) h0_) [] [0] rfl rfl (by decide) (by decide) (by decide) q651 q652 q26 q653 (by decide +kernel) rfl (Nat.le_of_ble_eq_true rfl) (Nat.le_of_ble_eq_true rfl) (Nat.le_of_ble_eq_true rfl) (Nat.le_of_ble_eq_true rfl) rfl rfl hl.1 rfl (Nat.le_of_ble_eq_true rfl) dX8_burst_54 (fun v w1 H locs hq Z => ?_)
  obtain ⟨rfl, rfl⟩ := hq
  have Z : zk_Z D A s H locs [(hm, .inr (7, [.int (nI km), .int (nI 1), .int (nI p), .int (nI dg), .int (nI n), .int (nI t), .int (nI dep), .int (nI gn), .int (nI ck), .ref ms, .ref ch, .ref kp, .ref md, .ref rs, .ref pr]))] := Z.sub [0] (by decide) rfl
  refine W.eq (g2 := F0 mm 57 ls [.int (nI 0), .ref hm]) rfl ?_
  refine nr_eq0 (tgt := 64) hx hb (by omega) dX8_burst_57 (by decide) (fun c_5 => ?_) (fun c_5 => absurd c_5 (fun q => q rfl))
  refine lv_iconst (v := nI 3) hx hb dX8_burst_64 (by decide) ?_
  refine zk_put C Z in_X8 tyX8 tyX8_ok nmX8 0 rfl rfl 0 (by decide) q597 rfl rfl (v := .int (nI 3)) rfl rfl (Nat.le_of_ble_eq_true rfl) dX8_burst_65 (fun H locs Z => ?_)
  have Z : zk_Z D A s H locs [(hm, .inr (7, [.int (nI 3), .int (nI 1), .int (nI p), .int (nI dg), .int (nI n), .int (nI t), .int (nI dep), .int (nI gn), .int (nI ck), .ref ms, .ref ch, .ref kp, .ref md, .ref rs, .ref pr]))] := Z
  refine lv_iconst (v := nI 0) hx hb dX8_burst_68 (by decide) ?_
  refine lv_istore (lv' := [(4, .int (nI 0)), (3, .int (nI 0)), (0, .ref hm), (1, .int i), (2, .int m)]) hx hb dX8_burst_69 hl (by decide) rfl (fun ls hl => ?_)
  refine lv_iload hx hb dX8_burst_71 (lv_at hl 0 rfl) ?_
  refine lv_iload_n hx hb dX8_burst_73 rfl (lv_at hl 4 rfl) ?_
  refine lv_icmp_ge (tgt := 98) hx hb dX8_burst_74 (by decide) (fun c_6 => ?_) (fun c_6 => ?_)
  · exact zk_vret C hr hlocks Z ⟨rfl, rfl⟩ (Nat.le_of_ble_eq_true rfl) (Nat.le_of_ble_eq_true rfl) dX8_burst_98
  · refine lv_aload_n hx hb dX8_burst_77 rfl (lv_at hl 2 rfl) ?_
    refine zk_get C Z in_X8 0 rfl rfl 0 (by decide) q597 rfl (v := .int (nI 3)) rfl dX8_burst_78 ?_
    refine nr_ne0 (tgt := 98) hx hb (by decide) dX8_burst_81 (by decide) (fun c_7 => ?_) (fun c_7 => absurd c_7 (by decide))
    exact zk_vret C hr hlocks Z ⟨rfl, rfl⟩ (Nat.le_of_ble_eq_true rfl) (Nat.le_of_ble_eq_true rfl) dX8_burst_98

set_option maxHeartbeats 4000000 in
/-- model: burst, not begun -/
theorem v8_burst (l : Launch) (D : va_G) (g : G4) (hm ms ch kp md rs pr : Nat) (km : Nat) (i m : Int32) : zk_M l yX8_burst (ws_ yX8_burst cX8_burst 5 none) (zk_R 1 0 0) D g [.ref hm, .int i, .int m] [(hm, .inr (7, [.int (nI km), .int (nI 0), .int (nI 0), .int (nI 0), .int (nI 0), .int (nI 0), .int (nI 0), .int (nI 0), .int (nI 0), .ref ms, .ref ch, .ref kp, .ref md, .ref rs, .ref pr]))] (zk_D none [(hm, .inr (7, [.int (nI 1), .int (nI 0), .int (nI 0), .int (nI 0), .int (nI 0), .int (nI 0), .int (nI 0), .int (nI 0), .int (nI 0), .ref ms, .ref ch, .ref kp, .ref md, .ref rs, .ref pr]))]) := by
  refine zk_ofW (by decide) (Nat.le_of_ble_eq_true rfl) ?_
  intro pg ev s mm below meth cd A C hr hlocks hname Z ls hl
  have hx := C.1.1
  have hb := C.1.2.1
  have hml := C.1.2.2.1
  have hown := C.1.2.2.2.1
  have hts := C.1.2.2.2.2
  have hl : lv_has ls 5 [(0, .ref hm), (1, .int i), (2, .int m)] := hl
  refine lv_iload_n hx hb dX8_burst_0 rfl (lv_at hl 1 rfl) ?_
  refine lv_iconst (v := nI 0) hx hb dX8_burst_1 (by decide) ?_
  refine lv_aload_n hx hb dX8_burst_2 rfl (lv_at hl 0 rfl) ?_
  refine zk_callV (cells' := 0) (slots' := 0) (rest := [.int (nI 0), .int i]) (n := 0) (wr := []) C Z (m8_cbU l D g hm ms ch kp md rs pr km) [0] [] rfl rfl (by decide) (by decide) (by decide) 0 7 rfl rfl rfl q719 q721 qs13 q26 q722 (by decide +kernel) rfl (Nat.le_of_ble_eq_true rfl) (Nat.le_of_ble_eq_true rfl) (Nat.le_of_ble_eq_true rfl) (Nat.le_of_ble_eq_true rfl) rfl rfl hl.1 rfl (Nat.le_of_ble_eq_true rfl) dX8_burst_3 (fun v w1 H locs hq Z => ?_)
  obtain ⟨rfl, rfl⟩ := hq
  have Z : zk_Z D A s H locs [(hm, .inr (7, [.int (nI km), .int (nI 0), .int (nI 0), .int (nI 0), .int (nI 0), .int (nI 0), .int (nI 0), .int (nI 0), .int (nI 0), .ref ms, .ref ch, .ref kp, .ref md, .ref rs, .ref pr]))] := Z.sub [0] (by decide) rfl
  refine W.eq (g2 := F0 mm 6 ls [.int (nI 0), .int (nI 0), .int i]) rfl ?_
  refine lv_iconst (v := nI 1) hx hb dX8_burst_6 (by decide) ?_
  refine lv_isub hx hb dX8_burst_7 ?_
  refine zk_callS (cells' := 0) (slots' := 0) (rest := []) (n := 3) (wr := [(hm, .inr (7, [.int (nI km), .int (nI 0), .int (nI 0), .int (nI 0), .int (nI 0), .int (nI 0), .int (nI 0), .int (nI 0), .int (nI 0), .ref ms, .ref ch, .ref kp, .ref md, .ref rs, .ref pr]))]) C Z (m8_in l D g i (nI 0) ((nI 0) - (nI 1))) [] [0] rfl rfl (by decide) (by decide) (by decide) q651 q652 q26 q653 (by decide +kernel) rfl (Nat.le_of_ble_eq_true rfl) (Nat.le_of_ble_eq_true rfl) (Nat.le_of_ble_eq_true rfl) (Nat.le_of_ble_eq_true rfl) rfl rfl hl.1 rfl (Nat.le_of_ble_eq_true rfl) dX8_burst_8 (fun v w1 H locs hq Z => ?_)
  obtain ⟨rfl, rfl⟩ := hq
  have Z : zk_Z D A s H locs [(hm, .inr (7, [.int (nI km), .int (nI 0), .int (nI 0), .int (nI 0), .int (nI 0), .int (nI 0), .int (nI 0), .int (nI 0), .int (nI 0), .ref ms, .ref ch, .ref kp, .ref md, .ref rs, .ref pr]))] := Z.sub [0] (by decide) rfl
  refine W.eq (g2 := F0 mm 11 ls [.int (nI (zk_wi i (nI 0) ((nI 0) - (nI 1))))]) rfl ?_
  refine nr_eq0 (tgt := 24) hx hb (by have := zk_wi_lt i (nI 0) (nI 0 - nI 1); omega) dX8_burst_11 (by decide) (fun c_1 => ?_) (fun c_1 => ?_)
  · refine lv_iconst (v := nI 1) hx hb dX8_burst_24 (by decide) ?_
    refine lv_goto (tgt := 29) hx hb dX8_burst_25 (by decide) ?_
    refine lv_istore_n (lv' := [(3, .int (nI 1)), (0, .ref hm), (1, .int i), (2, .int m)]) hx hb dX8_burst_29 rfl hl (by decide) rfl (fun ls hl => ?_)
    refine lv_aload_n hx hb dX8_burst_30 rfl (lv_at hl 1 rfl) ?_
    refine lv_aload_n hx hb dX8_burst_31 rfl (lv_at hl 1 rfl) ?_
    refine zk_get C Z in_X8 0 rfl rfl 1 (by decide) q598 rfl (v := .int (nI 0)) rfl dX8_burst_32 ?_
    refine nr_ne0 (tgt := 42) hx hb (by omega) dX8_burst_35 (by decide) (fun c_2 => absurd c_2 (fun q => q rfl)) (fun c_2 => ?_)
    refine lv_iconst (v := nI 1) hx hb dX8_burst_38 (by decide) ?_
    refine lv_goto (tgt := 65) hx hb dX8_burst_39 (by decide) ?_
    refine zk_put C Z in_X8 tyX8 tyX8_ok nmX8 0 rfl rfl 0 (by decide) q597 rfl rfl (v := .int (nI 1)) rfl rfl (Nat.le_of_ble_eq_true rfl) dX8_burst_65 (fun H locs Z => ?_)
    have Z : zk_Z D A s H locs [(hm, .inr (7, [.int (nI 1), .int (nI 0), .int (nI 0), .int (nI 0), .int (nI 0), .int (nI 0), .int (nI 0), .int (nI 0), .int (nI 0), .ref ms, .ref ch, .ref kp, .ref md, .ref rs, .ref pr]))] := Z
    refine lv_iconst (v := nI 0) hx hb dX8_burst_68 (by decide) ?_
    refine lv_istore (lv' := [(4, .int (nI 0)), (3, .int (nI 1)), (0, .ref hm), (1, .int i), (2, .int m)]) hx hb dX8_burst_69 hl (by decide) rfl (fun ls hl => ?_)
    refine lv_iload hx hb dX8_burst_71 (lv_at hl 0 rfl) ?_
    refine lv_iload_n hx hb dX8_burst_73 rfl (lv_at hl 4 rfl) ?_
    refine lv_icmp_ge (tgt := 98) hx hb dX8_burst_74 (by decide) (fun c_3 => ?_) (fun c_3 => ?_)
    · exact zk_vret C hr hlocks Z ⟨rfl, rfl⟩ (Nat.le_of_ble_eq_true rfl) (Nat.le_of_ble_eq_true rfl) dX8_burst_98
    · refine lv_aload_n hx hb dX8_burst_77 rfl (lv_at hl 2 rfl) ?_
      refine zk_get C Z in_X8 0 rfl rfl 0 (by decide) q597 rfl (v := .int (nI 1)) rfl dX8_burst_78 ?_
      refine nr_ne0 (tgt := 98) hx hb (by decide) dX8_burst_81 (by decide) (fun c_4 => ?_) (fun c_4 => absurd c_4 (by decide))
      exact zk_vret C hr hlocks Z ⟨rfl, rfl⟩ (Nat.le_of_ble_eq_true rfl) (Nat.le_of_ble_eq_true rfl) dX8_burst_98
  · refine lv_iload_n hx hb dX8_burst_14 rfl (lv_at hl 2 rfl) ?_
    refine lv_aload_n hx hb dX8_burst_15 rfl (lv_at hl 0 rfl) ?_
    refine zk_callV (cells' := 0) (slots' := 0) (rest := [.int m]) (n := 0) (wr := []) C Z (m8_cbU l D g hm ms ch kp md rs pr km) [0] [] rfl rfl (by decide) (by decide) (by decide) 0 7 rfl rfl rfl q719 q721 qs13 q26 q722 (by decide +kernel) rfl (Nat.le_of_ble_eq_true rfl) (Nat.le_of_ble_eq_true rfl) (Nat.le_of_ble_eq_true rfl) (Nat.le_of_ble_eq_true rfl) rfl rfl hl.1 rfl (Nat.le_of_ble_eq_true rfl) dX8_burst_16 (fun v w1 H locs hq Z => ?_)
    obtain ⟨rfl, rfl⟩ := hq
    have Z : zk_Z D A s H locs [(hm, .inr (7, [.int (nI km), .int (nI 0), .int (nI 0), .int (nI 0), .int (nI 0), .int (nI 0), .int (nI 0), .int (nI 0), .int (nI 0), .ref ms, .ref ch, .ref kp, .ref md, .ref rs, .ref pr]))] := Z.sub [0] (by decide) rfl
    refine W.eq (g2 := F0 mm 19 ls [.int (nI 0), .int m]) rfl ?_
    refine lv_iload_n hx hb dX8_burst_19 rfl (lv_at hl 1 rfl) ?_
    refine lv_isub hx hb dX8_burst_20 ?_
    refine lv_icmp_le (tgt := 28) hx hb dX8_burst_21 (by decide) (fun c_5 => ?_) (fun c_5 => ?_)
    · refine lv_iconst (v := nI 0) hx hb dX8_burst_28 (by decide) ?_
      refine lv_istore_n (lv' := [(3, .int (nI 0)), (0, .ref hm), (1, .int i), (2, .int m)]) hx hb dX8_burst_29 rfl hl (by decide) rfl (fun ls hl => ?_)
      refine lv_aload_n hx hb dX8_burst_30 rfl (lv_at hl 1 rfl) ?_
      refine lv_aload_n hx hb dX8_burst_31 rfl (lv_at hl 1 rfl) ?_
      refine zk_get C Z in_X8 0 rfl rfl 1 (by decide) q598 rfl (v := .int (nI 0)) rfl dX8_burst_32 ?_
      refine nr_ne0 (tgt := 42) hx hb (by omega) dX8_burst_35 (by decide) (fun c_6 => absurd c_6 (fun q => q rfl)) (fun c_6 => ?_)
      refine lv_iconst (v := nI 1) hx hb dX8_burst_38 (by decide) ?_
      refine lv_goto (tgt := 65) hx hb dX8_burst_39 (by decide) ?_
      refine zk_put C Z in_X8 tyX8 tyX8_ok nmX8 0 rfl rfl 0 (by decide) q597 rfl rfl (v := .int (nI 1)) rfl rfl (Nat.le_of_ble_eq_true rfl) dX8_burst_65 (fun H locs Z => ?_)
      have Z : zk_Z D A s H locs [(hm, .inr (7, [.int (nI 1), .int (nI 0), .int (nI 0), .int (nI 0), .int (nI 0), .int (nI 0), .int (nI 0), .int (nI 0), .int (nI 0), .ref ms, .ref ch, .ref kp, .ref md, .ref rs, .ref pr]))] := Z
      refine lv_iconst (v := nI 0) hx hb dX8_burst_68 (by decide) ?_
      refine lv_istore (lv' := [(4, .int (nI 0)), (3, .int (nI 0)), (0, .ref hm), (1, .int i), (2, .int m)]) hx hb dX8_burst_69 hl (by decide) rfl (fun ls hl => ?_)
      refine lv_iload hx hb dX8_burst_71 (lv_at hl 0 rfl) ?_
      refine lv_iload_n hx hb dX8_burst_73 rfl (lv_at hl 4 rfl) ?_
      refine lv_icmp_ge (tgt := 98) hx hb dX8_burst_74 (by decide) (fun c_7 => ?_) (fun c_7 => ?_)
      · exact zk_vret C hr hlocks Z ⟨rfl, rfl⟩ (Nat.le_of_ble_eq_true rfl) (Nat.le_of_ble_eq_true rfl) dX8_burst_98
      · refine lv_aload_n hx hb dX8_burst_77 rfl (lv_at hl 2 rfl) ?_
        refine zk_get C Z in_X8 0 rfl rfl 0 (by decide) q597 rfl (v := .int (nI 1)) rfl dX8_burst_78 ?_
        refine nr_ne0 (tgt := 98) hx hb (by decide) dX8_burst_81 (by decide) (fun c_8 => ?_) (fun c_8 => absurd c_8 (by decide))
        exact zk_vret C hr hlocks Z ⟨rfl, rfl⟩ (Nat.le_of_ble_eq_true rfl) (Nat.le_of_ble_eq_true rfl) dX8_burst_98
    · refine lv_iconst (v := nI 1) hx hb dX8_burst_24 (by decide) ?_
      refine lv_goto (tgt := 29) hx hb dX8_burst_25 (by decide) ?_
      refine lv_istore_n (lv' := [(3, .int (nI 1)), (0, .ref hm), (1, .int i), (2, .int m)]) hx hb dX8_burst_29 rfl hl (by decide) rfl (fun ls hl => ?_)
      refine lv_aload_n hx hb dX8_burst_30 rfl (lv_at hl 1 rfl) ?_
      refine lv_aload_n hx hb dX8_burst_31 rfl (lv_at hl 1 rfl) ?_
      refine zk_get C Z in_X8 0 rfl rfl 1 (by decide) q598 rfl (v := .int (nI 0)) rfl dX8_burst_32 ?_
      refine nr_ne0 (tgt := 42) hx hb (by omega) dX8_burst_35 (by decide) (fun c_9 => absurd c_9 (fun q => q rfl)) (fun c_9 => ?_)
      refine lv_iconst (v := nI 1) hx hb dX8_burst_38 (by decide) ?_
      refine lv_goto (tgt := 65) hx hb dX8_burst_39 (by decide) ?_
      refine zk_put C Z in_X8 tyX8 tyX8_ok nmX8 0 rfl rfl 0 (by decide) q597 rfl rfl (v := .int (nI 1)) rfl rfl (Nat.le_of_ble_eq_true rfl) dX8_burst_65 (fun H locs Z => ?_)
      have Z : zk_Z D A s H locs [(hm, .inr (7, [.int (nI 1), .int (nI 0), .int (nI 0), .int (nI 0), .int (nI 0), .int (nI 0), .int (nI 0), .int (nI 0), .int (nI 0), .ref ms, .ref ch, .ref kp, .ref md, .ref rs, .ref pr]))] := Z
      refine lv_iconst (v := nI 0) hx hb dX8_burst_68 (by decide) ?_
      refine lv_istore (lv' := [(4, .int (nI 0)), (3, .int (nI 1)), (0, .ref hm), (1, .int i), (2, .int m)]) hx hb dX8_burst_69 hl (by decide) rfl (fun ls hl => ?_)
      refine lv_iload hx hb dX8_burst_71 (lv_at hl 0 rfl) ?_
      refine lv_iload_n hx hb dX8_burst_73 rfl (lv_at hl 4 rfl) ?_
      refine lv_icmp_ge (tgt := 98) hx hb dX8_burst_74 (by decide) (fun c_10 => ?_) (fun c_10 => ?_)
      · exact zk_vret C hr hlocks Z ⟨rfl, rfl⟩ (Nat.le_of_ble_eq_true rfl) (Nat.le_of_ble_eq_true rfl) dX8_burst_98
      · refine lv_aload_n hx hb dX8_burst_77 rfl (lv_at hl 2 rfl) ?_
        refine zk_get C Z in_X8 0 rfl rfl 0 (by decide) q597 rfl (v := .int (nI 1)) rfl dX8_burst_78 ?_
        refine nr_ne0 (tgt := 98) hx hb (by decide) dX8_burst_81 (by decide) (fun c_11 => ?_) (fun c_11 => absurd c_11 (by decide))
        exact zk_vret C hr hlocks Z ⟨rfl, rfl⟩ (Nat.le_of_ble_eq_true rfl) (Nat.le_of_ble_eq_true rfl) dX8_burst_98

set_option maxHeartbeats 4000000 in
theorem lp8_noise {pg : Program} {l : Launch} {ev : Env} {s : State} {mm : MethodId} {args : Array Value} {below : List Frame} {meth : Method} {cd : Code} {Q : State → Prop} {D : va_G} {g : G4} {A : Nat → Prop} (C : zk_C pg s mm cd args cX8_noise 6 RX8 D g A) (hm ms ch kp md rs pr : Nat) (km p dg n t dep gn ck : Nat) (d4 : dep ≤ 4) (d1 : 1 ≤ dep) (n31 : n ≤ 31) (seed rate : Int32) (f : Nat → Int32 × List Nat × Nat → Int32 × List Nat × Nat) (f0 : ∀ i x c n, rate ≤ nzR (nzX x) → f i (x, c, n) = (nzX x, c, n)) (f1 : ∀ i x c n, ¬ rate ≤ nzR (nzX x) → f i (x, c, n) = (nzX x, flF dep i c, n + 1)) (fin : Int32 × List Nat × Nat) (kk : ∀ (x : Int32) (c : List Nat) (cnt : Nat) (H : Heap) (locs : List Loc) (ls : Array Slot), (x, c, cnt) = fin → zk_Z D A s H locs [(hm, .inr (7, [.int (nI 0), .int (nI 1), .int (nI p), .int (nI dg), .int (nI n), .int (nI t), .int (nI dep), .int (nI gn), .int (nI ck), .ref ms, .ref ch, .ref kp, .ref md, .ref rs, .ref pr])), (ch, .inl (g.1, 4, .inl (zk_ia c)))] → lv_has ls 6 [(0, .ref hm), (4, .int (nI cnt))] → W pg l ev (zk_R 1 0 0) s mm args below meth cd H locs 0 0 Q (F0 mm 91 ls [])) :
    ∀ (k : Nat) (i : Nat) (x : Int32) (Cs : List Nat) (cnt : Nat) (H : Heap) (locs : List Loc) (ls : Array Slot), (i + k = dep * n) → (Cs.length = 4) → (zk_it f k i (x, Cs, cnt) = fin) → zk_Z D A s H locs [(hm, .inr (7, [.int (nI 0), .int (nI 1), .int (nI p), .int (nI dg), .int (nI n), .int (nI t), .int (nI dep), .int (nI gn), .int (nI ck), .ref ms, .ref ch, .ref kp, .ref md, .ref rs, .ref pr])), (ch, .inl (g.1, 4, .inl (zk_ia Cs)))] → lv_has ls 6 [(0, .ref hm), (1, .int seed), (2, .int rate), (3, .int x), (4, .int (nI cnt)), (5, .int (nI i))] → W pg l ev (zk_R 1 0 0) s mm args below meth cd H locs 0 0 Q (F0 mm 39 ls []) := by
  have hx := C.1.1
  have hb := C.1.2.1
  have hml := C.1.2.2.1
  have hown := C.1.2.2.2.1
  have hts := C.1.2.2.2.2
  have hdk := Nat.mul_le_mul d4 n31
  intro k
  induction k with
  | zero =>
    intro i x Cs cnt H locs ls hik hCs hfin Z hl
    refine lv_iload hx hb dX8_noise_39 (lv_at hl 5 rfl) ?_
    refine lv_aload_n hx hb dX8_noise_41 rfl (lv_at hl 0 rfl) ?_
    refine zk_callV (cells' := 0) (slots' := 0) (rest := [.int (nI i)]) (n := 0) (wr := [(ch, .inl (g.1, 4, .inl (zk_ia Cs)))]) C Z (m8_cb l D g hm ms ch kp md rs pr 0 p dg n t dep gn ck) [0] [1] rfl rfl (by decide) (by decide) (by decide) 0 7 rfl rfl rfl q719 q721 qs13 q26 q722 (by decide +kernel) rfl (Nat.le_of_ble_eq_true rfl) (Nat.le_of_ble_eq_true rfl) (Nat.le_of_ble_eq_true rfl) (Nat.le_of_ble_eq_true rfl) rfl rfl hl.1 rfl (Nat.le_of_ble_eq_true rfl) dX8_noise_42 (fun v w1 H locs hq Z => ?_)
    obtain ⟨rfl, rfl⟩ := hq
    have Z : zk_Z D A s H locs [(hm, .inr (7, [.int (nI 0), .int (nI 1), .int (nI p), .int (nI dg), .int (nI n), .int (nI t), .int (nI dep), .int (nI gn), .int (nI ck), .ref ms, .ref ch, .ref kp, .ref md, .ref rs, .ref pr])), (ch, .inl (g.1, 4, .inl (zk_ia Cs)))] := Z.sub [1, 0] (by decide) rfl
    refine W.eq (g2 := F0 mm 45 ls [.int (nI (dep * n)), .int (nI i)]) rfl ?_
    refine nr_ge (tgt := 91) hx hb (by omega) (by omega) dX8_noise_45 (by decide) (fun c_1 => ?_) (fun c_1 => absurd c_1 (by omega))
    exact kk x Cs cnt H locs ls hfin Z (lv_sub hl [0, 4] rfl)
  | succ k ih =>
    intro i x Cs cnt H locs ls hik hCs hfin Z hl
    refine lv_iload hx hb dX8_noise_39 (lv_at hl 5 rfl) ?_
    refine lv_aload_n hx hb dX8_noise_41 rfl (lv_at hl 0 rfl) ?_
    refine zk_callV (cells' := 0) (slots' := 0) (rest := [.int (nI i)]) (n := 0) (wr := [(ch, .inl (g.1, 4, .inl (zk_ia Cs)))]) C Z (m8_cb l D g hm ms ch kp md rs pr 0 p dg n t dep gn ck) [0] [1] rfl rfl (by decide) (by decide) (by decide) 0 7 rfl rfl rfl q719 q721 qs13 q26 q722 (by decide +kernel) rfl (Nat.le_of_ble_eq_true rfl) (Nat.le_of_ble_eq_true rfl) (Nat.le_of_ble_eq_true rfl) (Nat.le_of_ble_eq_true rfl) rfl rfl hl.1 rfl (Nat.le_of_ble_eq_true rfl) dX8_noise_42 (fun v w1 H locs hq Z => ?_)
    obtain ⟨rfl, rfl⟩ := hq
    have Z : zk_Z D A s H locs [(hm, .inr (7, [.int (nI 0), .int (nI 1), .int (nI p), .int (nI dg), .int (nI n), .int (nI t), .int (nI dep), .int (nI gn), .int (nI ck), .ref ms, .ref ch, .ref kp, .ref md, .ref rs, .ref pr])), (ch, .inl (g.1, 4, .inl (zk_ia Cs)))] := Z.sub [1, 0] (by decide) rfl
    refine W.eq (g2 := F0 mm 45 ls [.int (nI (dep * n)), .int (nI i)]) rfl ?_
    refine nr_ge (tgt := 91) hx hb (by omega) (by omega) dX8_noise_45 (by decide) (fun c_1 => absurd c_1 (by omega)) (fun c_1 => ?_)
    refine lv_aload_n hx hb dX8_noise_48 rfl (lv_at hl 0 rfl) ?_
    refine zk_get C Z in_X8 0 rfl rfl 0 (by decide) q597 rfl (v := .int (nI 0)) rfl dX8_noise_49 ?_
    refine nr_ne0 (tgt := 91) hx hb (by decide) dX8_noise_52 (by decide) (fun c_2 => absurd c_2 (fun q => q rfl)) (fun c_2 => ?_)
    refine lv_iload_n hx hb dX8_noise_55 rfl (lv_at hl 3 rfl) ?_
    refine lv_ldc (v := 1103515245) hx hb hown (hts _ q735) dX8_noise_56 ?_
    refine lv_imul hx hb dX8_noise_58 ?_
    refine lv_sipush (v := nI 12345) hx hb dX8_noise_59 (by decide) ?_
    refine lv_iadd hx hb dX8_noise_62 ?_
    rw [show (x * 1103515245) + (nI 12345) = nzX x from rfl]
    refine lv_istore_n (lv' := [(3, .int (nzX x)), (0, .ref hm), (1, .int seed), (2, .int rate), (4, .int (nI cnt)), (5, .int (nI i))]) hx hb dX8_noise_63 rfl hl (by decide) rfl (fun ls hl => ?_)
    refine lv_iload_n hx hb dX8_noise_64 rfl (lv_at hl 0 rfl) ?_
    refine lv_bipush (v := nI 16) hx hb dX8_noise_65 (by decide) ?_
    refine lv_iushr (v := ((nzX x).toUInt32 >>> ((nI 16).toUInt32 &&& Int32.toUInt32 31)).toInt32) hx hb dX8_noise_67 rfl ?_
    refine lv_sipush (v := nI 1000) hx hb dX8_noise_68 (by decide) ?_
    refine lv_irem hx hb dX8_noise_71 (by decide) ?_
    rw [show (((nzX x).toUInt32 >>> ((nI 16).toUInt32 &&& Int32.toUInt32 31)).toInt32) - (((nzX x).toUInt32 >>> ((nI 16).toUInt32 &&& Int32.toUInt32 31)).toInt32) / (nI 1000) * (nI 1000) = nzR (nzX x) from rfl]
    refine lv_iload_n hx hb dX8_noise_72 rfl (lv_at hl 3 rfl) ?_
    refine lv_icmp_ge (tgt := 85) hx hb dX8_noise_73 (by decide) (fun c_1 => ?_) (fun c_1 => ?_)
    · refine nr_iinc (n := 1) (lv' := [(5, .int (nI (i + 1))), (3, .int (nzX x)), (0, .ref hm), (1, .int seed), (2, .int rate), (4, .int (nI cnt))]) hx hb (by decide) dX8_noise_85 hl (k := 5) rfl (by decide) rfl (fun ls hl => ?_)
      refine lv_goto (tgt := 39) hx hb dX8_noise_88 (by decide) ?_
      rw [zk_it_s, f0 _ _ _ _ c_1] at hfin
      exact ih (i + 1) (nzX x) Cs cnt H locs ls (by omega) hCs hfin Z (lv_sub hl [2, 3, 4, 1, 5, 0] rfl)
    · refine lv_aload_n hx hb dX8_noise_76 rfl (lv_at hl 1 rfl) ?_
      refine lv_iload hx hb dX8_noise_77 (lv_at hl 5 rfl) ?_
      have hlen_3 : (flF dep i Cs).length = 4 := by rw [flF_len]; exact hCs
      refine zk_callV (cells' := 0) (slots' := 0) (rest := []) (n := 1) (wr := []) C Z (m8_flip l D g hm ms ch kp md rs pr 0 p dg n t dep gn ck Cs hCs d4 d1 n31 i (by omega)) [0, 1] [] rfl rfl (by decide) (by decide) (by decide) 0 7 rfl rfl rfl q727 q729 qs14 q26 q730 (by decide +kernel) rfl (Nat.le_of_ble_eq_true rfl) (Nat.le_of_ble_eq_true rfl) (Nat.le_of_ble_eq_true rfl) (Nat.le_of_ble_eq_true rfl) rfl rfl hl.1 rfl (Nat.le_of_ble_eq_true rfl) dX8_noise_79 (fun v w1 H locs hq Z => ?_)
      obtain ⟨rfl, rfl⟩ := hq
      have Z : zk_Z D A s H locs [(hm, .inr (7, [.int (nI 0), .int (nI 1), .int (nI p), .int (nI dg), .int (nI n), .int (nI t), .int (nI dep), .int (nI gn), .int (nI ck), .ref ms, .ref ch, .ref kp, .ref md, .ref rs, .ref pr])), (ch, .inl (g.1, 4, .inl (zk_ia (flF dep i Cs))))] := Z.sub [0, 1] (by decide) rfl
      refine W.eq (g2 := F0 mm 82 ls []) rfl ?_
      refine nr_iinc (n := 1) (lv' := [(4, .int (nI (cnt + 1))), (3, .int (nzX x)), (0, .ref hm), (1, .int seed), (2, .int rate), (5, .int (nI i))]) hx hb (by decide) dX8_noise_82 hl (k := 4) rfl (by decide) rfl (fun ls hl => ?_)
      refine nr_iinc (n := 1) (lv' := [(5, .int (nI (i + 1))), (4, .int (nI (cnt + 1))), (3, .int (nzX x)), (0, .ref hm), (1, .int seed), (2, .int rate)]) hx hb (by decide) dX8_noise_85 hl (k := 5) rfl (by decide) rfl (fun ls hl => ?_)
      refine lv_goto (tgt := 39) hx hb dX8_noise_88 (by decide) ?_
      rw [zk_it_s, f1 _ _ _ _ c_1] at hfin
      exact ih (i + 1) (nzX x) (flF dep i Cs) (cnt + 1) H locs ls (by omega) hlen_3 hfin Z (lv_sub hl [3, 4, 5, 2, 1, 0] rfl)

set_option maxHeartbeats 4000000 in
/-- model: noise -/
theorem m8_noise (l : Launch) (D : va_G) (g : G4) (hm ms ch kp md rs pr : Nat) (km p dg n t dep gn ck : Nat) (Cs : List Nat) (hCs : Cs.length = 4) (d4 : dep ≤ 4) (d1 : 1 ≤ dep) (n31 : n ≤ 31) (seed rate : Int32) (hr_ : nI 0 ≤ rate ∧ rate ≤ nI 1000) : zk_M l yX8_noise (ws_ yX8_noise cX8_noise 6 (some .int)) (zk_R 1 0 0) D g [.ref hm, .int seed, .int rate] [(hm, .inr (7, [.int (nI km), .int (nI 1), .int (nI p), .int (nI dg), .int (nI n), .int (nI t), .int (nI dep), .int (nI gn), .int (nI ck), .ref ms, .ref ch, .ref kp, .ref md, .ref rs, .ref pr])), (ch, .inl (g.1, 4, .inl (zk_ia Cs)))] (zk_D (some (.int (nI ((zk_it (nzF dep rate) (dep * n) 0 (seed, Cs, 0)).2.2)))) [(hm, .inr (7, [.int (nI 0), .int (nI 1), .int (nI p), .int (nI dg), .int (nI n), .int (nI t), .int (nI dep), .int (nI gn), .int (nI ck), .ref ms, .ref ch, .ref kp, .ref md, .ref rs, .ref pr])), (ch, .inl (g.1, 4, .inl (zk_ia ((zk_it (nzF dep rate) (dep * n) 0 (seed, Cs, 0)).2.1))))]) := by
  refine zk_ofW (by decide) (Nat.le_of_ble_eq_true rfl) ?_
  intro pg ev s mm below meth cd A C hr hlocks hname Z ls hl
  have hx := C.1.1
  have hb := C.1.2.1
  have hml := C.1.2.2.1
  have hown := C.1.2.2.2.1
  have hts := C.1.2.2.2.2
  have hl : lv_has ls 6 [(0, .ref hm), (1, .int seed), (2, .int rate)] := hl
  have hdk := Nat.mul_le_mul d4 n31
  obtain ⟨H, hH⟩ : ∃ H, H = s.heap := ⟨_, rfl⟩
  obtain ⟨locs, hlocs⟩ : ∃ q : List Loc, q = [] := ⟨_, rfl⟩
  rw [← hH, ← hlocs] at Z ⊢
  refine lv_aload_n hx hb dX8_noise_0 rfl (lv_at hl 0 rfl) ?_
  refine lv_aload_n hx hb dX8_noise_1 rfl (lv_at hl 0 rfl) ?_
  refine zk_get C Z in_X8 0 rfl rfl 1 (by decide) q598 rfl (v := .int (nI 1)) rfl dX8_noise_2 ?_
  refine nr_ne0 (tgt := 12) hx hb (by omega) dX8_noise_5 (by decide) (fun c_1 => ?_) (fun c_1 => absurd c_1 (by decide))
  refine lv_iload_n hx hb dX8_noise_12 rfl (lv_at hl 2 rfl) ?_
  refine lv_iconst (v := nI 0) hx hb dX8_noise_13 (by decide) ?_
  refine lv_sipush (v := nI 1000) hx hb dX8_noise_14 (by decide) ?_
  refine zk_callS (cells' := 0) (slots' := 0) (rest := [.ref hm]) (n := 3) (wr := [(hm, .inr (7, [.int (nI km), .int (nI 1), .int (nI p), .int (nI dg), .int (nI n), .int (nI t), .int (nI dep), .int (nI gn), .int (nI ck), .ref ms, .ref ch, .ref kp, .ref md, .ref rs, .ref pr])), (ch, .inl (g.1, 4, .inl (zk_ia Cs)))]) C Z (m8_in1 l D g rate (nI 0) (nI 1000) hr_.1 hr_.2) [] [0, 1] rfl rfl (by decide) (by decide) (by decide) q651 q652 q26 q653 (by decide +kernel) rfl (Nat.le_of_ble_eq_true rfl) (Nat.le_of_ble_eq_true rfl) (Nat.le_of_ble_eq_true rfl) (Nat.le_of_ble_eq_true rfl) rfl rfl hl.1 rfl (Nat.le_of_ble_eq_true rfl) dX8_noise_17 (fun v w1 H locs hq Z => ?_)
  obtain ⟨rfl, rfl⟩ := hq
  have Z : zk_Z D A s H locs [(hm, .inr (7, [.int (nI km), .int (nI 1), .int (nI p), .int (nI dg), .int (nI n), .int (nI t), .int (nI dep), .int (nI gn), .int (nI ck), .ref ms, .ref ch, .ref kp, .ref md, .ref rs, .ref pr])), (ch, .inl (g.1, 4, .inl (zk_ia Cs)))] := Z.sub [0, 1] (by decide) rfl
  refine W.eq (g2 := F0 mm 20 ls [.int (nI 1), .ref hm]) rfl ?_
  refine nr_eq0 (tgt := 27) hx hb (by omega) dX8_noise_20 (by decide) (fun c_2 => absurd c_2 (by decide)) (fun c_2 => ?_)
  refine lv_iconst (v := nI 0) hx hb dX8_noise_23 (by decide) ?_
  refine lv_goto (tgt := 28) hx hb dX8_noise_24 (by decide) ?_
  refine zk_put C Z in_X8 tyX8 tyX8_ok nmX8 0 rfl rfl 0 (by decide) q597 rfl rfl (v := .int (nI 0)) rfl rfl (Nat.le_of_ble_eq_true rfl) dX8_noise_28 (fun H locs Z => ?_)
  have Z : zk_Z D A s H locs [(hm, .inr (7, [.int (nI 0), .int (nI 1), .int (nI p), .int (nI dg), .int (nI n), .int (nI t), .int (nI dep), .int (nI gn), .int (nI ck), .ref ms, .ref ch, .ref kp, .ref md, .ref rs, .ref pr])), (ch, .inl (g.1, 4, .inl (zk_ia Cs)))] := Z
  refine lv_iload_n hx hb dX8_noise_31 rfl (lv_at hl 1 rfl) ?_
  refine lv_istore_n (lv' := [(3, .int seed), (0, .ref hm), (1, .int seed), (2, .int rate)]) hx hb dX8_noise_32 rfl hl (by decide) rfl (fun ls hl => ?_)
  refine lv_iconst (v := nI 0) hx hb dX8_noise_33 (by decide) ?_
  refine lv_istore (lv' := [(4, .int (nI 0)), (3, .int seed), (0, .ref hm), (1, .int seed), (2, .int rate)]) hx hb dX8_noise_34 hl (by decide) rfl (fun ls hl => ?_)
  refine lv_iconst (v := nI 0) hx hb dX8_noise_36 (by decide) ?_
  refine lv_istore (lv' := [(5, .int (nI 0)), (4, .int (nI 0)), (3, .int seed), (0, .ref hm), (1, .int seed), (2, .int rate)]) hx hb dX8_noise_37 hl (by decide) rfl (fun ls hl => ?_)
  refine lp8_noise C hm ms ch kp md rs pr km p dg n t dep gn ck d4 d1 n31 seed rate (nzF dep rate) (nzF_0 dep rate) (nzF_1 dep rate) _ (fun x c1 cnt H locs ls e1 Z hl => ?_) (dep * n) 0 seed Cs 0 H locs ls (by omega) hCs rfl Z (lv_sub hl [3, 4, 5, 2, 1, 0] rfl)
  refine lv_iload hx hb dX8_noise_91 (lv_at hl 1 rfl) ?_
  exact zk_iret C hr hlocks Z ⟨by rw [← e1], by rw [← e1]⟩ (Nat.le_of_ble_eq_true rfl) (Nat.le_of_ble_eq_true rfl) dX8_noise_93

set_option maxHeartbeats 4000000 in
/-- model: noise, not begun -/
theorem v8_noise (l : Launch) (D : va_G) (g : G4) (hm ms ch kp md rs pr : Nat) (km : Nat) (seed rate : Int32) : zk_M l yX8_noise (ws_ yX8_noise cX8_noise 6 (some .int)) (zk_R 1 0 0) D g [.ref hm, .int seed, .int rate] [(hm, .inr (7, [.int (nI km), .int (nI 0), .int (nI 0), .int (nI 0), .int (nI 0), .int (nI 0), .int (nI 0), .int (nI 0), .int (nI 0), .ref ms, .ref ch, .ref kp, .ref md, .ref rs, .ref pr]))] (zk_D (some (.int (nI 0))) [(hm, .inr (7, [.int (nI 1), .int (nI 0), .int (nI 0), .int (nI 0), .int (nI 0), .int (nI 0), .int (nI 0), .int (nI 0), .int (nI 0), .ref ms, .ref ch, .ref kp, .ref md, .ref rs, .ref pr]))]) := by
  refine zk_ofW (by decide) (Nat.le_of_ble_eq_true rfl) ?_
  intro pg ev s mm below meth cd A C hr hlocks hname Z ls hl
  have hx := C.1.1
  have hb := C.1.2.1
  have hml := C.1.2.2.1
  have hown := C.1.2.2.2.1
  have hts := C.1.2.2.2.2
  have hl : lv_has ls 6 [(0, .ref hm), (1, .int seed), (2, .int rate)] := hl
  refine lv_aload_n hx hb dX8_noise_0 rfl (lv_at hl 0 rfl) ?_
  refine lv_aload_n hx hb dX8_noise_1 rfl (lv_at hl 0 rfl) ?_
  refine zk_get C Z in_X8 0 rfl rfl 1 (by decide) q598 rfl (v := .int (nI 0)) rfl dX8_noise_2 ?_
  refine nr_ne0 (tgt := 12) hx hb (by omega) dX8_noise_5 (by decide) (fun c_1 => absurd c_1 (fun q => q rfl)) (fun c_1 => ?_)
  refine lv_iconst (v := nI 1) hx hb dX8_noise_8 (by decide) ?_
  refine lv_goto (tgt := 28) hx hb dX8_noise_9 (by decide) ?_
  refine zk_put C Z in_X8 tyX8 tyX8_ok nmX8 0 rfl rfl 0 (by decide) q597 rfl rfl (v := .int (nI 1)) rfl rfl (Nat.le_of_ble_eq_true rfl) dX8_noise_28 (fun H locs Z => ?_)
  have Z : zk_Z D A s H locs [(hm, .inr (7, [.int (nI 1), .int (nI 0), .int (nI 0), .int (nI 0), .int (nI 0), .int (nI 0), .int (nI 0), .int (nI 0), .int (nI 0), .ref ms, .ref ch, .ref kp, .ref md, .ref rs, .ref pr]))] := Z
  refine lv_iload_n hx hb dX8_noise_31 rfl (lv_at hl 1 rfl) ?_
  refine lv_istore_n (lv' := [(3, .int seed), (0, .ref hm), (1, .int seed), (2, .int rate)]) hx hb dX8_noise_32 rfl hl (by decide) rfl (fun ls hl => ?_)
  refine lv_iconst (v := nI 0) hx hb dX8_noise_33 (by decide) ?_
  refine lv_istore (lv' := [(4, .int (nI 0)), (3, .int seed), (0, .ref hm), (1, .int seed), (2, .int rate)]) hx hb dX8_noise_34 hl (by decide) rfl (fun ls hl => ?_)
  refine lv_iconst (v := nI 0) hx hb dX8_noise_36 (by decide) ?_
  refine lv_istore (lv' := [(5, .int (nI 0)), (4, .int (nI 0)), (3, .int seed), (0, .ref hm), (1, .int seed), (2, .int rate)]) hx hb dX8_noise_37 hl (by decide) rfl (fun ls hl => ?_)
  refine lv_iload hx hb dX8_noise_39 (lv_at hl 0 rfl) ?_
  refine lv_aload_n hx hb dX8_noise_41 rfl (lv_at hl 3 rfl) ?_
  refine zk_callV (cells' := 0) (slots' := 0) (rest := [.int (nI 0)]) (n := 0) (wr := []) C Z (m8_cbU l D g hm ms ch kp md rs pr 1) [0] [] rfl rfl (by decide) (by decide) (by decide) 0 7 rfl rfl rfl q719 q721 qs13 q26 q722 (by decide +kernel) rfl (Nat.le_of_ble_eq_true rfl) (Nat.le_of_ble_eq_true rfl) (Nat.le_of_ble_eq_true rfl) (Nat.le_of_ble_eq_true rfl) rfl rfl hl.1 rfl (Nat.le_of_ble_eq_true rfl) dX8_noise_42 (fun v w1 H locs hq Z => ?_)
  obtain ⟨rfl, rfl⟩ := hq
  have Z : zk_Z D A s H locs [(hm, .inr (7, [.int (nI 1), .int (nI 0), .int (nI 0), .int (nI 0), .int (nI 0), .int (nI 0), .int (nI 0), .int (nI 0), .int (nI 0), .ref ms, .ref ch, .ref kp, .ref md, .ref rs, .ref pr]))] := Z.sub [0] (by decide) rfl
  refine W.eq (g2 := F0 mm 45 ls [.int (nI 0), .int (nI 0)]) rfl ?_
  refine nr_ge (tgt := 91) hx hb (by decide) (by decide) dX8_noise_45 (by decide) (fun c_2 => ?_) (fun c_2 => absurd c_2 (by decide))
  refine lv_iload hx hb dX8_noise_91 (lv_at hl 1 rfl) ?_
  exact zk_iret C hr hlocks Z ⟨rfl, rfl⟩ (Nat.le_of_ble_eq_true rfl) (Nat.le_of_ble_eq_true rfl) dX8_noise_93

set_option maxHeartbeats 4000000 in
/-- model: noise, out of bounds -/
theorem w8_noise (l : Launch) (D : va_G) (g : G4) (hm ms ch kp md rs pr : Nat) (km p dg n t dep gn ck : Nat) (d4 : dep ≤ 4) (n31 : n ≤ 31) (seed rate : Int32) (h0_ : ¬ (nI 0 ≤ rate ∧ rate ≤ nI 1000)) : zk_M l yX8_noise (ws_ yX8_noise cX8_noise 6 (some .int)) (zk_R 1 0 0) D g [.ref hm, .int seed, .int rate] [(hm, .inr (7, [.int (nI km), .int (nI 1), .int (nI p), .int (nI dg), .int (nI n), .int (nI t), .int (nI dep), .int (nI gn), .int (nI ck), .ref ms, .ref ch, .ref kp, .ref md, .ref rs, .ref pr]))] (zk_D (some (.int (nI 0))) [(hm, .inr (7, [.int (nI 2), .int (nI 1), .int (nI p), .int (nI dg), .int (nI n), .int (nI t), .int (nI dep), .int (nI gn), .int (nI ck), .ref ms, .ref ch, .ref kp, .ref md, .ref rs, .ref pr]))]) := by
  refine zk_ofW (by decide) (Nat.le_of_ble_eq_true rfl) ?_
  intro pg ev s mm below meth cd A C hr hlocks hname Z ls hl
  have hx := C.1.1
  have hb := C.1.2.1
  have hml := C.1.2.2.1
  have hown := C.1.2.2.2.1
  have hts := C.1.2.2.2.2
  have hl : lv_has ls 6 [(0, .ref hm), (1, .int seed), (2, .int rate)] := hl
  have hdk := Nat.mul_le_mul d4 n31
  refine lv_aload_n hx hb dX8_noise_0 rfl (lv_at hl 0 rfl) ?_
  refine lv_aload_n hx hb dX8_noise_1 rfl (lv_at hl 0 rfl) ?_
  refine zk_get C Z in_X8 0 rfl rfl 1 (by decide) q598 rfl (v := .int (nI 1)) rfl dX8_noise_2 ?_
  refine nr_ne0 (tgt := 12) hx hb (by omega) dX8_noise_5 (by decide) (fun c_1 => ?_) (fun c_1 => absurd c_1 (by decide))
  refine lv_iload_n hx hb dX8_noise_12 rfl (lv_at hl 2 rfl) ?_
  refine lv_iconst (v := nI 0) hx hb dX8_noise_13 (by decide) ?_
  refine lv_sipush (v := nI 1000) hx hb dX8_noise_14 (by decide) ?_
  refine zk_callS (cells' := 0) (slots' := 0) (rest := [.ref hm]) (n := 3) (wr := [(hm, .inr (7, [.int (nI km), .int (nI 1), .int (nI p), .int (nI dg), .int (nI n), .int (nI t), .int (nI dep), .int (nI gn), .int (nI ck), .ref ms, .ref ch, .ref kp, .ref md, .ref rs, .ref pr]))]) C Z (m8_in0 l D g rate (nI 0) (nI 1000) h0_) [] [0] rfl rfl (by decide) (by decide) (by decide) q651 q652 q26 q653 (by decide +kernel) rfl (Nat.le_of_ble_eq_true rfl) (Nat.le_of_ble_eq_true rfl) (Nat.le_of_ble_eq_true rfl) (Nat.le_of_ble_eq_true rfl) rfl rfl hl.1 rfl (Nat.le_of_ble_eq_true rfl) dX8_noise_17 (fun v w1 H locs hq Z => ?_)
  obtain ⟨rfl, rfl⟩ := hq
  have Z : zk_Z D A s H locs [(hm, .inr (7, [.int (nI km), .int (nI 1), .int (nI p), .int (nI dg), .int (nI n), .int (nI t), .int (nI dep), .int (nI gn), .int (nI ck), .ref ms, .ref ch, .ref kp, .ref md, .ref rs, .ref pr]))] := Z.sub [0] (by decide) rfl
  refine W.eq (g2 := F0 mm 20 ls [.int (nI 0), .ref hm]) rfl ?_
  refine nr_eq0 (tgt := 27) hx hb (by omega) dX8_noise_20 (by decide) (fun c_2 => ?_) (fun c_2 => absurd c_2 (fun q => q rfl))
  refine lv_iconst (v := nI 2) hx hb dX8_noise_27 (by decide) ?_
  refine zk_put C Z in_X8 tyX8 tyX8_ok nmX8 0 rfl rfl 0 (by decide) q597 rfl rfl (v := .int (nI 2)) rfl rfl (Nat.le_of_ble_eq_true rfl) dX8_noise_28 (fun H locs Z => ?_)
  have Z : zk_Z D A s H locs [(hm, .inr (7, [.int (nI 2), .int (nI 1), .int (nI p), .int (nI dg), .int (nI n), .int (nI t), .int (nI dep), .int (nI gn), .int (nI ck), .ref ms, .ref ch, .ref kp, .ref md, .ref rs, .ref pr]))] := Z
  refine lv_iload_n hx hb dX8_noise_31 rfl (lv_at hl 1 rfl) ?_
  refine lv_istore_n (lv' := [(3, .int seed), (0, .ref hm), (1, .int seed), (2, .int rate)]) hx hb dX8_noise_32 rfl hl (by decide) rfl (fun ls hl => ?_)
  refine lv_iconst (v := nI 0) hx hb dX8_noise_33 (by decide) ?_
  refine lv_istore (lv' := [(4, .int (nI 0)), (3, .int seed), (0, .ref hm), (1, .int seed), (2, .int rate)]) hx hb dX8_noise_34 hl (by decide) rfl (fun ls hl => ?_)
  refine lv_iconst (v := nI 0) hx hb dX8_noise_36 (by decide) ?_
  refine lv_istore (lv' := [(5, .int (nI 0)), (4, .int (nI 0)), (3, .int seed), (0, .ref hm), (1, .int seed), (2, .int rate)]) hx hb dX8_noise_37 hl (by decide) rfl (fun ls hl => ?_)
  refine lv_iload hx hb dX8_noise_39 (lv_at hl 0 rfl) ?_
  refine lv_aload_n hx hb dX8_noise_41 rfl (lv_at hl 3 rfl) ?_
  refine zk_callV (cells' := 0) (slots' := 0) (rest := [.int (nI 0)]) (n := 0) (wr := []) C Z (m8_cb l D g hm ms ch kp md rs pr 2 p dg n t dep gn ck) [0] [] rfl rfl (by decide) (by decide) (by decide) 0 7 rfl rfl rfl q719 q721 qs13 q26 q722 (by decide +kernel) rfl (Nat.le_of_ble_eq_true rfl) (Nat.le_of_ble_eq_true rfl) (Nat.le_of_ble_eq_true rfl) (Nat.le_of_ble_eq_true rfl) rfl rfl hl.1 rfl (Nat.le_of_ble_eq_true rfl) dX8_noise_42 (fun v w1 H locs hq Z => ?_)
  obtain ⟨rfl, rfl⟩ := hq
  have Z : zk_Z D A s H locs [(hm, .inr (7, [.int (nI 2), .int (nI 1), .int (nI p), .int (nI dg), .int (nI n), .int (nI t), .int (nI dep), .int (nI gn), .int (nI ck), .ref ms, .ref ch, .ref kp, .ref md, .ref rs, .ref pr]))] := Z.sub [0] (by decide) rfl
  refine W.eq (g2 := F0 mm 45 ls [.int (nI (dep * n)), .int (nI 0)]) rfl ?_
  refine nr_ge (tgt := 91) hx hb (by decide) (by omega) dX8_noise_45 (by decide) (fun c_3 => ?_) (fun c_3 => ?_)
  · refine lv_iload hx hb dX8_noise_91 (lv_at hl 1 rfl) ?_
    exact zk_iret C hr hlocks Z ⟨rfl, rfl⟩ (Nat.le_of_ble_eq_true rfl) (Nat.le_of_ble_eq_true rfl) dX8_noise_93
  · refine lv_aload_n hx hb dX8_noise_48 rfl (lv_at hl 3 rfl) ?_
    refine zk_get C Z in_X8 0 rfl rfl 0 (by decide) q597 rfl (v := .int (nI 2)) rfl dX8_noise_49 ?_
    refine nr_ne0 (tgt := 91) hx hb (by decide) dX8_noise_52 (by decide) (fun c_4 => ?_) (fun c_4 => absurd c_4 (by decide))
    refine lv_iload hx hb dX8_noise_91 (lv_at hl 1 rfl) ?_
    exact zk_iret C hr hlocks Z ⟨rfl, rfl⟩ (Nat.le_of_ble_eq_true rfl) (Nat.le_of_ble_eq_true rfl) dX8_noise_93

set_option maxHeartbeats 4000000 in
theorem lp8_syn {pg : Program} {l : Launch} {ev : Env} {s : State} {mm : MethodId} {args : Array Value} {below : List Frame} {meth : Method} {cd : Code} {Q : State → Prop} {D : va_G} {g : G4} {A : Nat → Prop} (C : zk_C pg s mm cd args cX8_syndrome 5 RX8 D g A) (hm ms ch kp md rs pr : Nat) (km p n t dep gn ck : Nat) (hpn : (p, n) ∈ zk_pr) (Cs : List Nat) (hCs : Cs.length = 4) (c31 : ∀ j, Cs.getD j 0 < 2 ^ 31) (d4 : dep ≤ 4) (t3 : t ≤ 3) (w j : Nat) (hw : w < dep) (j1 : 1 ≤ j) (j2 : j ≤ 2 * t) (fin : Nat) (kk : ∀ (H : Heap) (locs : List Loc) (ls : Array Slot), zk_Z D A s H locs [(hm, .inr (7, [.int (nI 0), .int (nI 1), .int (nI p), .int (nI (mdg p)), .int (nI n), .int (nI t), .int (nI dep), .int (nI gn), .int (nI ck), .ref ms, .ref ch, .ref kp, .ref md, .ref rs, .ref pr])), (ch, .inl (g.1, 4, .inl (zk_ia Cs)))] → lv_has ls 5 [(0, .ref hm), (3, .int (nI fin))] → W pg l ev (zk_R 2 0 0) s mm args below meth cd H locs 0 0 Q (F0 mm 105 ls [])) :
    ∀ (k : Nat) (i sm : Nat) (H : Heap) (locs : List Loc) (ls : Array Slot), (i + k = n) → (zk_it (soF p n (Cs.getD w 0) j) k i sm = fin) → zk_Z D A s H locs [(hm, .inr (7, [.int (nI 0), .int (nI 1), .int (nI p), .int (nI (mdg p)), .int (nI n), .int (nI t), .int (nI dep), .int (nI gn), .int (nI ck), .ref ms, .ref ch, .ref kp, .ref md, .ref rs, .ref pr])), (ch, .inl (g.1, 4, .inl (zk_ia Cs)))] → lv_has ls 5 [(0, .ref hm), (1, .int (nI w)), (2, .int (nI j)), (3, .int (nI sm)), (4, .int (nI i))] → W pg l ev (zk_R 2 0 0) s mm args below meth cd H locs 0 0 Q (F0 mm 53 ls []) := by
  have hx := C.1.1
  have hb := C.1.2.1
  have hml := C.1.2.2.1
  have hown := C.1.2.2.2.1
  have hts := C.1.2.2.2.2
  have hn := zk_n3 _ hpn
  dsimp only at hn
  obtain ⟨hp0, hnn, hp8, hp64⟩ := pw_0 _ hpn
  dsimp only at hp0 hnn hp8 hp64
  have hdg := mdg_5 p
  intro k
  induction k with
  | zero =>
    intro i sm H locs ls hik hfin Z hl
    have hfin : sm = fin := hfin
    subst hfin
    refine lv_iload hx hb dX8_syndrome_53 (lv_at hl 4 rfl) ?_
    refine lv_aload_n hx hb dX8_syndrome_55 rfl (lv_at hl 0 rfl) ?_
    refine zk_get C Z in_X8 0 rfl rfl 4 (by decide) q601 rfl (v := .int (nI n)) rfl dX8_syndrome_56 ?_
    refine nr_ge (tgt := 105) hx hb (by omega) (by omega) dX8_syndrome_59 (by decide) (fun c_1 => ?_) (fun c_1 => absurd c_1 (by omega))
    exact kk  H locs ls  Z (lv_sub hl [0, 3] rfl)
  | succ k ih =>
    intro i sm H locs ls hik hfin Z hl
    have hij : i * j < 2 ^ 31 := by
      have := Nat.mul_le_mul (show i ≤ 31 by omega) (show j ≤ 6 by omega)
      omega
    refine lv_iload hx hb dX8_syndrome_53 (lv_at hl 4 rfl) ?_
    refine lv_aload_n hx hb dX8_syndrome_55 rfl (lv_at hl 0 rfl) ?_
    refine zk_get C Z in_X8 0 rfl rfl 4 (by decide) q601 rfl (v := .int (nI n)) rfl dX8_syndrome_56 ?_
    refine nr_ge (tgt := 105) hx hb (by omega) (by omega) dX8_syndrome_59 (by decide) (fun c_1 => absurd c_1 (by omega)) (fun c_1 => ?_)
    refine lv_aload_n hx hb dX8_syndrome_62 rfl (lv_at hl 0 rfl) ?_
    refine zk_get C Z in_X8 0 rfl rfl 0 (by decide) q597 rfl (v := .int (nI 0)) rfl dX8_syndrome_63 ?_
    refine nr_ne0 (tgt := 105) hx hb (by decide) dX8_syndrome_66 (by decide) (fun c_2 => absurd c_2 (fun q => q rfl)) (fun c_2 => ?_)
    refine lv_aload_n hx hb dX8_syndrome_69 rfl (lv_at hl 0 rfl) ?_
    refine zk_get C Z in_X8 0 rfl rfl 10 (by decide) q607 rfl (v := .ref ch) rfl dX8_syndrome_70 ?_
    refine lv_iload_n hx hb dX8_syndrome_73 rfl (lv_at hl 1 rfl) ?_
    refine zk_iald C Z 1 rfl (by decide) (by omega) dX8_syndrome_74 ?_
    refine lv_iload hx hb dX8_syndrome_75 (lv_at hl 4 rfl) ?_
    refine nr_ishr hx hb (c31 _) (by omega) dX8_syndrome_77 ?_
    refine lv_iconst (v := nI 1) hx hb dX8_syndrome_78 (by decide) ?_
    refine nr_iand hx hb dX8_syndrome_79 ?_
    refine lv_iconst (v := nI 1) hx hb dX8_syndrome_80 (by decide) ?_
    refine nr_ne (tgt := 97) hx hb (zk_lt31 (zk_b1 _)) (by decide) dX8_syndrome_81 (by decide) (fun c_1 => ?_) (fun c_1 => ?_)
    · refine lv_iload_n hx hb dX8_syndrome_97 rfl (lv_at hl 3 rfl) ?_
      refine lv_istore_n (lv' := [(3, .int (nI sm)), (0, .ref hm), (1, .int (nI w)), (2, .int (nI j)), (4, .int (nI i))]) hx hb dX8_syndrome_98 rfl hl (by decide) rfl (fun ls hl => ?_)
      refine nr_iinc (n := 1) (lv' := [(4, .int (nI (i + 1))), (3, .int (nI sm)), (0, .ref hm), (1, .int (nI w)), (2, .int (nI j))]) hx hb (by decide) dX8_syndrome_99 hl (k := 4) rfl (by decide) rfl (fun ls hl => ?_)
      refine lv_goto (tgt := 53) hx hb dX8_syndrome_102 (by decide) ?_
      exact ih (i + 1) (sm) H locs ls (by omega) ((congrArg (zk_it (soF p n (Cs.getD w 0) j) k (i + 1)) (show sm = soF p n (Cs.getD w 0) j i sm from by unfold soF; rw [if_neg c_1])).trans hfin) Z (lv_sub hl [2, 3, 4, 1, 0] rfl)
    · refine lv_iload_n hx hb dX8_syndrome_84 rfl (lv_at hl 3 rfl) ?_
      refine lv_aload_n hx hb dX8_syndrome_85 rfl (lv_at hl 0 rfl) ?_
      refine lv_iload hx hb dX8_syndrome_86 (lv_at hl 4 rfl) ?_
      refine lv_iload_n hx hb dX8_syndrome_88 rfl (lv_at hl 2 rfl) ?_
      refine nr_imul hx hb dX8_syndrome_89 ?_
      refine zk_callV (cells' := 0) (slots' := 0) (rest := [.int (nI sm)]) (n := 1) (wr := [(ch, .inl (g.1, 4, .inl (zk_ia Cs)))]) C Z (m8_pw l D g hm ms ch kp md rs pr 0 1 p n t dep gn ck hpn (i * j) hij) [0] [1] rfl rfl (by decide) (by decide) (by decide) 0 7 rfl rfl rfl q668 q670 qs10 q26 q671 (by decide +kernel) rfl (Nat.le_of_ble_eq_true rfl) (Nat.le_of_ble_eq_true rfl) (Nat.le_of_ble_eq_true rfl) (Nat.le_of_ble_eq_true rfl) rfl rfl hl.1 rfl (Nat.le_of_ble_eq_true rfl) dX8_syndrome_90 (fun v w1 H locs hq Z => ?_)
      obtain ⟨rfl, rfl⟩ := hq
      have Z : zk_Z D A s H locs [(hm, .inr (7, [.int (nI 0), .int (nI 1), .int (nI p), .int (nI (mdg p)), .int (nI n), .int (nI t), .int (nI dep), .int (nI gn), .int (nI ck), .ref ms, .ref ch, .ref kp, .ref md, .ref rs, .ref pr])), (ch, .inl (g.1, 4, .inl (zk_ia Cs)))] := Z.sub [1, 0] (by decide) rfl
      refine W.eq (g2 := F0 mm 93 ls [.int (nI (pw p ((i * j) % n))), .int (nI sm)]) rfl ?_
      refine nr_ixor hx hb dX8_syndrome_93 ?_
      refine lv_goto (tgt := 98) hx hb dX8_syndrome_94 (by decide) ?_
      refine lv_istore_n (lv' := [(3, .int (nI (sm ^^^ (pw p ((i * j) % n))))), (0, .ref hm), (1, .int (nI w)), (2, .int (nI j)), (4, .int (nI i))]) hx hb dX8_syndrome_98 rfl hl (by decide) rfl (fun ls hl => ?_)
      refine nr_iinc (n := 1) (lv' := [(4, .int (nI (i + 1))), (3, .int (nI (sm ^^^ (pw p ((i * j) % n))))), (0, .ref hm), (1, .int (nI w)), (2, .int (nI j))]) hx hb (by decide) dX8_syndrome_99 hl (k := 4) rfl (by decide) rfl (fun ls hl => ?_)
      refine lv_goto (tgt := 53) hx hb dX8_syndrome_102 (by decide) ?_
      exact ih (i + 1) (sm ^^^ (pw p ((i * j) % n))) H locs ls (by omega) ((congrArg (zk_it (soF p n (Cs.getD w 0) j) k (i + 1)) (show sm ^^^ (pw p ((i * j) % n)) = soF p n (Cs.getD w 0) j i sm from by unfold soF; rw [if_pos c_1])).trans hfin) Z (lv_sub hl [2, 3, 4, 1, 0] rfl)

set_option maxHeartbeats 4000000 in
/-- model: syndrome -/
theorem m8_synd (l : Launch) (D : va_G) (g : G4) (hm ms ch kp md rs pr : Nat) (km p n t dep gn ck : Nat) (hpn : (p, n) ∈ zk_pr) (Cs : List Nat) (hCs : Cs.length = 4) (c31 : ∀ j, Cs.getD j 0 < 2 ^ 31) (d4 : dep ≤ 4) (t3 : t ≤ 3) (w j : Nat) (hw : w < dep) (j1 : 1 ≤ j) (j2 : j ≤ 2 * t) : zk_M l yX8_syndrome (ws_ yX8_syndrome cX8_syndrome 5 (some .int)) (zk_R 2 0 0) D g [.ref hm, .int (nI w), .int (nI j)] [(hm, .inr (7, [.int (nI km), .int (nI 1), .int (nI p), .int (nI (mdg p)), .int (nI n), .int (nI t), .int (nI dep), .int (nI gn), .int (nI ck), .ref ms, .ref ch, .ref kp, .ref md, .ref rs, .ref pr])), (ch, .inl (g.1, 4, .inl (zk_ia Cs)))] (zk_D (some (.int (nI (sof p n (Cs.getD w 0) j)))) [(hm, .inr (7, [.int (nI 0), .int (nI 1), .int (nI p), .int (nI (mdg p)), .int (nI n), .int (nI t), .int (nI dep), .int (nI gn), .int (nI ck), .ref ms, .ref ch, .ref kp, .ref md, .ref rs, .ref pr])), (ch, .inl (g.1, 4, .inl (zk_ia Cs)))]) := by
  refine zk_ofW (by decide) (Nat.le_of_ble_eq_true rfl) ?_
  intro pg ev s mm below meth cd A C hr hlocks hname Z ls hl
  have hx := C.1.1
  have hb := C.1.2.1
  have hml := C.1.2.2.1
  have hown := C.1.2.2.2.1
  have hts := C.1.2.2.2.2
  have hl : lv_has ls 5 [(0, .ref hm), (1, .int (nI w)), (2, .int (nI j))] := hl
  have hn := zk_n3 _ hpn
  dsimp only at hn
  obtain ⟨hp0, hnn, hp8, hp64⟩ := pw_0 _ hpn
  dsimp only at hp0 hnn hp8 hp64
  have hdg := mdg_5 p
  obtain ⟨H, hH⟩ : ∃ H, H = s.heap := ⟨_, rfl⟩
  obtain ⟨locs, hlocs⟩ : ∃ q : List Loc, q = [] := ⟨_, rfl⟩
  rw [← hH, ← hlocs] at Z ⊢
  refine lv_aload_n hx hb dX8_syndrome_0 rfl (lv_at hl 0 rfl) ?_
  refine lv_aload_n hx hb dX8_syndrome_1 rfl (lv_at hl 0 rfl) ?_
  refine zk_get C Z in_X8 0 rfl rfl 1 (by decide) q598 rfl (v := .int (nI 1)) rfl dX8_syndrome_2 ?_
  refine nr_ne0 (tgt := 12) hx hb (by omega) dX8_syndrome_5 (by decide) (fun c_1 => ?_) (fun c_1 => absurd c_1 (by decide))
  refine lv_iload_n hx hb dX8_syndrome_12 rfl (lv_at hl 1 rfl) ?_
  refine lv_iconst (v := nI 0) hx hb dX8_syndrome_13 (by decide) ?_
  refine lv_aload_n hx hb dX8_syndrome_14 rfl (lv_at hl 0 rfl) ?_
  refine zk_get C Z in_X8 0 rfl rfl 6 (by decide) q603 rfl (v := .int (nI dep)) rfl dX8_syndrome_15 ?_
  refine lv_iconst (v := nI 1) hx hb dX8_syndrome_18 (by decide) ?_
  refine nr_isub hx hb (by omega) dX8_syndrome_19 ?_
  refine zk_callS (cells' := 0) (slots' := 0) (rest := [.ref hm]) (n := 3) (wr := [(hm, .inr (7, [.int (nI km), .int (nI 1), .int (nI p), .int (nI (mdg p)), .int (nI n), .int (nI t), .int (nI dep), .int (nI gn), .int (nI ck), .ref ms, .ref ch, .ref kp, .ref md, .ref rs, .ref pr])), (ch, .inl (g.1, 4, .inl (zk_ia Cs)))]) C Z (m8_in1 l D g (nI w) (nI 0) (nI (dep - 1)) (zk_le (Nat.zero_le w) (by omega)) (zk_le (by omega) (by omega))) [] [0, 1] rfl rfl (by decide) (by decide) (by decide) q651 q652 q26 q653 (by decide +kernel) rfl (Nat.le_of_ble_eq_true rfl) (Nat.le_of_ble_eq_true rfl) (Nat.le_of_ble_eq_true rfl) (Nat.le_of_ble_eq_true rfl) rfl rfl hl.1 rfl (Nat.le_of_ble_eq_true rfl) dX8_syndrome_20 (fun v w1 H locs hq Z => ?_)
  obtain ⟨rfl, rfl⟩ := hq
  have Z : zk_Z D A s H locs [(hm, .inr (7, [.int (nI km), .int (nI 1), .int (nI p), .int (nI (mdg p)), .int (nI n), .int (nI t), .int (nI dep), .int (nI gn), .int (nI ck), .ref ms, .ref ch, .ref kp, .ref md, .ref rs, .ref pr])), (ch, .inl (g.1, 4, .inl (zk_ia Cs)))] := Z.sub [0, 1] (by decide) rfl
  refine W.eq (g2 := F0 mm 23 ls [.int (nI 1), .ref hm]) rfl ?_
  refine nr_eq0 (tgt := 44) hx hb (by omega) dX8_syndrome_23 (by decide) (fun c_2 => absurd c_2 (by decide)) (fun c_2 => ?_)
  refine lv_iload_n hx hb dX8_syndrome_26 rfl (lv_at hl 2 rfl) ?_
  refine lv_iconst (v := nI 1) hx hb dX8_syndrome_27 (by decide) ?_
  refine lv_iconst (v := nI 2) hx hb dX8_syndrome_28 (by decide) ?_
  refine lv_aload_n hx hb dX8_syndrome_29 rfl (lv_at hl 0 rfl) ?_
  refine zk_get C Z in_X8 0 rfl rfl 5 (by decide) q602 rfl (v := .int (nI t)) rfl dX8_syndrome_30 ?_
  refine nr_imul hx hb dX8_syndrome_33 ?_
  refine zk_callS (cells' := 0) (slots' := 0) (rest := [.ref hm]) (n := 3) (wr := [(hm, .inr (7, [.int (nI km), .int (nI 1), .int (nI p), .int (nI (mdg p)), .int (nI n), .int (nI t), .int (nI dep), .int (nI gn), .int (nI ck), .ref ms, .ref ch, .ref kp, .ref md, .ref rs, .ref pr])), (ch, .inl (g.1, 4, .inl (zk_ia Cs)))]) C Z (m8_in1 l D g (nI j) (nI 1) (nI (2 * t)) (zk_le j1 (by omega)) (zk_le j2 (by omega))) [] [0, 1] rfl rfl (by decide) (by decide) (by decide) q651 q652 q26 q653 (by decide +kernel) rfl (Nat.le_of_ble_eq_true rfl) (Nat.le_of_ble_eq_true rfl) (Nat.le_of_ble_eq_true rfl) (Nat.le_of_ble_eq_true rfl) rfl rfl hl.1 rfl (Nat.le_of_ble_eq_true rfl) dX8_syndrome_34 (fun v w1 H locs hq Z => ?_)
  obtain ⟨rfl, rfl⟩ := hq
  have Z : zk_Z D A s H locs [(hm, .inr (7, [.int (nI km), .int (nI 1), .int (nI p), .int (nI (mdg p)), .int (nI n), .int (nI t), .int (nI dep), .int (nI gn), .int (nI ck), .ref ms, .ref ch, .ref kp, .ref md, .ref rs, .ref pr])), (ch, .inl (g.1, 4, .inl (zk_ia Cs)))] := Z.sub [0, 1] (by decide) rfl
  refine W.eq (g2 := F0 mm 37 ls [.int (nI 1), .ref hm]) rfl ?_
  refine nr_eq0 (tgt := 44) hx hb (by omega) dX8_syndrome_37 (by decide) (fun c_3 => absurd c_3 (by decide)) (fun c_3 => ?_)
  refine lv_iconst (v := nI 0) hx hb dX8_syndrome_40 (by decide) ?_
  refine lv_goto (tgt := 45) hx hb dX8_syndrome_41 (by decide) ?_
  refine zk_put C Z in_X8 tyX8 tyX8_ok nmX8 0 rfl rfl 0 (by decide) q597 rfl rfl (v := .int (nI 0)) rfl rfl (Nat.le_of_ble_eq_true rfl) dX8_syndrome_45 (fun H locs Z => ?_)
  have Z : zk_Z D A s H locs [(hm, .inr (7, [.int (nI 0), .int (nI 1), .int (nI p), .int (nI (mdg p)), .int (nI n), .int (nI t), .int (nI dep), .int (nI gn), .int (nI ck), .ref ms, .ref ch, .ref kp, .ref md, .ref rs, .ref pr])), (ch, .inl (g.1, 4, .inl (zk_ia Cs)))] := Z
  refine lv_iconst (v := nI 0) hx hb dX8_syndrome_48 (by decide) ?_
  refine lv_istore_n (lv' := [(3, .int (nI 0)), (0, .ref hm), (1, .int (nI w)), (2, .int (nI j))]) hx hb dX8_syndrome_49 rfl hl (by decide) rfl (fun ls hl => ?_)
  refine lv_iconst (v := nI 0) hx hb dX8_syndrome_50 (by decide) ?_
  refine lv_istore (lv' := [(4, .int (nI 0)), (3, .int (nI 0)), (0, .ref hm), (1, .int (nI w)), (2, .int (nI j))]) hx hb dX8_syndrome_51 hl (by decide) rfl (fun ls hl => ?_)
  refine lp8_syn C hm ms ch kp md rs pr km p n t dep gn ck hpn Cs hCs c31 d4 t3 w j hw j1 j2 _ (fun H locs ls Z hl => ?_) n 0 0 H locs ls (by omega) rfl Z (lv_sub hl [2, 3, 4, 1, 0] rfl)
  refine lv_iload_n hx hb dX8_syndrome_105 rfl (lv_at hl 1 rfl) ?_
  exact zk_iret C hr hlocks Z ⟨rfl, rfl⟩ (Nat.le_of_ble_eq_true rfl) (Nat.le_of_ble_eq_true rfl) dX8_syndrome_106

set_option maxHeartbeats 4000000 in
/-- model: syndrome, not begun -/
theorem v8_synd (l : Launch) (D : va_G) (g : G4) (hm ms ch kp md rs pr : Nat) (km : Nat) (w j : Int32) : zk_M l yX8_syndrome (ws_ yX8_syndrome cX8_syndrome 5 (some .int)) (zk_R 1 0 0) D g [.ref hm, .int w, .int j] [(hm, .inr (7, [.int (nI km), .int (nI 0), .int (nI 0), .int (nI 0), .int (nI 0), .int (nI 0), .int (nI 0), .int (nI 0), .int (nI 0), .ref ms, .ref ch, .ref kp, .ref md, .ref rs, .ref pr]))] (zk_D (some (.int (nI 0))) [(hm, .inr (7, [.int (nI 1), .int (nI 0), .int (nI 0), .int (nI 0), .int (nI 0), .int (nI 0), .int (nI 0), .int (nI 0), .int (nI 0), .ref ms, .ref ch, .ref kp, .ref md, .ref rs, .ref pr]))]) := by
  refine zk_ofW (by decide) (Nat.le_of_ble_eq_true rfl) ?_
  intro pg ev s mm below meth cd A C hr hlocks hname Z ls hl
  have hx := C.1.1
  have hb := C.1.2.1
  have hml := C.1.2.2.1
  have hown := C.1.2.2.2.1
  have hts := C.1.2.2.2.2
  have hl : lv_has ls 5 [(0, .ref hm), (1, .int w), (2, .int j)] := hl
  refine lv_aload_n hx hb dX8_syndrome_0 rfl (lv_at hl 0 rfl) ?_
  refine lv_aload_n hx hb dX8_syndrome_1 rfl (lv_at hl 0 rfl) ?_
  refine zk_get C Z in_X8 0 rfl rfl 1 (by decide) q598 rfl (v := .int (nI 0)) rfl dX8_syndrome_2 ?_
  refine nr_ne0 (tgt := 12) hx hb (by omega) dX8_syndrome_5 (by decide) (fun c_1 => absurd c_1 (fun q => q rfl)) (fun c_1 => ?_)
  refine lv_iconst (v := nI 1) hx hb dX8_syndrome_8 (by decide) ?_
  refine lv_goto (tgt := 45) hx hb dX8_syndrome_9 (by decide) ?_
  refine zk_put C Z in_X8 tyX8 tyX8_ok nmX8 0 rfl rfl 0 (by decide) q597 rfl rfl (v := .int (nI 1)) rfl rfl (Nat.le_of_ble_eq_true rfl) dX8_syndrome_45 (fun H locs Z => ?_)
  have Z : zk_Z D A s H locs [(hm, .inr (7, [.int (nI 1), .int (nI 0), .int (nI 0), .int (nI 0), .int (nI 0), .int (nI 0), .int (nI 0), .int (nI 0), .int (nI 0), .ref ms, .ref ch, .ref kp, .ref md, .ref rs, .ref pr]))] := Z
  refine lv_iconst (v := nI 0) hx hb dX8_syndrome_48 (by decide) ?_
  refine lv_istore_n (lv' := [(3, .int (nI 0)), (0, .ref hm), (1, .int w), (2, .int j)]) hx hb dX8_syndrome_49 rfl hl (by decide) rfl (fun ls hl => ?_)
  refine lv_iconst (v := nI 0) hx hb dX8_syndrome_50 (by decide) ?_
  refine lv_istore (lv' := [(4, .int (nI 0)), (3, .int (nI 0)), (0, .ref hm), (1, .int w), (2, .int j)]) hx hb dX8_syndrome_51 hl (by decide) rfl (fun ls hl => ?_)
  refine lv_iload hx hb dX8_syndrome_53 (lv_at hl 0 rfl) ?_
  refine lv_aload_n hx hb dX8_syndrome_55 rfl (lv_at hl 2 rfl) ?_
  refine zk_get C Z in_X8 0 rfl rfl 4 (by decide) q601 rfl (v := .int (nI 0)) rfl dX8_syndrome_56 ?_
  refine nr_ge (tgt := 105) hx hb (by decide) (by decide) dX8_syndrome_59 (by decide) (fun c_2 => ?_) (fun c_2 => absurd c_2 (by decide))
  refine lv_iload_n hx hb dX8_syndrome_105 rfl (lv_at hl 1 rfl) ?_
  exact zk_iret C hr hlocks Z ⟨rfl, rfl⟩ (Nat.le_of_ble_eq_true rfl) (Nat.le_of_ble_eq_true rfl) dX8_syndrome_106

set_option maxHeartbeats 4000000 in
/-- model: syndrome, none such -/
theorem w8_synd_w (l : Launch) (D : va_G) (g : G4) (hm ms ch kp md rs pr : Nat) (km p dg n t dep gn ck : Nat) (n31 : n ≤ 31) (w j : Int32) (d1 : 1 ≤ dep) (h0_ : ¬ (nI 0 ≤ w ∧ w ≤ nI (dep - 1))) : zk_M l yX8_syndrome (ws_ yX8_syndrome cX8_syndrome 5 (some .int)) (zk_R 1 0 0) D g [.ref hm, .int w, .int j] [(hm, .inr (7, [.int (nI km), .int (nI 1), .int (nI p), .int (nI dg), .int (nI n), .int (nI t), .int (nI dep), .int (nI gn), .int (nI ck), .ref ms, .ref ch, .ref kp, .ref md, .ref rs, .ref pr]))] (zk_D (some (.int (nI 0))) [(hm, .inr (7, [.int (nI 2), .int (nI 1), .int (nI p), .int (nI dg), .int (nI n), .int (nI t), .int (nI dep), .int (nI gn), .int (nI ck), .ref ms, .ref ch, .ref kp, .ref md, .ref rs, .ref pr]))]) := by
  refine zk_ofW (by decide) (Nat.le_of_ble_eq_true rfl) ?_
  intro pg ev s mm below meth cd A C hr hlocks hname Z ls hl
  have hx := C.1.1
  have hb := C.1.2.1
  have hml := C.1.2.2.1
  have hown := C.1.2.2.2.1
  have hts := C.1.2.2.2.2
  have hl : lv_has ls 5 [(0, .ref hm), (1, .int w), (2, .int j)] := hl
  refine lv_aload_n hx hb dX8_syndrome_0 rfl (lv_at hl 0 rfl) ?_
  refine lv_aload_n hx hb dX8_syndrome_1 rfl (lv_at hl 0 rfl) ?_
  refine zk_get C Z in_X8 0 rfl rfl 1 (by decide) q598 rfl (v := .int (nI 1)) rfl dX8_syndrome_2 ?_
  refine nr_ne0 (tgt := 12) hx hb (by omega) dX8_syndrome_5 (by decide) (fun c_1 => ?_) (fun c_1 => absurd c_1 (by decide))
  refine lv_iload_n hx hb dX8_syndrome_12 rfl (lv_at hl 1 rfl) ?_
  refine lv_iconst (v := nI 0) hx hb dX8_syndrome_13 (by decide) ?_
  refine lv_aload_n hx hb dX8_syndrome_14 rfl (lv_at hl 0 rfl) ?_
  refine zk_get C Z in_X8 0 rfl rfl 6 (by decide) q603 rfl (v := .int (nI dep)) rfl dX8_syndrome_15 ?_
  refine lv_iconst (v := nI 1) hx hb dX8_syndrome_18 (by decide) ?_
  refine nr_isub hx hb d1 dX8_syndrome_19 ?_
  refine zk_callS (cells' := 0) (slots' := 0) (rest := [.ref hm]) (n := 3) (wr := [(hm, .inr (7, [.int (nI km), .int (nI 1), .int (nI p), .int (nI dg), .int (nI n), .int (nI t), .int (nI dep), .int (nI gn), .int (nI ck), .ref ms, .ref ch, .ref kp, .ref md, .ref rs, .ref pr]))]) C Z (m8_in0 l D g w (nI 0) (nI (dep - 1)) h0_) [] [0] rfl rfl (by decide) (by decide) (by decide) q651 q652 q26 q653 (by decide +kernel) rfl (Nat.le_of_ble_eq_true rfl) (Nat.le_of_ble_eq_true rfl) (Nat.le_of_ble_eq_true rfl) (Nat.le_of_ble_eq_true rfl) rfl rfl hl.1 rfl (Nat.le_of_ble_eq_true rfl) dX8_syndrome_20 (fun v w1 H locs hq Z => ?_)
  obtain ⟨rfl, rfl⟩ := hq
  have Z : zk_Z D A s H locs [(hm, .inr (7, [.int (nI km), .int (nI 1), .int (nI p), .int (nI dg), .int (nI n), .int (nI t), .int (nI dep), .int (nI gn), .int (nI ck), .ref ms, .ref ch, .ref kp, .ref md, .ref rs, .ref pr]))] := Z.sub [0] (by decide) rfl
  refine W.eq (g2 := F0 mm 23 ls [.int (nI 0), .ref hm]) rfl ?_
  refine nr_eq0 (tgt := 44) hx hb (by omega) dX8_syndrome_23 (by decide) (fun c_2 => ?_) (fun c_2 => absurd c_2 (fun q => q rfl))
  refine lv_iconst (v := nI 2) hx hb dX8_syndrome_44 (by decide) ?_
  refine zk_put C Z in_X8 tyX8 tyX8_ok nmX8 0 rfl rfl 0 (by decide) q597 rfl rfl (v := .int (nI 2)) rfl rfl (Nat.le_of_ble_eq_true rfl) dX8_syndrome_45 (fun H locs Z => ?_)
  have Z : zk_Z D A s H locs [(hm, .inr (7, [.int (nI 2), .int (nI 1), .int (nI p), .int (nI dg), .int (nI n), .int (nI t), .int (nI dep), .int (nI gn), .int (nI ck), .ref ms, .ref ch, .ref kp, .ref md, .ref rs, .ref pr]))] := Z
  refine lv_iconst (v := nI 0) hx hb dX8_syndrome_48 (by decide) ?_
  refine lv_istore_n (lv' := [(3, .int (nI 0)), (0, .ref hm), (1, .int w), (2, .int j)]) hx hb dX8_syndrome_49 rfl hl (by decide) rfl (fun ls hl => ?_)
  refine lv_iconst (v := nI 0) hx hb dX8_syndrome_50 (by decide) ?_
  refine lv_istore (lv' := [(4, .int (nI 0)), (3, .int (nI 0)), (0, .ref hm), (1, .int w), (2, .int j)]) hx hb dX8_syndrome_51 hl (by decide) rfl (fun ls hl => ?_)
  refine lv_iload hx hb dX8_syndrome_53 (lv_at hl 0 rfl) ?_
  refine lv_aload_n hx hb dX8_syndrome_55 rfl (lv_at hl 2 rfl) ?_
  refine zk_get C Z in_X8 0 rfl rfl 4 (by decide) q601 rfl (v := .int (nI n)) rfl dX8_syndrome_56 ?_
  refine nr_ge (tgt := 105) hx hb (by decide) (by omega) dX8_syndrome_59 (by decide) (fun c_3 => ?_) (fun c_3 => ?_)
  · refine lv_iload_n hx hb dX8_syndrome_105 rfl (lv_at hl 1 rfl) ?_
    exact zk_iret C hr hlocks Z ⟨rfl, rfl⟩ (Nat.le_of_ble_eq_true rfl) (Nat.le_of_ble_eq_true rfl) dX8_syndrome_106
  · refine lv_aload_n hx hb dX8_syndrome_62 rfl (lv_at hl 2 rfl) ?_
    refine zk_get C Z in_X8 0 rfl rfl 0 (by decide) q597 rfl (v := .int (nI 2)) rfl dX8_syndrome_63 ?_
    refine nr_ne0 (tgt := 105) hx hb (by decide) dX8_syndrome_66 (by decide) (fun c_4 => ?_) (fun c_4 => absurd c_4 (by decide))
    refine lv_iload_n hx hb dX8_syndrome_105 rfl (lv_at hl 1 rfl) ?_
    exact zk_iret C hr hlocks Z ⟨rfl, rfl⟩ (Nat.le_of_ble_eq_true rfl) (Nat.le_of_ble_eq_true rfl) dX8_syndrome_106

set_option maxHeartbeats 4000000 in
/-- model: syndrome, none such -/
theorem w8_synd_j (l : Launch) (D : va_G) (g : G4) (hm ms ch kp md rs pr : Nat) (km p dg n t dep gn ck : Nat) (n31 : n ≤ 31) (w j : Int32) (d1 : 1 ≤ dep) (hw_ : nI 0 ≤ w ∧ w ≤ nI (dep - 1)) (h0_ : ¬ (nI 1 ≤ j ∧ j ≤ nI (2 * t))) : zk_M l yX8_syndrome (ws_ yX8_syndrome cX8_syndrome 5 (some .int)) (zk_R 1 0 0) D g [.ref hm, .int w, .int j] [(hm, .inr (7, [.int (nI km), .int (nI 1), .int (nI p), .int (nI dg), .int (nI n), .int (nI t), .int (nI dep), .int (nI gn), .int (nI ck), .ref ms, .ref ch, .ref kp, .ref md, .ref rs, .ref pr]))] (zk_D (some (.int (nI 0))) [(hm, .inr (7, [.int (nI 2), .int (nI 1), .int (nI p), .int (nI dg), .int (nI n), .int (nI t), .int (nI dep), .int (nI gn), .int (nI ck), .ref ms, .ref ch, .ref kp, .ref md, .ref rs, .ref pr]))]) := by
  refine zk_ofW (by decide) (Nat.le_of_ble_eq_true rfl) ?_
  intro pg ev s mm below meth cd A C hr hlocks hname Z ls hl
  have hx := C.1.1
  have hb := C.1.2.1
  have hml := C.1.2.2.1
  have hown := C.1.2.2.2.1
  have hts := C.1.2.2.2.2
  have hl : lv_has ls 5 [(0, .ref hm), (1, .int w), (2, .int j)] := hl
  refine lv_aload_n hx hb dX8_syndrome_0 rfl (lv_at hl 0 rfl) ?_
  refine lv_aload_n hx hb dX8_syndrome_1 rfl (lv_at hl 0 rfl) ?_
  refine zk_get C Z in_X8 0 rfl rfl 1 (by decide) q598 rfl (v := .int (nI 1)) rfl dX8_syndrome_2 ?_
  refine nr_ne0 (tgt := 12) hx hb (by omega) dX8_syndrome_5 (by decide) (fun c_1 => ?_) (fun c_1 => absurd c_1 (by decide))
  refine lv_iload_n hx hb dX8_syndrome_12 rfl (lv_at hl 1 rfl) ?_
  refine lv_iconst (v := nI 0) hx hb dX8_syndrome_13 (by decide) ?_
  refine lv_aload_n hx hb dX8_syndrome_14 rfl (lv_at hl 0 rfl) ?_
  refine zk_get C Z in_X8 0 rfl rfl 6 (by decide) q603 rfl (v := .int (nI dep)) rfl dX8_syndrome_15 ?_
  refine lv_iconst (v := nI 1) hx hb dX8_syndrome_18 (by decide) ?_
  refine nr_isub hx hb d1 dX8_syndrome_19 ?_
  refine zk_callS (cells' := 0) (slots' := 0) (rest := [.ref hm]) (n := 3) (wr := [(hm, .inr (7, [.int (nI km), .int (nI 1), .int (nI p), .int (nI dg), .int (nI n), .int (nI t), .int (nI dep), .int (nI gn), .int (nI ck), .ref ms, .ref ch, .ref kp, .ref md, .ref rs, .ref pr]))]) C Z (m8_in1 l D g w (nI 0) (nI (dep - 1)) hw_.1 hw_.2) [] [0] rfl rfl (by decide) (by decide) (by decide) q651 q652 q26 q653 (by decide +kernel) rfl (Nat.le_of_ble_eq_true rfl) (Nat.le_of_ble_eq_true rfl) (Nat.le_of_ble_eq_true rfl) (Nat.le_of_ble_eq_true rfl) rfl rfl hl.1 rfl (Nat.le_of_ble_eq_true rfl) dX8_syndrome_20 (fun v w1 H locs hq Z => ?_)
  obtain ⟨rfl, rfl⟩ := hq
  have Z : zk_Z D A s H locs [(hm, .inr (7, [.int (nI km), .int (nI 1), .int (nI p), .int (nI dg), .int (nI n), .int (nI t), .int (nI dep), .int (nI gn), .int (nI ck), .ref ms, .ref ch, .ref kp, .ref md, .ref rs, .ref pr]))] := Z.sub [0] (by decide) rfl
  refine W.eq (g2 := F0 mm 23 ls [.int (nI 1), .ref hm]) rfl ?_
  refine nr_eq0 (tgt := 44) hx hb (by omega) dX8_syndrome_23 (by decide) (fun c_2 => absurd c_2 (by decide)) (fun c_2 => ?_)
  refine lv_iload_n hx hb dX8_syndrome_26 rfl (lv_at hl 2 rfl) ?_
  refine lv_iconst (v := nI 1) hx hb dX8_syndrome_27 (by decide) ?_
  refine lv_iconst (v := nI 2) hx hb dX8_syndrome_28 (by decide) ?_
  refine lv_aload_n hx hb dX8_syndrome_29 rfl (lv_at hl 0 rfl) ?_
  refine zk_get C Z in_X8 0 rfl rfl 5 (by decide) q602 rfl (v := .int (nI t)) rfl dX8_syndrome_30 ?_
  refine nr_imul hx hb dX8_syndrome_33 ?_
  refine zk_callS (cells' := 0) (slots' := 0) (rest := [.ref hm]) (n := 3) (wr := [(hm, .inr (7, [.int (nI km), .int (nI 1), .int (nI p), .int (nI dg), .int (nI n), .int (nI t), .int (nI dep), .int (nI gn), .int (nI ck), .ref ms, .ref ch, .ref kp, .ref md, .ref rs, .ref pr]))]) C Z (m8_in0 l D g j (nI 1) (nI (2 * t)) h0_) [] [0] rfl rfl (by decide) (by decide) (by decide) q651 q652 q26 q653 (by decide +kernel) rfl (Nat.le_of_ble_eq_true rfl) (Nat.le_of_ble_eq_true rfl) (Nat.le_of_ble_eq_true rfl) (Nat.le_of_ble_eq_true rfl) rfl rfl hl.1 rfl (Nat.le_of_ble_eq_true rfl) dX8_syndrome_34 (fun v w1 H locs hq Z => ?_)
  obtain ⟨rfl, rfl⟩ := hq
  have Z : zk_Z D A s H locs [(hm, .inr (7, [.int (nI km), .int (nI 1), .int (nI p), .int (nI dg), .int (nI n), .int (nI t), .int (nI dep), .int (nI gn), .int (nI ck), .ref ms, .ref ch, .ref kp, .ref md, .ref rs, .ref pr]))] := Z.sub [0] (by decide) rfl
  refine W.eq (g2 := F0 mm 37 ls [.int (nI 0), .ref hm]) rfl ?_
  refine nr_eq0 (tgt := 44) hx hb (by omega) dX8_syndrome_37 (by decide) (fun c_3 => ?_) (fun c_3 => absurd c_3 (fun q => q rfl))
  refine lv_iconst (v := nI 2) hx hb dX8_syndrome_44 (by decide) ?_
  refine zk_put C Z in_X8 tyX8 tyX8_ok nmX8 0 rfl rfl 0 (by decide) q597 rfl rfl (v := .int (nI 2)) rfl rfl (Nat.le_of_ble_eq_true rfl) dX8_syndrome_45 (fun H locs Z => ?_)
  have Z : zk_Z D A s H locs [(hm, .inr (7, [.int (nI 2), .int (nI 1), .int (nI p), .int (nI dg), .int (nI n), .int (nI t), .int (nI dep), .int (nI gn), .int (nI ck), .ref ms, .ref ch, .ref kp, .ref md, .ref rs, .ref pr]))] := Z
  refine lv_iconst (v := nI 0) hx hb dX8_syndrome_48 (by decide) ?_
  refine lv_istore_n (lv' := [(3, .int (nI 0)), (0, .ref hm), (1, .int w), (2, .int j)]) hx hb dX8_syndrome_49 rfl hl (by decide) rfl (fun ls hl => ?_)
  refine lv_iconst (v := nI 0) hx hb dX8_syndrome_50 (by decide) ?_
  refine lv_istore (lv' := [(4, .int (nI 0)), (3, .int (nI 0)), (0, .ref hm), (1, .int w), (2, .int j)]) hx hb dX8_syndrome_51 hl (by decide) rfl (fun ls hl => ?_)
  refine lv_iload hx hb dX8_syndrome_53 (lv_at hl 0 rfl) ?_
  refine lv_aload_n hx hb dX8_syndrome_55 rfl (lv_at hl 2 rfl) ?_
  refine zk_get C Z in_X8 0 rfl rfl 4 (by decide) q601 rfl (v := .int (nI n)) rfl dX8_syndrome_56 ?_
  refine nr_ge (tgt := 105) hx hb (by decide) (by omega) dX8_syndrome_59 (by decide) (fun c_4 => ?_) (fun c_4 => ?_)
  · refine lv_iload_n hx hb dX8_syndrome_105 rfl (lv_at hl 1 rfl) ?_
    exact zk_iret C hr hlocks Z ⟨rfl, rfl⟩ (Nat.le_of_ble_eq_true rfl) (Nat.le_of_ble_eq_true rfl) dX8_syndrome_106
  · refine lv_aload_n hx hb dX8_syndrome_62 rfl (lv_at hl 2 rfl) ?_
    refine zk_get C Z in_X8 0 rfl rfl 0 (by decide) q597 rfl (v := .int (nI 2)) rfl dX8_syndrome_63 ?_
    refine nr_ne0 (tgt := 105) hx hb (by decide) dX8_syndrome_66 (by decide) (fun c_5 => ?_) (fun c_5 => absurd c_5 (by decide))
    refine lv_iload_n hx hb dX8_syndrome_105 rfl (lv_at hl 1 rfl) ?_
    exact zk_iret C hr hlocks Z ⟨rfl, rfl⟩ (Nat.le_of_ble_eq_true rfl) (Nat.le_of_ble_eq_true rfl) dX8_syndrome_106

set_option maxHeartbeats 4000000 in
theorem lp8_take {pg : Program} {l : Launch} {ev : Env} {s : State} {mm : MethodId} {args : Array Value} {below : List Frame} {meth : Method} {cd : Code} {Q : State → Prop} {D : va_G} {g : G4} {A : Nat → Prop} (C : zk_C pg s mm cd args cX8_take 2 RX8 D g A) (hm ms ch kp md rs pr : Nat) (km p dg n t dep gn ck : Nat) (Ds : List Nat) (hDs : Ds.length = 4) (D31 : ∀ j, j < dep → Ds.getD j 0 < 2 ^ 31) (d4 : dep ≤ 4) (ck31 : ck ≤ 31) (finM finC : List Nat) (kk : ∀ (H : Heap) (locs : List Loc) (ls : Array Slot), zk_Z D A s H locs [(hm, .inr (7, [.int (nI km), .int (nI 1), .int (nI p), .int (nI dg), .int (nI n), .int (nI t), .int (nI dep), .int (nI gn), .int (nI ck), .ref ms, .ref ch, .ref kp, .ref md, .ref rs, .ref pr])), (ms, .inl (g.1, 4, .inl (zk_ia finM))), (ch, .inl (g.1, 4, .inl (zk_ia finC))), (md, .inl (g.1, 4, .inl (zk_ia Ds)))] → lv_has ls 2 [(0, .ref hm)] → W pg l ev (zk_R 0 0 0) s mm args below meth cd H locs 0 0 Q (F0 mm 45 ls [])) :
    ∀ (k : Nat) (w : Nat) (Ms Cs : List Nat) (H : Heap) (locs : List Loc) (ls : Array Slot), (w + k = dep) → (Ms.length = 4) → (Cs.length = 4) → (zk_it (tkM ck Ds) k w Ms = finM) → (zk_it (tkC Ds) k w Cs = finC) → zk_Z D A s H locs [(hm, .inr (7, [.int (nI km), .int (nI 1), .int (nI p), .int (nI dg), .int (nI n), .int (nI t), .int (nI dep), .int (nI gn), .int (nI ck), .ref ms, .ref ch, .ref kp, .ref md, .ref rs, .ref pr])), (ms, .inl (g.1, 4, .inl (zk_ia Ms))), (ch, .inl (g.1, 4, .inl (zk_ia Cs))), (md, .inl (g.1, 4, .inl (zk_ia Ds)))] → lv_has ls 2 [(0, .ref hm), (1, .int (nI w))] → W pg l ev (zk_R 0 0 0) s mm args below meth cd H locs 0 0 Q (F0 mm 2 ls []) := by
  have hx := C.1.1
  have hb := C.1.2.1
  have hml := C.1.2.2.1
  have hown := C.1.2.2.2.1
  have hts := C.1.2.2.2.2
  intro k
  induction k with
  | zero =>
    intro w Ms Cs H locs ls hik hMs hCs hf1 hf2 Z hl
    have hf1 : Ms = finM := hf1
    have hf2 : Cs = finC := hf2
    subst hf1
    subst hf2
    refine lv_iload_n hx hb dX8_take_2 rfl (lv_at hl 1 rfl) ?_
    refine lv_aload_n hx hb dX8_take_3 rfl (lv_at hl 0 rfl) ?_
    refine zk_get C Z in_X8 0 rfl rfl 6 (by decide) q603 rfl (v := .int (nI dep)) rfl dX8_take_4 ?_
    refine nr_ge (tgt := 45) hx hb (by omega) (by omega) dX8_take_7 (by decide) (fun c_1 => ?_) (fun c_1 => absurd c_1 (by omega))
    exact kk  H locs ls  Z (lv_sub hl [0] rfl)
  | succ k ih =>
    intro w Ms Cs H locs ls hik hMs hCs hf1 hf2 Z hl
    refine lv_iload_n hx hb dX8_take_2 rfl (lv_at hl 1 rfl) ?_
    refine lv_aload_n hx hb dX8_take_3 rfl (lv_at hl 0 rfl) ?_
    refine zk_get C Z in_X8 0 rfl rfl 6 (by decide) q603 rfl (v := .int (nI dep)) rfl dX8_take_4 ?_
    refine nr_ge (tgt := 45) hx hb (by omega) (by omega) dX8_take_7 (by decide) (fun c_1 => absurd c_1 (by omega)) (fun c_1 => ?_)
    refine lv_aload_n hx hb dX8_take_10 rfl (lv_at hl 0 rfl) ?_
    refine zk_get C Z in_X8 0 rfl rfl 10 (by decide) q607 rfl (v := .ref ch) rfl dX8_take_11 ?_
    refine lv_iload_n hx hb dX8_take_14 rfl (lv_at hl 1 rfl) ?_
    refine lv_aload_n hx hb dX8_take_15 rfl (lv_at hl 0 rfl) ?_
    refine zk_get C Z in_X8 0 rfl rfl 12 (by decide) q609 rfl (v := .ref md) rfl dX8_take_16 ?_
    refine lv_iload_n hx hb dX8_take_19 rfl (lv_at hl 1 rfl) ?_
    refine zk_iald C Z 3 rfl (by decide) (by omega) dX8_take_20 ?_
    refine zk_iast C Z 2 rfl (by decide) (by omega) hCs dX8_take_21 (fun H locs Z => ?_)
    have hlen_2 : (Cs.set w (Ds.getD w 0)).length = 4 := by rw [List.length_set]; exact hCs
    have Z : zk_Z D A s H locs [(hm, .inr (7, [.int (nI km), .int (nI 1), .int (nI p), .int (nI dg), .int (nI n), .int (nI t), .int (nI dep), .int (nI gn), .int (nI ck), .ref ms, .ref ch, .ref kp, .ref md, .ref rs, .ref pr])), (ms, .inl (g.1, 4, .inl (zk_ia Ms))), (ch, .inl (g.1, 4, .inl (zk_ia (Cs.set w (Ds.getD w 0))))), (md, .inl (g.1, 4, .inl (zk_ia Ds)))] := Z
    refine lv_aload_n hx hb dX8_take_22 rfl (lv_at hl 0 rfl) ?_
    refine zk_get C Z in_X8 0 rfl rfl 9 (by decide) q606 rfl (v := .ref ms) rfl dX8_take_23 ?_
    refine lv_iload_n hx hb dX8_take_26 rfl (lv_at hl 1 rfl) ?_
    refine lv_aload_n hx hb dX8_take_27 rfl (lv_at hl 0 rfl) ?_
    refine zk_get C Z in_X8 0 rfl rfl 12 (by decide) q609 rfl (v := .ref md) rfl dX8_take_28 ?_
    refine lv_iload_n hx hb dX8_take_31 rfl (lv_at hl 1 rfl) ?_
    refine zk_iald C Z 3 rfl (by decide) (by omega) dX8_take_32 ?_
    refine lv_aload_n hx hb dX8_take_33 rfl (lv_at hl 0 rfl) ?_
    refine zk_get C Z in_X8 0 rfl rfl 8 (by decide) q605 rfl (v := .int (nI ck)) rfl dX8_take_34 ?_
    refine nr_ishr hx hb (D31 w (by omega)) (by omega) dX8_take_37 ?_
    refine zk_iast C Z 1 rfl (by decide) (by omega) hMs dX8_take_38 (fun H locs Z => ?_)
    have hlen_3 : (Ms.set w ((Ds.getD w 0) >>> ck)).length = 4 := by rw [List.length_set]; exact hMs
    have Z : zk_Z D A s H locs [(hm, .inr (7, [.int (nI km), .int (nI 1), .int (nI p), .int (nI dg), .int (nI n), .int (nI t), .int (nI dep), .int (nI gn), .int (nI ck), .ref ms, .ref ch, .ref kp, .ref md, .ref rs, .ref pr])), (ms, .inl (g.1, 4, .inl (zk_ia (Ms.set w ((Ds.getD w 0) >>> ck))))), (ch, .inl (g.1, 4, .inl (zk_ia (Cs.set w (Ds.getD w 0))))), (md, .inl (g.1, 4, .inl (zk_ia Ds)))] := Z
    refine nr_iinc (n := 1) (lv' := [(1, .int (nI (w + 1))), (0, .ref hm)]) hx hb (by decide) dX8_take_39 hl (k := 1) rfl (by decide) rfl (fun ls hl => ?_)
    refine lv_goto (tgt := 2) hx hb dX8_take_42 (by decide) ?_
    exact ih (w + 1) (Ms.set w ((Ds.getD w 0) >>> ck)) (Cs.set w (Ds.getD w 0)) H locs ls (by omega) hlen_3 hlen_2 hf1 hf2 Z (lv_sub hl [1, 0] rfl)

set_option maxHeartbeats 4000000 in
/-- model: take -/
theorem m8_take (l : Launch) (D : va_G) (g : G4) (hm ms ch kp md rs pr : Nat) (km p dg n t dep gn ck : Nat) (Ds : List Nat) (hDs : Ds.length = 4) (D31 : ∀ j, j < dep → Ds.getD j 0 < 2 ^ 31) (d4 : dep ≤ 4) (ck31 : ck ≤ 31) (Ms Cs : List Nat) (hMs : Ms.length = 4) (hCs : Cs.length = 4) : zk_M l yX8_take (ws_ yX8_take cX8_take 2 none) (zk_R 0 0 0) D g [.ref hm] [(hm, .inr (7, [.int (nI km), .int (nI 1), .int (nI p), .int (nI dg), .int (nI n), .int (nI t), .int (nI dep), .int (nI gn), .int (nI ck), .ref ms, .ref ch, .ref kp, .ref md, .ref rs, .ref pr])), (ms, .inl (g.1, 4, .inl (zk_ia Ms))), (ch, .inl (g.1, 4, .inl (zk_ia Cs))), (md, .inl (g.1, 4, .inl (zk_ia Ds)))] (zk_D none [(hm, .inr (7, [.int (nI km), .int (nI 1), .int (nI p), .int (nI dg), .int (nI n), .int (nI t), .int (nI dep), .int (nI gn), .int (nI ck), .ref ms, .ref ch, .ref kp, .ref md, .ref rs, .ref pr])), (ms, .inl (g.1, 4, .inl (zk_ia (zk_it (tkM ck Ds) dep 0 Ms)))), (ch, .inl (g.1, 4, .inl (zk_ia (zk_it (tkC Ds) dep 0 Cs)))), (md, .inl (g.1, 4, .inl (zk_ia Ds)))]) := by
  refine zk_ofW (by decide) (Nat.le_of_ble_eq_true rfl) ?_
  intro pg ev s mm below meth cd A C hr hlocks hname Z ls hl
  have hx := C.1.1
  have hb := C.1.2.1
  have hml := C.1.2.2.1
  have hown := C.1.2.2.2.1
  have hts := C.1.2.2.2.2
  have hl : lv_has ls 2 [(0, .ref hm)] := hl
  obtain ⟨H, hH⟩ : ∃ H, H = s.heap := ⟨_, rfl⟩
  obtain ⟨locs, hlocs⟩ : ∃ q : List Loc, q = [] := ⟨_, rfl⟩
  rw [← hH, ← hlocs] at Z ⊢
  refine lv_iconst (v := nI 0) hx hb dX8_take_0 (by decide) ?_
  refine lv_istore_n (lv' := [(1, .int (nI 0)), (0, .ref hm)]) hx hb dX8_take_1 rfl hl (by decide) rfl (fun ls hl => ?_)
  refine lp8_take C hm ms ch kp md rs pr km p dg n t dep gn ck Ds hDs D31 d4 ck31 _ _ (fun H locs ls Z hl => ?_) dep 0 Ms Cs H locs ls (by omega) hMs hCs rfl rfl Z (lv_sub hl [1, 0] rfl)
  exact zk_vret C hr hlocks Z ⟨rfl, rfl⟩ (Nat.le_of_ble_eq_true rfl) (Nat.le_of_ble_eq_true rfl) dX8_take_45

set_option maxHeartbeats 4000000 in
theorem lp8_save {pg : Program} {l : Launch} {ev : Env} {s : State} {mm : MethodId} {args : Array Value} {below : List Frame} {meth : Method} {cd : Code} {Q : State → Prop} {D : va_G} {g : G4} {A : Nat → Prop} (C : zk_C pg s mm cd args cX8_save 3 RX8 D g A) (hm ms ch kp md rs pr : Nat) (km p dg n t dep gn ck : Nat) (Cs : List Nat) (hCs : Cs.length = 4) (d4 : dep ≤ 4) (sl : Nat) (s3 : sl ≤ 3) (fin : List Nat) (kk : ∀ (H : Heap) (locs : List Loc) (ls : Array Slot), zk_Z D A s H locs [(hm, .inr (7, [.int (nI 0), .int (nI 1), .int (nI p), .int (nI dg), .int (nI n), .int (nI t), .int (nI dep), .int (nI gn), .int (nI ck), .ref ms, .ref ch, .ref kp, .ref md, .ref rs, .ref pr])), (ch, .inl (g.1, 4, .inl (zk_ia Cs))), (kp, .inl (g.1, 16, .inl (zk_ia fin)))] → lv_has ls 3 [(0, .ref hm)] → W pg l ev (zk_R 1 0 0) s mm args below meth cd H locs 0 0 Q (F0 mm 68 ls [])) :
    ∀ (k : Nat) (w : Nat) (Ks : List Nat) (H : Heap) (locs : List Loc) (ls : Array Slot), (w + k = dep) → (Ks.length = 16) → (zk_it (svF sl Cs) k w Ks = fin) → zk_Z D A s H locs [(hm, .inr (7, [.int (nI 0), .int (nI 1), .int (nI p), .int (nI dg), .int (nI n), .int (nI t), .int (nI dep), .int (nI gn), .int (nI ck), .ref ms, .ref ch, .ref kp, .ref md, .ref rs, .ref pr])), (ch, .inl (g.1, 4, .inl (zk_ia Cs))), (kp, .inl (g.1, 16, .inl (zk_ia Ks)))] → lv_has ls 3 [(0, .ref hm), (1, .int (nI sl)), (2, .int (nI w))] → W pg l ev (zk_R 1 0 0) s mm args below meth cd H locs 0 0 Q (F0 mm 31 ls []) := by
  have hx := C.1.1
  have hb := C.1.2.1
  have hml := C.1.2.2.1
  have hown := C.1.2.2.2.1
  have hts := C.1.2.2.2.2
  intro k
  induction k with
  | zero =>
    intro w Ks H locs ls hik hKs hfin Z hl
    have hfin : Ks = fin := hfin
    subst hfin
    refine lv_iload_n hx hb dX8_save_31 rfl (lv_at hl 2 rfl) ?_
    refine lv_aload_n hx hb dX8_save_32 rfl (lv_at hl 0 rfl) ?_
    refine zk_get C Z in_X8 0 rfl rfl 6 (by decide) q603 rfl (v := .int (nI dep)) rfl dX8_save_33 ?_
    refine nr_ge (tgt := 68) hx hb (by omega) (by omega) dX8_save_36 (by decide) (fun c_1 => ?_) (fun c_1 => absurd c_1 (by omega))
    exact kk  H locs ls  Z (lv_sub hl [0] rfl)
  | succ k ih =>
    intro w Ks H locs ls hik hKs hfin Z hl
    refine lv_iload_n hx hb dX8_save_31 rfl (lv_at hl 2 rfl) ?_
    refine lv_aload_n hx hb dX8_save_32 rfl (lv_at hl 0 rfl) ?_
    refine zk_get C Z in_X8 0 rfl rfl 6 (by decide) q603 rfl (v := .int (nI dep)) rfl dX8_save_33 ?_
    refine nr_ge (tgt := 68) hx hb (by omega) (by omega) dX8_save_36 (by decide) (fun c_1 => absurd c_1 (by omega)) (fun c_1 => ?_)
    refine lv_aload_n hx hb dX8_save_39 rfl (lv_at hl 0 rfl) ?_
    refine zk_get C Z in_X8 0 rfl rfl 0 (by decide) q597 rfl (v := .int (nI 0)) rfl dX8_save_40 ?_
    refine nr_ne0 (tgt := 68) hx hb (by decide) dX8_save_43 (by decide) (fun c_2 => absurd c_2 (fun q => q rfl)) (fun c_2 => ?_)
    refine lv_aload_n hx hb dX8_save_46 rfl (lv_at hl 0 rfl) ?_
    refine zk_get C Z in_X8 0 rfl rfl 11 (by decide) q608 rfl (v := .ref kp) rfl dX8_save_47 ?_
    refine lv_iconst (v := nI 4) hx hb dX8_save_50 (by decide) ?_
    refine lv_iload_n hx hb dX8_save_51 rfl (lv_at hl 1 rfl) ?_
    refine nr_imul hx hb dX8_save_52 ?_
    refine lv_iload_n hx hb dX8_save_53 rfl (lv_at hl 2 rfl) ?_
    refine nr_iadd hx hb dX8_save_54 ?_
    refine lv_aload_n hx hb dX8_save_55 rfl (lv_at hl 0 rfl) ?_
    refine zk_get C Z in_X8 0 rfl rfl 10 (by decide) q607 rfl (v := .ref ch) rfl dX8_save_56 ?_
    refine lv_iload_n hx hb dX8_save_59 rfl (lv_at hl 2 rfl) ?_
    refine zk_iald C Z 1 rfl (by decide) (by omega) dX8_save_60 ?_
    refine zk_iast C Z 2 rfl (by decide) (by omega) hKs dX8_save_61 (fun H locs Z => ?_)
    have hlen_3 : (Ks.set ((4 * sl) + w) (Cs.getD w 0)).length = 16 := by rw [List.length_set]; exact hKs
    have Z : zk_Z D A s H locs [(hm, .inr (7, [.int (nI 0), .int (nI 1), .int (nI p), .int (nI dg), .int (nI n), .int (nI t), .int (nI dep), .int (nI gn), .int (nI ck), .ref ms, .ref ch, .ref kp, .ref md, .ref rs, .ref pr])), (ch, .inl (g.1, 4, .inl (zk_ia Cs))), (kp, .inl (g.1, 16, .inl (zk_ia (Ks.set ((4 * sl) + w) (Cs.getD w 0)))))] := Z
    refine nr_iinc (n := 1) (lv' := [(2, .int (nI (w + 1))), (0, .ref hm), (1, .int (nI sl))]) hx hb (by decide) dX8_save_62 hl (k := 2) rfl (by decide) rfl (fun ls hl => ?_)
    refine lv_goto (tgt := 31) hx hb dX8_save_65 (by decide) ?_
    exact ih (w + 1) (Ks.set ((4 * sl) + w) (Cs.getD w 0)) H locs ls (by omega) hlen_3 hfin Z (lv_sub hl [1, 2, 0] rfl)

set_option maxHeartbeats 4000000 in
/-- model: save -/
theorem m8_save (l : Launch) (D : va_G) (g : G4) (hm ms ch kp md rs pr : Nat) (km p dg n t dep gn ck : Nat) (Cs : List Nat) (hCs : Cs.length = 4) (d4 : dep ≤ 4) (sl : Nat) (s3 : sl ≤ 3) (Ks : List Nat) (hKs : Ks.length = 16) : zk_M l yX8_save (ws_ yX8_save cX8_save 3 none) (zk_R 1 0 0) D g [.ref hm, .int (nI sl)] [(hm, .inr (7, [.int (nI km), .int (nI 1), .int (nI p), .int (nI dg), .int (nI n), .int (nI t), .int (nI dep), .int (nI gn), .int (nI ck), .ref ms, .ref ch, .ref kp, .ref md, .ref rs, .ref pr])), (ch, .inl (g.1, 4, .inl (zk_ia Cs))), (kp, .inl (g.1, 16, .inl (zk_ia Ks)))] (zk_D none [(hm, .inr (7, [.int (nI 0), .int (nI 1), .int (nI p), .int (nI dg), .int (nI n), .int (nI t), .int (nI dep), .int (nI gn), .int (nI ck), .ref ms, .ref ch, .ref kp, .ref md, .ref rs, .ref pr])), (ch, .inl (g.1, 4, .inl (zk_ia Cs))), (kp, .inl (g.1, 16, .inl (zk_ia (zk_it (svF sl Cs) dep 0 Ks))))]) := by
  refine zk_ofW (by decide) (Nat.le_of_ble_eq_true rfl) ?_
  intro pg ev s mm below meth cd A C hr hlocks hname Z ls hl
  have hx := C.1.1
  have hb := C.1.2.1
  have hml := C.1.2.2.1
  have hown := C.1.2.2.2.1
  have hts := C.1.2.2.2.2
  have hl : lv_has ls 3 [(0, .ref hm), (1, .int (nI sl))] := hl
  obtain ⟨H, hH⟩ : ∃ H, H = s.heap := ⟨_, rfl⟩
  obtain ⟨locs, hlocs⟩ : ∃ q : List Loc, q = [] := ⟨_, rfl⟩
  rw [← hH, ← hlocs] at Z ⊢
  refine lv_aload_n hx hb dX8_save_0 rfl (lv_at hl 0 rfl) ?_
  refine lv_aload_n hx hb dX8_save_1 rfl (lv_at hl 0 rfl) ?_
  refine zk_get C Z in_X8 0 rfl rfl 1 (by decide) q598 rfl (v := .int (nI 1)) rfl dX8_save_2 ?_
  refine nr_ne0 (tgt := 12) hx hb (by omega) dX8_save_5 (by decide) (fun c_1 => ?_) (fun c_1 => absurd c_1 (by decide))
  refine lv_iload_n hx hb dX8_save_12 rfl (lv_at hl 1 rfl) ?_
  refine lv_iconst (v := nI 0) hx hb dX8_save_13 (by decide) ?_
  refine lv_iconst (v := nI 3) hx hb dX8_save_14 (by decide) ?_
  refine zk_callS (cells' := 0) (slots' := 0) (rest := [.ref hm]) (n := 3) (wr := [(hm, .inr (7, [.int (nI km), .int (nI 1), .int (nI p), .int (nI dg), .int (nI n), .int (nI t), .int (nI dep), .int (nI gn), .int (nI ck), .ref ms, .ref ch, .ref kp, .ref md, .ref rs, .ref pr])), (ch, .inl (g.1, 4, .inl (zk_ia Cs))), (kp, .inl (g.1, 16, .inl (zk_ia Ks)))]) C Z (m8_in1 l D g (nI sl) (nI 0) (nI 3) (zk_le (Nat.zero_le sl) (by omega)) (zk_le s3 (by decide))) [] [0, 1, 2] rfl rfl (by decide) (by decide) (by decide) q651 q652 q26 q653 (by decide +kernel) rfl (Nat.le_of_ble_eq_true rfl) (Nat.le_of_ble_eq_true rfl) (Nat.le_of_ble_eq_true rfl) (Nat.le_of_ble_eq_true rfl) rfl rfl hl.1 rfl (Nat.le_of_ble_eq_true rfl) dX8_save_15 (fun v w1 H locs hq Z => ?_)
  obtain ⟨rfl, rfl⟩ := hq
  have Z : zk_Z D A s H locs [(hm, .inr (7, [.int (nI km), .int (nI 1), .int (nI p), .int (nI dg), .int (nI n), .int (nI t), .int (nI dep), .int (nI gn), .int (nI ck), .ref ms, .ref ch, .ref kp, .ref md, .ref rs, .ref pr])), (ch, .inl (g.1, 4, .inl (zk_ia Cs))), (kp, .inl (g.1, 16, .inl (zk_ia Ks)))] := Z.sub [0, 1, 2] (by decide) rfl
  refine W.eq (g2 := F0 mm 18 ls [.int (nI 1), .ref hm]) rfl ?_
  refine nr_eq0 (tgt := 25) hx hb (by omega) dX8_save_18 (by decide) (fun c_2 => absurd c_2 (by decide)) (fun c_2 => ?_)
  refine lv_iconst (v := nI 0) hx hb dX8_save_21 (by decide) ?_
  refine lv_goto (tgt := 26) hx hb dX8_save_22 (by decide) ?_
  refine zk_put C Z in_X8 tyX8 tyX8_ok nmX8 0 rfl rfl 0 (by decide) q597 rfl rfl (v := .int (nI 0)) rfl rfl (Nat.le_of_ble_eq_true rfl) dX8_save_26 (fun H locs Z => ?_)
  have Z : zk_Z D A s H locs [(hm, .inr (7, [.int (nI 0), .int (nI 1), .int (nI p), .int (nI dg), .int (nI n), .int (nI t), .int (nI dep), .int (nI gn), .int (nI ck), .ref ms, .ref ch, .ref kp, .ref md, .ref rs, .ref pr])), (ch, .inl (g.1, 4, .inl (zk_ia Cs))), (kp, .inl (g.1, 16, .inl (zk_ia Ks)))] := Z
  refine lv_iconst (v := nI 0) hx hb dX8_save_29 (by decide) ?_
  refine lv_istore_n (lv' := [(2, .int (nI 0)), (0, .ref hm), (1, .int (nI sl))]) hx hb dX8_save_30 rfl hl (by decide) rfl (fun ls hl => ?_)
  refine lp8_save C hm ms ch kp md rs pr km p dg n t dep gn ck Cs hCs d4 sl s3 _ (fun H locs ls Z hl => ?_) dep 0 Ks H locs ls (by omega) hKs rfl Z (lv_sub hl [1, 2, 0] rfl)
  exact zk_vret C hr hlocks Z ⟨rfl, rfl⟩ (Nat.le_of_ble_eq_true rfl) (Nat.le_of_ble_eq_true rfl) dX8_save_68

set_option maxHeartbeats 4000000 in
/-- model: save, not begun -/
theorem v8_save (l : Launch) (D : va_G) (g : G4) (hm ms ch kp md rs pr : Nat) (km : Nat) (x : Int32) : zk_M l yX8_save (ws_ yX8_save cX8_save 3 none) (zk_R 1 0 0) D g [.ref hm, .int x] [(hm, .inr (7, [.int (nI km), .int (nI 0), .int (nI 0), .int (nI 0), .int (nI 0), .int (nI 0), .int (nI 0), .int (nI 0), .int (nI 0), .ref ms, .ref ch, .ref kp, .ref md, .ref rs, .ref pr]))] (zk_D none [(hm, .inr (7, [.int (nI 1), .int (nI 0), .int (nI 0), .int (nI 0), .int (nI 0), .int (nI 0), .int (nI 0), .int (nI 0), .int (nI 0), .ref ms, .ref ch, .ref kp, .ref md, .ref rs, .ref pr]))]) := by
  refine zk_ofW (by decide) (Nat.le_of_ble_eq_true rfl) ?_
  intro pg ev s mm below meth cd A C hr hlocks hname Z ls hl
  have hx := C.1.1
  have hb := C.1.2.1
  have hml := C.1.2.2.1
  have hown := C.1.2.2.2.1
  have hts := C.1.2.2.2.2
  have hl : lv_has ls 3 [(0, .ref hm), (1, .int x)] := hl
  refine lv_aload_n hx hb dX8_save_0 rfl (lv_at hl 0 rfl) ?_
  refine lv_aload_n hx hb dX8_save_1 rfl (lv_at hl 0 rfl) ?_
  refine zk_get C Z in_X8 0 rfl rfl 1 (by decide) q598 rfl (v := .int (nI 0)) rfl dX8_save_2 ?_
  refine nr_ne0 (tgt := 12) hx hb (by omega) dX8_save_5 (by decide) (fun c_1 => absurd c_1 (fun q => q rfl)) (fun c_1 => ?_)
  refine lv_iconst (v := nI 1) hx hb dX8_save_8 (by decide) ?_
  refine lv_goto (tgt := 26) hx hb dX8_save_9 (by decide) ?_
  refine zk_put C Z in_X8 tyX8 tyX8_ok nmX8 0 rfl rfl 0 (by decide) q597 rfl rfl (v := .int (nI 1)) rfl rfl (Nat.le_of_ble_eq_true rfl) dX8_save_26 (fun H locs Z => ?_)
  have Z : zk_Z D A s H locs [(hm, .inr (7, [.int (nI 1), .int (nI 0), .int (nI 0), .int (nI 0), .int (nI 0), .int (nI 0), .int (nI 0), .int (nI 0), .int (nI 0), .ref ms, .ref ch, .ref kp, .ref md, .ref rs, .ref pr]))] := Z
  refine lv_iconst (v := nI 0) hx hb dX8_save_29 (by decide) ?_
  refine lv_istore_n (lv' := [(2, .int (nI 0)), (0, .ref hm), (1, .int x)]) hx hb dX8_save_30 rfl hl (by decide) rfl (fun ls hl => ?_)
  refine lv_iload_n hx hb dX8_save_31 rfl (lv_at hl 0 rfl) ?_
  refine lv_aload_n hx hb dX8_save_32 rfl (lv_at hl 1 rfl) ?_
  refine zk_get C Z in_X8 0 rfl rfl 6 (by decide) q603 rfl (v := .int (nI 0)) rfl dX8_save_33 ?_
  refine nr_ge (tgt := 68) hx hb (by decide) (by decide) dX8_save_36 (by decide) (fun c_2 => ?_) (fun c_2 => absurd c_2 (by decide))
  exact zk_vret C hr hlocks Z ⟨rfl, rfl⟩ (Nat.le_of_ble_eq_true rfl) (Nat.le_of_ble_eq_true rfl) dX8_save_68

set_option maxHeartbeats 4000000 in
/-- model: save, none such -/
theorem w8_save (l : Launch) (D : va_G) (g : G4) (hm ms ch kp md rs pr : Nat) (km p dg n t dep gn ck : Nat) (d4 : dep ≤ 4) (x : Int32) (h0_ : ¬ (nI 0 ≤ x ∧ x ≤ nI 3)) : zk_M l yX8_save (ws_ yX8_save cX8_save 3 none) (zk_R 1 0 0) D g [.ref hm, .int x] [(hm, .inr (7, [.int (nI km), .int (nI 1), .int (nI p), .int (nI dg), .int (nI n), .int (nI t), .int (nI dep), .int (nI gn), .int (nI ck), .ref ms, .ref ch, .ref kp, .ref md, .ref rs, .ref pr]))] (zk_D none [(hm, .inr (7, [.int (nI 2), .int (nI 1), .int (nI p), .int (nI dg), .int (nI n), .int (nI t), .int (nI dep), .int (nI gn), .int (nI ck), .ref ms, .ref ch, .ref kp, .ref md, .ref rs, .ref pr]))]) := by
  refine zk_ofW (by decide) (Nat.le_of_ble_eq_true rfl) ?_
  intro pg ev s mm below meth cd A C hr hlocks hname Z ls hl
  have hx := C.1.1
  have hb := C.1.2.1
  have hml := C.1.2.2.1
  have hown := C.1.2.2.2.1
  have hts := C.1.2.2.2.2
  have hl : lv_has ls 3 [(0, .ref hm), (1, .int x)] := hl
  refine lv_aload_n hx hb dX8_save_0 rfl (lv_at hl 0 rfl) ?_
  refine lv_aload_n hx hb dX8_save_1 rfl (lv_at hl 0 rfl) ?_
  refine zk_get C Z in_X8 0 rfl rfl 1 (by decide) q598 rfl (v := .int (nI 1)) rfl dX8_save_2 ?_
  refine nr_ne0 (tgt := 12) hx hb (by omega) dX8_save_5 (by decide) (fun c_1 => ?_) (fun c_1 => absurd c_1 (by decide))
  refine lv_iload_n hx hb dX8_save_12 rfl (lv_at hl 1 rfl) ?_
  refine lv_iconst (v := nI 0) hx hb dX8_save_13 (by decide) ?_
  refine lv_iconst (v := nI 3) hx hb dX8_save_14 (by decide) ?_
  refine zk_callS (cells' := 0) (slots' := 0) (rest := [.ref hm]) (n := 3) (wr := [(hm, .inr (7, [.int (nI km), .int (nI 1), .int (nI p), .int (nI dg), .int (nI n), .int (nI t), .int (nI dep), .int (nI gn), .int (nI ck), .ref ms, .ref ch, .ref kp, .ref md, .ref rs, .ref pr]))]) C Z (m8_in0 l D g x (nI 0) (nI 3) h0_) [] [0] rfl rfl (by decide) (by decide) (by decide) q651 q652 q26 q653 (by decide +kernel) rfl (Nat.le_of_ble_eq_true rfl) (Nat.le_of_ble_eq_true rfl) (Nat.le_of_ble_eq_true rfl) (Nat.le_of_ble_eq_true rfl) rfl rfl hl.1 rfl (Nat.le_of_ble_eq_true rfl) dX8_save_15 (fun v w1 H locs hq Z => ?_)
  obtain ⟨rfl, rfl⟩ := hq
  have Z : zk_Z D A s H locs [(hm, .inr (7, [.int (nI km), .int (nI 1), .int (nI p), .int (nI dg), .int (nI n), .int (nI t), .int (nI dep), .int (nI gn), .int (nI ck), .ref ms, .ref ch, .ref kp, .ref md, .ref rs, .ref pr]))] := Z.sub [0] (by decide) rfl
  refine W.eq (g2 := F0 mm 18 ls [.int (nI 0), .ref hm]) rfl ?_
  refine nr_eq0 (tgt := 25) hx hb (by omega) dX8_save_18 (by decide) (fun c_2 => ?_) (fun c_2 => absurd c_2 (fun q => q rfl))
  refine lv_iconst (v := nI 2) hx hb dX8_save_25 (by decide) ?_
  refine zk_put C Z in_X8 tyX8 tyX8_ok nmX8 0 rfl rfl 0 (by decide) q597 rfl rfl (v := .int (nI 2)) rfl rfl (Nat.le_of_ble_eq_true rfl) dX8_save_26 (fun H locs Z => ?_)
  have Z : zk_Z D A s H locs [(hm, .inr (7, [.int (nI 2), .int (nI 1), .int (nI p), .int (nI dg), .int (nI n), .int (nI t), .int (nI dep), .int (nI gn), .int (nI ck), .ref ms, .ref ch, .ref kp, .ref md, .ref rs, .ref pr]))] := Z
  refine lv_iconst (v := nI 0) hx hb dX8_save_29 (by decide) ?_
  refine lv_istore_n (lv' := [(2, .int (nI 0)), (0, .ref hm), (1, .int x)]) hx hb dX8_save_30 rfl hl (by decide) rfl (fun ls hl => ?_)
  refine lv_iload_n hx hb dX8_save_31 rfl (lv_at hl 0 rfl) ?_
  refine lv_aload_n hx hb dX8_save_32 rfl (lv_at hl 1 rfl) ?_
  refine zk_get C Z in_X8 0 rfl rfl 6 (by decide) q603 rfl (v := .int (nI dep)) rfl dX8_save_33 ?_
  refine nr_ge (tgt := 68) hx hb (by decide) (by omega) dX8_save_36 (by decide) (fun c_3 => ?_) (fun c_3 => ?_)
  · exact zk_vret C hr hlocks Z ⟨rfl, rfl⟩ (Nat.le_of_ble_eq_true rfl) (Nat.le_of_ble_eq_true rfl) dX8_save_68
  · refine lv_aload_n hx hb dX8_save_39 rfl (lv_at hl 1 rfl) ?_
    refine zk_get C Z in_X8 0 rfl rfl 0 (by decide) q597 rfl (v := .int (nI 2)) rfl dX8_save_40 ?_
    refine nr_ne0 (tgt := 68) hx hb (by decide) dX8_save_43 (by decide) (fun c_4 => ?_) (fun c_4 => absurd c_4 (by decide))
    exact zk_vret C hr hlocks Z ⟨rfl, rfl⟩ (Nat.le_of_ble_eq_true rfl) (Nat.le_of_ble_eq_true rfl) dX8_save_68

