/-! ===== the law's loop: each case of its switch ===== -/
set_option maxRecDepth 100000
theorem zk_cmp0 (x : Int64) : lg_cmp x x = 0 := by
  unfold lg_cmp
  rw [if_neg (by simp), if_pos rfl]
/-- the loop goes on, at its increment -/
def zk_K (p : Program) (l : Launch) (e : Env) (R : Room) (s : State) (m : MethodId) (args : Array Value) (below : List Frame) (meth : Method) (c : Code) (Q : State → Prop) (D : va_G) (g : G4) (A : Nat → Prop) (b hn hm ho i cells slots : Nat) : Prop :=
  ∀ (st : Option zk_P) (km : Nat) (f : Nat → Int64) (wn wm : va_W) (H : Heap) (locs : List Loc) (ls : Array Slot), zk_okO st → zk_wN g hn st wn → zk_wM g hm st km wm → zk_Z D A s H locs (wm ++ (zk_oc1 g ho f :: wn)) → lv_has ls 7 [(4, .int (nI i)), (3, .ref ho), (2, .ref hm), (1, .ref hn), (0, .ref b)] → W p l e R s m args below meth c H locs cells slots Q (F0 m 1000 ls [])
section
variable {p : Program} {l : Launch} {e : Env} {R : Room} {s : State} {m : MethodId} {args : Array Value} {below : List Frame} {meth : Method} {c : Code} {H : Heap} {locs : List Loc} {cells slots : Nat} {Q : State → Prop} {D : va_G} {g : G4} {A : Nat → Prop} {b L : Nat} {xs : Nat → Int32}
set_option maxHeartbeats 4000000 in
theorem lc_begin (C : zk_C p s m c args cL_law 7 "NoisyCodesLaw" D g A) (NC : zk_NC s) (hfl : l.flags = flags0) (hX : va_X b L xs s s.heap) (hbl : b < s.heap.size) (hbA : ¬ A b) (hL : L ≤ 256) (hfr : 20 ≤ R.frames) (hlo : 1000 ≤ R.locals) {i hn hm ho km : Nat} {f : Nat → Int64} {st : Option zk_P} {wn wm : va_W} (hi : i + 4 ≤ L) (hN : zk_wN g hn st wn) (hM : zk_wM g hm st km wm) (hok : zk_okO st) (Z : zk_Z D A s H locs (wm ++ (zk_oc1 g ho f :: wn))) {ls : Array Slot} (hl : lv_has ls 7 [(4, .int (nI i)), (3, .ref ho), (2, .ref hm), (1, .ref hn), (0, .ref b)]) (hce : cells + 1 ≤ R.cells) (hsl : slots + 6 ≤ R.slots) (kk : zk_K p l e R s m args below meth c Q D g A b hn hm ho i (cells + 1) (slots + 6)) : W p l e R s m args below meth c H locs cells slots Q (F0 m 116 ls []) := by
  have hx := C.1.1
  have hb := C.1.2.1
  obtain ⟨k, r, st1, hok1, k3, hML, kf, hkf, hMM⟩ := js_begin l hfl D g hn hm km ho f st wn wm hN hM hok (xs (nI (i + 1)).toNatClampNeg) (xs (nI (i + 2)).toNatClampNeg) (xs (nI (i + 3)).toNatClampNeg)
  refine lv_aload_n hx hb dL_law_116 rfl (lv_at hl 3 rfl) ?_
  refine lv_aload_n hx hb dL_law_117 rfl (lv_at hl 4 rfl) ?_
  refine lv_iload hx hb dL_law_118 (lv_at hl 0 rfl) ?_
  refine lv_iconst (v := nI 1) hx hb dL_law_120 (by decide) ?_
  refine nr_iadd hx hb dL_law_121 ?_
  refine va_sld hx hb hX hbl hbA Z.2.2 (vp_in_nI (by omega) (by omega)) dL_law_122 ?_
  refine lv_aload_n hx hb dL_law_123 rfl (lv_at hl 4 rfl) ?_
  refine lv_iload hx hb dL_law_124 (lv_at hl 0 rfl) ?_
  refine lv_iconst (v := nI 2) hx hb dL_law_126 (by decide) ?_
  refine nr_iadd hx hb dL_law_127 ?_
  refine va_sld hx hb hX hbl hbA Z.2.2 (vp_in_nI (by omega) (by omega)) dL_law_128 ?_
  refine lv_aload_n hx hb dL_law_129 rfl (lv_at hl 4 rfl) ?_
  refine lv_iload hx hb dL_law_130 (lv_at hl 0 rfl) ?_
  refine lv_iconst (v := nI 3) hx hb dL_law_132 (by decide) ?_
  refine nr_iadd hx hb dL_law_133 ?_
  refine va_sld hx hb hX hbl hbA Z.2.2 (vp_in_nI (by omega) (by omega)) dL_law_134 ?_
  refine lv_aload_n hx hb dL_law_135 rfl (lv_at hl 1 rfl) ?_
  refine zk_callSLa (wr := wm) (wc := zk_oc1 g ho f :: wn) (cells' := cells + 1) (slots' := slots + 6) (rest := []) (n := 5) C NC Z hML q193 q194 q18 q195 (by decide +kernel) rfl (by show 9 + 1 ≤ R.frames; omega) (by show 8 + (6 + 11) + 60 * 9 ≤ R.locals; omega) hce hsl rfl rfl hl.1 rfl (Nat.le_of_ble_eq_true rfl) dL_law_136 (fun v w1 H locs hq Z => ?_)
  obtain ⟨rfl, f1, wn1, hN1, hf1, rfl⟩ := hq
  refine W.eq (g2 := F0 m 139 ls [.int (nI k)]) rfl ?_
  refine lv_istore (lv' := [(5, .int (nI k)), (4, .int (nI i)), (3, .ref ho), (2, .ref hm), (1, .ref hn), (0, .ref b)]) hx hb dL_law_139 hl (by decide) rfl (fun ls hl => ?_)
  have Z := Z.swap
  obtain ⟨fs8, he8⟩ := zk_wM_0 hM
  refine lv_aload_n hx hb dL_law_141 rfl (lv_at hl 3 rfl) ?_
  refine lv_aload_n hx hb dL_law_142 rfl (lv_at hl 5 rfl) ?_
  refine lv_iload hx hb dL_law_143 (lv_at hl 1 rfl) ?_
  refine lv_iconst (v := nI 1) hx hb dL_law_145 (by decide) ?_
  refine nr_iadd hx hb dL_law_146 ?_
  refine va_sld hx hb hX hbl hbA Z.2.2 (vp_in_nI (by omega) (by omega)) dL_law_147 ?_
  refine lv_aload_n hx hb dL_law_148 rfl (lv_at hl 5 rfl) ?_
  refine lv_iload hx hb dL_law_149 (lv_at hl 1 rfl) ?_
  refine lv_iconst (v := nI 2) hx hb dL_law_151 (by decide) ?_
  refine nr_iadd hx hb dL_law_152 ?_
  refine va_sld hx hb hX hbl hbA Z.2.2 (vp_in_nI (by omega) (by omega)) dL_law_153 ?_
  refine lv_aload_n hx hb dL_law_154 rfl (lv_at hl 5 rfl) ?_
  refine lv_iload hx hb dL_law_155 (lv_at hl 1 rfl) ?_
  refine lv_iconst (v := nI 3) hx hb dL_law_157 (by decide) ?_
  refine nr_iadd hx hb dL_law_158 ?_
  refine va_sld hx hb hX hbl hbA Z.2.2 (vp_in_nI (by omega) (by omega)) dL_law_159 ?_
  refine zk_callVa (wr := zk_oc1 g ho f1 :: wn1) (wc := wm) (cells' := cells + 1) (slots' := slots + 6) (rest := []) (n := 3) C Z hMM 0 7 rfl he8 rfl q647 q648 q649 q26 q650 (by decide +kernel) rfl (by show kf + 1 ≤ R.frames; omega) (by show 8 + (7 + 11) + 60 * kf ≤ R.locals; omega) (by show cells + 1 + 0 ≤ R.cells; omega) (by show slots + 6 + 0 ≤ R.slots; omega) rfl rfl hl.1 rfl (Nat.le_of_ble_eq_true rfl) dL_law_160 (fun v wm1 H locs hq Z => ?_)
  obtain ⟨⟨r', rfl, hr'⟩, hM1⟩ := hq
  refine W.eq (g2 := F0 m 163 ls [.int r']) rfl ?_
  refine lv_istore (lv' := [(6, .int r'), (5, .int (nI k)), (4, .int (nI i)), (3, .ref ho), (2, .ref hm), (1, .ref hn), (0, .ref b)]) hx hb dL_law_163 hl (by decide) rfl (fun ls hl => ?_)
  refine lv_aload_n hx hb dL_law_165 rfl (lv_at hl 4 rfl) ?_
  obtain ⟨fs9, he9⟩ := zk_wM_0 hM1
  refine zk_callVa (wr := zk_oc1 g ho f1 :: wn1) (wc := wm1) (cells' := cells + 1) (slots' := slots + 6) (rest := []) (n := 0) C Z (mn_thrown l D g hm k st1 wm1 hM1 hok1) 0 7 rfl he9 rfl q643 q644 q645 q26 q646 (by decide +kernel) rfl (by show 0 + 1 ≤ R.frames; omega) (by show 8 + (1 + 11) + 60 * 0 ≤ R.locals; omega) (by show cells + 1 + 0 ≤ R.cells; omega) (by show slots + 6 + 0 ≤ R.slots; omega) rfl rfl hl.1 rfl (Nat.le_of_ble_eq_true rfl) dL_law_166 (fun v wm2 H locs hq Z => ?_)
  obtain ⟨rfl, hM2⟩ := hq
  refine W.eq (g2 := F0 m 169 ls [.int (nI k)]) rfl ?_
  refine lv_iload hx hb dL_law_169 (lv_at hl 1 rfl) ?_
  refine lv_icmp_eq (tgt := 176) hx hb dL_law_171 (by decide) (fun _ => ?_) (fun h => absurd rfl h)
  refine lv_iload hx hb dL_law_176 (lv_at hl 1 rfl) ?_
  refine lv_if_ne (tgt := 193) hx hb dL_law_178 (by decide) (fun _ => ?_) (fun h0 => ?_)
  · refine lv_goto (tgt := 1000) hx hb dL_law_193 (by decide) ?_
    exact kk st1 k f1 wn1 wm2 H locs ls hok1 hN1 hM2 Z.swap (lv_sub hl [2, 3, 4, 5, 6] rfl)
  · have k0 : k = 0 := (zk_eq0 (by omega)).mp h0
    refine lv_aload_n hx hb dL_law_181 rfl (lv_at hl 3 rfl) ?_
    refine lv_iconst (v := nI 0) hx hb dL_law_182 (by decide) ?_
    refine va_lald hx hb C.2.1 Z.1 0 1 rfl rfl (vp_in_nI (by decide) (by decide)) dL_law_183 ?_
    refine lv_iload hx hb dL_law_184 (lv_at hl 0 rfl) ?_
    refine lv_i2l (v := r'.toInt64) hx hb dL_law_186 rfl ?_
    refine W.lcmp hx hb dL_law_187 ?_
    have e0 : lg_cmp (f1 (nI 0).toNatClampNeg) r'.toInt64 = 0 := by
      rw [show (nI 0).toNatClampNeg = 0 from by decide, hf1 k0, hr' k0]; exact zk_cmp0 _
    rw [e0]
    refine lv_if_eq (tgt := 193) hx hb dL_law_188 (by decide) (fun _ => ?_) (fun h => absurd rfl h)
    refine lv_goto (tgt := 1000) hx hb dL_law_193 (by decide) ?_
    exact kk st1 k f1 wn1 wm2 H locs ls hok1 hN1 hM2 Z.swap (lv_sub hl [2, 3, 4, 5, 6] rfl)
set_option maxHeartbeats 4000000 in
theorem lc_length (C : zk_C p s m c args cL_law 7 "NoisyCodesLaw" D g A) (NC : zk_NC s) (hfl : l.flags = flags0) (hX : va_X b L xs s s.heap) (hbl : b < s.heap.size) (hbA : ¬ A b) (hL : L ≤ 256) (hfr : 20 ≤ R.frames) (hlo : 1000 ≤ R.locals) {i hn hm ho km : Nat} {f : Nat → Int64} {st : Option zk_P} {wn wm : va_W} (hi : i + 4 ≤ L) (hN : zk_wN g hn st wn) (hM : zk_wM g hm st km wm) (hok : zk_okO st) (Z : zk_Z D A s H locs (wm ++ (zk_oc1 g ho f :: wn))) {ls : Array Slot} (hl : lv_has ls 7 [(4, .int (nI i)), (3, .ref ho), (2, .ref hm), (1, .ref hn), (0, .ref b)]) (hce : cells + 1 ≤ R.cells) (hsl : slots + 6 ≤ R.slots) (kk : zk_K p l e R s m args below meth c Q D g A b hn hm ho i (cells + 1) (slots + 6)) : W p l e R s m args below meth c H locs cells slots Q (F0 m 196 ls []) := by
  have hx := C.1.1
  have hb := C.1.2.1
  obtain ⟨k, r, st1, hok1, k3, hML, kf, hkf, hMM⟩ := js_length l hfl D g hn hm km ho f st wn wm hN hM hok 
  refine lv_aload_n hx hb dL_law_196 rfl (lv_at hl 3 rfl) ?_
  refine lv_aload_n hx hb dL_law_197 rfl (lv_at hl 1 rfl) ?_
  refine zk_callSLa (wr := wm) (wc := zk_oc1 g ho f :: wn) (cells' := cells + 1) (slots' := slots + 6) (rest := []) (n := 2) C NC Z hML q330 q331 q18 q332 (by decide +kernel) rfl (by show 9 + 1 ≤ R.frames; omega) (by show 8 + (3 + 11) + 60 * 9 ≤ R.locals; omega) hce hsl rfl rfl hl.1 rfl (Nat.le_of_ble_eq_true rfl) dL_law_198 (fun v w1 H locs hq Z => ?_)
  obtain ⟨rfl, f1, wn1, hN1, hf1, rfl⟩ := hq
  refine W.eq (g2 := F0 m 201 ls [.int (nI k)]) rfl ?_
  refine lv_istore (lv' := [(5, .int (nI k)), (4, .int (nI i)), (3, .ref ho), (2, .ref hm), (1, .ref hn), (0, .ref b)]) hx hb dL_law_201 hl (by decide) rfl (fun ls hl => ?_)
  have Z := Z.swap
  obtain ⟨fs8, he8⟩ := zk_wM_0 hM
  refine lv_aload_n hx hb dL_law_203 rfl (lv_at hl 3 rfl) ?_
  refine zk_callVa (wr := zk_oc1 g ho f1 :: wn1) (wc := wm) (cells' := cells + 1) (slots' := slots + 6) (rest := []) (n := 0) C Z hMM 0 7 rfl he8 rfl q672 q673 q674 q26 q675 (by decide +kernel) rfl (by show kf + 1 ≤ R.frames; omega) (by show 8 + (1 + 11) + 60 * kf ≤ R.locals; omega) (by show cells + 1 + 0 ≤ R.cells; omega) (by show slots + 6 + 0 ≤ R.slots; omega) rfl rfl hl.1 rfl (Nat.le_of_ble_eq_true rfl) dL_law_204 (fun v wm1 H locs hq Z => ?_)
  obtain ⟨⟨r', rfl, hr'⟩, hM1⟩ := hq
  refine W.eq (g2 := F0 m 207 ls [.int r']) rfl ?_
  refine lv_istore (lv' := [(6, .int r'), (5, .int (nI k)), (4, .int (nI i)), (3, .ref ho), (2, .ref hm), (1, .ref hn), (0, .ref b)]) hx hb dL_law_207 hl (by decide) rfl (fun ls hl => ?_)
  refine lv_aload_n hx hb dL_law_209 rfl (lv_at hl 4 rfl) ?_
  obtain ⟨fs9, he9⟩ := zk_wM_0 hM1
  refine zk_callVa (wr := zk_oc1 g ho f1 :: wn1) (wc := wm1) (cells' := cells + 1) (slots' := slots + 6) (rest := []) (n := 0) C Z (mn_thrown l D g hm k st1 wm1 hM1 hok1) 0 7 rfl he9 rfl q643 q644 q645 q26 q646 (by decide +kernel) rfl (by show 0 + 1 ≤ R.frames; omega) (by show 8 + (1 + 11) + 60 * 0 ≤ R.locals; omega) (by show cells + 1 + 0 ≤ R.cells; omega) (by show slots + 6 + 0 ≤ R.slots; omega) rfl rfl hl.1 rfl (Nat.le_of_ble_eq_true rfl) dL_law_210 (fun v wm2 H locs hq Z => ?_)
  obtain ⟨rfl, hM2⟩ := hq
  refine W.eq (g2 := F0 m 213 ls [.int (nI k)]) rfl ?_
  refine lv_iload hx hb dL_law_213 (lv_at hl 1 rfl) ?_
  refine lv_icmp_eq (tgt := 220) hx hb dL_law_215 (by decide) (fun _ => ?_) (fun h => absurd rfl h)
  refine lv_iload hx hb dL_law_220 (lv_at hl 1 rfl) ?_
  refine lv_if_ne (tgt := 237) hx hb dL_law_222 (by decide) (fun _ => ?_) (fun h0 => ?_)
  · refine lv_goto (tgt := 1000) hx hb dL_law_237 (by decide) ?_
    exact kk st1 k f1 wn1 wm2 H locs ls hok1 hN1 hM2 Z.swap (lv_sub hl [2, 3, 4, 5, 6] rfl)
  · have k0 : k = 0 := (zk_eq0 (by omega)).mp h0
    refine lv_aload_n hx hb dL_law_225 rfl (lv_at hl 3 rfl) ?_
    refine lv_iconst (v := nI 0) hx hb dL_law_226 (by decide) ?_
    refine va_lald hx hb C.2.1 Z.1 0 1 rfl rfl (vp_in_nI (by decide) (by decide)) dL_law_227 ?_
    refine lv_iload hx hb dL_law_228 (lv_at hl 0 rfl) ?_
    refine lv_i2l (v := r'.toInt64) hx hb dL_law_230 rfl ?_
    refine W.lcmp hx hb dL_law_231 ?_
    have e0 : lg_cmp (f1 (nI 0).toNatClampNeg) r'.toInt64 = 0 := by
      rw [show (nI 0).toNatClampNeg = 0 from by decide, hf1 k0, hr' k0]; exact zk_cmp0 _
    rw [e0]
    refine lv_if_eq (tgt := 237) hx hb dL_law_232 (by decide) (fun _ => ?_) (fun h => absurd rfl h)
    refine lv_goto (tgt := 1000) hx hb dL_law_237 (by decide) ?_
    exact kk st1 k f1 wn1 wm2 H locs ls hok1 hN1 hM2 Z.swap (lv_sub hl [2, 3, 4, 5, 6] rfl)
set_option maxHeartbeats 4000000 in
theorem lc_generator (C : zk_C p s m c args cL_law 7 "NoisyCodesLaw" D g A) (NC : zk_NC s) (hfl : l.flags = flags0) (hX : va_X b L xs s s.heap) (hbl : b < s.heap.size) (hbA : ¬ A b) (hL : L ≤ 256) (hfr : 20 ≤ R.frames) (hlo : 1000 ≤ R.locals) {i hn hm ho km : Nat} {f : Nat → Int64} {st : Option zk_P} {wn wm : va_W} (hi : i + 4 ≤ L) (hN : zk_wN g hn st wn) (hM : zk_wM g hm st km wm) (hok : zk_okO st) (Z : zk_Z D A s H locs (wm ++ (zk_oc1 g ho f :: wn))) {ls : Array Slot} (hl : lv_has ls 7 [(4, .int (nI i)), (3, .ref ho), (2, .ref hm), (1, .ref hn), (0, .ref b)]) (hce : cells + 1 ≤ R.cells) (hsl : slots + 6 ≤ R.slots) (kk : zk_K p l e R s m args below meth c Q D g A b hn hm ho i (cells + 1) (slots + 6)) : W p l e R s m args below meth c H locs cells slots Q (F0 m 240 ls []) := by
  have hx := C.1.1
  have hb := C.1.2.1
  obtain ⟨k, r, st1, hok1, k3, hML, kf, hkf, hMM⟩ := js_generator l hfl D g hn hm km ho f st wn wm hN hM hok 
  refine lv_aload_n hx hb dL_law_240 rfl (lv_at hl 3 rfl) ?_
  refine lv_aload_n hx hb dL_law_241 rfl (lv_at hl 1 rfl) ?_
  refine zk_callSLa (wr := wm) (wc := zk_oc1 g ho f :: wn) (cells' := cells + 1) (slots' := slots + 6) (rest := []) (n := 2) C NC Z hML q358 q359 q18 q360 (by decide +kernel) rfl (by show 9 + 1 ≤ R.frames; omega) (by show 8 + (3 + 11) + 60 * 9 ≤ R.locals; omega) hce hsl rfl rfl hl.1 rfl (Nat.le_of_ble_eq_true rfl) dL_law_242 (fun v w1 H locs hq Z => ?_)
  obtain ⟨rfl, f1, wn1, hN1, hf1, rfl⟩ := hq
  refine W.eq (g2 := F0 m 245 ls [.int (nI k)]) rfl ?_
  refine lv_istore (lv' := [(5, .int (nI k)), (4, .int (nI i)), (3, .ref ho), (2, .ref hm), (1, .ref hn), (0, .ref b)]) hx hb dL_law_245 hl (by decide) rfl (fun ls hl => ?_)
  have Z := Z.swap
  obtain ⟨fs8, he8⟩ := zk_wM_0 hM
  refine lv_aload_n hx hb dL_law_247 rfl (lv_at hl 3 rfl) ?_
  refine zk_callVa (wr := zk_oc1 g ho f1 :: wn1) (wc := wm) (cells' := cells + 1) (slots' := slots + 6) (rest := []) (n := 0) C Z hMM 0 7 rfl he8 rfl q676 q677 q678 q26 q679 (by decide +kernel) rfl (by show kf + 1 ≤ R.frames; omega) (by show 8 + (1 + 11) + 60 * kf ≤ R.locals; omega) (by show cells + 1 + 0 ≤ R.cells; omega) (by show slots + 6 + 0 ≤ R.slots; omega) rfl rfl hl.1 rfl (Nat.le_of_ble_eq_true rfl) dL_law_248 (fun v wm1 H locs hq Z => ?_)
  obtain ⟨⟨r', rfl, hr'⟩, hM1⟩ := hq
  refine W.eq (g2 := F0 m 251 ls [.int r']) rfl ?_
  refine lv_istore (lv' := [(6, .int r'), (5, .int (nI k)), (4, .int (nI i)), (3, .ref ho), (2, .ref hm), (1, .ref hn), (0, .ref b)]) hx hb dL_law_251 hl (by decide) rfl (fun ls hl => ?_)
  refine lv_aload_n hx hb dL_law_253 rfl (lv_at hl 4 rfl) ?_
  obtain ⟨fs9, he9⟩ := zk_wM_0 hM1
  refine zk_callVa (wr := zk_oc1 g ho f1 :: wn1) (wc := wm1) (cells' := cells + 1) (slots' := slots + 6) (rest := []) (n := 0) C Z (mn_thrown l D g hm k st1 wm1 hM1 hok1) 0 7 rfl he9 rfl q643 q644 q645 q26 q646 (by decide +kernel) rfl (by show 0 + 1 ≤ R.frames; omega) (by show 8 + (1 + 11) + 60 * 0 ≤ R.locals; omega) (by show cells + 1 + 0 ≤ R.cells; omega) (by show slots + 6 + 0 ≤ R.slots; omega) rfl rfl hl.1 rfl (Nat.le_of_ble_eq_true rfl) dL_law_254 (fun v wm2 H locs hq Z => ?_)
  obtain ⟨rfl, hM2⟩ := hq
  refine W.eq (g2 := F0 m 257 ls [.int (nI k)]) rfl ?_
  refine lv_iload hx hb dL_law_257 (lv_at hl 1 rfl) ?_
  refine lv_icmp_eq (tgt := 264) hx hb dL_law_259 (by decide) (fun _ => ?_) (fun h => absurd rfl h)
  refine lv_iload hx hb dL_law_264 (lv_at hl 1 rfl) ?_
  refine lv_if_ne (tgt := 281) hx hb dL_law_266 (by decide) (fun _ => ?_) (fun h0 => ?_)
  · refine lv_goto (tgt := 1000) hx hb dL_law_281 (by decide) ?_
    exact kk st1 k f1 wn1 wm2 H locs ls hok1 hN1 hM2 Z.swap (lv_sub hl [2, 3, 4, 5, 6] rfl)
  · have k0 : k = 0 := (zk_eq0 (by omega)).mp h0
    refine lv_aload_n hx hb dL_law_269 rfl (lv_at hl 3 rfl) ?_
    refine lv_iconst (v := nI 0) hx hb dL_law_270 (by decide) ?_
    refine va_lald hx hb C.2.1 Z.1 0 1 rfl rfl (vp_in_nI (by decide) (by decide)) dL_law_271 ?_
    refine lv_iload hx hb dL_law_272 (lv_at hl 0 rfl) ?_
    refine lv_i2l (v := r'.toInt64) hx hb dL_law_274 rfl ?_
    refine W.lcmp hx hb dL_law_275 ?_
    have e0 : lg_cmp (f1 (nI 0).toNatClampNeg) r'.toInt64 = 0 := by
      rw [show (nI 0).toNatClampNeg = 0 from by decide, hf1 k0, hr' k0]; exact zk_cmp0 _
    rw [e0]
    refine lv_if_eq (tgt := 281) hx hb dL_law_276 (by decide) (fun _ => ?_) (fun h => absurd rfl h)
    refine lv_goto (tgt := 1000) hx hb dL_law_281 (by decide) ?_
    exact kk st1 k f1 wn1 wm2 H locs ls hok1 hN1 hM2 Z.swap (lv_sub hl [2, 3, 4, 5, 6] rfl)
set_option maxHeartbeats 4000000 in
theorem lc_power (C : zk_C p s m c args cL_law 7 "NoisyCodesLaw" D g A) (NC : zk_NC s) (hfl : l.flags = flags0) (hX : va_X b L xs s s.heap) (hbl : b < s.heap.size) (hbA : ¬ A b) (hL : L ≤ 256) (hfr : 20 ≤ R.frames) (hlo : 1000 ≤ R.locals) {i hn hm ho km : Nat} {f : Nat → Int64} {st : Option zk_P} {wn wm : va_W} (hi : i + 4 ≤ L) (hN : zk_wN g hn st wn) (hM : zk_wM g hm st km wm) (hok : zk_okO st) (Z : zk_Z D A s H locs (wm ++ (zk_oc1 g ho f :: wn))) {ls : Array Slot} (hl : lv_has ls 7 [(4, .int (nI i)), (3, .ref ho), (2, .ref hm), (1, .ref hn), (0, .ref b)]) (hce : cells + 1 ≤ R.cells) (hsl : slots + 6 ≤ R.slots) (kk : zk_K p l e R s m args below meth c Q D g A b hn hm ho i (cells + 1) (slots + 6)) : W p l e R s m args below meth c H locs cells slots Q (F0 m 284 ls []) := by
  have hx := C.1.1
  have hb := C.1.2.1
  obtain ⟨k, r, st1, hok1, k3, hML, kf, hkf, hMM⟩ := js_power l hfl D g hn hm km ho f st wn wm hN hM hok (xs (nI (i + 1)).toNatClampNeg)
  refine lv_aload_n hx hb dL_law_284 rfl (lv_at hl 3 rfl) ?_
  refine lv_aload_n hx hb dL_law_285 rfl (lv_at hl 4 rfl) ?_
  refine lv_iload hx hb dL_law_286 (lv_at hl 0 rfl) ?_
  refine lv_iconst (v := nI 1) hx hb dL_law_288 (by decide) ?_
  refine nr_iadd hx hb dL_law_289 ?_
  refine va_sld hx hb hX hbl hbA Z.2.2 (vp_in_nI (by omega) (by omega)) dL_law_290 ?_
  refine lv_aload_n hx hb dL_law_291 rfl (lv_at hl 1 rfl) ?_
  refine zk_callSLa (wr := wm) (wc := zk_oc1 g ho f :: wn) (cells' := cells + 1) (slots' := slots + 6) (rest := []) (n := 3) C NC Z hML q365 q366 q18 q367 (by decide +kernel) rfl (by show 9 + 1 ≤ R.frames; omega) (by show 8 + (4 + 11) + 60 * 9 ≤ R.locals; omega) hce hsl rfl rfl hl.1 rfl (Nat.le_of_ble_eq_true rfl) dL_law_292 (fun v w1 H locs hq Z => ?_)
  obtain ⟨rfl, f1, wn1, hN1, hf1, rfl⟩ := hq
  refine W.eq (g2 := F0 m 295 ls [.int (nI k)]) rfl ?_
  refine lv_istore (lv' := [(5, .int (nI k)), (4, .int (nI i)), (3, .ref ho), (2, .ref hm), (1, .ref hn), (0, .ref b)]) hx hb dL_law_295 hl (by decide) rfl (fun ls hl => ?_)
  have Z := Z.swap
  obtain ⟨fs8, he8⟩ := zk_wM_0 hM
  refine lv_aload_n hx hb dL_law_297 rfl (lv_at hl 3 rfl) ?_
  refine lv_aload_n hx hb dL_law_298 rfl (lv_at hl 5 rfl) ?_
  refine lv_iload hx hb dL_law_299 (lv_at hl 1 rfl) ?_
  refine lv_iconst (v := nI 1) hx hb dL_law_301 (by decide) ?_
  refine nr_iadd hx hb dL_law_302 ?_
  refine va_sld hx hb hX hbl hbA Z.2.2 (vp_in_nI (by omega) (by omega)) dL_law_303 ?_
  refine zk_callVa (wr := zk_oc1 g ho f1 :: wn1) (wc := wm) (cells' := cells + 1) (slots' := slots + 6) (rest := []) (n := 1) C Z hMM 0 7 rfl he8 rfl q680 q681 q682 q26 q683 (by decide +kernel) rfl (by show kf + 1 ≤ R.frames; omega) (by show 8 + (2 + 11) + 60 * kf ≤ R.locals; omega) (by show cells + 1 + 0 ≤ R.cells; omega) (by show slots + 6 + 0 ≤ R.slots; omega) rfl rfl hl.1 rfl (Nat.le_of_ble_eq_true rfl) dL_law_304 (fun v wm1 H locs hq Z => ?_)
  obtain ⟨⟨r', rfl, hr'⟩, hM1⟩ := hq
  refine W.eq (g2 := F0 m 307 ls [.int r']) rfl ?_
  refine lv_istore (lv' := [(6, .int r'), (5, .int (nI k)), (4, .int (nI i)), (3, .ref ho), (2, .ref hm), (1, .ref hn), (0, .ref b)]) hx hb dL_law_307 hl (by decide) rfl (fun ls hl => ?_)
  refine lv_aload_n hx hb dL_law_309 rfl (lv_at hl 4 rfl) ?_
  obtain ⟨fs9, he9⟩ := zk_wM_0 hM1
  refine zk_callVa (wr := zk_oc1 g ho f1 :: wn1) (wc := wm1) (cells' := cells + 1) (slots' := slots + 6) (rest := []) (n := 0) C Z (mn_thrown l D g hm k st1 wm1 hM1 hok1) 0 7 rfl he9 rfl q643 q644 q645 q26 q646 (by decide +kernel) rfl (by show 0 + 1 ≤ R.frames; omega) (by show 8 + (1 + 11) + 60 * 0 ≤ R.locals; omega) (by show cells + 1 + 0 ≤ R.cells; omega) (by show slots + 6 + 0 ≤ R.slots; omega) rfl rfl hl.1 rfl (Nat.le_of_ble_eq_true rfl) dL_law_310 (fun v wm2 H locs hq Z => ?_)
  obtain ⟨rfl, hM2⟩ := hq
  refine W.eq (g2 := F0 m 313 ls [.int (nI k)]) rfl ?_
  refine lv_iload hx hb dL_law_313 (lv_at hl 1 rfl) ?_
  refine lv_icmp_eq (tgt := 320) hx hb dL_law_315 (by decide) (fun _ => ?_) (fun h => absurd rfl h)
  refine lv_iload hx hb dL_law_320 (lv_at hl 1 rfl) ?_
  refine lv_if_ne (tgt := 337) hx hb dL_law_322 (by decide) (fun _ => ?_) (fun h0 => ?_)
  · refine lv_goto (tgt := 1000) hx hb dL_law_337 (by decide) ?_
    exact kk st1 k f1 wn1 wm2 H locs ls hok1 hN1 hM2 Z.swap (lv_sub hl [2, 3, 4, 5, 6] rfl)
  · have k0 : k = 0 := (zk_eq0 (by omega)).mp h0
    refine lv_aload_n hx hb dL_law_325 rfl (lv_at hl 3 rfl) ?_
    refine lv_iconst (v := nI 0) hx hb dL_law_326 (by decide) ?_
    refine va_lald hx hb C.2.1 Z.1 0 1 rfl rfl (vp_in_nI (by decide) (by decide)) dL_law_327 ?_
    refine lv_iload hx hb dL_law_328 (lv_at hl 0 rfl) ?_
    refine lv_i2l (v := r'.toInt64) hx hb dL_law_330 rfl ?_
    refine W.lcmp hx hb dL_law_331 ?_
    have e0 : lg_cmp (f1 (nI 0).toNatClampNeg) r'.toInt64 = 0 := by
      rw [show (nI 0).toNatClampNeg = 0 from by decide, hf1 k0, hr' k0]; exact zk_cmp0 _
    rw [e0]
    refine lv_if_eq (tgt := 337) hx hb dL_law_332 (by decide) (fun _ => ?_) (fun h => absurd rfl h)
    refine lv_goto (tgt := 1000) hx hb dL_law_337 (by decide) ?_
    exact kk st1 k f1 wn1 wm2 H locs ls hok1 hN1 hM2 Z.swap (lv_sub hl [2, 3, 4, 5, 6] rfl)
set_option maxHeartbeats 4000000 in
theorem lc_log (C : zk_C p s m c args cL_law 7 "NoisyCodesLaw" D g A) (NC : zk_NC s) (hfl : l.flags = flags0) (hX : va_X b L xs s s.heap) (hbl : b < s.heap.size) (hbA : ¬ A b) (hL : L ≤ 256) (hfr : 20 ≤ R.frames) (hlo : 1000 ≤ R.locals) {i hn hm ho km : Nat} {f : Nat → Int64} {st : Option zk_P} {wn wm : va_W} (hi : i + 4 ≤ L) (hN : zk_wN g hn st wn) (hM : zk_wM g hm st km wm) (hok : zk_okO st) (Z : zk_Z D A s H locs (wm ++ (zk_oc1 g ho f :: wn))) {ls : Array Slot} (hl : lv_has ls 7 [(4, .int (nI i)), (3, .ref ho), (2, .ref hm), (1, .ref hn), (0, .ref b)]) (hce : cells + 1 ≤ R.cells) (hsl : slots + 6 ≤ R.slots) (kk : zk_K p l e R s m args below meth c Q D g A b hn hm ho i (cells + 1) (slots + 6)) : W p l e R s m args below meth c H locs cells slots Q (F0 m 340 ls []) := by
  have hx := C.1.1
  have hb := C.1.2.1
  obtain ⟨k, r, st1, hok1, k3, hML, kf, hkf, hMM⟩ := js_log l hfl D g hn hm km ho f st wn wm hN hM hok (xs (nI (i + 1)).toNatClampNeg)
  refine lv_aload_n hx hb dL_law_340 rfl (lv_at hl 3 rfl) ?_
  refine lv_aload_n hx hb dL_law_341 rfl (lv_at hl 4 rfl) ?_
  refine lv_iload hx hb dL_law_342 (lv_at hl 0 rfl) ?_
  refine lv_iconst (v := nI 1) hx hb dL_law_344 (by decide) ?_
  refine nr_iadd hx hb dL_law_345 ?_
  refine va_sld hx hb hX hbl hbA Z.2.2 (vp_in_nI (by omega) (by omega)) dL_law_346 ?_
  refine lv_aload_n hx hb dL_law_347 rfl (lv_at hl 1 rfl) ?_
  refine zk_callSLa (wr := wm) (wc := zk_oc1 g ho f :: wn) (cells' := cells + 1) (slots' := slots + 6) (rest := []) (n := 3) C NC Z hML q372 q373 q18 q374 (by decide +kernel) rfl (by show 9 + 1 ≤ R.frames; omega) (by show 8 + (4 + 11) + 60 * 9 ≤ R.locals; omega) hce hsl rfl rfl hl.1 rfl (Nat.le_of_ble_eq_true rfl) dL_law_348 (fun v w1 H locs hq Z => ?_)
  obtain ⟨rfl, f1, wn1, hN1, hf1, rfl⟩ := hq
  refine W.eq (g2 := F0 m 351 ls [.int (nI k)]) rfl ?_
  refine lv_istore (lv' := [(5, .int (nI k)), (4, .int (nI i)), (3, .ref ho), (2, .ref hm), (1, .ref hn), (0, .ref b)]) hx hb dL_law_351 hl (by decide) rfl (fun ls hl => ?_)
  have Z := Z.swap
  obtain ⟨fs8, he8⟩ := zk_wM_0 hM
  refine lv_aload_n hx hb dL_law_353 rfl (lv_at hl 3 rfl) ?_
  refine lv_aload_n hx hb dL_law_354 rfl (lv_at hl 5 rfl) ?_
  refine lv_iload hx hb dL_law_355 (lv_at hl 1 rfl) ?_
  refine lv_iconst (v := nI 1) hx hb dL_law_357 (by decide) ?_
  refine nr_iadd hx hb dL_law_358 ?_
  refine va_sld hx hb hX hbl hbA Z.2.2 (vp_in_nI (by omega) (by omega)) dL_law_359 ?_
  refine zk_callVa (wr := zk_oc1 g ho f1 :: wn1) (wc := wm) (cells' := cells + 1) (slots' := slots + 6) (rest := []) (n := 1) C Z hMM 0 7 rfl he8 rfl q684 q685 q686 q26 q687 (by decide +kernel) rfl (by show kf + 1 ≤ R.frames; omega) (by show 8 + (3 + 11) + 60 * kf ≤ R.locals; omega) (by show cells + 1 + 0 ≤ R.cells; omega) (by show slots + 6 + 0 ≤ R.slots; omega) rfl rfl hl.1 rfl (Nat.le_of_ble_eq_true rfl) dL_law_360 (fun v wm1 H locs hq Z => ?_)
  obtain ⟨⟨r', rfl, hr'⟩, hM1⟩ := hq
  refine W.eq (g2 := F0 m 363 ls [.int r']) rfl ?_
  refine lv_istore (lv' := [(6, .int r'), (5, .int (nI k)), (4, .int (nI i)), (3, .ref ho), (2, .ref hm), (1, .ref hn), (0, .ref b)]) hx hb dL_law_363 hl (by decide) rfl (fun ls hl => ?_)
  refine lv_aload_n hx hb dL_law_365 rfl (lv_at hl 4 rfl) ?_
  obtain ⟨fs9, he9⟩ := zk_wM_0 hM1
  refine zk_callVa (wr := zk_oc1 g ho f1 :: wn1) (wc := wm1) (cells' := cells + 1) (slots' := slots + 6) (rest := []) (n := 0) C Z (mn_thrown l D g hm k st1 wm1 hM1 hok1) 0 7 rfl he9 rfl q643 q644 q645 q26 q646 (by decide +kernel) rfl (by show 0 + 1 ≤ R.frames; omega) (by show 8 + (1 + 11) + 60 * 0 ≤ R.locals; omega) (by show cells + 1 + 0 ≤ R.cells; omega) (by show slots + 6 + 0 ≤ R.slots; omega) rfl rfl hl.1 rfl (Nat.le_of_ble_eq_true rfl) dL_law_366 (fun v wm2 H locs hq Z => ?_)
  obtain ⟨rfl, hM2⟩ := hq
  refine W.eq (g2 := F0 m 369 ls [.int (nI k)]) rfl ?_
  refine lv_iload hx hb dL_law_369 (lv_at hl 1 rfl) ?_
  refine lv_icmp_eq (tgt := 376) hx hb dL_law_371 (by decide) (fun _ => ?_) (fun h => absurd rfl h)
  refine lv_iload hx hb dL_law_376 (lv_at hl 1 rfl) ?_
  refine lv_if_ne (tgt := 393) hx hb dL_law_378 (by decide) (fun _ => ?_) (fun h0 => ?_)
  · refine lv_goto (tgt := 1000) hx hb dL_law_393 (by decide) ?_
    exact kk st1 k f1 wn1 wm2 H locs ls hok1 hN1 hM2 Z.swap (lv_sub hl [2, 3, 4, 5, 6] rfl)
  · have k0 : k = 0 := (zk_eq0 (by omega)).mp h0
    refine lv_aload_n hx hb dL_law_381 rfl (lv_at hl 3 rfl) ?_
    refine lv_iconst (v := nI 0) hx hb dL_law_382 (by decide) ?_
    refine va_lald hx hb C.2.1 Z.1 0 1 rfl rfl (vp_in_nI (by decide) (by decide)) dL_law_383 ?_
    refine lv_iload hx hb dL_law_384 (lv_at hl 0 rfl) ?_
    refine lv_i2l (v := r'.toInt64) hx hb dL_law_386 rfl ?_
    refine W.lcmp hx hb dL_law_387 ?_
    have e0 : lg_cmp (f1 (nI 0).toNatClampNeg) r'.toInt64 = 0 := by
      rw [show (nI 0).toNatClampNeg = 0 from by decide, hf1 k0, hr' k0]; exact zk_cmp0 _
    rw [e0]
    refine lv_if_eq (tgt := 393) hx hb dL_law_388 (by decide) (fun _ => ?_) (fun h => absurd rfl h)
    refine lv_goto (tgt := 1000) hx hb dL_law_393 (by decide) ?_
    exact kk st1 k f1 wn1 wm2 H locs ls hok1 hN1 hM2 Z.swap (lv_sub hl [2, 3, 4, 5, 6] rfl)
set_option maxHeartbeats 4000000 in
theorem lc_times (C : zk_C p s m c args cL_law 7 "NoisyCodesLaw" D g A) (NC : zk_NC s) (hfl : l.flags = flags0) (hX : va_X b L xs s s.heap) (hbl : b < s.heap.size) (hbA : ¬ A b) (hL : L ≤ 256) (hfr : 20 ≤ R.frames) (hlo : 1000 ≤ R.locals) {i hn hm ho km : Nat} {f : Nat → Int64} {st : Option zk_P} {wn wm : va_W} (hi : i + 4 ≤ L) (hN : zk_wN g hn st wn) (hM : zk_wM g hm st km wm) (hok : zk_okO st) (Z : zk_Z D A s H locs (wm ++ (zk_oc1 g ho f :: wn))) {ls : Array Slot} (hl : lv_has ls 7 [(4, .int (nI i)), (3, .ref ho), (2, .ref hm), (1, .ref hn), (0, .ref b)]) (hce : cells + 1 ≤ R.cells) (hsl : slots + 6 ≤ R.slots) (kk : zk_K p l e R s m args below meth c Q D g A b hn hm ho i (cells + 1) (slots + 6)) : W p l e R s m args below meth c H locs cells slots Q (F0 m 396 ls []) := by
  have hx := C.1.1
  have hb := C.1.2.1
  obtain ⟨k, r, st1, hok1, k3, hML, kf, hkf, hMM⟩ := js_times l hfl D g hn hm km ho f st wn wm hN hM hok (xs (nI (i + 1)).toNatClampNeg) (xs (nI (i + 2)).toNatClampNeg)
  refine lv_aload_n hx hb dL_law_396 rfl (lv_at hl 3 rfl) ?_
  refine lv_aload_n hx hb dL_law_397 rfl (lv_at hl 4 rfl) ?_
  refine lv_iload hx hb dL_law_398 (lv_at hl 0 rfl) ?_
  refine lv_iconst (v := nI 1) hx hb dL_law_400 (by decide) ?_
  refine nr_iadd hx hb dL_law_401 ?_
  refine va_sld hx hb hX hbl hbA Z.2.2 (vp_in_nI (by omega) (by omega)) dL_law_402 ?_
  refine lv_aload_n hx hb dL_law_403 rfl (lv_at hl 4 rfl) ?_
  refine lv_iload hx hb dL_law_404 (lv_at hl 0 rfl) ?_
  refine lv_iconst (v := nI 2) hx hb dL_law_406 (by decide) ?_
  refine nr_iadd hx hb dL_law_407 ?_
  refine va_sld hx hb hX hbl hbA Z.2.2 (vp_in_nI (by omega) (by omega)) dL_law_408 ?_
  refine lv_aload_n hx hb dL_law_409 rfl (lv_at hl 1 rfl) ?_
  refine zk_callSLa (wr := wm) (wc := zk_oc1 g ho f :: wn) (cells' := cells + 1) (slots' := slots + 6) (rest := []) (n := 4) C NC Z hML q379 q380 q18 q381 (by decide +kernel) rfl (by show 9 + 1 ≤ R.frames; omega) (by show 8 + (5 + 11) + 60 * 9 ≤ R.locals; omega) hce hsl rfl rfl hl.1 rfl (Nat.le_of_ble_eq_true rfl) dL_law_410 (fun v w1 H locs hq Z => ?_)
  obtain ⟨rfl, f1, wn1, hN1, hf1, rfl⟩ := hq
  refine W.eq (g2 := F0 m 413 ls [.int (nI k)]) rfl ?_
  refine lv_istore (lv' := [(5, .int (nI k)), (4, .int (nI i)), (3, .ref ho), (2, .ref hm), (1, .ref hn), (0, .ref b)]) hx hb dL_law_413 hl (by decide) rfl (fun ls hl => ?_)
  have Z := Z.swap
  obtain ⟨fs8, he8⟩ := zk_wM_0 hM
  refine lv_aload_n hx hb dL_law_415 rfl (lv_at hl 3 rfl) ?_
  refine lv_aload_n hx hb dL_law_416 rfl (lv_at hl 5 rfl) ?_
  refine lv_iload hx hb dL_law_417 (lv_at hl 1 rfl) ?_
  refine lv_iconst (v := nI 1) hx hb dL_law_419 (by decide) ?_
  refine nr_iadd hx hb dL_law_420 ?_
  refine va_sld hx hb hX hbl hbA Z.2.2 (vp_in_nI (by omega) (by omega)) dL_law_421 ?_
  refine lv_aload_n hx hb dL_law_422 rfl (lv_at hl 5 rfl) ?_
  refine lv_iload hx hb dL_law_423 (lv_at hl 1 rfl) ?_
  refine lv_iconst (v := nI 2) hx hb dL_law_425 (by decide) ?_
  refine nr_iadd hx hb dL_law_426 ?_
  refine va_sld hx hb hX hbl hbA Z.2.2 (vp_in_nI (by omega) (by omega)) dL_law_427 ?_
  refine zk_callVa (wr := zk_oc1 g ho f1 :: wn1) (wc := wm) (cells' := cells + 1) (slots' := slots + 6) (rest := []) (n := 2) C Z hMM 0 7 rfl he8 rfl q688 q689 q690 q26 q691 (by decide +kernel) rfl (by show kf + 1 ≤ R.frames; omega) (by show 8 + (3 + 11) + 60 * kf ≤ R.locals; omega) (by show cells + 1 + 0 ≤ R.cells; omega) (by show slots + 6 + 0 ≤ R.slots; omega) rfl rfl hl.1 rfl (Nat.le_of_ble_eq_true rfl) dL_law_428 (fun v wm1 H locs hq Z => ?_)
  obtain ⟨⟨r', rfl, hr'⟩, hM1⟩ := hq
  refine W.eq (g2 := F0 m 431 ls [.int r']) rfl ?_
  refine lv_istore (lv' := [(6, .int r'), (5, .int (nI k)), (4, .int (nI i)), (3, .ref ho), (2, .ref hm), (1, .ref hn), (0, .ref b)]) hx hb dL_law_431 hl (by decide) rfl (fun ls hl => ?_)
  refine lv_aload_n hx hb dL_law_433 rfl (lv_at hl 4 rfl) ?_
  obtain ⟨fs9, he9⟩ := zk_wM_0 hM1
  refine zk_callVa (wr := zk_oc1 g ho f1 :: wn1) (wc := wm1) (cells' := cells + 1) (slots' := slots + 6) (rest := []) (n := 0) C Z (mn_thrown l D g hm k st1 wm1 hM1 hok1) 0 7 rfl he9 rfl q643 q644 q645 q26 q646 (by decide +kernel) rfl (by show 0 + 1 ≤ R.frames; omega) (by show 8 + (1 + 11) + 60 * 0 ≤ R.locals; omega) (by show cells + 1 + 0 ≤ R.cells; omega) (by show slots + 6 + 0 ≤ R.slots; omega) rfl rfl hl.1 rfl (Nat.le_of_ble_eq_true rfl) dL_law_434 (fun v wm2 H locs hq Z => ?_)
  obtain ⟨rfl, hM2⟩ := hq
  refine W.eq (g2 := F0 m 437 ls [.int (nI k)]) rfl ?_
  refine lv_iload hx hb dL_law_437 (lv_at hl 1 rfl) ?_
  refine lv_icmp_eq (tgt := 444) hx hb dL_law_439 (by decide) (fun _ => ?_) (fun h => absurd rfl h)
  refine lv_iload hx hb dL_law_444 (lv_at hl 1 rfl) ?_
  refine lv_if_ne (tgt := 461) hx hb dL_law_446 (by decide) (fun _ => ?_) (fun h0 => ?_)
  · refine lv_goto (tgt := 1000) hx hb dL_law_461 (by decide) ?_
    exact kk st1 k f1 wn1 wm2 H locs ls hok1 hN1 hM2 Z.swap (lv_sub hl [2, 3, 4, 5, 6] rfl)
  · have k0 : k = 0 := (zk_eq0 (by omega)).mp h0
    refine lv_aload_n hx hb dL_law_449 rfl (lv_at hl 3 rfl) ?_
    refine lv_iconst (v := nI 0) hx hb dL_law_450 (by decide) ?_
    refine va_lald hx hb C.2.1 Z.1 0 1 rfl rfl (vp_in_nI (by decide) (by decide)) dL_law_451 ?_
    refine lv_iload hx hb dL_law_452 (lv_at hl 0 rfl) ?_
    refine lv_i2l (v := r'.toInt64) hx hb dL_law_454 rfl ?_
    refine W.lcmp hx hb dL_law_455 ?_
    have e0 : lg_cmp (f1 (nI 0).toNatClampNeg) r'.toInt64 = 0 := by
      rw [show (nI 0).toNatClampNeg = 0 from by decide, hf1 k0, hr' k0]; exact zk_cmp0 _
    rw [e0]
    refine lv_if_eq (tgt := 461) hx hb dL_law_456 (by decide) (fun _ => ?_) (fun h => absurd rfl h)
    refine lv_goto (tgt := 1000) hx hb dL_law_461 (by decide) ?_
    exact kk st1 k f1 wn1 wm2 H locs ls hok1 hN1 hM2 Z.swap (lv_sub hl [2, 3, 4, 5, 6] rfl)
set_option maxHeartbeats 4000000 in
theorem lc_put (C : zk_C p s m c args cL_law 7 "NoisyCodesLaw" D g A) (NC : zk_NC s) (hfl : l.flags = flags0) (hX : va_X b L xs s s.heap) (hbl : b < s.heap.size) (hbA : ¬ A b) (hL : L ≤ 256) (hfr : 20 ≤ R.frames) (hlo : 1000 ≤ R.locals) {i hn hm ho km : Nat} {f : Nat → Int64} {st : Option zk_P} {wn wm : va_W} (hi : i + 4 ≤ L) (hN : zk_wN g hn st wn) (hM : zk_wM g hm st km wm) (hok : zk_okO st) (Z : zk_Z D A s H locs (wm ++ (zk_oc1 g ho f :: wn))) {ls : Array Slot} (hl : lv_has ls 7 [(4, .int (nI i)), (3, .ref ho), (2, .ref hm), (1, .ref hn), (0, .ref b)]) (hce : cells + 1 ≤ R.cells) (hsl : slots + 6 ≤ R.slots) (kk : zk_K p l e R s m args below meth c Q D g A b hn hm ho i (cells + 1) (slots + 6)) : W p l e R s m args below meth c H locs cells slots Q (F0 m 464 ls []) := by
  have hx := C.1.1
  have hb := C.1.2.1
  obtain ⟨k, st1, hok1, k3, hML, kf, hkf, hMM⟩ := js_put l hfl D g hn hm km st wn wm hN hM hok (xs (nI (i + 1)).toNatClampNeg) (xs (nI (i + 2)).toNatClampNeg)
  refine lv_aload_n hx hb dL_law_464 rfl (lv_at hl 3 rfl) ?_
  refine lv_aload_n hx hb dL_law_465 rfl (lv_at hl 4 rfl) ?_
  refine lv_iload hx hb dL_law_466 (lv_at hl 0 rfl) ?_
  refine lv_iconst (v := nI 1) hx hb dL_law_468 (by decide) ?_
  refine nr_iadd hx hb dL_law_469 ?_
  refine va_sld hx hb hX hbl hbA Z.2.2 (vp_in_nI (by omega) (by omega)) dL_law_470 ?_
  refine lv_aload_n hx hb dL_law_471 rfl (lv_at hl 4 rfl) ?_
  refine lv_iload hx hb dL_law_472 (lv_at hl 0 rfl) ?_
  refine lv_iconst (v := nI 2) hx hb dL_law_474 (by decide) ?_
  refine nr_iadd hx hb dL_law_475 ?_
  refine va_sld hx hb hX hbl hbA Z.2.2 (vp_in_nI (by omega) (by omega)) dL_law_476 ?_
  have Z : zk_Z D A s H locs ((wm ++ [zk_oc1 g ho f]) ++ wn) := by rw [List.append_assoc]; exact Z
  refine zk_callSLa (wr := wm ++ [zk_oc1 g ho f]) (wc := wn) (cells' := cells + 1) (slots' := slots + 6) (rest := []) (n := 3) C NC Z hML q387 q388 q18 q389 (by decide +kernel) rfl (by show 9 + 1 ≤ R.frames; omega) (by show 8 + (4 + 11) + 60 * 9 ≤ R.locals; omega) hce hsl rfl rfl hl.1 rfl (Nat.le_of_ble_eq_true rfl) dL_law_477 (fun v w1 H locs hq Z => ?_)
  obtain ⟨rfl, hN1⟩ := hq
  have Z : zk_Z D A s H locs (wm ++ (zk_oc1 g ho f :: w1)) := by rw [List.append_assoc] at Z; exact Z
  refine W.eq (g2 := F0 m 480 ls [.int (nI k)]) rfl ?_
  refine lv_istore (lv' := [(5, .int (nI k)), (4, .int (nI i)), (3, .ref ho), (2, .ref hm), (1, .ref hn), (0, .ref b)]) hx hb dL_law_480 hl (by decide) rfl (fun ls hl => ?_)
  have Z := Z.swap
  obtain ⟨fs8, he8⟩ := zk_wM_0 hM
  refine lv_aload_n hx hb dL_law_482 rfl (lv_at hl 3 rfl) ?_
  refine lv_aload_n hx hb dL_law_483 rfl (lv_at hl 5 rfl) ?_
  refine lv_iload hx hb dL_law_484 (lv_at hl 1 rfl) ?_
  refine lv_iconst (v := nI 1) hx hb dL_law_486 (by decide) ?_
  refine nr_iadd hx hb dL_law_487 ?_
  refine va_sld hx hb hX hbl hbA Z.2.2 (vp_in_nI (by omega) (by omega)) dL_law_488 ?_
  refine lv_aload_n hx hb dL_law_489 rfl (lv_at hl 5 rfl) ?_
  refine lv_iload hx hb dL_law_490 (lv_at hl 1 rfl) ?_
  refine lv_iconst (v := nI 2) hx hb dL_law_492 (by decide) ?_
  refine nr_iadd hx hb dL_law_493 ?_
  refine va_sld hx hb hX hbl hbA Z.2.2 (vp_in_nI (by omega) (by omega)) dL_law_494 ?_
  refine zk_callVa (wr := zk_oc1 g ho f :: w1) (wc := wm) (cells' := cells + 1) (slots' := slots + 6) (rest := []) (n := 2) C Z hMM 0 7 rfl he8 rfl q692 q693 q694 q26 q695 (by decide +kernel) rfl (by show kf + 1 ≤ R.frames; omega) (by show 8 + (5 + 11) + 60 * kf ≤ R.locals; omega) (by show cells + 1 + 0 ≤ R.cells; omega) (by show slots + 6 + 0 ≤ R.slots; omega) rfl rfl hl.1 rfl (Nat.le_of_ble_eq_true rfl) dL_law_495 (fun v wm1 H locs hq Z => ?_)
  obtain ⟨rfl, hM1⟩ := hq
  refine W.eq (g2 := F0 m 498 ls []) rfl ?_
  refine lv_aload_n hx hb dL_law_498 rfl (lv_at hl 3 rfl) ?_
  obtain ⟨fs9, he9⟩ := zk_wM_0 hM1
  refine zk_callVa (wr := zk_oc1 g ho f :: w1) (wc := wm1) (cells' := cells + 1) (slots' := slots + 6) (rest := []) (n := 0) C Z (mn_thrown l D g hm k st1 wm1 hM1 hok1) 0 7 rfl he9 rfl q643 q644 q645 q26 q646 (by decide +kernel) rfl (by show 0 + 1 ≤ R.frames; omega) (by show 8 + (1 + 11) + 60 * 0 ≤ R.locals; omega) (by show cells + 1 + 0 ≤ R.cells; omega) (by show slots + 6 + 0 ≤ R.slots; omega) rfl rfl hl.1 rfl (Nat.le_of_ble_eq_true rfl) dL_law_499 (fun v wm2 H locs hq Z => ?_)
  obtain ⟨rfl, hM2⟩ := hq
  refine W.eq (g2 := F0 m 502 ls [.int (nI k)]) rfl ?_
  refine lv_iload hx hb dL_law_502 (lv_at hl 0 rfl) ?_
  refine lv_icmp_eq (tgt := 509) hx hb dL_law_504 (by decide) (fun _ => ?_) (fun h => absurd rfl h)
  refine lv_goto (tgt := 1000) hx hb dL_law_509 (by decide) ?_
  exact kk st1 k f w1 wm2 H locs ls hok1 hN1 hM2 Z.swap (lv_sub hl [1, 2, 3, 4, 5] rfl)
set_option maxHeartbeats 4000000 in
theorem lc_get (C : zk_C p s m c args cL_law 7 "NoisyCodesLaw" D g A) (NC : zk_NC s) (hfl : l.flags = flags0) (hX : va_X b L xs s s.heap) (hbl : b < s.heap.size) (hbA : ¬ A b) (hL : L ≤ 256) (hfr : 20 ≤ R.frames) (hlo : 1000 ≤ R.locals) {i hn hm ho km : Nat} {f : Nat → Int64} {st : Option zk_P} {wn wm : va_W} (hi : i + 4 ≤ L) (hN : zk_wN g hn st wn) (hM : zk_wM g hm st km wm) (hok : zk_okO st) (Z : zk_Z D A s H locs (wm ++ (zk_oc1 g ho f :: wn))) {ls : Array Slot} (hl : lv_has ls 7 [(4, .int (nI i)), (3, .ref ho), (2, .ref hm), (1, .ref hn), (0, .ref b)]) (hce : cells + 1 ≤ R.cells) (hsl : slots + 6 ≤ R.slots) (kk : zk_K p l e R s m args below meth c Q D g A b hn hm ho i (cells + 1) (slots + 6)) : W p l e R s m args below meth c H locs cells slots Q (F0 m 512 ls []) := by
  have hx := C.1.1
  have hb := C.1.2.1
  obtain ⟨k, r, st1, hok1, k3, hML, kf, hkf, hMM⟩ := js_get l hfl D g hn hm km ho f st wn wm hN hM hok (xs (nI (i + 1)).toNatClampNeg)
  refine lv_aload_n hx hb dL_law_512 rfl (lv_at hl 3 rfl) ?_
  refine lv_aload_n hx hb dL_law_513 rfl (lv_at hl 4 rfl) ?_
  refine lv_iload hx hb dL_law_514 (lv_at hl 0 rfl) ?_
  refine lv_iconst (v := nI 1) hx hb dL_law_516 (by decide) ?_
  refine nr_iadd hx hb dL_law_517 ?_
  refine va_sld hx hb hX hbl hbA Z.2.2 (vp_in_nI (by omega) (by omega)) dL_law_518 ?_
  refine lv_aload_n hx hb dL_law_519 rfl (lv_at hl 1 rfl) ?_
  refine zk_callSLa (wr := wm) (wc := zk_oc1 g ho f :: wn) (cells' := cells + 1) (slots' := slots + 6) (rest := []) (n := 3) C NC Z hML q429 q430 q18 q431 (by decide +kernel) rfl (by show 9 + 1 ≤ R.frames; omega) (by show 8 + (4 + 11) + 60 * 9 ≤ R.locals; omega) hce hsl rfl rfl hl.1 rfl (Nat.le_of_ble_eq_true rfl) dL_law_520 (fun v w1 H locs hq Z => ?_)
  obtain ⟨rfl, f1, wn1, hN1, hf1, rfl⟩ := hq
  refine W.eq (g2 := F0 m 523 ls [.int (nI k)]) rfl ?_
  refine lv_istore (lv' := [(5, .int (nI k)), (4, .int (nI i)), (3, .ref ho), (2, .ref hm), (1, .ref hn), (0, .ref b)]) hx hb dL_law_523 hl (by decide) rfl (fun ls hl => ?_)
  have Z := Z.swap
  obtain ⟨fs8, he8⟩ := zk_wM_0 hM
  refine lv_aload_n hx hb dL_law_525 rfl (lv_at hl 3 rfl) ?_
  refine lv_aload_n hx hb dL_law_526 rfl (lv_at hl 5 rfl) ?_
  refine lv_iload hx hb dL_law_527 (lv_at hl 1 rfl) ?_
  refine lv_iconst (v := nI 1) hx hb dL_law_529 (by decide) ?_
  refine nr_iadd hx hb dL_law_530 ?_
  refine va_sld hx hb hX hbl hbA Z.2.2 (vp_in_nI (by omega) (by omega)) dL_law_531 ?_
  refine zk_callVa (wr := zk_oc1 g ho f1 :: wn1) (wc := wm) (cells' := cells + 1) (slots' := slots + 6) (rest := []) (n := 1) C Z hMM 0 7 rfl he8 rfl q700 q701 q702 q26 q703 (by decide +kernel) rfl (by show kf + 1 ≤ R.frames; omega) (by show 8 + (2 + 11) + 60 * kf ≤ R.locals; omega) (by show cells + 1 + 0 ≤ R.cells; omega) (by show slots + 6 + 0 ≤ R.slots; omega) rfl rfl hl.1 rfl (Nat.le_of_ble_eq_true rfl) dL_law_532 (fun v wm1 H locs hq Z => ?_)
  obtain ⟨⟨r', rfl, hr'⟩, hM1⟩ := hq
  refine W.eq (g2 := F0 m 535 ls [.int r']) rfl ?_
  refine lv_istore (lv' := [(6, .int r'), (5, .int (nI k)), (4, .int (nI i)), (3, .ref ho), (2, .ref hm), (1, .ref hn), (0, .ref b)]) hx hb dL_law_535 hl (by decide) rfl (fun ls hl => ?_)
  refine lv_aload_n hx hb dL_law_537 rfl (lv_at hl 4 rfl) ?_
  obtain ⟨fs9, he9⟩ := zk_wM_0 hM1
  refine zk_callVa (wr := zk_oc1 g ho f1 :: wn1) (wc := wm1) (cells' := cells + 1) (slots' := slots + 6) (rest := []) (n := 0) C Z (mn_thrown l D g hm k st1 wm1 hM1 hok1) 0 7 rfl he9 rfl q643 q644 q645 q26 q646 (by decide +kernel) rfl (by show 0 + 1 ≤ R.frames; omega) (by show 8 + (1 + 11) + 60 * 0 ≤ R.locals; omega) (by show cells + 1 + 0 ≤ R.cells; omega) (by show slots + 6 + 0 ≤ R.slots; omega) rfl rfl hl.1 rfl (Nat.le_of_ble_eq_true rfl) dL_law_538 (fun v wm2 H locs hq Z => ?_)
  obtain ⟨rfl, hM2⟩ := hq
  refine W.eq (g2 := F0 m 541 ls [.int (nI k)]) rfl ?_
  refine lv_iload hx hb dL_law_541 (lv_at hl 1 rfl) ?_
  refine lv_icmp_eq (tgt := 548) hx hb dL_law_543 (by decide) (fun _ => ?_) (fun h => absurd rfl h)
  refine lv_iload hx hb dL_law_548 (lv_at hl 1 rfl) ?_
  refine lv_if_ne (tgt := 565) hx hb dL_law_550 (by decide) (fun _ => ?_) (fun h0 => ?_)
  · refine lv_goto (tgt := 1000) hx hb dL_law_565 (by decide) ?_
    exact kk st1 k f1 wn1 wm2 H locs ls hok1 hN1 hM2 Z.swap (lv_sub hl [2, 3, 4, 5, 6] rfl)
  · have k0 : k = 0 := (zk_eq0 (by omega)).mp h0
    refine lv_aload_n hx hb dL_law_553 rfl (lv_at hl 3 rfl) ?_
    refine lv_iconst (v := nI 0) hx hb dL_law_554 (by decide) ?_
    refine va_lald hx hb C.2.1 Z.1 0 1 rfl rfl (vp_in_nI (by decide) (by decide)) dL_law_555 ?_
    refine lv_iload hx hb dL_law_556 (lv_at hl 0 rfl) ?_
    refine lv_i2l (v := r'.toInt64) hx hb dL_law_558 rfl ?_
    refine W.lcmp hx hb dL_law_559 ?_
    have e0 : lg_cmp (f1 (nI 0).toNatClampNeg) r'.toInt64 = 0 := by
      rw [show (nI 0).toNatClampNeg = 0 from by decide, hf1 k0, hr' k0]; exact zk_cmp0 _
    rw [e0]
    refine lv_if_eq (tgt := 565) hx hb dL_law_560 (by decide) (fun _ => ?_) (fun h => absurd rfl h)
    refine lv_goto (tgt := 1000) hx hb dL_law_565 (by decide) ?_
    exact kk st1 k f1 wn1 wm2 H locs ls hok1 hN1 hM2 Z.swap (lv_sub hl [2, 3, 4, 5, 6] rfl)
set_option maxHeartbeats 4000000 in
theorem lc_encode (C : zk_C p s m c args cL_law 7 "NoisyCodesLaw" D g A) (NC : zk_NC s) (hfl : l.flags = flags0) (hX : va_X b L xs s s.heap) (hbl : b < s.heap.size) (hbA : ¬ A b) (hL : L ≤ 256) (hfr : 20 ≤ R.frames) (hlo : 1000 ≤ R.locals) {i hn hm ho km : Nat} {f : Nat → Int64} {st : Option zk_P} {wn wm : va_W} (hi : i + 4 ≤ L) (hN : zk_wN g hn st wn) (hM : zk_wM g hm st km wm) (hok : zk_okO st) (Z : zk_Z D A s H locs (wm ++ (zk_oc1 g ho f :: wn))) {ls : Array Slot} (hl : lv_has ls 7 [(4, .int (nI i)), (3, .ref ho), (2, .ref hm), (1, .ref hn), (0, .ref b)]) (hce : cells + 1 ≤ R.cells) (hsl : slots + 6 ≤ R.slots) (kk : zk_K p l e R s m args below meth c Q D g A b hn hm ho i (cells + 1) (slots + 6)) : W p l e R s m args below meth c H locs cells slots Q (F0 m 568 ls []) := by
  have hx := C.1.1
  have hb := C.1.2.1
  obtain ⟨k, r, st1, hok1, k3, hML, kf, hkf, hMM⟩ := js_encode l hfl D g hn hm km ho f st wn wm hN hM hok 
  refine lv_aload_n hx hb dL_law_568 rfl (lv_at hl 3 rfl) ?_
  refine lv_aload_n hx hb dL_law_569 rfl (lv_at hl 1 rfl) ?_
  refine zk_callSLa (wr := wm) (wc := zk_oc1 g ho f :: wn) (cells' := cells + 1) (slots' := slots + 6) (rest := []) (n := 2) C NC Z hML q436 q437 q18 q438 (by decide +kernel) rfl (by show 9 + 1 ≤ R.frames; omega) (by show 8 + (3 + 11) + 60 * 9 ≤ R.locals; omega) hce hsl rfl rfl hl.1 rfl (Nat.le_of_ble_eq_true rfl) dL_law_570 (fun v w1 H locs hq Z => ?_)
  obtain ⟨rfl, f1, wn1, hN1, hf1, rfl⟩ := hq
  refine W.eq (g2 := F0 m 573 ls [.int (nI k)]) rfl ?_
  refine lv_istore (lv' := [(5, .int (nI k)), (4, .int (nI i)), (3, .ref ho), (2, .ref hm), (1, .ref hn), (0, .ref b)]) hx hb dL_law_573 hl (by decide) rfl (fun ls hl => ?_)
  have Z := Z.swap
  obtain ⟨fs8, he8⟩ := zk_wM_0 hM
  refine lv_aload_n hx hb dL_law_575 rfl (lv_at hl 3 rfl) ?_
  refine zk_callVa (wr := zk_oc1 g ho f1 :: wn1) (wc := wm) (cells' := cells + 1) (slots' := slots + 6) (rest := []) (n := 0) C Z hMM 0 7 rfl he8 rfl q704 q705 q706 q26 q707 (by decide +kernel) rfl (by show kf + 1 ≤ R.frames; omega) (by show 8 + (4 + 11) + 60 * kf ≤ R.locals; omega) (by show cells + 1 + 0 ≤ R.cells; omega) (by show slots + 6 + 0 ≤ R.slots; omega) rfl rfl hl.1 rfl (Nat.le_of_ble_eq_true rfl) dL_law_576 (fun v wm1 H locs hq Z => ?_)
  obtain ⟨⟨r', rfl, hr'⟩, hM1⟩ := hq
  refine W.eq (g2 := F0 m 579 ls [.int r']) rfl ?_
  refine lv_istore (lv' := [(6, .int r'), (5, .int (nI k)), (4, .int (nI i)), (3, .ref ho), (2, .ref hm), (1, .ref hn), (0, .ref b)]) hx hb dL_law_579 hl (by decide) rfl (fun ls hl => ?_)
  refine lv_aload_n hx hb dL_law_581 rfl (lv_at hl 4 rfl) ?_
  obtain ⟨fs9, he9⟩ := zk_wM_0 hM1
  refine zk_callVa (wr := zk_oc1 g ho f1 :: wn1) (wc := wm1) (cells' := cells + 1) (slots' := slots + 6) (rest := []) (n := 0) C Z (mn_thrown l D g hm k st1 wm1 hM1 hok1) 0 7 rfl he9 rfl q643 q644 q645 q26 q646 (by decide +kernel) rfl (by show 0 + 1 ≤ R.frames; omega) (by show 8 + (1 + 11) + 60 * 0 ≤ R.locals; omega) (by show cells + 1 + 0 ≤ R.cells; omega) (by show slots + 6 + 0 ≤ R.slots; omega) rfl rfl hl.1 rfl (Nat.le_of_ble_eq_true rfl) dL_law_582 (fun v wm2 H locs hq Z => ?_)
  obtain ⟨rfl, hM2⟩ := hq
  refine W.eq (g2 := F0 m 585 ls [.int (nI k)]) rfl ?_
  refine lv_iload hx hb dL_law_585 (lv_at hl 1 rfl) ?_
  refine lv_icmp_eq (tgt := 592) hx hb dL_law_587 (by decide) (fun _ => ?_) (fun h => absurd rfl h)
  refine lv_iload hx hb dL_law_592 (lv_at hl 1 rfl) ?_
  refine lv_if_ne (tgt := 609) hx hb dL_law_594 (by decide) (fun _ => ?_) (fun h0 => ?_)
  · refine lv_goto (tgt := 1000) hx hb dL_law_609 (by decide) ?_
    exact kk st1 k f1 wn1 wm2 H locs ls hok1 hN1 hM2 Z.swap (lv_sub hl [2, 3, 4, 5, 6] rfl)
  · have k0 : k = 0 := (zk_eq0 (by omega)).mp h0
    refine lv_aload_n hx hb dL_law_597 rfl (lv_at hl 3 rfl) ?_
    refine lv_iconst (v := nI 0) hx hb dL_law_598 (by decide) ?_
    refine va_lald hx hb C.2.1 Z.1 0 1 rfl rfl (vp_in_nI (by decide) (by decide)) dL_law_599 ?_
    refine lv_iload hx hb dL_law_600 (lv_at hl 0 rfl) ?_
    refine lv_i2l (v := r'.toInt64) hx hb dL_law_602 rfl ?_
    refine W.lcmp hx hb dL_law_603 ?_
    have e0 : lg_cmp (f1 (nI 0).toNatClampNeg) r'.toInt64 = 0 := by
      rw [show (nI 0).toNatClampNeg = 0 from by decide, hf1 k0, hr' k0]; exact zk_cmp0 _
    rw [e0]
    refine lv_if_eq (tgt := 609) hx hb dL_law_604 (by decide) (fun _ => ?_) (fun h => absurd rfl h)
    refine lv_goto (tgt := 1000) hx hb dL_law_609 (by decide) ?_
    exact kk st1 k f1 wn1 wm2 H locs ls hok1 hN1 hM2 Z.swap (lv_sub hl [2, 3, 4, 5, 6] rfl)
set_option maxHeartbeats 4000000 in
theorem lc_bit (C : zk_C p s m c args cL_law 7 "NoisyCodesLaw" D g A) (NC : zk_NC s) (hfl : l.flags = flags0) (hX : va_X b L xs s s.heap) (hbl : b < s.heap.size) (hbA : ¬ A b) (hL : L ≤ 256) (hfr : 20 ≤ R.frames) (hlo : 1000 ≤ R.locals) {i hn hm ho km : Nat} {f : Nat → Int64} {st : Option zk_P} {wn wm : va_W} (hi : i + 4 ≤ L) (hN : zk_wN g hn st wn) (hM : zk_wM g hm st km wm) (hok : zk_okO st) (Z : zk_Z D A s H locs (wm ++ (zk_oc1 g ho f :: wn))) {ls : Array Slot} (hl : lv_has ls 7 [(4, .int (nI i)), (3, .ref ho), (2, .ref hm), (1, .ref hn), (0, .ref b)]) (hce : cells + 1 ≤ R.cells) (hsl : slots + 6 ≤ R.slots) (kk : zk_K p l e R s m args below meth c Q D g A b hn hm ho i (cells + 1) (slots + 6)) : W p l e R s m args below meth c H locs cells slots Q (F0 m 612 ls []) := by
  have hx := C.1.1
  have hb := C.1.2.1
  obtain ⟨k, r, st1, hok1, k3, hML, kf, hkf, hMM⟩ := js_bit l hfl D g hn hm km ho f st wn wm hN hM hok (xs (nI (i + 1)).toNatClampNeg)
  refine lv_aload_n hx hb dL_law_612 rfl (lv_at hl 3 rfl) ?_
  refine lv_aload_n hx hb dL_law_613 rfl (lv_at hl 4 rfl) ?_
  refine lv_iload hx hb dL_law_614 (lv_at hl 0 rfl) ?_
  refine lv_iconst (v := nI 1) hx hb dL_law_616 (by decide) ?_
  refine nr_iadd hx hb dL_law_617 ?_
  refine va_sld hx hb hX hbl hbA Z.2.2 (vp_in_nI (by omega) (by omega)) dL_law_618 ?_
  refine lv_aload_n hx hb dL_law_619 rfl (lv_at hl 1 rfl) ?_
  refine zk_callSLa (wr := wm) (wc := zk_oc1 g ho f :: wn) (cells' := cells + 1) (slots' := slots + 6) (rest := []) (n := 3) C NC Z hML q453 q454 q18 q455 (by decide +kernel) rfl (by show 9 + 1 ≤ R.frames; omega) (by show 8 + (4 + 11) + 60 * 9 ≤ R.locals; omega) hce hsl rfl rfl hl.1 rfl (Nat.le_of_ble_eq_true rfl) dL_law_620 (fun v w1 H locs hq Z => ?_)
  obtain ⟨rfl, f1, wn1, hN1, hf1, rfl⟩ := hq
  refine W.eq (g2 := F0 m 623 ls [.int (nI k)]) rfl ?_
  refine lv_istore (lv' := [(5, .int (nI k)), (4, .int (nI i)), (3, .ref ho), (2, .ref hm), (1, .ref hn), (0, .ref b)]) hx hb dL_law_623 hl (by decide) rfl (fun ls hl => ?_)
  have Z := Z.swap
  obtain ⟨fs8, he8⟩ := zk_wM_0 hM
  refine lv_aload_n hx hb dL_law_625 rfl (lv_at hl 3 rfl) ?_
  refine lv_aload_n hx hb dL_law_626 rfl (lv_at hl 5 rfl) ?_
  refine lv_iload hx hb dL_law_627 (lv_at hl 1 rfl) ?_
  refine lv_iconst (v := nI 1) hx hb dL_law_629 (by decide) ?_
  refine nr_iadd hx hb dL_law_630 ?_
  refine va_sld hx hb hX hbl hbA Z.2.2 (vp_in_nI (by omega) (by omega)) dL_law_631 ?_
  refine zk_callVa (wr := zk_oc1 g ho f1 :: wn1) (wc := wm) (cells' := cells + 1) (slots' := slots + 6) (rest := []) (n := 1) C Z hMM 0 7 rfl he8 rfl q715 q716 q717 q26 q718 (by decide +kernel) rfl (by show kf + 1 ≤ R.frames; omega) (by show 8 + (2 + 11) + 60 * kf ≤ R.locals; omega) (by show cells + 1 + 0 ≤ R.cells; omega) (by show slots + 6 + 0 ≤ R.slots; omega) rfl rfl hl.1 rfl (Nat.le_of_ble_eq_true rfl) dL_law_632 (fun v wm1 H locs hq Z => ?_)
  obtain ⟨⟨r', rfl, hr'⟩, hM1⟩ := hq
  refine W.eq (g2 := F0 m 635 ls [.int r']) rfl ?_
  refine lv_istore (lv' := [(6, .int r'), (5, .int (nI k)), (4, .int (nI i)), (3, .ref ho), (2, .ref hm), (1, .ref hn), (0, .ref b)]) hx hb dL_law_635 hl (by decide) rfl (fun ls hl => ?_)
  refine lv_aload_n hx hb dL_law_637 rfl (lv_at hl 4 rfl) ?_
  obtain ⟨fs9, he9⟩ := zk_wM_0 hM1
  refine zk_callVa (wr := zk_oc1 g ho f1 :: wn1) (wc := wm1) (cells' := cells + 1) (slots' := slots + 6) (rest := []) (n := 0) C Z (mn_thrown l D g hm k st1 wm1 hM1 hok1) 0 7 rfl he9 rfl q643 q644 q645 q26 q646 (by decide +kernel) rfl (by show 0 + 1 ≤ R.frames; omega) (by show 8 + (1 + 11) + 60 * 0 ≤ R.locals; omega) (by show cells + 1 + 0 ≤ R.cells; omega) (by show slots + 6 + 0 ≤ R.slots; omega) rfl rfl hl.1 rfl (Nat.le_of_ble_eq_true rfl) dL_law_638 (fun v wm2 H locs hq Z => ?_)
  obtain ⟨rfl, hM2⟩ := hq
  refine W.eq (g2 := F0 m 641 ls [.int (nI k)]) rfl ?_
  refine lv_iload hx hb dL_law_641 (lv_at hl 1 rfl) ?_
  refine lv_icmp_eq (tgt := 648) hx hb dL_law_643 (by decide) (fun _ => ?_) (fun h => absurd rfl h)
  refine lv_iload hx hb dL_law_648 (lv_at hl 1 rfl) ?_
  refine lv_if_ne (tgt := 665) hx hb dL_law_650 (by decide) (fun _ => ?_) (fun h0 => ?_)
  · refine lv_goto (tgt := 1000) hx hb dL_law_665 (by decide) ?_
    exact kk st1 k f1 wn1 wm2 H locs ls hok1 hN1 hM2 Z.swap (lv_sub hl [2, 3, 4, 5, 6] rfl)
  · have k0 : k = 0 := (zk_eq0 (by omega)).mp h0
    refine lv_aload_n hx hb dL_law_653 rfl (lv_at hl 3 rfl) ?_
    refine lv_iconst (v := nI 0) hx hb dL_law_654 (by decide) ?_
    refine va_lald hx hb C.2.1 Z.1 0 1 rfl rfl (vp_in_nI (by decide) (by decide)) dL_law_655 ?_
    refine lv_iload hx hb dL_law_656 (lv_at hl 0 rfl) ?_
    refine lv_i2l (v := r'.toInt64) hx hb dL_law_658 rfl ?_
    refine W.lcmp hx hb dL_law_659 ?_
    have e0 : lg_cmp (f1 (nI 0).toNatClampNeg) r'.toInt64 = 0 := by
      rw [show (nI 0).toNatClampNeg = 0 from by decide, hf1 k0, hr' k0]; exact zk_cmp0 _
    rw [e0]
    refine lv_if_eq (tgt := 665) hx hb dL_law_660 (by decide) (fun _ => ?_) (fun h => absurd rfl h)
    refine lv_goto (tgt := 1000) hx hb dL_law_665 (by decide) ?_
    exact kk st1 k f1 wn1 wm2 H locs ls hok1 hN1 hM2 Z.swap (lv_sub hl [2, 3, 4, 5, 6] rfl)
set_option maxHeartbeats 4000000 in
theorem lc_burst (C : zk_C p s m c args cL_law 7 "NoisyCodesLaw" D g A) (NC : zk_NC s) (hfl : l.flags = flags0) (hX : va_X b L xs s s.heap) (hbl : b < s.heap.size) (hbA : ¬ A b) (hL : L ≤ 256) (hfr : 20 ≤ R.frames) (hlo : 1000 ≤ R.locals) {i hn hm ho km : Nat} {f : Nat → Int64} {st : Option zk_P} {wn wm : va_W} (hi : i + 4 ≤ L) (hN : zk_wN g hn st wn) (hM : zk_wM g hm st km wm) (hok : zk_okO st) (Z : zk_Z D A s H locs (wm ++ (zk_oc1 g ho f :: wn))) {ls : Array Slot} (hl : lv_has ls 7 [(4, .int (nI i)), (3, .ref ho), (2, .ref hm), (1, .ref hn), (0, .ref b)]) (hce : cells + 1 ≤ R.cells) (hsl : slots + 6 ≤ R.slots) (kk : zk_K p l e R s m args below meth c Q D g A b hn hm ho i (cells + 1) (slots + 6)) : W p l e R s m args below meth c H locs cells slots Q (F0 m 668 ls []) := by
  have hx := C.1.1
  have hb := C.1.2.1
  obtain ⟨k, st1, hok1, k3, hML, kf, hkf, hMM⟩ := js_burst l hfl D g hn hm km st wn wm hN hM hok (xs (nI (i + 1)).toNatClampNeg) (xs (nI (i + 2)).toNatClampNeg)
  refine lv_aload_n hx hb dL_law_668 rfl (lv_at hl 3 rfl) ?_
  refine lv_aload_n hx hb dL_law_669 rfl (lv_at hl 4 rfl) ?_
  refine lv_iload hx hb dL_law_670 (lv_at hl 0 rfl) ?_
  refine lv_iconst (v := nI 1) hx hb dL_law_672 (by decide) ?_
  refine nr_iadd hx hb dL_law_673 ?_
  refine va_sld hx hb hX hbl hbA Z.2.2 (vp_in_nI (by omega) (by omega)) dL_law_674 ?_
  refine lv_aload_n hx hb dL_law_675 rfl (lv_at hl 4 rfl) ?_
  refine lv_iload hx hb dL_law_676 (lv_at hl 0 rfl) ?_
  refine lv_iconst (v := nI 2) hx hb dL_law_678 (by decide) ?_
  refine nr_iadd hx hb dL_law_679 ?_
  refine va_sld hx hb hX hbl hbA Z.2.2 (vp_in_nI (by omega) (by omega)) dL_law_680 ?_
  have Z : zk_Z D A s H locs ((wm ++ [zk_oc1 g ho f]) ++ wn) := by rw [List.append_assoc]; exact Z
  refine zk_callSLa (wr := wm ++ [zk_oc1 g ho f]) (wc := wn) (cells' := cells + 1) (slots' := slots + 6) (rest := []) (n := 3) C NC Z hML q460 q461 q18 q462 (by decide +kernel) rfl (by show 9 + 1 ≤ R.frames; omega) (by show 8 + (4 + 11) + 60 * 9 ≤ R.locals; omega) hce hsl rfl rfl hl.1 rfl (Nat.le_of_ble_eq_true rfl) dL_law_681 (fun v w1 H locs hq Z => ?_)
  obtain ⟨rfl, hN1⟩ := hq
  have Z : zk_Z D A s H locs (wm ++ (zk_oc1 g ho f :: w1)) := by rw [List.append_assoc] at Z; exact Z
  refine W.eq (g2 := F0 m 684 ls [.int (nI k)]) rfl ?_
  refine lv_istore (lv' := [(5, .int (nI k)), (4, .int (nI i)), (3, .ref ho), (2, .ref hm), (1, .ref hn), (0, .ref b)]) hx hb dL_law_684 hl (by decide) rfl (fun ls hl => ?_)
  have Z := Z.swap
  obtain ⟨fs8, he8⟩ := zk_wM_0 hM
  refine lv_aload_n hx hb dL_law_686 rfl (lv_at hl 3 rfl) ?_
  refine lv_aload_n hx hb dL_law_687 rfl (lv_at hl 5 rfl) ?_
  refine lv_iload hx hb dL_law_688 (lv_at hl 1 rfl) ?_
  refine lv_iconst (v := nI 1) hx hb dL_law_690 (by decide) ?_
  refine nr_iadd hx hb dL_law_691 ?_
  refine va_sld hx hb hX hbl hbA Z.2.2 (vp_in_nI (by omega) (by omega)) dL_law_692 ?_
  refine lv_aload_n hx hb dL_law_693 rfl (lv_at hl 5 rfl) ?_
  refine lv_iload hx hb dL_law_694 (lv_at hl 1 rfl) ?_
  refine lv_iconst (v := nI 2) hx hb dL_law_696 (by decide) ?_
  refine nr_iadd hx hb dL_law_697 ?_
  refine va_sld hx hb hX hbl hbA Z.2.2 (vp_in_nI (by omega) (by omega)) dL_law_698 ?_
  refine zk_callVa (wr := zk_oc1 g ho f :: w1) (wc := wm) (cells' := cells + 1) (slots' := slots + 6) (rest := []) (n := 2) C Z hMM 0 7 rfl he8 rfl q723 q724 q725 q26 q726 (by decide +kernel) rfl (by show kf + 1 ≤ R.frames; omega) (by show 8 + (5 + 11) + 60 * kf ≤ R.locals; omega) (by show cells + 1 + 0 ≤ R.cells; omega) (by show slots + 6 + 0 ≤ R.slots; omega) rfl rfl hl.1 rfl (Nat.le_of_ble_eq_true rfl) dL_law_699 (fun v wm1 H locs hq Z => ?_)
  obtain ⟨rfl, hM1⟩ := hq
  refine W.eq (g2 := F0 m 702 ls []) rfl ?_
  refine lv_aload_n hx hb dL_law_702 rfl (lv_at hl 3 rfl) ?_
  obtain ⟨fs9, he9⟩ := zk_wM_0 hM1
  refine zk_callVa (wr := zk_oc1 g ho f :: w1) (wc := wm1) (cells' := cells + 1) (slots' := slots + 6) (rest := []) (n := 0) C Z (mn_thrown l D g hm k st1 wm1 hM1 hok1) 0 7 rfl he9 rfl q643 q644 q645 q26 q646 (by decide +kernel) rfl (by show 0 + 1 ≤ R.frames; omega) (by show 8 + (1 + 11) + 60 * 0 ≤ R.locals; omega) (by show cells + 1 + 0 ≤ R.cells; omega) (by show slots + 6 + 0 ≤ R.slots; omega) rfl rfl hl.1 rfl (Nat.le_of_ble_eq_true rfl) dL_law_703 (fun v wm2 H locs hq Z => ?_)
  obtain ⟨rfl, hM2⟩ := hq
  refine W.eq (g2 := F0 m 706 ls [.int (nI k)]) rfl ?_
  refine lv_iload hx hb dL_law_706 (lv_at hl 0 rfl) ?_
  refine lv_icmp_eq (tgt := 713) hx hb dL_law_708 (by decide) (fun _ => ?_) (fun h => absurd rfl h)
  refine lv_goto (tgt := 1000) hx hb dL_law_713 (by decide) ?_
  exact kk st1 k f w1 wm2 H locs ls hok1 hN1 hM2 Z.swap (lv_sub hl [1, 2, 3, 4, 5] rfl)
set_option maxHeartbeats 4000000 in
theorem lc_noise (C : zk_C p s m c args cL_law 7 "NoisyCodesLaw" D g A) (NC : zk_NC s) (hfl : l.flags = flags0) (hX : va_X b L xs s s.heap) (hbl : b < s.heap.size) (hbA : ¬ A b) (hL : L ≤ 256) (hfr : 20 ≤ R.frames) (hlo : 1000 ≤ R.locals) {i hn hm ho km : Nat} {f : Nat → Int64} {st : Option zk_P} {wn wm : va_W} (hi : i + 4 ≤ L) (hN : zk_wN g hn st wn) (hM : zk_wM g hm st km wm) (hok : zk_okO st) (Z : zk_Z D A s H locs (wm ++ (zk_oc1 g ho f :: wn))) {ls : Array Slot} (hl : lv_has ls 7 [(4, .int (nI i)), (3, .ref ho), (2, .ref hm), (1, .ref hn), (0, .ref b)]) (hce : cells + 1 ≤ R.cells) (hsl : slots + 6 ≤ R.slots) (kk : zk_K p l e R s m args below meth c Q D g A b hn hm ho i (cells + 1) (slots + 6)) : W p l e R s m args below meth c H locs cells slots Q (F0 m 716 ls []) := by
  have hx := C.1.1
  have hb := C.1.2.1
  obtain ⟨k, r, st1, hok1, k3, hML, kf, hkf, hMM⟩ := js_noise l hfl D g hn hm km ho f st wn wm hN hM hok (xs (nI (i + 1)).toNatClampNeg) (xs (nI (i + 2)).toNatClampNeg)
  refine lv_aload_n hx hb dL_law_716 rfl (lv_at hl 3 rfl) ?_
  refine lv_aload_n hx hb dL_law_717 rfl (lv_at hl 4 rfl) ?_
  refine lv_iload hx hb dL_law_718 (lv_at hl 0 rfl) ?_
  refine lv_iconst (v := nI 1) hx hb dL_law_720 (by decide) ?_
  refine nr_iadd hx hb dL_law_721 ?_
  refine va_sld hx hb hX hbl hbA Z.2.2 (vp_in_nI (by omega) (by omega)) dL_law_722 ?_
  refine lv_aload_n hx hb dL_law_723 rfl (lv_at hl 4 rfl) ?_
  refine lv_iload hx hb dL_law_724 (lv_at hl 0 rfl) ?_
  refine lv_iconst (v := nI 2) hx hb dL_law_726 (by decide) ?_
  refine nr_iadd hx hb dL_law_727 ?_
  refine va_sld hx hb hX hbl hbA Z.2.2 (vp_in_nI (by omega) (by omega)) dL_law_728 ?_
  refine lv_aload_n hx hb dL_law_729 rfl (lv_at hl 1 rfl) ?_
  refine zk_callSLa (wr := wm) (wc := zk_oc1 g ho f :: wn) (cells' := cells + 1) (slots' := slots + 6) (rest := []) (n := 4) C NC Z hML q471 q472 q18 q473 (by decide +kernel) rfl (by show 9 + 1 ≤ R.frames; omega) (by show 8 + (5 + 11) + 60 * 9 ≤ R.locals; omega) hce hsl rfl rfl hl.1 rfl (Nat.le_of_ble_eq_true rfl) dL_law_730 (fun v w1 H locs hq Z => ?_)
  obtain ⟨rfl, f1, wn1, hN1, hf1, rfl⟩ := hq
  refine W.eq (g2 := F0 m 733 ls [.int (nI k)]) rfl ?_
  refine lv_istore (lv' := [(5, .int (nI k)), (4, .int (nI i)), (3, .ref ho), (2, .ref hm), (1, .ref hn), (0, .ref b)]) hx hb dL_law_733 hl (by decide) rfl (fun ls hl => ?_)
  have Z := Z.swap
  obtain ⟨fs8, he8⟩ := zk_wM_0 hM
  refine lv_aload_n hx hb dL_law_735 rfl (lv_at hl 3 rfl) ?_
  refine lv_aload_n hx hb dL_law_736 rfl (lv_at hl 5 rfl) ?_
  refine lv_iload hx hb dL_law_737 (lv_at hl 1 rfl) ?_
  refine lv_iconst (v := nI 1) hx hb dL_law_739 (by decide) ?_
  refine nr_iadd hx hb dL_law_740 ?_
  refine va_sld hx hb hX hbl hbA Z.2.2 (vp_in_nI (by omega) (by omega)) dL_law_741 ?_
  refine lv_aload_n hx hb dL_law_742 rfl (lv_at hl 5 rfl) ?_
  refine lv_iload hx hb dL_law_743 (lv_at hl 1 rfl) ?_
  refine lv_iconst (v := nI 2) hx hb dL_law_745 (by decide) ?_
  refine nr_iadd hx hb dL_law_746 ?_
  refine va_sld hx hb hX hbl hbA Z.2.2 (vp_in_nI (by omega) (by omega)) dL_law_747 ?_
  refine zk_callVa (wr := zk_oc1 g ho f1 :: wn1) (wc := wm) (cells' := cells + 1) (slots' := slots + 6) (rest := []) (n := 2) C Z hMM 0 7 rfl he8 rfl q731 q732 q733 q26 q734 (by decide +kernel) rfl (by show kf + 1 ≤ R.frames; omega) (by show 8 + (6 + 11) + 60 * kf ≤ R.locals; omega) (by show cells + 1 + 0 ≤ R.cells; omega) (by show slots + 6 + 0 ≤ R.slots; omega) rfl rfl hl.1 rfl (Nat.le_of_ble_eq_true rfl) dL_law_748 (fun v wm1 H locs hq Z => ?_)
  obtain ⟨⟨r', rfl, hr'⟩, hM1⟩ := hq
  refine W.eq (g2 := F0 m 751 ls [.int r']) rfl ?_
  refine lv_istore (lv' := [(6, .int r'), (5, .int (nI k)), (4, .int (nI i)), (3, .ref ho), (2, .ref hm), (1, .ref hn), (0, .ref b)]) hx hb dL_law_751 hl (by decide) rfl (fun ls hl => ?_)
  refine lv_aload_n hx hb dL_law_753 rfl (lv_at hl 4 rfl) ?_
  obtain ⟨fs9, he9⟩ := zk_wM_0 hM1
  refine zk_callVa (wr := zk_oc1 g ho f1 :: wn1) (wc := wm1) (cells' := cells + 1) (slots' := slots + 6) (rest := []) (n := 0) C Z (mn_thrown l D g hm k st1 wm1 hM1 hok1) 0 7 rfl he9 rfl q643 q644 q645 q26 q646 (by decide +kernel) rfl (by show 0 + 1 ≤ R.frames; omega) (by show 8 + (1 + 11) + 60 * 0 ≤ R.locals; omega) (by show cells + 1 + 0 ≤ R.cells; omega) (by show slots + 6 + 0 ≤ R.slots; omega) rfl rfl hl.1 rfl (Nat.le_of_ble_eq_true rfl) dL_law_754 (fun v wm2 H locs hq Z => ?_)
  obtain ⟨rfl, hM2⟩ := hq
  refine W.eq (g2 := F0 m 757 ls [.int (nI k)]) rfl ?_
  refine lv_iload hx hb dL_law_757 (lv_at hl 1 rfl) ?_
  refine lv_icmp_eq (tgt := 764) hx hb dL_law_759 (by decide) (fun _ => ?_) (fun h => absurd rfl h)
  refine lv_iload hx hb dL_law_764 (lv_at hl 1 rfl) ?_
  refine lv_if_ne (tgt := 781) hx hb dL_law_766 (by decide) (fun _ => ?_) (fun h0 => ?_)
  · refine lv_goto (tgt := 1000) hx hb dL_law_781 (by decide) ?_
    exact kk st1 k f1 wn1 wm2 H locs ls hok1 hN1 hM2 Z.swap (lv_sub hl [2, 3, 4, 5, 6] rfl)
  · have k0 : k = 0 := (zk_eq0 (by omega)).mp h0
    refine lv_aload_n hx hb dL_law_769 rfl (lv_at hl 3 rfl) ?_
    refine lv_iconst (v := nI 0) hx hb dL_law_770 (by decide) ?_
    refine va_lald hx hb C.2.1 Z.1 0 1 rfl rfl (vp_in_nI (by decide) (by decide)) dL_law_771 ?_
    refine lv_iload hx hb dL_law_772 (lv_at hl 0 rfl) ?_
    refine lv_i2l (v := r'.toInt64) hx hb dL_law_774 rfl ?_
    refine W.lcmp hx hb dL_law_775 ?_
    have e0 : lg_cmp (f1 (nI 0).toNatClampNeg) r'.toInt64 = 0 := by
      rw [show (nI 0).toNatClampNeg = 0 from by decide, hf1 k0, hr' k0]; exact zk_cmp0 _
    rw [e0]
    refine lv_if_eq (tgt := 781) hx hb dL_law_776 (by decide) (fun _ => ?_) (fun h => absurd rfl h)
    refine lv_goto (tgt := 1000) hx hb dL_law_781 (by decide) ?_
    exact kk st1 k f1 wn1 wm2 H locs ls hok1 hN1 hM2 Z.swap (lv_sub hl [2, 3, 4, 5, 6] rfl)
set_option maxHeartbeats 4000000 in
theorem lc_syndrome (C : zk_C p s m c args cL_law 7 "NoisyCodesLaw" D g A) (NC : zk_NC s) (hfl : l.flags = flags0) (hX : va_X b L xs s s.heap) (hbl : b < s.heap.size) (hbA : ¬ A b) (hL : L ≤ 256) (hfr : 20 ≤ R.frames) (hlo : 1000 ≤ R.locals) {i hn hm ho km : Nat} {f : Nat → Int64} {st : Option zk_P} {wn wm : va_W} (hi : i + 4 ≤ L) (hN : zk_wN g hn st wn) (hM : zk_wM g hm st km wm) (hok : zk_okO st) (Z : zk_Z D A s H locs (wm ++ (zk_oc1 g ho f :: wn))) {ls : Array Slot} (hl : lv_has ls 7 [(4, .int (nI i)), (3, .ref ho), (2, .ref hm), (1, .ref hn), (0, .ref b)]) (hce : cells + 1 ≤ R.cells) (hsl : slots + 6 ≤ R.slots) (kk : zk_K p l e R s m args below meth c Q D g A b hn hm ho i (cells + 1) (slots + 6)) : W p l e R s m args below meth c H locs cells slots Q (F0 m 784 ls []) := by
  have hx := C.1.1
  have hb := C.1.2.1
  obtain ⟨k, r, st1, hok1, k3, hML, kf, hkf, hMM⟩ := js_syndrome l hfl D g hn hm km ho f st wn wm hN hM hok (xs (nI (i + 1)).toNatClampNeg) (xs (nI (i + 2)).toNatClampNeg)
  refine lv_aload_n hx hb dL_law_784 rfl (lv_at hl 3 rfl) ?_
  refine lv_aload_n hx hb dL_law_785 rfl (lv_at hl 4 rfl) ?_
  refine lv_iload hx hb dL_law_786 (lv_at hl 0 rfl) ?_
  refine lv_iconst (v := nI 1) hx hb dL_law_788 (by decide) ?_
  refine nr_iadd hx hb dL_law_789 ?_
  refine va_sld hx hb hX hbl hbA Z.2.2 (vp_in_nI (by omega) (by omega)) dL_law_790 ?_
  refine lv_aload_n hx hb dL_law_791 rfl (lv_at hl 4 rfl) ?_
  refine lv_iload hx hb dL_law_792 (lv_at hl 0 rfl) ?_
  refine lv_iconst (v := nI 2) hx hb dL_law_794 (by decide) ?_
  refine nr_iadd hx hb dL_law_795 ?_
  refine va_sld hx hb hX hbl hbA Z.2.2 (vp_in_nI (by omega) (by omega)) dL_law_796 ?_
  refine lv_aload_n hx hb dL_law_797 rfl (lv_at hl 1 rfl) ?_
  refine zk_callSLa (wr := wm) (wc := zk_oc1 g ho f :: wn) (cells' := cells + 1) (slots' := slots + 6) (rest := []) (n := 4) C NC Z hML q479 q480 q18 q481 (by decide +kernel) rfl (by show 9 + 1 ≤ R.frames; omega) (by show 8 + (5 + 11) + 60 * 9 ≤ R.locals; omega) hce hsl rfl rfl hl.1 rfl (Nat.le_of_ble_eq_true rfl) dL_law_798 (fun v w1 H locs hq Z => ?_)
  obtain ⟨rfl, f1, wn1, hN1, hf1, rfl⟩ := hq
  refine W.eq (g2 := F0 m 801 ls [.int (nI k)]) rfl ?_
  refine lv_istore (lv' := [(5, .int (nI k)), (4, .int (nI i)), (3, .ref ho), (2, .ref hm), (1, .ref hn), (0, .ref b)]) hx hb dL_law_801 hl (by decide) rfl (fun ls hl => ?_)
  have Z := Z.swap
  obtain ⟨fs8, he8⟩ := zk_wM_0 hM
  refine lv_aload_n hx hb dL_law_803 rfl (lv_at hl 3 rfl) ?_
  refine lv_aload_n hx hb dL_law_804 rfl (lv_at hl 5 rfl) ?_
  refine lv_iload hx hb dL_law_805 (lv_at hl 1 rfl) ?_
  refine lv_iconst (v := nI 1) hx hb dL_law_807 (by decide) ?_
  refine nr_iadd hx hb dL_law_808 ?_
  refine va_sld hx hb hX hbl hbA Z.2.2 (vp_in_nI (by omega) (by omega)) dL_law_809 ?_
  refine lv_aload_n hx hb dL_law_810 rfl (lv_at hl 5 rfl) ?_
  refine lv_iload hx hb dL_law_811 (lv_at hl 1 rfl) ?_
  refine lv_iconst (v := nI 2) hx hb dL_law_813 (by decide) ?_
  refine nr_iadd hx hb dL_law_814 ?_
  refine va_sld hx hb hX hbl hbA Z.2.2 (vp_in_nI (by omega) (by omega)) dL_law_815 ?_
  refine zk_callVa (wr := zk_oc1 g ho f1 :: wn1) (wc := wm) (cells' := cells + 1) (slots' := slots + 6) (rest := []) (n := 2) C Z hMM 0 7 rfl he8 rfl q736 q737 q738 q26 q739 (by decide +kernel) rfl (by show kf + 1 ≤ R.frames; omega) (by show 8 + (5 + 11) + 60 * kf ≤ R.locals; omega) (by show cells + 1 + 0 ≤ R.cells; omega) (by show slots + 6 + 0 ≤ R.slots; omega) rfl rfl hl.1 rfl (Nat.le_of_ble_eq_true rfl) dL_law_816 (fun v wm1 H locs hq Z => ?_)
  obtain ⟨⟨r', rfl, hr'⟩, hM1⟩ := hq
  refine W.eq (g2 := F0 m 819 ls [.int r']) rfl ?_
  refine lv_istore (lv' := [(6, .int r'), (5, .int (nI k)), (4, .int (nI i)), (3, .ref ho), (2, .ref hm), (1, .ref hn), (0, .ref b)]) hx hb dL_law_819 hl (by decide) rfl (fun ls hl => ?_)
  refine lv_aload_n hx hb dL_law_821 rfl (lv_at hl 4 rfl) ?_
  obtain ⟨fs9, he9⟩ := zk_wM_0 hM1
  refine zk_callVa (wr := zk_oc1 g ho f1 :: wn1) (wc := wm1) (cells' := cells + 1) (slots' := slots + 6) (rest := []) (n := 0) C Z (mn_thrown l D g hm k st1 wm1 hM1 hok1) 0 7 rfl he9 rfl q643 q644 q645 q26 q646 (by decide +kernel) rfl (by show 0 + 1 ≤ R.frames; omega) (by show 8 + (1 + 11) + 60 * 0 ≤ R.locals; omega) (by show cells + 1 + 0 ≤ R.cells; omega) (by show slots + 6 + 0 ≤ R.slots; omega) rfl rfl hl.1 rfl (Nat.le_of_ble_eq_true rfl) dL_law_822 (fun v wm2 H locs hq Z => ?_)
  obtain ⟨rfl, hM2⟩ := hq
  refine W.eq (g2 := F0 m 825 ls [.int (nI k)]) rfl ?_
  refine lv_iload hx hb dL_law_825 (lv_at hl 1 rfl) ?_
  refine lv_icmp_eq (tgt := 832) hx hb dL_law_827 (by decide) (fun _ => ?_) (fun h => absurd rfl h)
  refine lv_iload hx hb dL_law_832 (lv_at hl 1 rfl) ?_
  refine lv_if_ne (tgt := 849) hx hb dL_law_834 (by decide) (fun _ => ?_) (fun h0 => ?_)
  · refine lv_goto (tgt := 1000) hx hb dL_law_849 (by decide) ?_
    exact kk st1 k f1 wn1 wm2 H locs ls hok1 hN1 hM2 Z.swap (lv_sub hl [2, 3, 4, 5, 6] rfl)
  · have k0 : k = 0 := (zk_eq0 (by omega)).mp h0
    refine lv_aload_n hx hb dL_law_837 rfl (lv_at hl 3 rfl) ?_
    refine lv_iconst (v := nI 0) hx hb dL_law_838 (by decide) ?_
    refine va_lald hx hb C.2.1 Z.1 0 1 rfl rfl (vp_in_nI (by decide) (by decide)) dL_law_839 ?_
    refine lv_iload hx hb dL_law_840 (lv_at hl 0 rfl) ?_
    refine lv_i2l (v := r'.toInt64) hx hb dL_law_842 rfl ?_
    refine W.lcmp hx hb dL_law_843 ?_
    have e0 : lg_cmp (f1 (nI 0).toNatClampNeg) r'.toInt64 = 0 := by
      rw [show (nI 0).toNatClampNeg = 0 from by decide, hf1 k0, hr' k0]; exact zk_cmp0 _
    rw [e0]
    refine lv_if_eq (tgt := 849) hx hb dL_law_844 (by decide) (fun _ => ?_) (fun h => absurd rfl h)
    refine lv_goto (tgt := 1000) hx hb dL_law_849 (by decide) ?_
    exact kk st1 k f1 wn1 wm2 H locs ls hok1 hN1 hM2 Z.swap (lv_sub hl [2, 3, 4, 5, 6] rfl)
set_option maxHeartbeats 4000000 in
theorem lc_decode (C : zk_C p s m c args cL_law 7 "NoisyCodesLaw" D g A) (NC : zk_NC s) (hfl : l.flags = flags0) (hX : va_X b L xs s s.heap) (hbl : b < s.heap.size) (hbA : ¬ A b) (hL : L ≤ 256) (hfr : 20 ≤ R.frames) (hlo : 1000 ≤ R.locals) {i hn hm ho km : Nat} {f : Nat → Int64} {st : Option zk_P} {wn wm : va_W} (hi : i + 4 ≤ L) (hN : zk_wN g hn st wn) (hM : zk_wM g hm st km wm) (hok : zk_okO st) (Z : zk_Z D A s H locs (wm ++ (zk_oc1 g ho f :: wn))) {ls : Array Slot} (hl : lv_has ls 7 [(4, .int (nI i)), (3, .ref ho), (2, .ref hm), (1, .ref hn), (0, .ref b)]) (hce : cells + 1 ≤ R.cells) (hsl : slots + 6 ≤ R.slots) (kk : zk_K p l e R s m args below meth c Q D g A b hn hm ho i (cells + 1) (slots + 6)) : W p l e R s m args below meth c H locs cells slots Q (F0 m 852 ls []) := by
  have hx := C.1.1
  have hb := C.1.2.1
  obtain ⟨k, r, st1, hok1, k3, hML, kf, hkf, hMM⟩ := js_decode l hfl D g hn hm km ho f st wn wm hN hM hok (xs (nI (i + 1)).toNatClampNeg)
  refine lv_aload_n hx hb dL_law_852 rfl (lv_at hl 3 rfl) ?_
  refine lv_aload_n hx hb dL_law_853 rfl (lv_at hl 4 rfl) ?_
  refine lv_iload hx hb dL_law_854 (lv_at hl 0 rfl) ?_
  refine lv_iconst (v := nI 1) hx hb dL_law_856 (by decide) ?_
  refine nr_iadd hx hb dL_law_857 ?_
  refine va_sld hx hb hX hbl hbA Z.2.2 (vp_in_nI (by omega) (by omega)) dL_law_858 ?_
  refine lv_aload_n hx hb dL_law_859 rfl (lv_at hl 1 rfl) ?_
  refine zk_callSLa (wr := wm) (wc := zk_oc1 g ho f :: wn) (cells' := cells + 1) (slots' := slots + 6) (rest := []) (n := 3) C NC Z hML q487 q488 q18 q489 (by decide +kernel) rfl (by show 9 + 1 ≤ R.frames; omega) (by show 8 + (4 + 11) + 60 * 9 ≤ R.locals; omega) hce hsl rfl rfl hl.1 rfl (Nat.le_of_ble_eq_true rfl) dL_law_860 (fun v w1 H locs hq Z => ?_)
  obtain ⟨rfl, f1, wn1, hN1, hf1, rfl⟩ := hq
  refine W.eq (g2 := F0 m 863 ls [.int (nI k)]) rfl ?_
  refine lv_istore (lv' := [(5, .int (nI k)), (4, .int (nI i)), (3, .ref ho), (2, .ref hm), (1, .ref hn), (0, .ref b)]) hx hb dL_law_863 hl (by decide) rfl (fun ls hl => ?_)
  have Z := Z.swap
  obtain ⟨fs8, he8⟩ := zk_wM_0 hM
  refine lv_aload_n hx hb dL_law_865 rfl (lv_at hl 3 rfl) ?_
  refine lv_aload_n hx hb dL_law_866 rfl (lv_at hl 5 rfl) ?_
  refine lv_iload hx hb dL_law_867 (lv_at hl 1 rfl) ?_
  refine lv_iconst (v := nI 1) hx hb dL_law_869 (by decide) ?_
  refine nr_iadd hx hb dL_law_870 ?_
  refine va_sld hx hb hX hbl hbA Z.2.2 (vp_in_nI (by omega) (by omega)) dL_law_871 ?_
  refine zk_callVa (wr := zk_oc1 g ho f1 :: wn1) (wc := wm) (cells' := cells + 1) (slots' := slots + 6) (rest := []) (n := 1) C Z hMM 0 7 rfl he8 rfl q740 q741 q742 q26 q743 (by decide +kernel) rfl (by show kf + 1 ≤ R.frames; omega) (by show 8 + (3 + 11) + 60 * kf ≤ R.locals; omega) (by show cells + 1 + 0 ≤ R.cells; omega) (by show slots + 6 + 0 ≤ R.slots; omega) rfl rfl hl.1 rfl (Nat.le_of_ble_eq_true rfl) dL_law_872 (fun v wm1 H locs hq Z => ?_)
  obtain ⟨⟨r', rfl, hr'⟩, hM1⟩ := hq
  refine W.eq (g2 := F0 m 875 ls [.int r']) rfl ?_
  refine lv_istore (lv' := [(6, .int r'), (5, .int (nI k)), (4, .int (nI i)), (3, .ref ho), (2, .ref hm), (1, .ref hn), (0, .ref b)]) hx hb dL_law_875 hl (by decide) rfl (fun ls hl => ?_)
  refine lv_aload_n hx hb dL_law_877 rfl (lv_at hl 4 rfl) ?_
  obtain ⟨fs9, he9⟩ := zk_wM_0 hM1
  refine zk_callVa (wr := zk_oc1 g ho f1 :: wn1) (wc := wm1) (cells' := cells + 1) (slots' := slots + 6) (rest := []) (n := 0) C Z (mn_thrown l D g hm k st1 wm1 hM1 hok1) 0 7 rfl he9 rfl q643 q644 q645 q26 q646 (by decide +kernel) rfl (by show 0 + 1 ≤ R.frames; omega) (by show 8 + (1 + 11) + 60 * 0 ≤ R.locals; omega) (by show cells + 1 + 0 ≤ R.cells; omega) (by show slots + 6 + 0 ≤ R.slots; omega) rfl rfl hl.1 rfl (Nat.le_of_ble_eq_true rfl) dL_law_878 (fun v wm2 H locs hq Z => ?_)
  obtain ⟨rfl, hM2⟩ := hq
  refine W.eq (g2 := F0 m 881 ls [.int (nI k)]) rfl ?_
  refine lv_iload hx hb dL_law_881 (lv_at hl 1 rfl) ?_
  refine lv_icmp_eq (tgt := 888) hx hb dL_law_883 (by decide) (fun _ => ?_) (fun h => absurd rfl h)
  refine lv_iload hx hb dL_law_888 (lv_at hl 1 rfl) ?_
  refine lv_if_ne (tgt := 905) hx hb dL_law_890 (by decide) (fun _ => ?_) (fun h0 => ?_)
  · refine lv_goto (tgt := 1000) hx hb dL_law_905 (by decide) ?_
    exact kk st1 k f1 wn1 wm2 H locs ls hok1 hN1 hM2 Z.swap (lv_sub hl [2, 3, 4, 5, 6] rfl)
  · have k0 : k = 0 := (zk_eq0 (by omega)).mp h0
    refine lv_aload_n hx hb dL_law_893 rfl (lv_at hl 3 rfl) ?_
    refine lv_iconst (v := nI 0) hx hb dL_law_894 (by decide) ?_
    refine va_lald hx hb C.2.1 Z.1 0 1 rfl rfl (vp_in_nI (by decide) (by decide)) dL_law_895 ?_
    refine lv_iload hx hb dL_law_896 (lv_at hl 0 rfl) ?_
    refine lv_i2l (v := r'.toInt64) hx hb dL_law_898 rfl ?_
    refine W.lcmp hx hb dL_law_899 ?_
    have e0 : lg_cmp (f1 (nI 0).toNatClampNeg) r'.toInt64 = 0 := by
      rw [show (nI 0).toNatClampNeg = 0 from by decide, hf1 k0, hr' k0]; exact zk_cmp0 _
    rw [e0]
    refine lv_if_eq (tgt := 905) hx hb dL_law_900 (by decide) (fun _ => ?_) (fun h => absurd rfl h)
    refine lv_goto (tgt := 1000) hx hb dL_law_905 (by decide) ?_
    exact kk st1 k f1 wn1 wm2 H locs ls hok1 hN1 hM2 Z.swap (lv_sub hl [2, 3, 4, 5, 6] rfl)
set_option maxHeartbeats 4000000 in
theorem lc_save (C : zk_C p s m c args cL_law 7 "NoisyCodesLaw" D g A) (NC : zk_NC s) (hfl : l.flags = flags0) (hX : va_X b L xs s s.heap) (hbl : b < s.heap.size) (hbA : ¬ A b) (hL : L ≤ 256) (hfr : 20 ≤ R.frames) (hlo : 1000 ≤ R.locals) {i hn hm ho km : Nat} {f : Nat → Int64} {st : Option zk_P} {wn wm : va_W} (hi : i + 4 ≤ L) (hN : zk_wN g hn st wn) (hM : zk_wM g hm st km wm) (hok : zk_okO st) (Z : zk_Z D A s H locs (wm ++ (zk_oc1 g ho f :: wn))) {ls : Array Slot} (hl : lv_has ls 7 [(4, .int (nI i)), (3, .ref ho), (2, .ref hm), (1, .ref hn), (0, .ref b)]) (hce : cells + 1 ≤ R.cells) (hsl : slots + 6 ≤ R.slots) (kk : zk_K p l e R s m args below meth c Q D g A b hn hm ho i (cells + 1) (slots + 6)) : W p l e R s m args below meth c H locs cells slots Q (F0 m 908 ls []) := by
  have hx := C.1.1
  have hb := C.1.2.1
  obtain ⟨k, st1, hok1, k3, hML, kf, hkf, hMM⟩ := js_save l hfl D g hn hm km st wn wm hN hM hok (xs (nI (i + 1)).toNatClampNeg)
  refine lv_aload_n hx hb dL_law_908 rfl (lv_at hl 3 rfl) ?_
  refine lv_aload_n hx hb dL_law_909 rfl (lv_at hl 4 rfl) ?_
  refine lv_iload hx hb dL_law_910 (lv_at hl 0 rfl) ?_
  refine lv_iconst (v := nI 1) hx hb dL_law_912 (by decide) ?_
  refine nr_iadd hx hb dL_law_913 ?_
  refine va_sld hx hb hX hbl hbA Z.2.2 (vp_in_nI (by omega) (by omega)) dL_law_914 ?_
  have Z : zk_Z D A s H locs ((wm ++ [zk_oc1 g ho f]) ++ wn) := by rw [List.append_assoc]; exact Z
  refine zk_callSLa (wr := wm ++ [zk_oc1 g ho f]) (wc := wn) (cells' := cells + 1) (slots' := slots + 6) (rest := []) (n := 2) C NC Z hML q576 q577 q18 q578 (by decide +kernel) rfl (by show 9 + 1 ≤ R.frames; omega) (by show 8 + (3 + 11) + 60 * 9 ≤ R.locals; omega) hce hsl rfl rfl hl.1 rfl (Nat.le_of_ble_eq_true rfl) dL_law_915 (fun v w1 H locs hq Z => ?_)
  obtain ⟨rfl, hN1⟩ := hq
  have Z : zk_Z D A s H locs (wm ++ (zk_oc1 g ho f :: w1)) := by rw [List.append_assoc] at Z; exact Z
  refine W.eq (g2 := F0 m 918 ls [.int (nI k)]) rfl ?_
  refine lv_istore (lv' := [(5, .int (nI k)), (4, .int (nI i)), (3, .ref ho), (2, .ref hm), (1, .ref hn), (0, .ref b)]) hx hb dL_law_918 hl (by decide) rfl (fun ls hl => ?_)
  have Z := Z.swap
  obtain ⟨fs8, he8⟩ := zk_wM_0 hM
  refine lv_aload_n hx hb dL_law_920 rfl (lv_at hl 3 rfl) ?_
  refine lv_aload_n hx hb dL_law_921 rfl (lv_at hl 5 rfl) ?_
  refine lv_iload hx hb dL_law_922 (lv_at hl 1 rfl) ?_
  refine lv_iconst (v := nI 1) hx hb dL_law_924 (by decide) ?_
  refine nr_iadd hx hb dL_law_925 ?_
  refine va_sld hx hb hX hbl hbA Z.2.2 (vp_in_nI (by omega) (by omega)) dL_law_926 ?_
  refine zk_callVa (wr := zk_oc1 g ho f :: w1) (wc := wm) (cells' := cells + 1) (slots' := slots + 6) (rest := []) (n := 1) C Z hMM 0 7 rfl he8 rfl q756 q757 q758 q26 q759 (by decide +kernel) rfl (by show kf + 1 ≤ R.frames; omega) (by show 8 + (3 + 11) + 60 * kf ≤ R.locals; omega) (by show cells + 1 + 0 ≤ R.cells; omega) (by show slots + 6 + 0 ≤ R.slots; omega) rfl rfl hl.1 rfl (Nat.le_of_ble_eq_true rfl) dL_law_927 (fun v wm1 H locs hq Z => ?_)
  obtain ⟨rfl, hM1⟩ := hq
  refine W.eq (g2 := F0 m 930 ls []) rfl ?_
  refine lv_aload_n hx hb dL_law_930 rfl (lv_at hl 3 rfl) ?_
  obtain ⟨fs9, he9⟩ := zk_wM_0 hM1
  refine zk_callVa (wr := zk_oc1 g ho f :: w1) (wc := wm1) (cells' := cells + 1) (slots' := slots + 6) (rest := []) (n := 0) C Z (mn_thrown l D g hm k st1 wm1 hM1 hok1) 0 7 rfl he9 rfl q643 q644 q645 q26 q646 (by decide +kernel) rfl (by show 0 + 1 ≤ R.frames; omega) (by show 8 + (1 + 11) + 60 * 0 ≤ R.locals; omega) (by show cells + 1 + 0 ≤ R.cells; omega) (by show slots + 6 + 0 ≤ R.slots; omega) rfl rfl hl.1 rfl (Nat.le_of_ble_eq_true rfl) dL_law_931 (fun v wm2 H locs hq Z => ?_)
  obtain ⟨rfl, hM2⟩ := hq
  refine W.eq (g2 := F0 m 934 ls [.int (nI k)]) rfl ?_
  refine lv_iload hx hb dL_law_934 (lv_at hl 0 rfl) ?_
  refine lv_icmp_eq (tgt := 941) hx hb dL_law_936 (by decide) (fun _ => ?_) (fun h => absurd rfl h)
  refine lv_goto (tgt := 1000) hx hb dL_law_941 (by decide) ?_
  exact kk st1 k f w1 wm2 H locs ls hok1 hN1 hM2 Z.swap (lv_sub hl [1, 2, 3, 4, 5] rfl)
set_option maxHeartbeats 4000000 in
theorem lc_load (C : zk_C p s m c args cL_law 7 "NoisyCodesLaw" D g A) (NC : zk_NC s) (hfl : l.flags = flags0) (hX : va_X b L xs s s.heap) (hbl : b < s.heap.size) (hbA : ¬ A b) (hL : L ≤ 256) (hfr : 20 ≤ R.frames) (hlo : 1000 ≤ R.locals) {i hn hm ho km : Nat} {f : Nat → Int64} {st : Option zk_P} {wn wm : va_W} (hi : i + 4 ≤ L) (hN : zk_wN g hn st wn) (hM : zk_wM g hm st km wm) (hok : zk_okO st) (Z : zk_Z D A s H locs (wm ++ (zk_oc1 g ho f :: wn))) {ls : Array Slot} (hl : lv_has ls 7 [(4, .int (nI i)), (3, .ref ho), (2, .ref hm), (1, .ref hn), (0, .ref b)]) (hce : cells + 1 ≤ R.cells) (hsl : slots + 6 ≤ R.slots) (kk : zk_K p l e R s m args below meth c Q D g A b hn hm ho i (cells + 1) (slots + 6)) : W p l e R s m args below meth c H locs cells slots Q (F0 m 944 ls []) := by
  have hx := C.1.1
  have hb := C.1.2.1
  obtain ⟨k, r, st1, hok1, k3, hML, kf, hkf, hMM⟩ := js_load l hfl D g hn hm km ho f st wn wm hN hM hok (xs (nI (i + 1)).toNatClampNeg)
  refine lv_aload_n hx hb dL_law_944 rfl (lv_at hl 3 rfl) ?_
  refine lv_aload_n hx hb dL_law_945 rfl (lv_at hl 4 rfl) ?_
  refine lv_iload hx hb dL_law_946 (lv_at hl 0 rfl) ?_
  refine lv_iconst (v := nI 1) hx hb dL_law_948 (by decide) ?_
  refine nr_iadd hx hb dL_law_949 ?_
  refine va_sld hx hb hX hbl hbA Z.2.2 (vp_in_nI (by omega) (by omega)) dL_law_950 ?_
  refine lv_aload_n hx hb dL_law_951 rfl (lv_at hl 1 rfl) ?_
  refine zk_callSLa (wr := wm) (wc := zk_oc1 g ho f :: wn) (cells' := cells + 1) (slots' := slots + 6) (rest := []) (n := 3) C NC Z hML q584 q585 q18 q586 (by decide +kernel) rfl (by show 9 + 1 ≤ R.frames; omega) (by show 8 + (4 + 11) + 60 * 9 ≤ R.locals; omega) hce hsl rfl rfl hl.1 rfl (Nat.le_of_ble_eq_true rfl) dL_law_952 (fun v w1 H locs hq Z => ?_)
  obtain ⟨rfl, f1, wn1, hN1, hf1, rfl⟩ := hq
  refine W.eq (g2 := F0 m 955 ls [.int (nI k)]) rfl ?_
  refine lv_istore (lv' := [(5, .int (nI k)), (4, .int (nI i)), (3, .ref ho), (2, .ref hm), (1, .ref hn), (0, .ref b)]) hx hb dL_law_955 hl (by decide) rfl (fun ls hl => ?_)
  have Z := Z.swap
  obtain ⟨fs8, he8⟩ := zk_wM_0 hM
  refine lv_aload_n hx hb dL_law_957 rfl (lv_at hl 3 rfl) ?_
  refine lv_aload_n hx hb dL_law_958 rfl (lv_at hl 5 rfl) ?_
  refine lv_iload hx hb dL_law_959 (lv_at hl 1 rfl) ?_
  refine lv_iconst (v := nI 1) hx hb dL_law_961 (by decide) ?_
  refine nr_iadd hx hb dL_law_962 ?_
  refine va_sld hx hb hX hbl hbA Z.2.2 (vp_in_nI (by omega) (by omega)) dL_law_963 ?_
  refine zk_callVa (wr := zk_oc1 g ho f1 :: wn1) (wc := wm) (cells' := cells + 1) (slots' := slots + 6) (rest := []) (n := 1) C Z hMM 0 7 rfl he8 rfl q760 q761 q762 q26 q763 (by decide +kernel) rfl (by show kf + 1 ≤ R.frames; omega) (by show 8 + (4 + 11) + 60 * kf ≤ R.locals; omega) (by show cells + 1 + 0 ≤ R.cells; omega) (by show slots + 6 + 0 ≤ R.slots; omega) rfl rfl hl.1 rfl (Nat.le_of_ble_eq_true rfl) dL_law_964 (fun v wm1 H locs hq Z => ?_)
  obtain ⟨⟨r', rfl, hr'⟩, hM1⟩ := hq
  refine W.eq (g2 := F0 m 967 ls [.int r']) rfl ?_
  refine lv_istore (lv' := [(6, .int r'), (5, .int (nI k)), (4, .int (nI i)), (3, .ref ho), (2, .ref hm), (1, .ref hn), (0, .ref b)]) hx hb dL_law_967 hl (by decide) rfl (fun ls hl => ?_)
  refine lv_aload_n hx hb dL_law_969 rfl (lv_at hl 4 rfl) ?_
  obtain ⟨fs9, he9⟩ := zk_wM_0 hM1
  refine zk_callVa (wr := zk_oc1 g ho f1 :: wn1) (wc := wm1) (cells' := cells + 1) (slots' := slots + 6) (rest := []) (n := 0) C Z (mn_thrown l D g hm k st1 wm1 hM1 hok1) 0 7 rfl he9 rfl q643 q644 q645 q26 q646 (by decide +kernel) rfl (by show 0 + 1 ≤ R.frames; omega) (by show 8 + (1 + 11) + 60 * 0 ≤ R.locals; omega) (by show cells + 1 + 0 ≤ R.cells; omega) (by show slots + 6 + 0 ≤ R.slots; omega) rfl rfl hl.1 rfl (Nat.le_of_ble_eq_true rfl) dL_law_970 (fun v wm2 H locs hq Z => ?_)
  obtain ⟨rfl, hM2⟩ := hq
  refine W.eq (g2 := F0 m 973 ls [.int (nI k)]) rfl ?_
  refine lv_iload hx hb dL_law_973 (lv_at hl 1 rfl) ?_
  refine lv_icmp_eq (tgt := 980) hx hb dL_law_975 (by decide) (fun _ => ?_) (fun h => absurd rfl h)
  refine lv_iload hx hb dL_law_980 (lv_at hl 1 rfl) ?_
  refine lv_if_ne (tgt := 997) hx hb dL_law_982 (by decide) (fun _ => ?_) (fun h0 => ?_)
  · refine lv_goto (tgt := 1000) hx hb dL_law_997 (by decide) ?_
    exact kk st1 k f1 wn1 wm2 H locs ls hok1 hN1 hM2 Z.swap (lv_sub hl [2, 3, 4, 5, 6] rfl)
  · have k0 : k = 0 := (zk_eq0 (by omega)).mp h0
    refine lv_aload_n hx hb dL_law_985 rfl (lv_at hl 3 rfl) ?_
    refine lv_iconst (v := nI 0) hx hb dL_law_986 (by decide) ?_
    refine va_lald hx hb C.2.1 Z.1 0 1 rfl rfl (vp_in_nI (by decide) (by decide)) dL_law_987 ?_
    refine lv_iload hx hb dL_law_988 (lv_at hl 0 rfl) ?_
    refine lv_i2l (v := r'.toInt64) hx hb dL_law_990 rfl ?_
    refine W.lcmp hx hb dL_law_991 ?_
    have e0 : lg_cmp (f1 (nI 0).toNatClampNeg) r'.toInt64 = 0 := by
      rw [show (nI 0).toNatClampNeg = 0 from by decide, hf1 k0, hr' k0]; exact zk_cmp0 _
    rw [e0]
    refine lv_if_eq (tgt := 997) hx hb dL_law_992 (by decide) (fun _ => ?_) (fun h => absurd rfl h)
    refine lv_goto (tgt := 1000) hx hb dL_law_997 (by decide) ?_
    exact kk st1 k f1 wn1 wm2 H locs ls hok1 hN1 hM2 Z.swap (lv_sub hl [2, 3, 4, 5, 6] rfl)
end
