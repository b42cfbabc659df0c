/-! ===== decode and load: both mend alike ===== -/
set_option maxRecDepth 100000
abbrev zk_rs (st : zk_P) : Nat → Nat := rst (gnr st.1 (zk_nn st.1) st.2.1) (lgn st.1 (zk_nn st.1) st.2.1)
/-- a word that can be mended -/
def zk_me (st : zk_P) (x : Nat) : Prop := eof (zk_rs st) st.2.1 (zk_nn st.1) x = some (eor (zk_rs st) st.2.1 (zk_nn st.1) x)
theorem zk_me_or (st : zk_P) (x : Nat) : zk_me st x ∨ eof (zk_rs st) st.2.1 (zk_nn st.1) x = none := by
  unfold zk_me eor
  cases eof (zk_rs st) st.2.1 (zk_nn st.1) x with
  | none => exact Or.inr rfl
  | some e => exact Or.inl rfl
theorem eor_lt {st : zk_P} (hok : zk_okP st) (x : Nat) : eor (zk_rs st) st.2.1 (zk_nn st.1) x < 2 ^ zk_nn st.1 := by
  unfold eor
  cases h : eof (zk_rs st) st.2.1 (zk_nn st.1) x with
  | none => exact Nat.two_pow_pos _
  | some e =>
    unfold eof at h
    split at h
    · cases h; exact Nat.two_pow_pos _
    · exact (ways_found hok.1 hok.2.1.1 hok.2.1.2 0 h).2.2.2
theorem mdd_me {st : zk_P} (hok : zk_okP st) (wy : Nat) {x : Nat} (h : zk_me st x) : mdd wy st.1 (zk_nn st.1) st.2.1 x = some (mdr wy st.1 (zk_nn st.1) st.2.1 x) ∧ mdr wy st.1 (zk_nn st.1) st.2.1 x = x ^^^ eor (zk_rs st) st.2.1 (zk_nn st.1) x := by
  have e := mdd_eof hok.1 hok.2.1.1 hok.2.1.2 wy x
  unfold zk_me zk_rs at h
  rw [h] at e
  unfold mdr
  rw [e]
  exact ⟨rfl, rfl⟩
theorem mdd_no {st : zk_P} (hok : zk_okP st) (wy : Nat) {x : Nat} (h : eof (zk_rs st) st.2.1 (zk_nn st.1) x = none) : mdd wy st.1 (zk_nn st.1) st.2.1 x = none := by
  rw [mdd_eof hok.1 hok.2.1.1 hok.2.1.2 wy x]
  unfold zk_rs at h
  rw [h]; rfl
/-- all can be mended, or there is a first one that can't -/
theorem zk_firsts (st : zk_P) (W : Nat → Nat) : ∀ d, (∀ j, j < d → zk_me st (W j)) ∨ ∃ up, up < d ∧ (∀ j, j < up → zk_me st (W j)) ∧ eof (zk_rs st) st.2.1 (zk_nn st.1) (W up) = none := by
  intro d
  induction d with
  | zero => exact Or.inl (fun j h => by omega)
  | succ d ih =>
    rcases ih with h | ⟨up, h1, h2, h3⟩
    · rcases zk_me_or st (W d) with h4 | h4
      · exact Or.inl (fun j hj => if z : j = d then z ▸ h4 else h j (by omega))
      · exact Or.inr ⟨d, by omega, h, h4⟩
    · exact Or.inr ⟨up, by omega, h2, h3⟩
theorem moD_g {R : Nat → Nat} {t n : Nat} {W : Nat → Nat} {k : Nat} {D : List Nat} (hk : k ≤ D.length) (j : Nat) : (zk_it (moD R t n W) k 0 D).getD j 0 = if j < k then W j ^^^ eor R t n (W j) else D.getD j 0 := by
  rw [List.getD_eq_getElem?_getD]
  have h := zk_fill (fun j => W j ^^^ eor R t n (W j)) k 0 D (by omega) j
  have e : (zk_it (moD R t n W) k 0 D)[j]? = if 0 ≤ j ∧ j < 0 + k then some (W j ^^^ eor R t n (W j)) else D[j]? := h
  rw [e]
  by_cases q : j < k
  · rw [if_pos (by omega), if_pos q]; rfl
  · rw [if_neg (by omega), if_neg q, List.getD_eq_getElem?_getD]
theorem md_M {st : zk_P} (hok : zk_okP st) (wy : Nat) {W : Nat → Nat} {Ws Ds : List Nat} (hall : ∀ j, j < st.2.2.1 → zk_me st (W j)) (hw : ∀ j, j < st.2.2.1 → W j = Ws.getD j 0) (hD : Ds.length = 4) (ck : Nat) (Ms : List Nat) : zk_it (tkM ck (zk_it (moD (zk_rs st) st.2.1 (zk_nn st.1) W) st.2.2.1 0 Ds)) st.2.2.1 0 Ms = mdM wy st.1 (zk_nn st.1) st.2.1 st.2.2.1 ck Ws Ms := by
  refine zk_it_congr _ _ _ (fun j M _ h2 => ?_)
  unfold tkM
  rw [moD_g (by have := hok.2.2.1.2; omega), if_pos (by omega), ← (mdd_me hok wy (hall j (by omega))).2, hw j (by omega)]
theorem md_C {st : zk_P} (hok : zk_okP st) (wy : Nat) {W : Nat → Nat} {Ws Ds : List Nat} (hall : ∀ j, j < st.2.2.1 → zk_me st (W j)) (hw : ∀ j, j < st.2.2.1 → W j = Ws.getD j 0) (hD : Ds.length = 4) (Cs : List Nat) : zk_it (tkC (zk_it (moD (zk_rs st) st.2.1 (zk_nn st.1) W) st.2.2.1 0 Ds)) st.2.2.1 0 Cs = mdC wy st.1 (zk_nn st.1) st.2.1 st.2.2.1 Ws Cs := by
  refine zk_it_congr _ _ _ (fun j M _ h2 => ?_)
  unfold tkC
  rw [moD_g (by have := hok.2.2.1.2; omega), if_pos (by omega), ← (mdd_me hok wy (hall j (by omega))).2, hw j (by omega)]
theorem md_N {st : zk_P} (hok : zk_okP st) (wy : Nat) {W : Nat → Nat} {Ws : List Nat} (hall : ∀ j, j < st.2.2.1 → zk_me st (W j)) (hw : ∀ j, j < st.2.2.1 → W j = Ws.getD j 0) : zk_it (moN (zk_rs st) st.2.1 (zk_nn st.1) W) st.2.2.1 0 0 = mdN wy st.1 (zk_nn st.1) st.2.1 st.2.2.1 Ws := by
  have hn9 := zk_okn hok
  refine zk_it_congr _ _ _ (fun j s _ h2 => ?_)
  unfold moN
  have h := (mdd_me hok wy (hall j (by omega))).2
  rw [← hw j (by omega), h, Nat.xor_comm (W j), Nat.xor_assoc, Nat.xor_self, Nat.xor_zero, bct_one (zk_p31 (eor_lt hok _) (by omega))]
theorem zk_r31 {st : zk_P} (hok : zk_okP st) (i : Nat) (hi : i < zk_nn st.1) : zk_rs st i < 2 ^ 31 := by
  obtain ⟨h1, -, h3, -, -⟩ := rsv_ok _ hok.1 st.2.1 (by have := hok.2.1; omega) hok.2.1.1
  dsimp only at h1 h3
  exact zk_p31 (h1 i (by omega)).2 (by omega)
theorem zk_rem31 {st : zk_P} (hok : zk_okP st) (x : Nat) : rmd (zk_rs st) (zk_nn st.1) x < 2 ^ 31 := by
  have hn9 := zk_okn hok
  exact zk_p31 (rem_lt hok.1 hok.2.1.1 hok.2.1.2) (by omega)
theorem fm_01245 {l : Launch} {y : MethodName} {ws : List Cond} {rm : Room} {D : va_G} {g : G4} {As : List Value} {x0 x1 x2 x3 x4 x5 x6 : Nat × va_E} {Qx Qx' : Option Value → va_W → Prop} (hM : zk_M l y ws rm D g As [x0, x1, x2, x4, x5] Qx) (hq : ∀ v w1, Qx v w1 → ∃ y0 y1 y2 y4 y5, w1 = [y0, y1, y2, y4, y5] ∧ Qx' v [y0, y1, y2, x3, y4, y5, x6]) : zk_M l y ws rm D g As [x0, x1, x2, x3, x4, x5, x6] Qx' :=
  zk_M.frame (wr := [x3, x6]) hM [0, 1, 2, 4, 5] [3, 6] rfl rfl (by decide +kernel) (by decide +kernel) (by decide +kernel) (fun v w1 h => by obtain ⟨y0, y1, y2, y4, y5, rfl, h2⟩ := hq v w1 h; exact ⟨_, h2, [2, 3, 4, 0, 5, 6, 1], by decide +kernel, rfl⟩)
set_option maxHeartbeats 4000000 in
theorem mn_dec (l : Launch) (D : va_G) (g : G4) (hm km : Nat) (st : zk_P) (w : va_W) (hB : zk_wMB g hm st km w) (hok : zk_okP st) (x wy : Nat) (x2 : x ≤ 2) (hall : ∀ j, j < st.2.2.1 → zk_me st (st.2.2.2.2.1.getD j 0)) : zk_M l yX8_decode (ws_ yX8_decode cX8_decode 3 (some .int)) (zk_R 3 0 0) D g [.ref hm, .int (nI x)] w (fun r_ w2 => r_ = some (.int (nI (mdN wy st.1 (zk_nn st.1) st.2.1 st.2.2.1 st.2.2.2.2.1))) ∧ zk_wMB g hm (st.1, st.2.1, st.2.2.1, mdM wy st.1 (zk_nn st.1) st.2.1 st.2.2.1 (zk_nn st.1 - kdn st.1 st.2.1) st.2.2.2.2.1 st.2.2.2.1, mdC wy st.1 (zk_nn st.1) st.2.1 st.2.2.1 st.2.2.2.2.1 st.2.2.2.2.1, st.2.2.2.2.2) 0 w2) := by
  obtain ⟨A, Ks, Ds, Rs, Pp, hK, hD, hRl, hPl, hR, rfl⟩ := hB
  have hok0 := hok
  obtain ⟨o1, ⟨o2, o3⟩, ⟨o4, o5⟩, o6, o7, o8, o9, o10, o11, o12, o13⟩ := hok0
  have hn9 := zk_okn hok
  have ek : (zk_nn st.1 - kdn st.1 st.2.1) = lgn st.1 (zk_nn st.1) st.2.1 := by omega
  have eM := md_M hok wy (W := (fun w => st.2.2.2.2.1.getD w 0)) (Ws := st.2.2.2.2.1) hall (fun _ _ => rfl) hD (lgn st.1 (zk_nn st.1) st.2.1) st.2.2.2.1
  have eC := md_C hok wy (W := (fun w => st.2.2.2.2.1.getD w 0)) (Ws := st.2.2.2.2.1) hall (fun _ _ => rfl) hD st.2.2.2.2.1
  have eN := md_N hok wy (W := (fun w => st.2.2.2.2.1.getD w 0)) (Ws := st.2.2.2.2.1) hall (fun _ _ => rfl)
  rw [ek]
  exact fm_01245 (m8_dec l D g hm (A 0) (A 1) (A 2) (A 3) (A 4) (A 5) km st.1 (mdg st.1) (zk_nn st.1) st.2.1 st.2.2.1 (gnr st.1 (zk_nn st.1) st.2.1) (lgn st.1 (zk_nn st.1) st.2.1) Rs hRl (zk_rs st) hR (by omega) (fun i hi => zk_r31 hok i hi) o3 st.2.2.2.2.1 o7 o5 (fun j _ => ⟨zk_p31 (o10 j) (by omega), zk_rem31 hok _, zk_p31 (eor_lt hok _) (by omega)⟩) (by omega) st.2.2.2.1 Ds o6 hD x x2 hall) (fun v w1 hQ => by
    obtain ⟨rfl, rfl⟩ := hQ
    rw [eM, eC, eN]
    exact ⟨_, _, _, _, _, rfl, rfl, A, Ks, _, Rs, Pp, hK, by rw [moD_len]; exact hD, hRl, hPl, hR, rfl⟩)
theorem fm_0245 {l : Launch} {y : MethodName} {ws : List Cond} {rm : Room} {D : va_G} {g : G4} {As : List Value} {x0 x1 x2 x3 x4 x5 x6 : Nat × va_E} {Qx Qx' : Option Value → va_W → Prop} (hM : zk_M l y ws rm D g As [x0, x2, x4, x5] Qx) (hq : ∀ v w1, Qx v w1 → ∃ y0 y2 y4 y5, w1 = [y0, y2, y4, y5] ∧ Qx' v [y0, x1, y2, x3, y4, y5, x6]) : zk_M l y ws rm D g As [x0, x1, x2, x3, x4, x5, x6] Qx' :=
  zk_M.frame (wr := [x1, x3, x6]) hM [0, 2, 4, 5] [1, 3, 6] rfl rfl (by decide +kernel) (by decide +kernel) (by decide +kernel) (fun v w1 h => by obtain ⟨y0, y2, y4, y5, rfl, h2⟩ := hq v w1 h; exact ⟨_, h2, [3, 0, 4, 1, 5, 6, 2], by decide +kernel, rfl⟩)
set_option maxHeartbeats 4000000 in
theorem mf_dec (l : Launch) (D : va_G) (g : G4) (hm km : Nat) (st : zk_P) (w : va_W) (hB : zk_wMB g hm st km w) (hok : zk_okP st) (x : Nat) (x2 : x ≤ 2) (up : Nat) (hup : up < st.2.2.1) (hall : ∀ j, j < up → zk_me st (st.2.2.2.2.1.getD j 0)) (hnone : eof (zk_rs st) st.2.1 (zk_nn st.1) (st.2.2.2.2.1.getD up 0) = none) : zk_M l yX8_decode (ws_ yX8_decode cX8_decode 3 (some .int)) (zk_R 3 0 0) D g [.ref hm, .int (nI x)] w (fun r_ w2 => r_ = some (.int (nI 0)) ∧ zk_wMB g hm st 3 w2) := by
  obtain ⟨A, Ks, Ds, Rs, Pp, hK, hD, hRl, hPl, hR, rfl⟩ := hB
  have hok0 := hok
  obtain ⟨o1, ⟨o2, o3⟩, ⟨o4, o5⟩, o6, o7, o8, o9, o10, o11, o12, o13⟩ := hok0
  have hn9 := zk_okn hok
  exact fm_0245 (f8_dec l D g hm (A 0) (A 1) (A 2) (A 3) (A 4) (A 5) km st.1 (mdg st.1) (zk_nn st.1) st.2.1 st.2.2.1 (gnr st.1 (zk_nn st.1) st.2.1) (lgn st.1 (zk_nn st.1) st.2.1) Rs hRl (zk_rs st) hR (by omega) (fun i hi => zk_r31 hok i hi) o3 st.2.2.2.2.1 o7 o5 (fun j _ => ⟨zk_p31 (o10 j) (by omega), zk_rem31 hok _, zk_p31 (eor_lt hok _) (by omega)⟩) Ds hD x x2 up hup hall hnone) (fun v w1 hQ => by
    obtain ⟨rfl, D1, q1, rfl⟩ := hQ
    exact ⟨_, _, _, _, rfl, rfl, A, Ks, D1, Rs, Pp, hK, q1, hRl, hPl, hR, rfl⟩)
theorem fm_012345 {l : Launch} {y : MethodName} {ws : List Cond} {rm : Room} {D : va_G} {g : G4} {As : List Value} {x0 x1 x2 x3 x4 x5 x6 : Nat × va_E} {Qx Qx' : Option Value → va_W → Prop} (hM : zk_M l y ws rm D g As [x0, x1, x2, x3, x4, x5] Qx) (hq : ∀ v w1, Qx v w1 → ∃ y0 y1 y2 y3 y4 y5, w1 = [y0, y1, y2, y3, y4, y5] ∧ Qx' v [y0, y1, y2, y3, y4, y5, x6]) : zk_M l y ws rm D g As [x0, x1, x2, x3, x4, x5, x6] Qx' :=
  zk_M.frame (wr := [x6]) hM [0, 1, 2, 3, 4, 5] [6] rfl rfl (by decide +kernel) (by decide +kernel) (by decide +kernel) (fun v w1 h => by obtain ⟨y0, y1, y2, y3, y4, y5, rfl, h2⟩ := hq v w1 h; exact ⟨_, h2, [1, 2, 3, 4, 5, 6, 0], by decide +kernel, rfl⟩)
theorem mdC_hi {wy p n t dep : Nat} {Ws Cs : List Nat} (j : Nat) (hj : dep ≤ j) : (mdC wy p n t dep Ws Cs).getD j 0 = Cs.getD j 0 := by
  unfold mdC
  have h := zk_it_inv (f := fun j C => C.set j (mdr wy p n t (Ws.getD j 0))) (fun _ C => C.getD j 0 = Cs.getD j 0) dep 0 Cs rfl (fun i C _ h2 hc => by dsimp only; rw [zk_gs, if_neg (by omega)]; exact hc)
  exact h
set_option maxHeartbeats 4000000 in
theorem mn_load (l : Launch) (D : va_G) (g : G4) (hm km : Nat) (st : zk_P) (w : va_W) (hB : zk_wMB g hm st km w) (hok : zk_okP st) (s wy : Nat) (s3 : s < 4) (hall : ∀ j, j < st.2.2.1 → zk_me st ((st.2.2.2.2.2.getD s []).getD j 0)) : zk_M l yX8_load (ws_ yX8_load cX8_load 4 (some .int)) (zk_R 3 0 0) D g [.ref hm, .int (nI s)] w (fun r_ w2 => r_ = some (.int (nI (mdN wy st.1 (zk_nn st.1) st.2.1 st.2.2.1 (st.2.2.2.2.2.getD s [])))) ∧ zk_wMB g hm (st.1, st.2.1, st.2.2.1, mdM wy st.1 (zk_nn st.1) st.2.1 st.2.2.1 (zk_nn st.1 - kdn st.1 st.2.1) (st.2.2.2.2.2.getD s []) st.2.2.2.1, mdC wy st.1 (zk_nn st.1) st.2.1 st.2.2.1 (st.2.2.2.2.2.getD s []) st.2.2.2.2.1, zk_ks s (mdC wy st.1 (zk_nn st.1) st.2.1 st.2.2.1 (st.2.2.2.2.2.getD s []) st.2.2.2.2.1) st.2.2.2.2.2) 0 w2) := by
  obtain ⟨A, Ks, Ds, Rs, Pp, hK, hD, hRl, hPl, hR, rfl⟩ := hB
  have hok0 := hok
  obtain ⟨o1, ⟨o2, o3⟩, ⟨o4, o5⟩, o6, o7, o8, o9, o10, o11, o12, o13⟩ := hok0
  have hn9 := zk_okn hok
  have ek : (zk_nn st.1 - kdn st.1 st.2.1) = lgn st.1 (zk_nn st.1) st.2.1 := by omega
  have hKw : ∀ j, j < 4 → Ks.getD (4 * s + j) 0 = (st.2.2.2.2.2.getD s []).getD j 0 := fun j hj => hK.2 s j s3 hj
  have hall2 : ∀ j, j < st.2.2.1 → zk_me st (Ks.getD (4 * s + j) 0) := fun j hj => by rw [hKw j (by omega)]; exact hall j hj
  have eM := md_M hok wy (W := (fun w => Ks.getD (4 * s + w) 0)) (Ws := (st.2.2.2.2.2.getD s [])) hall2 (fun j hj => hKw j (by omega)) hD (lgn st.1 (zk_nn st.1) st.2.1) st.2.2.2.1
  have eC := md_C hok wy (W := (fun w => Ks.getD (4 * s + w) 0)) (Ws := (st.2.2.2.2.2.getD s [])) hall2 (fun j hj => hKw j (by omega)) hD st.2.2.2.2.1
  have eN := md_N hok wy (W := (fun w => Ks.getD (4 * s + w) 0)) (Ws := (st.2.2.2.2.2.getD s [])) hall2 (fun j hj => hKw j (by omega))
  rw [ek]
  exact fm_012345 (m8_load l D g hm (A 0) (A 1) (A 2) (A 3) (A 4) (A 5) km st.1 (mdg st.1) (zk_nn st.1) st.2.1 st.2.2.1 (gnr st.1 (zk_nn st.1) st.2.1) (lgn st.1 (zk_nn st.1) st.2.1) Rs hRl (zk_rs st) hR (by omega) (fun i hi => zk_r31 hok i hi) o3 Ks hK.1 s (by omega) o5 (fun j hj => ⟨by rw [hKw j (by omega)]; exact zk_p31 (o11 s j) (by omega), zk_rem31 hok _, zk_p31 (eor_lt hok _) (by omega)⟩) (by omega) st.2.2.2.1 st.2.2.2.2.1 Ds o6 o7 hD hall2) (fun v w1 hQ => by
    obtain ⟨rfl, rfl⟩ := hQ
    rw [eM, eC, eN]
    exact ⟨_, _, _, _, _, _, rfl, rfl, A, _, _, Rs, Pp, zk_kk_sv hK s3 o5 (fun j hj => by rw [mdC_hi j hj]; exact o12 j hj) o13, by rw [moD_len]; exact hD, hRl, hPl, hR, rfl⟩)
theorem fm_0345 {l : Launch} {y : MethodName} {ws : List Cond} {rm : Room} {D : va_G} {g : G4} {As : List Value} {x0 x1 x2 x3 x4 x5 x6 : Nat × va_E} {Qx Qx' : Option Value → va_W → Prop} (hM : zk_M l y ws rm D g As [x0, x3, x4, x5] Qx) (hq : ∀ v w1, Qx v w1 → ∃ y0 y3 y4 y5, w1 = [y0, y3, y4, y5] ∧ Qx' v [y0, x1, x2, y3, y4, y5, x6]) : zk_M l y ws rm D g As [x0, x1, x2, x3, x4, x5, x6] Qx' :=
  zk_M.frame (wr := [x1, x2, x6]) hM [0, 3, 4, 5] [1, 2, 6] rfl rfl (by decide +kernel) (by decide +kernel) (by decide +kernel) (fun v w1 h => by obtain ⟨y0, y3, y4, y5, rfl, h2⟩ := hq v w1 h; exact ⟨_, h2, [3, 0, 1, 4, 5, 6, 2], by decide +kernel, rfl⟩)
set_option maxHeartbeats 4000000 in
theorem mf_load (l : Launch) (D : va_G) (g : G4) (hm km : Nat) (st : zk_P) (w : va_W) (hB : zk_wMB g hm st km w) (hok : zk_okP st) (s : Nat) (s3 : s < 4) (up : Nat) (hup : up < st.2.2.1) (hall : ∀ j, j < up → zk_me st ((st.2.2.2.2.2.getD s []).getD j 0)) (hnone : eof (zk_rs st) st.2.1 (zk_nn st.1) ((st.2.2.2.2.2.getD s []).getD up 0) = none) : zk_M l yX8_load (ws_ yX8_load cX8_load 4 (some .int)) (zk_R 3 0 0) D g [.ref hm, .int (nI s)] w (fun r_ w2 => r_ = some (.int (nI 0)) ∧ zk_wMB g hm st 3 w2) := by
  obtain ⟨A, Ks, Ds, Rs, Pp, hK, hD, hRl, hPl, hR, rfl⟩ := hB
  have hok0 := hok
  obtain ⟨o1, ⟨o2, o3⟩, ⟨o4, o5⟩, o6, o7, o8, o9, o10, o11, o12, o13⟩ := hok0
  have hn9 := zk_okn hok
  have hKw : ∀ j, j < 4 → Ks.getD (4 * s + j) 0 = (st.2.2.2.2.2.getD s []).getD j 0 := fun j hj => hK.2 s j s3 hj
  have hall2 : ∀ j, j < up → zk_me st (Ks.getD (4 * s + j) 0) := fun j hj => by rw [hKw j (by omega)]; exact hall j hj
  exact fm_0345 (f8_load l D g hm (A 0) (A 1) (A 2) (A 3) (A 4) (A 5) km st.1 (mdg st.1) (zk_nn st.1) st.2.1 st.2.2.1 (gnr st.1 (zk_nn st.1) st.2.1) (lgn st.1 (zk_nn st.1) st.2.1) Rs hRl (zk_rs st) hR (by omega) (fun i hi => zk_r31 hok i hi) o3 Ks hK.1 s (by omega) o5 (fun j hj => ⟨by rw [hKw j (by omega)]; exact zk_p31 (o11 s j) (by omega), zk_rem31 hok _, zk_p31 (eor_lt hok _) (by omega)⟩) Ds hD up hup hall2 (by rw [hKw up (by omega)]; exact hnone)) (fun v w1 hQ => by
    obtain ⟨rfl, D1, q1, rfl⟩ := hQ
    exact ⟨_, _, _, _, rfl, rfl, A, Ks, D1, Rs, Pp, hK, q1, hRl, hPl, hR, rfl⟩)
