/-! ===== both answer alike: one step of every operation ===== -/
set_option maxRecDepth 100000
def zk_okO (st : Option zk_P) : Prop := ∀ s, st = some s → zk_okP s
theorem zk_okO.n : zk_okO none := fun _ h => nomatch h
theorem zk_okO.s {s : zk_P} (h : zk_okP s) : zk_okO (some s) := fun _ e => by cases e; exact h
section
variable {l : Launch} {y : MethodName} {ws : List Cond} {rm : Room} {D : va_G} {g : G4} {As : List Value} {w : va_W}
theorem zk_M.imp {Qx Qx' : Option Value → va_W → Prop} (hM : zk_M l y ws rm D g As w Qx) (hq : ∀ v w1, Qx v w1 → Qx' v w1) : zk_M l y ws rm D g As w Qx' := by
  intro sz
  refine MetFree.mono (P' := zk_pre D g As w sz) (K' := fun _ _ _ _ _ => True) (hM sz) (fun a s hp => hp) (fun _ _ _ _ _ h => h) ?_
  rintro a s o s' hp ⟨⟨⟨v, w1, ho, hq1, hP1, hD1⟩, hz, hk⟩, hL⟩
  exact ⟨⟨⟨v, w1, ho, hq v w1 hq1, hP1, hD1⟩, hz, hk⟩, hL⟩
theorem zk_ML.imp {Qx Qx' : Option Value → va_W → Prop} (hM : zk_ML l y ws rm D g As w Qx) (hq : ∀ v w1, Qx v w1 → Qx' v w1) : zk_ML l y ws rm D g As w Qx' := by
  intro sz
  refine MetFree.mono (P' := zk_preL D g As w sz) (K' := fun _ _ _ _ _ => True) (hM sz) (fun a s hp => hp) (fun _ _ _ _ _ h => h) ?_
  rintro a s o s' hp ⟨⟨⟨v, w1, ho, hq1, hP1, hD1⟩, hz, hk⟩, hL⟩
  exact ⟨⟨⟨v, w1, ho, hq v w1 hq1, hP1, hD1⟩, hz, hk⟩, hL⟩
end
/-- one step: the law's method answers k (and out[0] = r if k = 0), the model answers r if k = 0 and its code is k -/
def zk_J (l : Launch) (D : va_G) (g : G4) (hn hm ho : Nat) (f : Nat → Int64) (y0 : MethodName) (ws0 : List Cond) (y8 : MethodName) (ws8 : List Cond) (a0 a8 : List Value) (wn wm : va_W) : Prop :=
  ∃ (k : Nat) (r : Int32) (st' : Option zk_P), zk_okO st' ∧ k ≤ 3 ∧ zk_ML l y0 ws0 (zk_R 9 1 6) D g a0 (zk_oc1 g ho f :: wn) (fun v w2 => v = some (.int (nI k)) ∧ ∃ (f1 : Nat → Int64) (w1 : va_W), zk_wN g hn st' w1 ∧ (k = 0 → f1 0 = r.toInt64) ∧ w2 = zk_oc1 g ho f1 :: w1) ∧ ∃ kf, kf ≤ 3 ∧ zk_M l y8 ws8 (zk_R kf 0 0) D g a8 wm (fun v w2 => (∃ r' : Int32, v = some (.int r') ∧ (k = 0 → r' = r)) ∧ zk_wM g hm st' k w2)
def zk_JV (l : Launch) (D : va_G) (g : G4) (hn hm : Nat) (y0 : MethodName) (ws0 : List Cond) (y8 : MethodName) (ws8 : List Cond) (a0 a8 : List Value) (wn wm : va_W) : Prop :=
  ∃ (k : Nat) (st' : Option zk_P), zk_okO st' ∧ k ≤ 3 ∧ zk_ML l y0 ws0 (zk_R 9 1 6) D g a0 wn (fun v w2 => v = some (.int (nI k)) ∧ zk_wN g hn st' w2) ∧ ∃ kf, kf ≤ 3 ∧ zk_M l y8 ws8 (zk_R kf 0 0) D g a8 wm (fun v w2 => v = none ∧ zk_wM g hm st' k w2)
section
variable {l : Launch} {D : va_G} {g : G4} {hn hm ho : Nat} {f : Nat → Int64} {y0 : MethodName} {ws0 : List Cond} {y8 : MethodName} {ws8 : List Cond} {a0 a8 : List Value} {wn wm : va_W}
theorem zk_J.ret {R : Int32} {s' : zk_P} (hs : zk_okP s') {kf : Nat} (hkf : kf ≤ 3) (h1 : zk_ML l y0 ws0 (zk_R 9 1 6) D g a0 (zk_oc1 g ho f :: wn) (fun v w2 => v = some (.int (nI 0)) ∧ ∃ (r : Int32) (f1 : Nat → Int64) (w1 : va_W), (some (Value.int r) = some (.int R) ∧ zk_wB g hn s' w1) ∧ f1 0 = r.toInt64 ∧ w2 = zk_oc1 g ho f1 :: w1)) (h2 : zk_M l y8 ws8 (zk_R kf 0 0) D g a8 wm (fun v w2 => v = some (.int R) ∧ zk_wMB g hm s' 0 w2)) : zk_J l D g hn hm ho f y0 ws0 y8 ws8 a0 a8 wn wm := by
  refine ⟨0, R, some s', zk_okO.s hs, by omega, h1.imp ?_, kf, hkf, h2.imp ?_⟩
  · rintro v w2 ⟨hv, r, f1, w1, ⟨hr, hw⟩, hf, e⟩
    cases hr
    exact ⟨hv, f1, w1, hw, fun _ => hf, e⟩
  · rintro v w2 ⟨hv, hw⟩
    exact ⟨⟨R, hv, fun _ => rfl⟩, hw⟩
theorem zk_J.thr {st' : Option zk_P} (hs : zk_okO st') {k : Nat} (k1 : 1 ≤ k) (k3 : k ≤ 3) {R : Int32} {kf : Nat} (hkf : kf ≤ 3) (h1 : zk_ML l y0 ws0 (zk_R 9 1 6) D g a0 (zk_oc1 g ho f :: wn) (fun v w2 => v = some (.int (nI k)) ∧ ∃ w1 : va_W, zk_wN g hn st' w1 ∧ w2 = zk_oc1 g ho f :: w1)) (h2 : zk_M l y8 ws8 (zk_R kf 0 0) D g a8 wm (fun v w2 => v = some (.int R) ∧ zk_wM g hm st' k w2)) : zk_J l D g hn hm ho f y0 ws0 y8 ws8 a0 a8 wn wm := by
  refine ⟨k, R, st', hs, k3, h1.imp ?_, kf, hkf, h2.imp ?_⟩
  · rintro v w2 ⟨hv, w1, hw, e⟩
    exact ⟨hv, f, w1, hw, fun z => by omega, e⟩
  · rintro v w2 ⟨hv, hw⟩
    exact ⟨⟨R, hv, fun _ => rfl⟩, hw⟩
theorem zk_JV.ret {s' : zk_P} (hs : zk_okP s') {kf : Nat} (hkf : kf ≤ 3) (h1 : zk_ML l y0 ws0 (zk_R 9 1 6) D g a0 wn (fun v w2 => v = some (.int (nI 0)) ∧ (none : Option Value) = none ∧ zk_wB g hn s' w2)) (h2 : zk_M l y8 ws8 (zk_R kf 0 0) D g a8 wm (fun v w2 => v = none ∧ zk_wMB g hm s' 0 w2)) : zk_JV l D g hn hm y0 ws0 y8 ws8 a0 a8 wn wm :=
  ⟨0, some s', zk_okO.s hs, by omega, h1.imp (fun v w2 h => ⟨h.1, h.2.2⟩), kf, hkf, h2⟩
theorem zk_JV.thr {st' : Option zk_P} (hs : zk_okO st') {k : Nat} (k3 : k ≤ 3) {kf : Nat} (hkf : kf ≤ 3) (h1 : zk_ML l y0 ws0 (zk_R 9 1 6) D g a0 wn (fun v w2 => v = some (.int (nI k)) ∧ ∃ w1 : va_W, zk_wN g hn st' w1 ∧ w2 = w1)) (h2 : zk_M l y8 ws8 (zk_R kf 0 0) D g a8 wm (fun v w2 => v = none ∧ zk_wM g hm st' k w2)) : zk_JV l D g hn hm y0 ws0 y8 ws8 a0 a8 wn wm :=
  ⟨k, st', hs, k3, h1.imp (fun v w2 h => ⟨h.1, by obtain ⟨w1, h1, rfl⟩ := h.2; exact h1⟩), kf, hkf, h2⟩
end
/-! what holds of a state is kept -/
theorem ok_M {st : zk_P} (h : zk_okP st) {M : List Nat} (h4 : M.length = 4) (hb : ∀ j, M.getD j 0 < 2 ^ kdn st.1 st.2.1) : zk_okP (st.1, st.2.1, st.2.2.1, M, st.2.2.2.2.1, st.2.2.2.2.2) := by
  obtain ⟨o1, o2, o4, o6, o7, o8, o9, o10, o11, o12, o13⟩ := h
  exact ⟨o1, o2, o4, h4, o7, o8, hb, o10, o11, o12, o13⟩
theorem ok_C {st : zk_P} (h : zk_okP st) {C : List Nat} (h4 : C.length = 4) (hb : ∀ j, C.getD j 0 < 2 ^ zk_nn st.1) (hz : ∀ j, st.2.2.1 ≤ j → C.getD j 0 = 0) : zk_okP (st.1, st.2.1, st.2.2.1, st.2.2.2.1, C, st.2.2.2.2.2) := by
  obtain ⟨o1, o2, o4, o6, o7, o8, o9, o10, o11, o12, o13⟩ := h
  exact ⟨o1, o2, o4, o6, h4, o8, o9, hb, o11, hz, o13⟩
theorem mg_hi {K : List (List Nat)} (hK : K.length = 4) {i : Nat} (j : Nat) (hi : ¬ i < 4) : mg K i j = 0 := by
  unfold mg
  rw [List.getD_eq_getElem?_getD (l := K), List.getElem?_eq_none (by omega)]; rfl
theorem ks_len (s : Nat) (C : List Nat) (K : List (List Nat)) : (zk_ks s C K).length = 4 := by unfold zk_ks; split <;> rfl
theorem ks_4 {s : Nat} {C : List Nat} {K : List (List Nat)} (hC : C.length = 4) (hK : zk_ok4 K) : zk_ok4 (zk_ks s C K) := by
  refine ⟨ks_len s C K, fun i hi => ?_⟩
  have h := hK.2
  have h0 := h 0 (by decide); have h1 := h 1 (by decide); have h2 := h 2 (by decide); have h3 := h 3 (by decide)
  unfold zk_ks
  rcases (show i = 0 ∨ i = 1 ∨ i = 2 ∨ i = 3 by omega) with rfl | rfl | rfl | rfl <;> split <;> assumption
theorem ok_K {st : zk_P} (h : zk_okP st) {s : Nat} (s3 : s < 4) : zk_okP (st.1, st.2.1, st.2.2.1, st.2.2.2.1, st.2.2.2.2.1, zk_ks s st.2.2.2.2.1 st.2.2.2.2.2) := by
  obtain ⟨o1, o2, o4, o6, o7, o8, o9, o10, o11, o12, o13⟩ := h
  refine ⟨o1, o2, o4, o6, o7, ks_4 o7 o8, o9, o10, fun i j => ?_, o12, fun i j hj => ?_⟩
  · by_cases hi : i < 4
    · dsimp only; rw [mg_ks s s3 _ _ i j hi]; split
      · exact o10 j
      · exact o11 i j
    · dsimp only; rw [mg_hi (ks_len s _ _) j hi]; exact Nat.two_pow_pos _
  · by_cases hi : i < 4
    · dsimp only; rw [mg_ks s s3 _ _ i j hi]; split
      · exact o12 j hj
      · exact o13 i j hj
    · dsimp only; rw [mg_hi (ks_len s _ _) j hi]
theorem zk_gs_lt {l : List Nat} {i v b : Nat} (h : ∀ j, l.getD j 0 < b) (hv : v < b) (j : Nat) : (l.set i v).getD j 0 < b := by
  rw [zk_gs]; split
  · exact hv
  · exact h j
theorem zk_gs_z {l : List Nat} {i v d : Nat} (h : ∀ j, d ≤ j → l.getD j 0 = 0) (hv : i < d) (j : Nat) (hj : d ≤ j) : (l.set i v).getD j 0 = 0 := by
  rw [zk_gs, if_neg (by omega)]; exact h j hj
theorem ok_put {st : zk_P} (h : zk_okP st) {i b : Nat} (hi : i < st.2.2.1 * kdn st.1 st.2.1) : zk_okP (st.1, st.2.1, st.2.2.1, st.2.2.2.1.set (i / kdn st.1 st.2.1) (putw (st.2.2.2.1.getD (i / kdn st.1 st.2.1) 0) (i % kdn st.1 st.2.1) b), st.2.2.2.2.1, st.2.2.2.2.2) := by
  have hn9 := zk_okn h
  have h6 := h.2.2.2.1
  have h9 := h.2.2.2.2.2.2.1
  exact ok_M h (by rw [List.length_set]; exact h6) (zk_gs_lt h9 (putw_lt (h9 _) (Nat.mod_lt _ (by omega))))
/-- the channel's words: four, below 2^n, nothing beyond the depth -/
def zk_ch (dep n : Nat) (C : List Nat) : Prop := C.length = 4 ∧ (∀ j, C.getD j 0 < 2 ^ n) ∧ ∀ j, dep ≤ j → C.getD j 0 = 0
theorem zk_ch.of {st : zk_P} (h : zk_okP st) : zk_ch st.2.2.1 (zk_nn st.1) st.2.2.2.2.1 := ⟨h.2.2.2.2.1, h.2.2.2.2.2.2.2.1, h.2.2.2.2.2.2.2.2.2.1⟩
theorem zk_ch.ok {st : zk_P} (h : zk_okP st) {C : List Nat} (hC : zk_ch st.2.2.1 (zk_nn st.1) C) : zk_okP (st.1, st.2.1, st.2.2.1, st.2.2.2.1, C, st.2.2.2.2.2) := ok_C h hC.1 hC.2.1 hC.2.2
theorem zk_ch.set {dep n i v : Nat} {C : List Nat} (h : zk_ch dep n C) (hi : i < dep) (hv : v < 2 ^ n) : zk_ch dep n (C.set i v) := ⟨by rw [List.length_set]; exact h.1, zk_gs_lt h.2.1 hv, zk_gs_z h.2.2 hi⟩
theorem zk_1lt {a n : Nat} (h : a < n) : 1 <<< a < 2 ^ n := by rw [Nat.one_shiftLeft]; exact Nat.pow_lt_pow_right (by decide) h
theorem zk_ch.fl {dep n i : Nat} {C : List Nat} (h : zk_ch dep n C) (d1 : 1 ≤ dep) (hi : i < dep * n) : zk_ch dep n (flF dep i C) := by
  unfold flF
  exact h.set (Nat.mod_lt _ (by omega)) (Nat.xor_lt_two_pow (h.2.1 _) (zk_1lt (Nat.div_lt_of_lt_mul hi)))
theorem ok_burst {st : zk_P} (h : zk_okP st) {i m : Nat} (hi : i < st.2.2.1 * zk_nn st.1) (hm : m ≤ st.2.2.1 * zk_nn st.1 - i) : zk_okP (st.1, st.2.1, st.2.2.1, st.2.2.2.1, zk_it (flF st.2.2.1) m i st.2.2.2.2.1, st.2.2.2.2.2) :=
  zk_ch.ok h (zk_it_inv (fun _ C => zk_ch st.2.2.1 (zk_nn st.1) C) m i _ (zk_ch.of h) (fun j C _ h2 hc => hc.fl h.2.2.1.1 (by omega)))
theorem nz_ch {dep n : Nat} (d1 : 1 ≤ dep) (F : Nat → Int32 × List Nat × Nat → Int32 × List Nat × Nat) (hF : ∀ i z, (F i z).2.1 = z.2.1 ∨ (F i z).2.1 = flF dep i z.2.1) (k : Nat) (hk : k ≤ dep * n) (x : Int32) (C : List Nat) (hC : zk_ch dep n C) : zk_ch dep n (zk_it F k 0 (x, C, 0)).2.1 :=
  zk_it_inv (fun _ z => zk_ch dep n z.2.1) k 0 _ hC (fun j z _ h2 hc => by
    rcases hF j z with e | e
    · rw [e]; exact hc
    · rw [e]; exact zk_ch.fl hc d1 (by omega))
theorem nzF_or (dep : Nat) (rate : Int32) (i : Nat) (z : Int32 × List Nat × Nat) : (nzF dep rate i z).2.1 = z.2.1 ∨ (nzF dep rate i z).2.1 = flF dep i z.2.1 := by
  obtain ⟨x, c, n⟩ := z
  by_cases h : rate ≤ nzR (nzX x)
  · left; rw [nzF_0 dep rate i x c n h]
  · right; rw [nzF_1 dep rate i x c n h]
theorem ok_noise {st : zk_P} (h : zk_okP st) (seed rate : Int32) : zk_okP (st.1, st.2.1, st.2.2.1, st.2.2.2.1, (zk_it (nzF st.2.2.1 rate) (st.2.2.1 * zk_nn st.1) 0 (seed, st.2.2.2.2.1, 0)).2.1, st.2.2.2.2.2) :=
  zk_ch.ok h (nz_ch h.2.2.1.1 _ (nzF_or st.2.2.1 rate) _ (Nat.le_refl _) seed _ (zk_ch.of h))
theorem ok_enc {st : zk_P} (h : zk_okP st) : zk_okP (st.1, st.2.1, st.2.2.1, st.2.2.2.1, zk_it (ncF (gnr st.1 (zk_nn st.1) st.2.1) (zk_nn st.1 - kdn st.1 st.2.1) (zk_nn st.1) st.2.2.2.1) st.2.2.1 0 st.2.2.2.2.1, st.2.2.2.2.2) := by
  have hn9 := zk_okn h
  have o9 := h.2.2.2.2.2.2.1
  obtain ⟨-, -, g3, g4⟩ := rst_lo _ h.1 st.2.1 (by have := h.2.1; omega) h.2.1.1
  dsimp only at g3 g4
  have eg : zk_nn st.1 - kdn st.1 st.2.1 = lgn st.1 (zk_nn st.1) st.2.1 := by omega
  rw [eg]
  refine zk_ch.ok h (zk_it_inv (fun _ C => zk_ch st.2.2.1 (zk_nn st.1) C) _ _ _ (zk_ch.of h) (fun j C _ h2 hc => ?_))
  unfold ncF
  exact hc.set (by omega) (enc_lt (k := kdn st.1 st.2.1) (by omega) g3 g4 (o9 j))
theorem mdr_lt {st : zk_P} (h : zk_okP st) {wy x : Nat} (hx : x < 2 ^ zk_nn st.1) (he : zk_me st x) : mdr wy st.1 (zk_nn st.1) st.2.1 x < 2 ^ zk_nn st.1 := by
  rw [(mdd_me h wy he).2]; exact Nat.xor_lt_two_pow hx (eor_lt h x)
theorem zk_shr_lt {x a b n : Nat} (hx : x < 2 ^ n) (e : a + b = n) : x >>> b < 2 ^ a := by
  rw [Nat.shiftRight_eq_div_pow]
  exact Nat.div_lt_of_lt_mul (by rw [← Nat.pow_add, Nat.add_comm, e]; exact hx)
theorem md_ok {st : zk_P} (h : zk_okP st) (wy : Nat) {Ws : List Nat} (hw : ∀ j, Ws.getD j 0 < 2 ^ zk_nn st.1) (hall : ∀ j, j < st.2.2.1 → zk_me st (Ws.getD j 0)) : zk_ch st.2.2.1 (zk_nn st.1) (mdC wy st.1 (zk_nn st.1) st.2.1 st.2.2.1 Ws st.2.2.2.2.1) ∧ (mdM wy st.1 (zk_nn st.1) st.2.1 st.2.2.1 (zk_nn st.1 - kdn st.1 st.2.1) Ws st.2.2.2.1).length = 4 ∧ ∀ j, (mdM wy st.1 (zk_nn st.1) st.2.1 st.2.2.1 (zk_nn st.1 - kdn st.1 st.2.1) Ws st.2.2.2.1).getD j 0 < 2 ^ kdn st.1 st.2.1 := by
  have hn9 := zk_okn h
  refine ⟨?_, by rw [mdM_len]; exact h.2.2.2.1, ?_⟩
  · unfold mdC
    exact zk_it_inv (fun _ C => zk_ch st.2.2.1 (zk_nn st.1) C) _ _ _ (zk_ch.of h) (fun j C _ h2 hc => hc.set (by omega) (mdr_lt h (hw j) (hall j (by omega))))
  · unfold mdM
    exact zk_it_inv (fun _ (M : List Nat) => ∀ j, M.getD j 0 < 2 ^ kdn st.1 st.2.1) _ _ _ h.2.2.2.2.2.2.1 (fun j M _ h2 hc => zk_gs_lt hc (zk_shr_lt (mdr_lt h (hw j) (hall j (by omega))) (by omega)))
theorem ok_dec {st : zk_P} (h : zk_okP st) (wy : Nat) (hall : ∀ j, j < st.2.2.1 → zk_me st (st.2.2.2.2.1.getD j 0)) : zk_okP (st.1, st.2.1, st.2.2.1, mdM wy st.1 (zk_nn st.1) st.2.1 st.2.2.1 (zk_nn st.1 - kdn st.1 st.2.1) st.2.2.2.2.1 st.2.2.2.1, mdC wy st.1 (zk_nn st.1) st.2.1 st.2.2.1 st.2.2.2.2.1 st.2.2.2.2.1, st.2.2.2.2.2) := by
  obtain ⟨h1, h2, h3⟩ := md_ok h wy h.2.2.2.2.2.2.2.1 hall
  exact ok_M (zk_ch.ok h h1) h2 h3
theorem ok_load {st : zk_P} (h : zk_okP st) (wy : Nat) {s : Nat} (s3 : s < 4) (hall : ∀ j, j < st.2.2.1 → zk_me st ((st.2.2.2.2.2.getD s []).getD j 0)) : zk_okP (st.1, st.2.1, st.2.2.1, mdM wy st.1 (zk_nn st.1) st.2.1 st.2.2.1 (zk_nn st.1 - kdn st.1 st.2.1) (st.2.2.2.2.2.getD s []) st.2.2.2.1, mdC wy st.1 (zk_nn st.1) st.2.1 st.2.2.1 (st.2.2.2.2.2.getD s []) st.2.2.2.2.1, zk_ks s (mdC wy st.1 (zk_nn st.1) st.2.1 st.2.2.1 (st.2.2.2.2.2.getD s []) st.2.2.2.2.1) st.2.2.2.2.2) := by
  obtain ⟨h1, h2, h3⟩ := md_ok h wy (fun j => h.2.2.2.2.2.2.2.2.1 s j) hall
  exact ok_K (ok_M (zk_ch.ok h h1) h2 h3) s3
theorem ok_begin {x t dep : Nat} (t1 : 1 ≤ t) (t3 : t ≤ 3) (d1 : 1 ≤ dep) (d4 : dep ≤ 4) (hpr : (x, zk_nn x) ∈ zk_pr) : zk_okP (x, t, dep, zk_z4, zk_z4, [zk_z4, zk_z4, zk_z4, zk_z4]) := by
  have z4 : ∀ j, zk_z4.getD j 0 = 0 := fun j => by
    rcases (show j = 0 ∨ j = 1 ∨ j = 2 ∨ j = 3 ∨ 4 ≤ j by omega) with rfl | rfl | rfl | rfl | h
    · rfl
    · rfl
    · rfl
    · rfl
    · rw [List.getD_eq_getElem?_getD, List.getElem?_eq_none (by show 4 ≤ j; omega)]; rfl
  have zz : ∀ i j, mg [zk_z4, zk_z4, zk_z4, zk_z4] i j = 0 := fun i j => by
    by_cases hi : i < 4
    · unfold mg
      rcases (show i = 0 ∨ i = 1 ∨ i = 2 ∨ i = 3 by omega) with rfl | rfl | rfl | rfl <;> exact z4 j
    · exact mg_hi rfl j hi
  refine ⟨hpr, ⟨t1, t3⟩, ⟨d1, d4⟩, rfl, rfl, ⟨rfl, fun i hi => ?_⟩, fun j => ?_, fun j => ?_, fun i j => ?_, fun j _ => z4 j, fun i j _ => zz i j⟩
  · rcases (show i = 0 ∨ i = 1 ∨ i = 2 ∨ i = 3 by omega) with rfl | rfl | rfl | rfl <;> rfl
  · dsimp only; rw [z4]; exact Nat.two_pow_pos _
  · dsimp only; rw [z4]; exact Nat.two_pow_pos _
  · dsimp only; rw [zz]; exact Nat.two_pow_pos _
theorem zk_dk {st : zk_P} (h : zk_okP st) : 1 ≤ st.2.2.1 * kdn st.1 st.2.1 ∧ st.2.2.1 * kdn st.1 st.2.1 ≤ 124 ∧ 1 ≤ st.2.2.1 * zk_nn st.1 ∧ st.2.2.1 * zk_nn st.1 ≤ 124 := by
  have hn9 := zk_okn h
  have h4 := h.2.2.1
  have a1 := Nat.mul_le_mul h4.1 hn9.2.2.2.2.2.1
  have a2 := Nat.mul_le_mul h4.2 hn9.2.2.2.2.2.2
  have a3 := Nat.mul_le_mul h4.1 (show 1 ≤ zk_nn st.1 by omega)
  have a4 := Nat.mul_le_mul h4.2 hn9.2.1
  omega
/-! the steps -/

set_option maxHeartbeats 4000000 in
theorem js_length (l : Launch) (hfl : l.flags = flags0) (D : va_G) (g : G4) (hn hm km : Nat) (ho : Nat) (f : Nat → Int64) (st : Option zk_P) (wn wm : va_W) (hN : zk_wN g hn st wn) (hM : zk_wM g hm st km wm) (hok : zk_okO st) : zk_J l D g hn hm ho f yX0_length (wsW_ yX0_length cX0_length 3 (some .int) [(0, 8, 11, 21)]) yX8_length (ws_ yX8_length cX8_length 1 (some .int)) [.ref hn, .ref ho] [.ref hm] wn wm := by
  obtain ⟨fs, he⟩ := zk_wN_0 hN
  cases st with
  | none => exact zk_J.thr (st' := none) (k := 1) zk_okO.n (by decide) (by decide) (by decide) (lt_length_1 l D g hn ho f wn fs he 7 (by decide) _ (cu_length l hfl D g hn wn hN)) (mu_length l D g hm km wm hM)
  | some s =>
    have hs := hok s rfl
    have hd := zk_dk hs
    have hn9 := zk_okn hs
    exact zk_J.ret hs (by decide) (lr_length l D g hn ho f wn fs he 7 (by decide) _ (fun v w1 h => ⟨_, h.1⟩) (cn_length l D g hn s wn hN hs)) (mn_length l D g hm km s wm hM hs)
set_option maxHeartbeats 4000000 in
theorem js_generator (l : Launch) (hfl : l.flags = flags0) (D : va_G) (g : G4) (hn hm km : Nat) (ho : Nat) (f : Nat → Int64) (st : Option zk_P) (wn wm : va_W) (hN : zk_wN g hn st wn) (hM : zk_wM g hm st km wm) (hok : zk_okO st) : zk_J l D g hn hm ho f yX0_generator (wsW_ yX0_generator cX0_generator 3 (some .int) [(0, 8, 11, 21)]) yX8_generator (ws_ yX8_generator cX8_generator 1 (some .int)) [.ref hn, .ref ho] [.ref hm] wn wm := by
  obtain ⟨fs, he⟩ := zk_wN_0 hN
  cases st with
  | none => exact zk_J.thr (st' := none) (k := 1) zk_okO.n (by decide) (by decide) (by decide) (lt_generator_1 l D g hn ho f wn fs he 7 (by decide) _ (cu_gen l hfl D g hn wn hN)) (mu_gen l D g hm km wm hM)
  | some s =>
    have hs := hok s rfl
    have hd := zk_dk hs
    have hn9 := zk_okn hs
    exact zk_J.ret hs (by decide) (lr_generator l D g hn ho f wn fs he 7 (by decide) _ (fun v w1 h => ⟨_, h.1⟩) (cn_gen l D g hn s wn hN hs)) (mn_gen l D g hm km s wm hM hs)
set_option maxHeartbeats 4000000 in
theorem js_encode (l : Launch) (hfl : l.flags = flags0) (D : va_G) (g : G4) (hn hm km : Nat) (ho : Nat) (f : Nat → Int64) (st : Option zk_P) (wn wm : va_W) (hN : zk_wN g hn st wn) (hM : zk_wM g hm st km wm) (hok : zk_okO st) : zk_J l D g hn hm ho f yX0_encode (wsW_ yX0_encode cX0_encode 3 (some .int) [(0, 8, 11, 21)]) yX8_encode (ws_ yX8_encode cX8_encode 4 (some .int)) [.ref hn, .ref ho] [.ref hm] wn wm := by
  obtain ⟨fs, he⟩ := zk_wN_0 hN
  cases st with
  | none => exact zk_J.thr (st' := none) (k := 1) zk_okO.n (by decide) (by decide) (by decide) (lt_encode_1 l D g hn ho f wn fs he 7 (by decide) _ (cu_enc l hfl D g hn wn hN)) (mu_enc l D g hm km wm hM)
  | some s =>
    have hs := hok s rfl
    have hd := zk_dk hs
    have hn9 := zk_okn hs
    exact zk_J.ret (ok_enc hs) (by decide) (lr_encode l D g hn ho f wn fs he 7 (by decide) _ (fun v w1 h => ⟨_, h.1⟩) (cn_enc l D g hn s wn hN hs)) (mn_enc l D g hm km s wm hM hs)
set_option maxHeartbeats 4000000 in
theorem js_power (l : Launch) (hfl : l.flags = flags0) (D : va_G) (g : G4) (hn hm km : Nat) (ho : Nat) (f : Nat → Int64) (st : Option zk_P) (wn wm : va_W) (hN : zk_wN g hn st wn) (hM : zk_wM g hm st km wm) (hok : zk_okO st) (p0 : Int32) : zk_J l D g hn hm ho f yX0_power (wsW_ yX0_power cX0_power 4 (some .int) [(0, 9, 12, 21), (0, 9, 15, 13)]) yX8_power (ws_ yX8_power cX8_power 2 (some .int)) [.ref hn, .int p0, .ref ho] [.ref hm, .int p0] wn wm := by
  obtain ⟨fs, he⟩ := zk_wN_0 hN
  cases st with
  | none => exact zk_J.thr (st' := none) (k := 1) zk_okO.n (by decide) (by decide) (by decide) (lt_power_1 l D g hn p0 ho f wn fs he 7 (by decide) _ (cu_power l hfl D g hn wn hN p0)) (mu_power l D g hm km wm hM p0)
  | some s =>
    have hs := hok s rfl
    have hd := zk_dk hs
    have hn9 := zk_okn hs
    by_cases h0 : p0 < 0
    · exact zk_J.thr (st' := some s) (k := 2) (zk_okO.s hs) (by decide) (by decide) (by decide) (lt_power_2 l D g hn p0 ho f wn fs he 7 (by decide) _ (ct_power l hfl D g hn s wn hN hs p0 h0)) (mw_power l D g hm km s wm hM hs p0 h0)
    · obtain ⟨x, x31, rfl⟩ := zk_nat h0
      exact zk_J.ret hs (by decide) (lr_power l D g hn _ ho f wn fs he 7 (by decide) _ (fun v w1 h => ⟨_, h.1⟩) (cn_power l D g hn s wn hN hs x x31)) (mn_power l D g hm km s wm hM hs x x31)
set_option maxHeartbeats 4000000 in
theorem js_log (l : Launch) (hfl : l.flags = flags0) (D : va_G) (g : G4) (hn hm km : Nat) (ho : Nat) (f : Nat → Int64) (st : Option zk_P) (wn wm : va_W) (hN : zk_wN g hn st wn) (hM : zk_wM g hm st km wm) (hok : zk_okO st) (p0 : Int32) : zk_J l D g hn hm ho f yX0_log (wsW_ yX0_log cX0_log 4 (some .int) [(0, 9, 12, 21), (0, 9, 15, 13)]) yX8_log (ws_ yX8_log cX8_log 3 (some .int)) [.ref hn, .int p0, .ref ho] [.ref hm, .int p0] wn wm := by
  obtain ⟨fs, he⟩ := zk_wN_0 hN
  cases st with
  | none => exact zk_J.thr (st' := none) (k := 1) zk_okO.n (by decide) (by decide) (by decide) (lt_log_1 l D g hn p0 ho f wn fs he 7 (by decide) _ (cu_log l hfl D g hn wn hN p0)) (mu_log l D g hm km wm hM p0)
  | some s =>
    have hs := hok s rfl
    have hd := zk_dk hs
    have hn9 := zk_okn hs
    by_cases h0 : nI 1 ≤ p0 ∧ p0 ≤ nI (zk_nn s.1)
    · obtain ⟨x, x1, x2, rfl⟩ := zk_in (by omega) h0.1 h0.2 (by omega)
      exact zk_J.ret hs (by decide) (lr_log l D g hn _ ho f wn fs he 7 (by decide) _ (fun v w1 h => ⟨_, h.1⟩) (cn_log l D g hn s wn hN hs x x1 x2)) (mn_log l D g hm km s wm hM hs x x1 x2)
    · exact zk_J.thr (st' := some s) (k := 2) (zk_okO.s hs) (by decide) (by decide) (by decide) (lt_log_2 l D g hn p0 ho f wn fs he 7 (by decide) _ (ct_log l hfl D g hn s wn hN hs p0 h0)) (mw_log l D g hm km s wm hM hs p0 h0)
set_option maxHeartbeats 4000000 in
theorem js_times (l : Launch) (hfl : l.flags = flags0) (D : va_G) (g : G4) (hn hm km : Nat) (ho : Nat) (f : Nat → Int64) (st : Option zk_P) (wn wm : va_W) (hN : zk_wN g hn st wn) (hM : zk_wM g hm st km wm) (hok : zk_okO st) (p0 p1 : Int32) : zk_J l D g hn hm ho f yX0_times (wsW_ yX0_times cX0_times 5 (some .int) [(0, 10, 13, 21), (0, 10, 17, 13)]) yX8_times (ws_ yX8_times cX8_times 3 (some .int)) [.ref hn, .int p0, .int p1, .ref ho] [.ref hm, .int p0, .int p1] wn wm := by
  obtain ⟨fs, he⟩ := zk_wN_0 hN
  cases st with
  | none => exact zk_J.thr (st' := none) (k := 1) zk_okO.n (by decide) (by decide) (by decide) (lt_times_1 l D g hn p0 p1 ho f wn fs he 7 (by decide) _ (cu_times l hfl D g hn wn hN p0 p1)) (mu_times l D g hm km wm hM p0 p1)
  | some s =>
    have hs := hok s rfl
    have hd := zk_dk hs
    have hn9 := zk_okn hs
    by_cases h0 : nI 0 ≤ p0 ∧ p0 ≤ nI (zk_nn s.1)
    · by_cases h1 : nI 0 ≤ p1 ∧ p1 ≤ nI (zk_nn s.1)
      · obtain ⟨x, -, x2, rfl⟩ := zk_in (by omega) h0.1 h0.2 (by omega)
        obtain ⟨y, -, y2, rfl⟩ := zk_in (by omega) h1.1 h1.2 (by omega)
        exact zk_J.ret hs (by decide) (lr_times l D g hn _ _ ho f wn fs he 7 (by decide) _ (fun v w1 h => ⟨_, h.1⟩) (cn_times l D g hn s wn hN hs x y x2 y2)) (mn_times l D g hm km s wm hM hs x y x2 y2)
      · exact zk_J.thr (st' := some s) (k := 2) (zk_okO.s hs) (by decide) (by decide) (by decide) (lt_times_2 l D g hn p0 p1 ho f wn fs he 7 (by decide) _ (ct_times_b l hfl D g hn s wn hN hs p0 p1 h0 h1)) (mw_times_b l D g hm km s wm hM hs p0 p1 h0 h1)
    · exact zk_J.thr (st' := some s) (k := 2) (zk_okO.s hs) (by decide) (by decide) (by decide) (lt_times_2 l D g hn p0 p1 ho f wn fs he 7 (by decide) _ (ct_times_a l hfl D g hn s wn hN hs p0 p1 h0)) (mw_times_a l D g hm km s wm hM hs p0 p1 h0)
set_option maxHeartbeats 4000000 in
theorem js_put (l : Launch) (hfl : l.flags = flags0) (D : va_G) (g : G4) (hn hm km : Nat) (st : Option zk_P) (wn wm : va_W) (hN : zk_wN g hn st wn) (hM : zk_wM g hm st km wm) (hok : zk_okO st) (p0 p1 : Int32) : zk_JV l D g hn hm yX0_put (wsW_ yX0_put cX0_put 4 (some .int) [(0, 6, 9, 21), (0, 6, 12, 41), (0, 6, 15, 13)]) yX8_put (ws_ yX8_put cX8_put 5 none) [.ref hn, .int p0, .int p1] [.ref hm, .int p0, .int p1] wn wm := by
  obtain ⟨fs, he⟩ := zk_wN_0 hN
  cases st with
  | none => exact zk_JV.thr (st' := none) (k := 1) zk_okO.n (by decide) (by decide) (lt_put_1 l D g hn p0 p1 wn fs he 7 (by decide) _ (cu_put l hfl D g hn wn hN p0 p1)) (mu_put l D g hm km wm hM p0 p1)
  | some s =>
    have hs := hok s rfl
    have hd := zk_dk hs
    have hn9 := zk_okn hs
    by_cases h0 : nI 0 ≤ p0 ∧ p0 ≤ nI (s.2.2.1 * kdn s.1 s.2.1 - 1)
    · by_cases h1 : nI 0 ≤ p1 ∧ p1 ≤ nI 1
      · obtain ⟨x, -, x2, rfl⟩ := zk_in (by omega) h0.1 h0.2 (by omega)
        obtain ⟨y, -, y2, rfl⟩ := zk_in (by decide) h1.1 h1.2 (by decide)
        have hx : x < s.2.2.1 * kdn s.1 s.2.1 := by omega
        exact zk_JV.ret (ok_put (b := y) hs hx) (by decide) (lr_put l D g hn _ _ wn fs he 7 (by decide) _ (fun v w1 h => h.1) (cn_put l D g hn s wn hN hs x y hx y2)) (mn_put l D g hm km s wm hM hs x y hx y2)
      · exact zk_JV.thr (st' := some s) (k := 3) (zk_okO.s hs) (by decide) (by decide) (lt_put_3 l D g hn p0 p1 wn fs he 7 (by decide) _ (ct_put_b l hfl D g hn s wn hN hs p0 p1 h0 h1)) (mw_put_b l D g hm km s wm hM hs p0 p1 h0 h1)
    · exact zk_JV.thr (st' := some s) (k := 2) (zk_okO.s hs) (by decide) (by decide) (lt_put_2 l D g hn p0 p1 wn fs he 7 (by decide) _ (ct_put_i l hfl D g hn s wn hN hs p0 p1 h0)) (mw_put_i l D g hm km s wm hM hs p0 p1 h0)
set_option maxHeartbeats 4000000 in
theorem js_get (l : Launch) (hfl : l.flags = flags0) (D : va_G) (g : G4) (hn hm km : Nat) (ho : Nat) (f : Nat → Int64) (st : Option zk_P) (wn wm : va_W) (hN : zk_wN g hn st wn) (hM : zk_wM g hm st km wm) (hok : zk_okO st) (p0 : Int32) : zk_J l D g hn hm ho f yX0_get (wsW_ yX0_get cX0_get 4 (some .int) [(0, 9, 12, 21), (0, 9, 15, 41)]) yX8_get (ws_ yX8_get cX8_get 2 (some .int)) [.ref hn, .int p0, .ref ho] [.ref hm, .int p0] wn wm := by
  obtain ⟨fs, he⟩ := zk_wN_0 hN
  cases st with
  | none => exact zk_J.thr (st' := none) (k := 1) zk_okO.n (by decide) (by decide) (by decide) (lt_get_1 l D g hn p0 ho f wn fs he 7 (by decide) _ (cu_get l hfl D g hn wn hN p0)) (mu_get l D g hm km wm hM p0)
  | some s =>
    have hs := hok s rfl
    have hd := zk_dk hs
    have hn9 := zk_okn hs
    by_cases h0 : nI 0 ≤ p0 ∧ p0 ≤ nI (s.2.2.1 * kdn s.1 s.2.1 - 1)
    · obtain ⟨x, -, x2, rfl⟩ := zk_in (by omega) h0.1 h0.2 (by omega)
      have hx : x < s.2.2.1 * kdn s.1 s.2.1 := by omega
      exact zk_J.ret hs (by decide) (lr_get l D g hn _ ho f wn fs he 7 (by decide) _ (fun v w1 h => ⟨_, h.1⟩) (cn_get l D g hn s wn hN hs x hx)) (mn_get l D g hm km s wm hM hs x hx)
    · exact zk_J.thr (st' := some s) (k := 2) (zk_okO.s hs) (by decide) (by decide) (by decide) (lt_get_2 l D g hn p0 ho f wn fs he 7 (by decide) _ (ct_get l hfl D g hn s wn hN hs p0 h0)) (mw_get l D g hm km s wm hM hs p0 h0)
set_option maxHeartbeats 4000000 in
theorem js_bit (l : Launch) (hfl : l.flags = flags0) (D : va_G) (g : G4) (hn hm km : Nat) (ho : Nat) (f : Nat → Int64) (st : Option zk_P) (wn wm : va_W) (hN : zk_wN g hn st wn) (hM : zk_wM g hm st km wm) (hok : zk_okO st) (p0 : Int32) : zk_J l D g hn hm ho f yX0_bit (wsW_ yX0_bit cX0_bit 4 (some .int) [(0, 9, 12, 21), (0, 9, 15, 41)]) yX8_bit (ws_ yX8_bit cX8_bit 2 (some .int)) [.ref hn, .int p0, .ref ho] [.ref hm, .int p0] wn wm := by
  obtain ⟨fs, he⟩ := zk_wN_0 hN
  cases st with
  | none => exact zk_J.thr (st' := none) (k := 1) zk_okO.n (by decide) (by decide) (by decide) (lt_bit_1 l D g hn p0 ho f wn fs he 7 (by decide) _ (cu_bit l hfl D g hn wn hN p0)) (mu_bit l D g hm km wm hM p0)
  | some s =>
    have hs := hok s rfl
    have hd := zk_dk hs
    have hn9 := zk_okn hs
    by_cases h0 : nI 0 ≤ p0 ∧ p0 ≤ nI (s.2.2.1 * zk_nn s.1 - 1)
    · obtain ⟨x, -, x2, rfl⟩ := zk_in (by omega) h0.1 h0.2 (by omega)
      have hx : x < s.2.2.1 * zk_nn s.1 := by omega
      exact zk_J.ret hs (by decide) (lr_bit l D g hn _ ho f wn fs he 7 (by decide) _ (fun v w1 h => ⟨_, h.1⟩) (cn_bit l D g hn s wn hN hs x hx)) (mn_bit l D g hm km s wm hM hs x hx)
    · exact zk_J.thr (st' := some s) (k := 2) (zk_okO.s hs) (by decide) (by decide) (by decide) (lt_bit_2 l D g hn p0 ho f wn fs he 7 (by decide) _ (ct_bit l hfl D g hn s wn hN hs p0 h0)) (mw_bit l D g hm km s wm hM hs p0 h0)
set_option maxHeartbeats 4000000 in
theorem js_burst (l : Launch) (hfl : l.flags = flags0) (D : va_G) (g : G4) (hn hm km : Nat) (st : Option zk_P) (wn wm : va_W) (hN : zk_wN g hn st wn) (hM : zk_wM g hm st km wm) (hok : zk_okO st) (p0 p1 : Int32) : zk_JV l D g hn hm yX0_burst (wsW_ yX0_burst cX0_burst 4 (some .int) [(0, 6, 9, 21), (0, 6, 12, 41), (0, 6, 15, 13)]) yX8_burst (ws_ yX8_burst cX8_burst 5 none) [.ref hn, .int p0, .int p1] [.ref hm, .int p0, .int p1] wn wm := by
  obtain ⟨fs, he⟩ := zk_wN_0 hN
  cases st with
  | none => exact zk_JV.thr (st' := none) (k := 1) zk_okO.n (by decide) (by decide) (lt_burst_1 l D g hn p0 p1 wn fs he 7 (by decide) _ (cu_burst l hfl D g hn wn hN p0 p1)) (mu_burst l D g hm km wm hM p0 p1)
  | some s =>
    have hs := hok s rfl
    have hd := zk_dk hs
    have hn9 := zk_okn hs
    by_cases h0 : nI 0 ≤ p0 ∧ p0 ≤ nI (s.2.2.1 * zk_nn s.1 - 1)
    · by_cases h1 : nI (s.2.2.1 * zk_nn s.1) - p0 < p1
      · exact zk_JV.thr (st' := some s) (k := 2) (zk_okO.s hs) (by decide) (by decide) (lt_burst_2 l D g hn p0 p1 wn fs he 7 (by decide) _ (ct_burst_m l hfl D g hn s wn hN hs p0 p1 h0 h1)) (mw_burst_m l D g hm km s wm hM hs p0 p1 h0 h1)
      · by_cases h2 : nI 1 ≤ p1 ∧ p1 ≤ nI 124
        · obtain ⟨x, -, x2, rfl⟩ := zk_in (by omega) h0.1 h0.2 (by omega)
          obtain ⟨y, y1, y2, rfl⟩ := zk_in (by decide) h2.1 h2.2 (by decide)
          have hx : x < s.2.2.1 * zk_nn s.1 := by omega
          have hy : y ≤ s.2.2.1 * zk_nn s.1 - x := by
            rw [pk_sub (by omega), nI_ltI (by omega) (by omega)] at h1
            omega
          exact zk_JV.ret (ok_burst hs hx hy) (by decide) (lr_burst l D g hn _ _ wn fs he 7 (by decide) _ (fun v w1 h => h.1) (cn_burst l D g hn s wn hN hs x y hx hy y1 y2)) (mn_burst l D g hm km s wm hM hs x y hx hy y1 y2)
        · exact zk_JV.thr (st' := some s) (k := 3) (zk_okO.s hs) (by decide) (by decide) (lt_burst_3 l D g hn p0 p1 wn fs he 7 (by decide) _ (ct_burst_n l hfl D g hn s wn hN hs p0 p1 h0 h1 h2)) (mw_burst_n l D g hm km s wm hM hs p0 p1 h0 h1 h2)
    · exact zk_JV.thr (st' := some s) (k := 2) (zk_okO.s hs) (by decide) (by decide) (lt_burst_2 l D g hn p0 p1 wn fs he 7 (by decide) _ (ct_burst_i l hfl D g hn s wn hN hs p0 p1 h0)) (mw_burst_i l D g hm km s wm hM hs p0 p1 h0)
set_option maxHeartbeats 4000000 in
theorem js_noise (l : Launch) (hfl : l.flags = flags0) (D : va_G) (g : G4) (hn hm km : Nat) (ho : Nat) (f : Nat → Int64) (st : Option zk_P) (wn wm : va_W) (hN : zk_wN g hn st wn) (hM : zk_wM g hm st km wm) (hok : zk_okO st) (p0 p1 : Int32) : zk_J l D g hn hm ho f yX0_noise (wsW_ yX0_noise cX0_noise 5 (some .int) [(0, 10, 13, 21), (0, 10, 17, 13)]) yX8_noise (ws_ yX8_noise cX8_noise 6 (some .int)) [.ref hn, .int p0, .int p1, .ref ho] [.ref hm, .int p0, .int p1] wn wm := by
  obtain ⟨fs, he⟩ := zk_wN_0 hN
  cases st with
  | none => exact zk_J.thr (st' := none) (k := 1) zk_okO.n (by decide) (by decide) (by decide) (lt_noise_1 l D g hn p0 p1 ho f wn fs he 7 (by decide) _ (cu_noise l hfl D g hn wn hN p0 p1)) (mu_noise l D g hm km wm hM p0 p1)
  | some s =>
    have hs := hok s rfl
    have hd := zk_dk hs
    have hn9 := zk_okn hs
    by_cases h0 : nI 0 ≤ p1 ∧ p1 ≤ nI 1000
    · exact zk_J.ret (ok_noise hs p0 p1) (by decide) (lr_noise l D g hn p0 p1 ho f wn fs he 7 (by decide) _ (fun v w1 h => ⟨_, h.1⟩) (cn_noise l D g hn s wn hN hs p0 p1 h0)) (mn_noise l D g hm km s wm hM hs p0 p1 h0)
    · exact zk_J.thr (st' := some s) (k := 2) (zk_okO.s hs) (by decide) (by decide) (by decide) (lt_noise_2 l D g hn p0 p1 ho f wn fs he 7 (by decide) _ (ct_noise l hfl D g hn s wn hN hs p0 p1 h0)) (mw_noise l D g hm km s wm hM hs p0 p1 h0)
set_option maxHeartbeats 4000000 in
theorem js_syndrome (l : Launch) (hfl : l.flags = flags0) (D : va_G) (g : G4) (hn hm km : Nat) (ho : Nat) (f : Nat → Int64) (st : Option zk_P) (wn wm : va_W) (hN : zk_wN g hn st wn) (hM : zk_wM g hm st km wm) (hok : zk_okO st) (p0 p1 : Int32) : zk_J l D g hn hm ho f yX0_syndrome (wsW_ yX0_syndrome cX0_syndrome 5 (some .int) [(0, 10, 13, 21), (0, 10, 17, 41)]) yX8_syndrome (ws_ yX8_syndrome cX8_syndrome 5 (some .int)) [.ref hn, .int p0, .int p1, .ref ho] [.ref hm, .int p0, .int p1] wn wm := by
  obtain ⟨fs, he⟩ := zk_wN_0 hN
  cases st with
  | none => exact zk_J.thr (st' := none) (k := 1) zk_okO.n (by decide) (by decide) (by decide) (lt_syndrome_1 l D g hn p0 p1 ho f wn fs he 7 (by decide) _ (cu_synd l hfl D g hn wn hN p0 p1)) (mu_synd l D g hm km wm hM p0 p1)
  | some s =>
    have hs := hok s rfl
    have hd := zk_dk hs
    have hn9 := zk_okn hs
    have h3 := hs.2.1
    have h4 := hs.2.2.1
    by_cases h0 : nI 0 ≤ p0 ∧ p0 ≤ nI (s.2.2.1 - 1)
    · by_cases h1 : nI 1 ≤ p1 ∧ p1 ≤ nI (2 * s.2.1)
      · obtain ⟨x, -, x2, rfl⟩ := zk_in (by omega) h0.1 h0.2 (by omega)
        obtain ⟨y, y1, y2, rfl⟩ := zk_in (by omega) h1.1 h1.2 (by omega)
        exact zk_J.ret hs (by decide) (lr_syndrome l D g hn _ _ ho f wn fs he 7 (by decide) _ (fun v w1 h => ⟨_, h.1⟩) (cn_synd l D g hn s wn hN hs x y (by omega) y1 y2)) (mn_synd l D g hm km s wm hM hs x y (by omega) y1 y2)
      · exact zk_J.thr (st' := some s) (k := 2) (zk_okO.s hs) (by decide) (by decide) (by decide) (lt_syndrome_2 l D g hn p0 p1 ho f wn fs he 7 (by decide) _ (ct_synd_j l hfl D g hn s wn hN hs p0 p1 h0 h1)) (mw_synd_j l D g hm km s wm hM hs p0 p1 h0 h1)
    · exact zk_J.thr (st' := some s) (k := 2) (zk_okO.s hs) (by decide) (by decide) (by decide) (lt_syndrome_2 l D g hn p0 p1 ho f wn fs he 7 (by decide) _ (ct_synd_w l hfl D g hn s wn hN hs p0 p1 h0)) (mw_synd_w l D g hm km s wm hM hs p0 p1 h0)
set_option maxHeartbeats 4000000 in
theorem js_save (l : Launch) (hfl : l.flags = flags0) (D : va_G) (g : G4) (hn hm km : Nat) (st : Option zk_P) (wn wm : va_W) (hN : zk_wN g hn st wn) (hM : zk_wM g hm st km wm) (hok : zk_okO st) (p0 : Int32) : zk_JV l D g hn hm yX0_save (wsW_ yX0_save cX0_save 3 (some .int) [(0, 5, 8, 21), (0, 5, 11, 41)]) yX8_save (ws_ yX8_save cX8_save 3 none) [.ref hn, .int p0] [.ref hm, .int p0] wn wm := by
  obtain ⟨fs, he⟩ := zk_wN_0 hN
  cases st with
  | none => exact zk_JV.thr (st' := none) (k := 1) zk_okO.n (by decide) (by decide) (lt_save_1 l D g hn p0 wn fs he 7 (by decide) _ (cu_save l hfl D g hn wn hN p0)) (mu_save l D g hm km wm hM p0)
  | some s =>
    have hs := hok s rfl
    have hd := zk_dk hs
    have hn9 := zk_okn hs
    by_cases h0 : nI 0 ≤ p0 ∧ p0 ≤ nI 3
    · obtain ⟨x, -, x2, rfl⟩ := zk_in (by decide) h0.1 h0.2 (by decide)
      rcases (show x = 0 ∨ x = 1 ∨ x = 2 ∨ x = 3 by omega) with rfl | rfl | rfl | rfl
      · exact zk_JV.ret (ok_K (s := 0) hs (by decide)) (by decide) (lr_save l D g hn _ wn fs he 7 (by decide) _ (fun v w1 h => h.1) (cn_save0 l D g hn s wn hN hs)) (mn_save l D g hm km s wm hM hs 0 (by decide))
      · exact zk_JV.ret (ok_K (s := 1) hs (by decide)) (by decide) (lr_save l D g hn _ wn fs he 7 (by decide) _ (fun v w1 h => h.1) (cn_save1 l D g hn s wn hN hs)) (mn_save l D g hm km s wm hM hs 1 (by decide))
      · exact zk_JV.ret (ok_K (s := 2) hs (by decide)) (by decide) (lr_save l D g hn _ wn fs he 7 (by decide) _ (fun v w1 h => h.1) (cn_save2 l D g hn s wn hN hs)) (mn_save l D g hm km s wm hM hs 2 (by decide))
      · exact zk_JV.ret (ok_K (s := 3) hs (by decide)) (by decide) (lr_save l D g hn _ wn fs he 7 (by decide) _ (fun v w1 h => h.1) (cn_save3 l D g hn s wn hN hs)) (mn_save l D g hm km s wm hM hs 3 (by decide))
    · exact zk_JV.thr (st' := some s) (k := 2) (zk_okO.s hs) (by decide) (by decide) (lt_save_2 l D g hn p0 wn fs he 7 (by decide) _ (ct_save l hfl D g hn s wn hN hs p0 h0)) (mw_save l D g hm km s wm hM hs p0 h0)
set_option maxHeartbeats 4000000 in
theorem js_decode (l : Launch) (hfl : l.flags = flags0) (D : va_G) (g : G4) (hn hm km : Nat) (ho : Nat) (f : Nat → Int64) (st : Option zk_P) (wn wm : va_W) (hN : zk_wN g hn st wn) (hM : zk_wM g hm st km wm) (hok : zk_okO st) (p0 : Int32) : zk_J l D g hn hm ho f yX0_decode (wsW_ yX0_decode cX0_decode 4 (some .int) [(0, 9, 12, 21), (0, 9, 15, 13), (0, 9, 18, 15)]) yX8_decode (ws_ yX8_decode cX8_decode 3 (some .int)) [.ref hn, .int p0, .ref ho] [.ref hm, .int p0] wn wm := by
  obtain ⟨fs, he⟩ := zk_wN_0 hN
  cases st with
  | none => exact zk_J.thr (st' := none) (k := 1) zk_okO.n (by decide) (by decide) (by decide) (lt_decode_1 l D g hn p0 ho f wn fs he 7 (by decide) _ (cu_dec l hfl D g hn wn hN p0)) (mu_dec l D g hm km wm hM p0)
  | some s =>
    have hs := hok s rfl
    have hd := zk_dk hs
    have hn9 := zk_okn hs
    by_cases h0 : nI 0 ≤ p0 ∧ p0 ≤ nI 2
    · obtain ⟨x, -, x2, rfl⟩ := zk_in (by decide) h0.1 h0.2 (by decide)
      rcases zk_firsts s (fun j => s.2.2.2.2.1.getD j 0) s.2.2.1 with hall | ⟨up, hup, hall, hno⟩
      · rcases (show x = 0 ∨ x = 1 ∨ x = 2 by omega) with rfl | rfl | rfl
        · exact zk_J.ret (ok_dec hs 0 hall) (by decide) (lr_decode l D g hn _ ho f wn fs he 8 (by decide) _ (fun v w1 h => ⟨_, h.1⟩) (cn_decE l D g hn s wn hN hs (fun j hj => (mdd_me hs 0 (hall j hj)).1))) (mn_dec l D g hm km s wm hM hs 0 0 (by decide) hall)
        · exact zk_J.ret (ok_dec hs 1 hall) (by decide) (lr_decode l D g hn _ ho f wn fs he 8 (by decide) _ (fun v w1 h => ⟨_, h.1⟩) (cn_decD l D g hn s wn hN hs (fun j hj => (mdd_me hs 1 (hall j hj)).1))) (mn_dec l D g hm km s wm hM hs 1 1 (by decide) hall)
        · exact zk_J.ret (ok_dec hs 2 hall) (by decide) (lr_decode l D g hn _ ho f wn fs he 8 (by decide) _ (fun v w1 h => ⟨_, h.1⟩) (cn_decG l D g hn s wn hN hs (fun j hj => (mdd_me hs 2 (hall j hj)).1))) (mn_dec l D g hm km s wm hM hs 2 2 (by decide) hall)
      · rcases (show x = 0 ∨ x = 1 ∨ x = 2 by omega) with rfl | rfl | rfl
        · exact zk_J.thr (st' := some s) (k := 3) (zk_okO.s hs) (by decide) (by decide) (by decide) (lt_decode_3 l D g hn _ ho f wn fs he 8 (by decide) _ (cf_decE l hfl D g hn s wn hN hs up hup (fun j hj => (mdd_me hs 0 (hall j hj)).1) (mdd_no hs 0 hno))) (mf_dec l D g hm km s wm hM hs 0 (by decide) up hup hall hno)
        · exact zk_J.thr (st' := some s) (k := 3) (zk_okO.s hs) (by decide) (by decide) (by decide) (lt_decode_3 l D g hn _ ho f wn fs he 8 (by decide) _ (cf_decD l hfl D g hn s wn hN hs up hup (fun j hj => (mdd_me hs 1 (hall j hj)).1) (mdd_no hs 1 hno))) (mf_dec l D g hm km s wm hM hs 1 (by decide) up hup hall hno)
        · exact zk_J.thr (st' := some s) (k := 3) (zk_okO.s hs) (by decide) (by decide) (by decide) (lt_decode_3 l D g hn _ ho f wn fs he 8 (by decide) _ (cf_decG l hfl D g hn s wn hN hs up hup (fun j hj => (mdd_me hs 2 (hall j hj)).1) (mdd_no hs 2 hno))) (mf_dec l D g hm km s wm hM hs 2 (by decide) up hup hall hno)
    · exact zk_J.thr (st' := some s) (k := 2) (zk_okO.s hs) (by decide) (by decide) (by decide) (lt_decode_2 l D g hn p0 ho f wn fs he 7 (by decide) _ (ct_dec l hfl D g hn s wn hN hs p0 h0)) (mw_dec l D g hm km s wm hM hs p0 h0)
set_option maxHeartbeats 4000000 in
theorem js_load (l : Launch) (hfl : l.flags = flags0) (D : va_G) (g : G4) (hn hm km : Nat) (ho : Nat) (f : Nat → Int64) (st : Option zk_P) (wn wm : va_W) (hN : zk_wN g hn st wn) (hM : zk_wM g hm st km wm) (hok : zk_okO st) (p0 : Int32) : zk_J l D g hn hm ho f yX0_load (wsW_ yX0_load cX0_load 4 (some .int) [(0, 9, 12, 21), (0, 9, 15, 41), (0, 9, 18, 15)]) yX8_load (ws_ yX8_load cX8_load 4 (some .int)) [.ref hn, .int p0, .ref ho] [.ref hm, .int p0] wn wm := by
  obtain ⟨fs, he⟩ := zk_wN_0 hN
  cases st with
  | none => exact zk_J.thr (st' := none) (k := 1) zk_okO.n (by decide) (by decide) (by decide) (lt_load_1 l D g hn p0 ho f wn fs he 7 (by decide) _ (cu_load l hfl D g hn wn hN p0)) (mu_load l D g hm km wm hM p0)
  | some s =>
    have hs := hok s rfl
    have hd := zk_dk hs
    have hn9 := zk_okn hs
    by_cases h0 : nI 0 ≤ p0 ∧ p0 ≤ nI 3
    · obtain ⟨x, -, x2, rfl⟩ := zk_in (by decide) h0.1 h0.2 (by decide)
      rcases zk_firsts s (fun j => (s.2.2.2.2.2.getD x []).getD j 0) s.2.2.1 with hall | ⟨up, hup, hall, hno⟩
      · rcases (show x = 0 ∨ x = 1 ∨ x = 2 ∨ x = 3 by omega) with rfl | rfl | rfl | rfl
        · exact zk_J.ret (ok_load hs 0 (s := 0) (by decide) hall) (by decide) (lr_load l D g hn _ ho f wn fs he 8 (by decide) _ (fun v w1 h => ⟨_, h.1⟩) (cn_load0 l D g hn s wn hN hs (fun j hj => (mdd_me hs 0 (hall j hj)).1))) (mn_load l D g hm km s wm hM hs 0 0 (by decide) hall)
        · exact zk_J.ret (ok_load hs 1 (s := 1) (by decide) hall) (by decide) (lr_load l D g hn _ ho f wn fs he 8 (by decide) _ (fun v w1 h => ⟨_, h.1⟩) (cn_load1 l D g hn s wn hN hs (fun j hj => (mdd_me hs 1 (hall j hj)).1))) (mn_load l D g hm km s wm hM hs 1 1 (by decide) hall)
        · exact zk_J.ret (ok_load hs 2 (s := 2) (by decide) hall) (by decide) (lr_load l D g hn _ ho f wn fs he 8 (by decide) _ (fun v w1 h => ⟨_, h.1⟩) (cn_load2 l D g hn s wn hN hs (fun j hj => (mdd_me hs 2 (hall j hj)).1))) (mn_load l D g hm km s wm hM hs 2 2 (by decide) hall)
        · exact zk_J.ret (ok_load hs 0 (s := 3) (by decide) hall) (by decide) (lr_load l D g hn _ ho f wn fs he 8 (by decide) _ (fun v w1 h => ⟨_, h.1⟩) (cn_load3 l D g hn s wn hN hs (fun j hj => (mdd_me hs 0 (hall j hj)).1))) (mn_load l D g hm km s wm hM hs 3 0 (by decide) hall)
      · rcases (show x = 0 ∨ x = 1 ∨ x = 2 ∨ x = 3 by omega) with rfl | rfl | rfl | rfl
        · exact zk_J.thr (st' := some s) (k := 3) (zk_okO.s hs) (by decide) (by decide) (by decide) (lt_load_3 l D g hn _ ho f wn fs he 8 (by decide) _ (cf_load0 l hfl D g hn s wn hN hs up hup (fun j hj => (mdd_me hs 0 (hall j hj)).1) (mdd_no hs 0 hno))) (mf_load l D g hm km s wm hM hs 0 (by decide) up hup hall hno)
        · exact zk_J.thr (st' := some s) (k := 3) (zk_okO.s hs) (by decide) (by decide) (by decide) (lt_load_3 l D g hn _ ho f wn fs he 8 (by decide) _ (cf_load1 l hfl D g hn s wn hN hs up hup (fun j hj => (mdd_me hs 1 (hall j hj)).1) (mdd_no hs 1 hno))) (mf_load l D g hm km s wm hM hs 1 (by decide) up hup hall hno)
        · exact zk_J.thr (st' := some s) (k := 3) (zk_okO.s hs) (by decide) (by decide) (by decide) (lt_load_3 l D g hn _ ho f wn fs he 8 (by decide) _ (cf_load2 l hfl D g hn s wn hN hs up hup (fun j hj => (mdd_me hs 2 (hall j hj)).1) (mdd_no hs 2 hno))) (mf_load l D g hm km s wm hM hs 2 (by decide) up hup hall hno)
        · exact zk_J.thr (st' := some s) (k := 3) (zk_okO.s hs) (by decide) (by decide) (by decide) (lt_load_3 l D g hn _ ho f wn fs he 8 (by decide) _ (cf_load3 l hfl D g hn s wn hN hs up hup (fun j hj => (mdd_me hs 0 (hall j hj)).1) (mdd_no hs 0 hno))) (mf_load l D g hm km s wm hM hs 3 (by decide) up hup hall hno)
    · exact zk_J.thr (st' := some s) (k := 2) (zk_okO.s hs) (by decide) (by decide) (by decide) (lt_load_2 l D g hn p0 ho f wn fs he 7 (by decide) _ (ct_load l hfl D g hn s wn hN hs p0 h0)) (mw_load l D g hm km s wm hM hs p0 h0)
set_option maxHeartbeats 4000000 in
theorem js_begin (l : Launch) (hfl : l.flags = flags0) (D : va_G) (g : G4) (hn hm km : Nat) (ho : Nat) (f : Nat → Int64) (st : Option zk_P) (wn wm : va_W) (hN : zk_wN g hn st wn) (hM : zk_wM g hm st km wm) (hok : zk_okO st) (p0 p1 p2 : Int32) : zk_J l D g hn hm ho f yX0_begin (wsW_ yX0_begin cX0_begin 6 (some .int) [(0, 12, 15, 13), (0, 12, 19, 15)]) yX8_begin (ws_ yX8_begin cX8_begin 7 (some .int)) [.ref hn, .int p0, .int p1, .int p2, .ref ho] [.ref hm, .int p0, .int p1, .int p2] wn wm := by
  obtain ⟨fs, he⟩ := zk_wN_0 hN
  by_cases h1 : nI 1 ≤ p1 ∧ p1 ≤ nI 3
  · by_cases h2 : nI 1 ≤ p2 ∧ p2 ≤ nI 4
    · by_cases h3 : nI 8 ≤ p0 ∧ p0 ≤ nI 63
      · obtain ⟨t, t1, t2, rfl⟩ := zk_in (by decide) h1.1 h1.2 (by decide)
        obtain ⟨d, d1, d2, rfl⟩ := zk_in (by decide) h2.1 h2.2 (by decide)
        obtain ⟨x, x1, x2, rfl⟩ := zk_in (by decide) h3.1 h3.2 (by decide)
        by_cases hpr : (x, zk_nn x) ∈ zk_pr
        · exact zk_J.ret (ok_begin t1 t2 d1 d2 hpr) (by decide) (lr_begin l D g hn _ _ _ ho f wn fs he 7 (by decide) _ (fun v w1 h => ⟨_, h.1⟩) (cn_begin l D g hn st wn hN hok x t d t1 t2 d1 d2 x1 x2 hpr)) (mn_begin l D g hm km st wm hM hok x t d t1 t2 d1 d2 x1 x2 hpr)
        · exact zk_J.thr (st' := st) (k := 2) hok (by decide) (by decide) (by decide) (lt_begin_2 l D g hn _ _ _ ho f wn fs he 7 (by decide) _ (cf_begin_p l hfl D g hn st wn hN hok x t d t1 t2 d1 d2 x1 x2 hpr)) (mw_begin_p l D g hm km st wm hM hok x t d t1 t2 d1 d2 x1 x2 hpr)
      · exact zk_J.thr (st' := st) (k := 1) hok (by decide) (by decide) (by decide) (lt_begin_1 l D g hn p0 p1 p2 ho f wn fs he 7 (by decide) _ (cf_begin_c l hfl D g hn st wn hN p0 p1 p2 h1 h2 h3)) (mw_begin_c l D g hm km st wm hM hok p0 p1 p2 h1 h2 h3)
    · exact zk_J.thr (st' := st) (k := 1) hok (by decide) (by decide) (by decide) (lt_begin_1 l D g hn p0 p1 p2 ho f wn fs he 7 (by decide) _ (cf_begin_b l hfl D g hn st wn hN p0 p1 p2 h1 h2)) (mw_begin_b l D g hm km st wm hM hok p0 p1 p2 h1 h2)
  · exact zk_J.thr (st' := st) (k := 1) hok (by decide) (by decide) (by decide) (lt_begin_1 l D g hn p0 p1 p2 ho f wn fs he 7 (by decide) _ (cf_begin_a l hfl D g hn st wn hN p0 p1 p2 h1)) (mw_begin_a l D g hm km st wm hM hok p0 p1 p2 h1)
