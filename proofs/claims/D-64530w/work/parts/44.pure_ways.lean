/-! ===== PURE: the ways' answers: bounds; they look at the syndromes in use alone, not at what lay in the rows ===== -/
set_option maxRecDepth 100000
/-- the syndromes in use agree -/
def zk_sa (t : Nat) (S S' : List Nat) : Prop := ∀ j, 1 ≤ j → j ≤ 2 * t → S.getD j 0 = S'.getD j 0
def zk_l8 (n : Nat) (c : List Nat) : Prop := c.length = 8 ∧ zk_bd n c
theorem zk_l8_padd {p n by_ sh : Nat} {P L q c : List Nat} (F : zk_F p n P L) (hq : zk_l8 n q) (hby : by_ ≤ n) (hc : zk_l8 n c) : zk_l8 n (padd p by_ sh q c) := ⟨by rw [padd_len]; exact hc.1, padd_bd F hq.2 hby hc.2⟩
theorem zk_l8_0 {n : Nat} : zk_l8 n [0, 0, 0, 0, 0, 0, 0, 0] := ⟨rfl, zk_bd_z8⟩
theorem zk_l8_set {n i v : Nat} {c : List Nat} (h : zk_l8 n c) (hv : v ≤ n) : zk_l8 n (c.set i v) := ⟨by rw [List.length_set]; exact h.1, zk_bd_set h.2 hv⟩
/-! Growing -/
theorem grow_ok {p n t : Nat} {P L S : List Nat} (F : zk_F p n P L) (hS : zk_bs n t S) : zk_l8 n (grow p t S) := by
  have hn := F.n31
  have h := zk_it_inv (f := grF p S) (fun k (z : GrS) => zk_l8 n z.1 ∧ zk_l8 n z.2.1 ∧ z.2.2.1 ≤ k ∧ z.2.2.2.2 ≠ 0 ∧ z.2.2.2.2 ≤ n) (2 * t) 0 ([1, 0, 0, 0, 0, 0, 0, 0], [1, 0, 0, 0, 0, 0, 0, 0], 0, 1, 1)
    ⟨zk_l8_set (i := 0) (v := 1) zk_l8_0 (by omega), zk_l8_set (i := 0) (v := 1) zk_l8_0 (by omega), Nat.le_refl _, by decide, by show 1 ≤ n; omega⟩ ?_
  · exact h.1
  · rintro k ⟨c, o, len, sh, la⟩ h1 h2 ⟨hc, ho, hl, l0, ln⟩
    have hw : grw p S c k len ≤ n := gwF_le F hS hc.2 k (by omega) (len + 1) 0 0 (Nat.zero_le n)
    by_cases q1 : grw p S c k len = 0
    · rw [← grF_0 q1]; exact ⟨hc, ho, Nat.le_succ_of_le hl, l0, ln⟩
    · by_cases q2 : 2 * len ≤ k
      · rw [← grF_1 q1 q2]; exact ⟨zk_l8_padd F ho (F.gdl hw ln l0) hc, hc, by show k + 1 - len ≤ k + 1; omega, q1, hw⟩
      · rw [← grF_2 q1 q2]; exact ⟨zk_l8_padd F ho (F.gdl hw ln l0) hc, ho, Nat.le_succ_of_le hl, l0, ln⟩
theorem grow_cong {p t : Nat} {S S' : List Nat} (h : zk_sa t S S') : grow p t S = grow p t S' := by
  have hk : ∀ k, k ≤ 2 * t → zk_it (grF p S) k 0 ([1, 0, 0, 0, 0, 0, 0, 0], [1, 0, 0, 0, 0, 0, 0, 0], 0, 1, 1) = zk_it (grF p S') k 0 ([1, 0, 0, 0, 0, 0, 0, 0], [1, 0, 0, 0, 0, 0, 0, 0], 0, 1, 1) ∧ (zk_it (grF p S) k 0 ([1, 0, 0, 0, 0, 0, 0, 0], [1, 0, 0, 0, 0, 0, 0, 0], 0, 1, 1)).2.2.1 ≤ k := by
    intro k
    induction k with
    | zero => intro _; exact ⟨rfl, Nat.le_refl _⟩
    | succ k ih =>
      intro hk
      obtain ⟨e1, e2⟩ := ih (by omega)
      rw [zk_it_last, zk_it_last, ← e1, Nat.zero_add]
      revert e2
      generalize zk_it (grF p S) k 0 ([1, 0, 0, 0, 0, 0, 0, 0], [1, 0, 0, 0, 0, 0, 0, 0], 0, 1, 1) = z
      intro e2
      have hw : grw p S z.1 k z.2.2.1 = grw p S' z.1 k z.2.2.1 := by
        unfold grw
        refine zk_it_congr _ _ _ (fun j a h1 h2 => ?_)
        unfold gwF
        rw [h (k + 1 - j) (by omega) (by omega)]
      refine ⟨by unfold grF; rw [hw], ?_⟩
      unfold grF
      split
      · exact Nat.le_succ_of_le e2
      · split
        · show k + 1 - z.2.2.1 ≤ k + 1; omega
        · exact Nat.le_succ_of_le e2
  unfold grow
  rw [(hk (2 * t) (Nat.le_refl _)).1]
/-! Division -/
theorem dlow_ok {n t : Nat} {S : List Nat} (hS : zk_bs n t S) : zk_l8 n (dlow S t) :=
  zk_it_inv (f := dlF S) (fun _ c => zk_l8 n c) (2 * t) 1 _ zk_l8_0 (fun j c h1 h2 h => zk_l8_set h (hS j (by omega)))
theorem dlow_cong {t : Nat} {S S' : List Nat} (h : zk_sa t S S') : dlow S t = dlow S' t :=
  zk_it_congr _ _ _ (fun j c h1 h2 => by unfold dlF; rw [h j h1 (by omega)])
theorem divi_cong {p t : Nat} {S S' : List Nat} (h : zk_sa t S S') : divi p t S = divi p t S' := by
  unfold divi dnow
  rw [dlow_cong h]
theorem dvl_ok {p n d tp : Nat} {P L xl xn : List Nat} (F : zk_F p n P L) (bl : zk_l8 n xl) (bn : zk_l8 n xn) (t0 : tp ≠ 0) (tn : tp ≤ n) : ∀ (f : Nat) (xh xb : List Nat), zk_l8 n xh → zk_l8 n xb → zk_l8 n (dvl p d tp xl xn f xh xb).1 ∧ zk_l8 n (dvl p d tp xl xn f xh xb).2 := by
  intro f
  induction f with
  | zero => intro xh xb h1 h2; exact ⟨h1, h2⟩
  | succ f ih =>
    intro xh xb h1 h2
    by_cases q : dgn xh 8 ≤ d
    · rw [dvl_e q]; exact ⟨h1, h2⟩
    · obtain ⟨k, hk⟩ : ∃ k, dgn xh 8 = k + 1 := ⟨dgn xh 8 - 1, by omega⟩
      rw [dvl_s hk (by omega)]
      exact ih _ _ (zk_l8_padd F bl (F.gdl (h1.2 _) tn t0) h1) (zk_l8_padd F bn (F.gdl (h1.2 _) tn t0) h2)
theorem dvs_ok {p n t : Nat} {P L : List Nat} (F : zk_F p n P L) : ∀ (f : Nat) (xh xl xb xn : List Nat), zk_l8 n xh → zk_l8 n xl → zk_l8 n xb → zk_l8 n xn → zk_l8 n (dvs p t f xh xl xb xn) := by
  intro f
  induction f with
  | zero => intro xh xl xb xn _ _ _ h; exact h
  | succ f ih =>
    intro xh xl xb xn h1 h2 h3 h4
    by_cases q : dgn xl 8 ≤ t
    · rw [dvs_e q]; exact h4
    · obtain ⟨d, hd⟩ : ∃ d, dgn xl 8 = d + 1 := ⟨dgn xl 8 - 1, by omega⟩
      rw [dvs_s hd (by omega)]
      have t0 : xl.getD d 0 ≠ 0 := by
        have := dgn_top (c := xl) (j := 8) (by omega)
        rw [hd] at this
        exact this
      obtain ⟨a, b⟩ := dvl_ok (d := d) F h2 h4 t0 (h2.2 _) 8 xh xb h1 h3
      exact ih _ _ _ _ h2 a h4 b
theorem divi_ok {p n t : Nat} {P L S : List Nat} (F : zk_F p n P L) (hS : zk_bs n t S) : zk_l8 n (divi p t S) := by
  have hn := F.n31
  have h : zk_l8 n (dnow p t S) := dvs_ok F 8 _ _ _ _ (zk_l8_set zk_l8_0 (by omega)) (dlow_ok hS) zk_l8_0 (zk_l8_set zk_l8_0 (by omega))
  unfold divi
  split
  · exact zk_l8_0
  · next q => exact zk_l8_padd F h (F.gdl (by omega) (h.2 _) q) zk_l8_0
/-! Equations -/
theorem eqv_ok {p n : Nat} {P L S : List Nat} (F : zk_F p n P L) : ∀ (v : Nat) (M : List (List Nat)), v ≤ 3 → zk_bs n v S → zk_ml M → (eqv p S v M).1 ≤ v ∧ zk_ml (eqv p S v M).2 ∧ zk_bm n (eqv p S v M).1 (eqv p S v M).2 := by
  intro v
  induction v with
  | zero => intro M _ _ h; exact ⟨Nat.le_refl _, h, fun i j hi => absurd hi (Nat.not_lt_zero _)⟩
  | succ v ih =>
    intro M hv hS h
    obtain ⟨h1, h2⟩ := eqsolve_ok F hS hv h
    by_cases q : (eqsolve p (v + 1) S M).1 = true
    · rw [eqv_s1 q]; exact ⟨Nat.le_refl _, h1, h2⟩
    · rw [eqv_s0 q]
      obtain ⟨a, b, c⟩ := ih (eqsolve p (v + 1) S M).2 (by omega) (zk_bs_mono hS (by omega)) h1
      exact ⟨by omega, b, c⟩
theorem equa_ok {p n t : Nat} {P L S : List Nat} {M : List (List Nat)} (F : zk_F p n P L) (hS : zk_bs n t S) (t3 : t ≤ 3) (h : zk_ml M) : zk_l8 n (equa p t S M) := by
  have hn := F.n31
  obtain ⟨a, b, c⟩ := eqv_ok F t M t3 hS h
  exact zk_it_inv (f := egF (eqv p S t M).1 (eqv p S t M).2) (fun _ c => zk_l8 n c) _ 0 _ (zk_l8_set zk_l8_0 (by omega)) (fun j x h1 h2 hx => zk_l8_set hx (c _ _ (by omega) (Nat.le_refl _)))
def zk_ag (v : Nat) (M M' : List (List Nat)) : Prop := zk_ml M ∧ zk_ml M' ∧ ∀ a b, a < v → b ≤ v → mg M a b = mg M' a b
theorem zk_ag_set {v i j x x' : Nat} {M M' : List (List Nat)} (hv : v ≤ 3) (h : zk_ag v M M') (hi : i < v) (hj : j ≤ v) (hx : x = x') : zk_ag v (mset M i j x) (mset M' i j x') := by
  refine ⟨zk_ml_set h.1, zk_ml_set h.2.1, fun a b ha hb => ?_⟩
  rw [mg_set h.1 (by omega) (by omega), mg_set h.2.1 (by omega) (by omega), hx, h.2.2 a b ha hb]
theorem zk_ag_it {v : Nat} {f f' : Nat → List (List Nat) → List (List Nat)} : ∀ (k i : Nat) (M M' : List (List Nat)), (∀ j M M', i ≤ j → j < i + k → zk_ag v M M' → zk_ag v (f j M) (f' j M')) → zk_ag v M M' → zk_ag v (zk_it f k i M) (zk_it f' k i M') := by
  intro k
  induction k with
  | zero => intro i M M' _ h; exact h
  | succ k ih => intro i M M' hf h; rw [zk_it_s, zk_it_s]; exact ih _ _ _ (fun j M M' h1 h2 => hf j M M' (by omega) (by omega)) (hf i M M' (Nat.le_refl _) (by omega) h)
theorem zk_ag_fill {v : Nat} {S S' : List Nat} {M M' : List (List Nat)} (hv : v ≤ 3) (hs : zk_sa v S S') (h : zk_ml M) (h' : zk_ml M') : zk_ag v (eqfill S v M) (eqfill S' v M') := by
  obtain ⟨a1, a2⟩ := eqfill_g (S := S) hv v 0 M (by omega) h
  obtain ⟨b1, b2⟩ := eqfill_g (S := S') hv v 0 M' (by omega) h'
  refine ⟨a1, b1, fun a b ha hb => ?_⟩
  show mg (zk_it (efR S v) v 0 M) a b = mg (zk_it (efR S' v) v 0 M') a b
  rw [a2, b2, if_pos ⟨Nat.zero_le _, ha, hb⟩, if_pos ⟨Nat.zero_le _, ha, hb⟩]
  exact hs _ (by omega) (by omega)
theorem zk_ag_sw {v k q : Nat} {M M' : List (List Nat)} (hv : v ≤ 3) (h : zk_ag v M M') (hk : k < v) (hq : q < v) : zk_ag v (zk_sw M k q) (zk_sw M' k q) := by
  refine ⟨zk_ml_sw h.1 (by omega) (by omega), zk_ml_sw h.2.1 (by omega) (by omega), fun a b ha hb => ?_⟩
  rw [mg_sw h.1 (by omega) (by omega), mg_sw h.2.1 (by omega) (by omega), h.2.2 k b hk hb, h.2.2 q b hq hb, h.2.2 a b ha hb]
theorem zk_ag_epv {v k : Nat} {M M' : List (List Nat)} (h : zk_ag v M M') (hk : k < v) : ∀ (f q : Nat), q + f ≤ v → epv M k f q = epv M' k f q := by
  intro f
  induction f with
  | zero => intro q _; rfl
  | succ f ih =>
    intro q hq
    have e := h.2.2 q k (by omega) (by omega)
    by_cases z : mg M q k = 0
    · rw [epv_s0 z, epv_s0 (e ▸ z)]; exact ih _ (by omega)
    · rw [epv_s1 z, epv_s1 (e ▸ z)]
theorem zk_ag_clear {p v k : Nat} {M M' : List (List Nat)} (hv : v ≤ 3) (h : zk_ag v M M') (hk : k < v) : zk_ag v (eqclear p k v M) (eqclear p k v M') := by
  have h1 : zk_ag v (ec1 p k v M) (ec1 p k v M') :=
    zk_ag_it _ _ _ _ (fun j N N' q1 q2 q => zk_ag_set hv q hk (by omega) (by rw [q.2.2 k j hk (by omega), h.2.2 k k hk (by omega)])) h
  refine zk_ag_it _ _ _ _ (fun i N N' q1 q2 q => ?_) h1
  unfold ei
  split
  · exact q
  · exact zk_ag_it _ _ _ _ (fun j O O' z1 z2 z => zk_ag_set hv z (by omega) (by omega) (by rw [z.2.2 i j (by omega) (by omega), z.2.2 k j hk (by omega), q.2.2 i k (by omega) (by omega)])) q
theorem zk_ag_esl {p v : Nat} (hv : v ≤ 3) : ∀ (r k : Nat) (M M' : List (List Nat)), k + r = v → zk_ag v M M' → (esl p v r k M).1 = (esl p v r k M').1 ∧ zk_ag v (esl p v r k M).2 (esl p v r k M').2 := by
  intro r
  induction r with
  | zero => intro k M M' _ h; exact ⟨rfl, h⟩
  | succ r ih =>
    intro k M M' hk h
    have e := zk_ag_epv h (show k < v by omega) (v - k) k (by omega)
    obtain ⟨a, b, c⟩ := epv_le (M := M) (k := k) (v - k) k
    by_cases q : epv M k (v - k) k = v
    · rw [esl_s0 q, esl_s0 (e ▸ q)]; exact ⟨rfl, h⟩
    · rw [esl_s1 q, esl_s1 (e ▸ q), ← e]
      exact ih _ _ _ (by omega) (zk_ag_clear hv (zk_ag_sw hv h (by omega) (by omega)) (by omega))
theorem zk_ag_eqv {p : Nat} {S S' : List Nat} : ∀ (v : Nat) (M M' : List (List Nat)), v ≤ 3 → zk_sa v S S' → zk_ml M → zk_ml M' → (eqv p S v M).1 = (eqv p S' v M').1 ∧ ∀ i, i < (eqv p S v M).1 → mg (eqv p S v M).2 i (eqv p S v M).1 = mg (eqv p S' v M').2 i (eqv p S v M).1 := by
  intro v
  induction v with
  | zero => intro M M' _ _ _ _; exact ⟨rfl, fun i hi => absurd hi (Nat.not_lt_zero _)⟩
  | succ v ih =>
    intro M M' hv hs h h'
    obtain ⟨e1, e2⟩ := zk_ag_esl (p := p) hv (v + 1) 0 _ _ (by omega) (zk_ag_fill hv hs h h')
    have e1 : (eqsolve p (v + 1) S M).1 = (eqsolve p (v + 1) S' M').1 := e1
    have e2 : zk_ag (v + 1) (eqsolve p (v + 1) S M).2 (eqsolve p (v + 1) S' M').2 := e2
    by_cases q : (eqsolve p (v + 1) S M).1 = true
    · rw [eqv_s1 q, eqv_s1 (e1 ▸ q)]
      exact ⟨rfl, fun i hi => e2.2.2 i (v + 1) hi (Nat.le_refl _)⟩
    · rw [eqv_s0 q, eqv_s0 (e1 ▸ q)]
      exact ih _ _ (by omega) (fun j h1 h2 => hs j h1 (by omega)) e2.1 e2.2.1
theorem equa_cong {p t : Nat} {S S' : List Nat} {M M' : List (List Nat)} (t3 : t ≤ 3) (hs : zk_sa t S S') (h : zk_ml M) (h' : zk_ml M') : equa p t S M = equa p t S' M' := by
  obtain ⟨e1, e2⟩ := zk_ag_eqv (p := p) t M M' t3 hs h h'
  unfold equa
  rw [← e1]
  refine zk_it_congr _ _ _ (fun j c h1 h2 => ?_)
  unfold egF
  rw [e2 j (by omega)]
/-! the syndromes of a word -/
theorem syn_len {p n t wd : Nat} {S : List Nat} : (syn p n t wd S).length = S.length := zk_len_it (fun j S => by rw [syF, List.length_set]) _ _ _
theorem syn_it {p n wd : Nat} : ∀ (k i : Nat) (S : List Nat), i + k ≤ S.length → ∀ j, (zk_it (syF p n wd) k i S).getD j 0 = if i ≤ j ∧ j < i + k then atv p n wd j else S.getD j 0 := by
  intro k
  induction k with
  | zero => intro i S _ j; rw [zk_it_0, if_neg (by omega)]
  | succ k ih =>
    intro i S h j
    rw [zk_it_s, ih (i + 1) _ (by rw [syF, List.length_set]; omega)]
    by_cases e : i = j
    · subst e
      rw [if_neg (by omega), if_pos ⟨Nat.le_refl _, by omega⟩, syF, zk_sg (by omega)]
    · by_cases h3 : i + 1 ≤ j ∧ j < i + 1 + k
      · rw [if_pos h3, if_pos (by omega)]
      · rw [if_neg h3, if_neg (by omega), syF, zk_sgn e]
theorem syn_g {p n t wd : Nat} {S : List Nat} (h : S.length = 7) (t3 : t ≤ 3) {j : Nat} : (syn p n t wd S).getD j 0 = if 1 ≤ j ∧ j < 1 + 2 * t then atv p n wd j else S.getD j 0 := syn_it _ _ _ (by omega) j
theorem atv_le {p n wd j : Nat} {P L : List Nat} (F : zk_F p n P L) : atv p n wd j ≤ n := atF_le F (wd := wd) (x := j) n 0 0 (Nat.zero_le n)
theorem syn_bs {p n t wd : Nat} {P L S : List Nat} (F : zk_F p n P L) (h : S.length = 7) (t3 : t ≤ 3) (h0 : S.getD 0 0 = 0) : zk_bs n t (syn p n t wd S) := by
  intro j hj
  rw [syn_g h t3]
  split
  · exact atv_le F
  · rw [show j = 0 by omega, h0]; exact Nat.zero_le _
theorem syn_0 {p n t wd : Nat} {S : List Nat} (h : S.length = 7) (t3 : t ≤ 3) (h0 : S.getD 0 0 = 0) : (syn p n t wd S).getD 0 0 = 0 := by rw [syn_g h t3, if_neg (by omega), h0]
theorem syn_sa {p n t wd : Nat} {S S' : List Nat} (h : S.length = 7) (h' : S'.length = 7) (t3 : t ≤ 3) : zk_sa t (syn p n t wd S) (syn p n t wd S') := by
  intro j h1 h2
  rw [syn_g h t3, syn_g h' t3, if_pos ⟨h1, by omega⟩, if_pos ⟨h1, by omega⟩]
abbrev zk_z7 : List Nat := [0, 0, 0, 0, 0, 0, 0]
abbrev zk_z34 : List (List Nat) := [[0, 0, 0, 0], [0, 0, 0, 0], [0, 0, 0, 0]]
theorem zk_z34_ml : zk_ml zk_z34 := ⟨rfl, fun i h => by rcases zk_i3 h with rfl | rfl | rfl <;> rfl⟩
/-- the polynomial that a way finds for a word: 0 equations, 1 division, 2 growing -/
noncomputable def loc (w p n t wd : Nat) : List Nat := if w = 0 then equa p t (syn p n t wd zk_z7) zk_z34 else if w = 1 then divi p t (syn p n t wd zk_z7) else grow p t (syn p n t wd zk_z7)
theorem loc_0 {p n t wd : Nat} {S : List Nat} {M : List (List Nat)} (h : S.length = 7) (t3 : t ≤ 3) (hM : zk_ml M) : equa p t (syn p n t wd S) M = loc 0 p n t wd := equa_cong t3 (syn_sa h rfl t3) hM zk_z34_ml
theorem loc_1 {p n t wd : Nat} {S : List Nat} (h : S.length = 7) (t3 : t ≤ 3) : divi p t (syn p n t wd S) = loc 1 p n t wd := divi_cong (syn_sa h rfl t3)
theorem loc_2 {p n t wd : Nat} {S : List Nat} (h : S.length = 7) (t3 : t ≤ 3) : grow p t (syn p n t wd S) = loc 2 p n t wd := grow_cong (syn_sa h rfl t3)
theorem loc_ok {w p n t wd : Nat} {P L : List Nat} (F : zk_F p n P L) (t3 : t ≤ 3) : zk_l8 n (loc w p n t wd) := by
  unfold loc
  split
  · exact equa_ok F (syn_bs F rfl t3 rfl) t3 zk_z34_ml
  · split
    · exact divi_ok F (syn_bs F rfl t3 rfl)
    · exact grow_ok F (syn_bs F rfl t3 rfl)
/-- the places of errors by the roots -/
noncomputable def erF (p n : Nat) (c : List Nat) (i e : Nat) : Nat := e ||| (if pval p n ((n - i) % n) c = 0 then 1 <<< i else 0)
noncomputable def ers (p n : Nat) (c : List Nat) : Nat := zk_it (erF p n c) n 0 0
theorem erF_1 {p n i e : Nat} {c : List Nat} (h : pval p n ((n - i) % n) c = 0) : e ||| 1 <<< i = erF p n c i e := by rw [erF, if_pos h]
theorem erF_0 {p n i e : Nat} {c : List Nat} (h : pval p n ((n - i) % n) c ≠ 0) : e ||| 0 = erF p n c i e := by rw [erF, if_neg h]
theorem erF_lt {p n i e : Nat} {c : List Nat} (h : e < 2 ^ i) : erF p n c i e < 2 ^ (i + 1) := by
  have h2 : 2 ^ i < 2 ^ (i + 1) := Nat.pow_lt_pow_right (by decide) (by omega)
  unfold erF
  refine Nat.or_lt_two_pow (by omega) ?_
  split
  · rw [Nat.shiftLeft_eq, Nat.one_mul]; exact h2
  · exact Nat.two_pow_pos _
theorem ers_lt (p n : Nat) (c : List Nat) : ers p n c < 2 ^ n := by
  have h := zk_it_inv (f := erF p n c) (fun i e => e < 2 ^ i) n 0 0 (by decide) (fun j e _ _ h => erF_lt h)
  rw [Nat.zero_add] at h
  exact h
/-- Code.mended -/
noncomputable def mdd (w p n t wd : Nat) : Option Nat := if rgt p n t wd ≠ 0 then some wd else if t < bct (ers p n (loc w p n t wd)) then none else if rgt p n t (wd ^^^ ers p n (loc w p n t wd)) = 0 then none else some (wd ^^^ ers p n (loc w p n t wd))
