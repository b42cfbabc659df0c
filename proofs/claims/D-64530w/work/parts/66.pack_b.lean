/-! Division, packed -/
set_option maxRecDepth 100000
noncomputable def dgp (x j : Nat) : Nat := Nat.rec (motive := fun _ => Nat) 0 (fun j ih => bz (pg x j) ih (Nat.succ j)) j
theorem dgp_e {x : Nat} {c : List Nat} (h : pkR x c) : ∀ j, j ≤ 8 → dgp x j = dgn c j := by
  intro j
  induction j with
  | zero => intro _; rfl
  | succ j ih =>
    intro hj
    have e : dgp x (j + 1) = bz (pg x j) (dgp x j) (j + 1) := rfl
    rw [e]
    by_cases q : c.getD j 0 = 0
    · rw [bz_p (by rw [h j (by omega)]; exact q), dgn_s0 q, ih (by omega)]
    · rw [bz_n (by rw [h j (by omega)]; exact q), dgn_s1 q]
noncomputable def dvlp (G H d tp xl xn f : Nat) : Nat → Nat → (Nat → Nat → Nat) → Nat := Nat.rec (motive := fun _ => Nat → Nat → (Nat → Nat → Nat) → Nat) (fun xh xb K => K xh xb)
  (fun _ ih xh xb K => fc (dgp xh 8) (fun e => bz (Nat.sub e d) (K xh xb) (fc (gx H (pg xh (Nat.sub e 1)) tp) (fun b => fc (pa G b (Nat.sub (Nat.sub e 1) d) xl xh) (fun h1 => fc (pa G b (Nat.sub (Nat.sub e 1) d) xn xb) (fun b1 => ih h1 b1 K)))))) f
theorem dvlp_R {p d tp xl xn : Nat} {ll ln : List Nat} (hl : pkR xl ll) (hn : pkR xn ln) : ∀ (f xh xb : Nat) (lh lb : List Nat) (K : Nat → Nat → Nat) (Kl : List Nat → List Nat → List Nat), lh.length = 8 → lb.length = 8 → pkR xh lh → pkR xb lb →
    (∀ h b uh ub, uh.length = 8 → ub.length = 8 → pkR h uh → pkR b ub → pkR (K h b) (Kl uh ub)) → pkR (dvlp (gmT p) (gdT p) d tp xl xn f xh xb K) (Kl (dvl p d tp ll ln f lh lb).1 (dvl p d tp ll ln f lh lb).2) := by
  intro f
  induction f with
  | zero => intro xh xb lh lb K Kl h1 h2 h3 h4 hK; exact hK xh xb lh lb h1 h2 h3 h4
  | succ f ih =>
    intro xh xb lh lb K Kl h1 h2 h3 h4 hK
    have e : dvlp (gmT p) (gdT p) d tp xl xn (f + 1) xh xb K = fc (dgp xh 8) (fun e => bz (e - d) (K xh xb) (fc (gx (gdT p) (pg xh (e - 1)) tp) (fun b => fc (pa (gmT p) b (e - 1 - d) xl xh) (fun h1 => fc (pa (gmT p) b (e - 1 - d) xn xb) (fun b1 => dvlp (gmT p) (gdT p) d tp xl xn f h1 b1 K))))) := rfl
    have hle := dgn_le lh 8
    rw [e, fc_e, dgp_e h3 8 (Nat.le_refl _)]
    by_cases q : dgn lh 8 ≤ d
    · rw [bz_p (by omega), dvl_e q]; exact hK xh xb lh lb h1 h2 h3 h4
    · rw [bz_n (by omega), fc_e, fc_e, fc_e, h3 _ (by omega), gx_gd]
      obtain ⟨k, hk⟩ : ∃ k, dgn lh 8 = k + 1 := ⟨dgn lh 8 - 1, by omega⟩
      rw [dvl_s hk (by omega), hk, Nat.add_sub_cancel]
      exact ih _ _ _ _ K Kl (by rw [padd_len]; exact h1) (by rw [padd_len]; exact h2) (pa_R h1 hl h3 (by omega)) (pa_R h2 hn h4 (by omega)) hK
noncomputable def dvsp (G H t f : Nat) : Nat → Nat → Nat → Nat → Nat := Nat.rec (motive := fun _ => Nat → Nat → Nat → Nat → Nat) (fun _ _ _ xn => xn)
  (fun _ ih xh xl xb xn => fc (dgp xl 8) (fun e => bz (Nat.sub e t) xn (fc (pg xl (Nat.sub e 1)) (fun tp => dvlp G H (Nat.sub e 1) tp xl xn 8 xh xb (fun h b => ih xl h xn b))))) f
theorem dvl_len {p d tp : Nat} {ll ln : List Nat} : ∀ (f : Nat) (lh lb : List Nat), lh.length = 8 → lb.length = 8 → (dvl p d tp ll ln f lh lb).1.length = 8 ∧ (dvl p d tp ll ln f lh lb).2.length = 8 := by
  intro f
  induction f with
  | zero => intro lh lb h1 h2; exact ⟨h1, h2⟩
  | succ f ih =>
    intro lh lb h1 h2
    by_cases q : dgn lh 8 ≤ d
    · rw [dvl_e q]; exact ⟨h1, h2⟩
    · obtain ⟨k, hk⟩ : ∃ k, dgn lh 8 = k + 1 := ⟨dgn lh 8 - 1, by omega⟩
      rw [dvl_s hk (by omega)]
      exact ih _ _ (by rw [padd_len]; exact h1) (by rw [padd_len]; exact h2)
theorem dvsp_R {p t : Nat} : ∀ (f xh xl xb xn : Nat) (lh ll lb ln : List Nat), lh.length = 8 → ll.length = 8 → lb.length = 8 → ln.length = 8 → pkR xh lh → pkR xl ll → pkR xb lb → pkR xn ln → pkR (dvsp (gmT p) (gdT p) t f xh xl xb xn) (dvs p t f lh ll lb ln) := by
  intro f
  induction f with
  | zero => intro xh xl xb xn lh ll lb ln _ _ _ _ _ _ _ h; exact h
  | succ f ih =>
    intro xh xl xb xn lh ll lb ln l1 l2 l3 l4 h1 h2 h3 h4
    have e : dvsp (gmT p) (gdT p) t (f + 1) xh xl xb xn = fc (dgp xl 8) (fun e => bz (e - t) xn (fc (pg xl (e - 1)) (fun tp => dvlp (gmT p) (gdT p) (e - 1) tp xl xn 8 xh xb (fun h b => dvsp (gmT p) (gdT p) t f xl h xn b)))) := rfl
    have hle := dgn_le ll 8
    rw [e, fc_e, dgp_e h2 8 (Nat.le_refl _)]
    by_cases q : dgn ll 8 ≤ t
    · rw [bz_p (by omega), dvs_e q]; exact h4
    · rw [bz_n (by omega), fc_e, h2 _ (by omega)]
      obtain ⟨k, hk⟩ : ∃ k, dgn ll 8 = k + 1 := ⟨dgn ll 8 - 1, by omega⟩
      rw [dvs_s hk (by omega), hk, Nat.add_sub_cancel]
      exact dvlp_R (p := p) h2 h4 8 xh xb lh lb (fun h b => dvsp (gmT p) (gdT p) t f xl h xn b) (fun uh ub => dvs p t f ll uh ln ub) l1 l3 h1 h3 (fun h b uh ub e1 e2 e3 e4 => ih xl h xn b ll uh ln ub l2 e1 l4 e2 h2 e3 h4 e4)
noncomputable def dvP (G H S t : Nat) : Nat := fc (dvsp G H t 8 (Nat.shiftLeft 1 (Nat.mul 10 t)) (Nat.shiftRight S 5) 0 1) (fun x => fc (pg x 0) (fun x0 => bz x0 0 (pa G (gx H 1 x0) 0 x 0)))
theorem pkR_0 : pkR 0 [0, 0, 0, 0, 0, 0, 0, 0] := by unfold pkR; decide
theorem pkR_hi : ∀ t, t < 4 → pkR (1 <<< (10 * t)) (([0, 0, 0, 0, 0, 0, 0, 0] : List Nat).set (2 * t) 1) := by unfold pkR; decide
theorem dlow_g (S : List Nat) : ∀ (k j : Nat) (c : List Nat), 1 ≤ j → j + k ≤ 8 → c.length = 8 → (zk_it (dlF S) k j c).length = 8 ∧ ∀ i, i < 8 → (zk_it (dlF S) k j c).getD i 0 = if j ≤ i + 1 ∧ i + 1 < j + k then S.getD (i + 1) 0 else c.getD i 0 := by
  intro k
  induction k with
  | zero => intro j c h1 h2 h3; exact ⟨h3, fun i _ => by rw [if_neg (by omega)]; rfl⟩
  | succ k ih =>
    intro j c h1 h2 h3
    have h := ih (j + 1) (dlF S j c) (by omega) (by omega) (by unfold dlF; rw [List.length_set]; exact h3)
    rw [zk_it_s]
    refine ⟨h.1, fun i hi => ?_⟩
    rw [h.2 i hi]
    by_cases e : i + 1 = j
    · rw [if_neg (by omega), if_pos (by omega)]
      unfold dlF
      rw [zk_gs, if_pos (by omega), e]
    · by_cases e2 : j + 1 ≤ i + 1 ∧ i + 1 < j + 1 + k
      · rw [if_pos e2, if_pos (by omega)]
      · rw [if_neg e2, if_neg (by omega)]
        unfold dlF
        rw [zk_gs, if_neg (by omega)]
theorem pg_sr (x i : Nat) : pg (x >>> 5) i = pg x (i + 1) := by rw [pg_d, pg_d, show 5 * (i + 1) = 5 + 5 * i by omega, Nat.shiftRight_add]
theorem pg_hi {x i : Nat} (hx : x < 2 ^ 40) (hi : 8 ≤ i) : pg x i = 0 := by
  rw [pg_d, Nat.shiftRight_eq_div_pow, Nat.div_eq_of_lt (Nat.lt_of_lt_of_le hx (Nat.pow_le_pow_right (by decide) (by omega)))]
theorem dvP_R {p t S : Nat} {Sl : List Nat} (hS : pkR S Sl) (t3 : t ≤ 3) (hx : S < 2 ^ 40) (hz : ∀ i, 2 * t < i → i < 8 → Sl.getD i 0 = 0) : pkR (dvP (gmT p) (gdT p) S t) (divi p t Sl) := by
  have hl := dlow_g Sl (2 * t) 1 [0, 0, 0, 0, 0, 0, 0, 0] (Nat.le_refl _) (by omega) rfl
  have hlow : pkR (S >>> 5) (dlow Sl t) := by
    intro i hi
    rw [pg_sr]
    unfold dlow
    rw [hl.2 i hi]
    by_cases h7 : i = 7
    · rw [pg_hi hx (by omega), if_neg (by omega), h7]; rfl
    · rw [hS (i + 1) (by omega)]
      by_cases e : 1 ≤ i + 1 ∧ i + 1 < 1 + 2 * t
      · rw [if_pos e]
      · rw [if_neg e, hz _ (by omega) (by omega), ← pkR_0 i hi]
        rw [pg_d, Nat.zero_shiftRight]
  have hd : pkR (dvsp (gmT p) (gdT p) t 8 (1 <<< (10 * t)) (S >>> 5) 0 1) (dnow p t Sl) :=
    dvsp_R 8 _ _ _ _ _ _ _ _ (by rw [List.length_set]; rfl) hl.1 rfl rfl (pkR_hi t (by omega)) hlow pkR_0 pkR_1
  show pkR (fc (dvsp (gmT p) (gdT p) t 8 (1 <<< (10 * t)) (S >>> 5) 0 1) (fun x => fc (pg x 0) (fun x0 => bz x0 0 (pa (gmT p) (gx (gdT p) 1 x0) 0 x 0)))) (divi p t Sl)
  rw [fc_e, fc_e, hd 0 (by decide)]
  unfold divi
  by_cases q : (dnow p t Sl).getD 0 0 = 0
  · rw [bz_p q, if_pos q]; exact pkR_0
  · rw [bz_n q, if_neg q, gx_gd]; exact pa_R rfl hd pkR_0 (by omega)
/-! Equations, packed: rows of 4 lanes -/
def pkM (x : Nat) (M : List (List Nat)) : Prop := ∀ i j, i < 3 → j < 4 → pg x (4 * i + j) = mg M i j
def st1 (x q v : Nat) : Nat := Nat.xor x (Nat.shiftLeft (Nat.xor (pg x q) v) (Nat.mul 5 q))
theorem x32 {a b : Nat} (ha : a < 32) (hb : b < 32) : a ^^^ b < 32 := Nat.xor_lt_two_pow (n := 5) ha hb
theorem st1_g {x q v : Nat} (hv : v < 32) (i : Nat) : pg (st1 x q v) i = if i = q then v else pg x i := by
  show pg (x ^^^ (pg x q ^^^ v) <<< (5 * q)) i = _
  rw [pg_xor, pg_lane (x32 (pg_lt x q) hv)]
  by_cases e : i = q
  · rw [if_pos e, if_pos e, e, ← Nat.xor_assoc, Nat.xor_self, Nat.zero_xor]
  · rw [if_neg e, if_neg e, Nat.xor_zero]
theorem st1_M {x i j v : Nat} {M : List (List Nat)} (hm : zk_ml M) (h : pkM x M) (hi : i < 3) (hj : j < 4) (hv : v < 32) : pkM (st1 x (4 * i + j) v) (mset M i j v) := by
  intro a b ha hb
  rw [st1_g hv, mg_set hm hi hj, h a b ha hb]
  by_cases e : i = a ∧ j = b
  · rw [if_pos e, if_pos (by omega)]
  · rw [if_neg e, if_neg (by omega)]
noncomputable def itN (f : Nat → Nat → Nat) (k i a : Nat) : Nat := Nat.rec (motive := fun _ => Nat → Nat → Nat) (fun _ a => a) (fun _ ih i a => fc (f i a) (fun b => ih (Nat.succ i) b)) k i a
theorem itN_M {f : Nat → Nat → Nat} {f' : Nat → List (List Nat) → List (List Nat)} : ∀ (k i x : Nat) (M : List (List Nat)), (∀ j y N, i ≤ j → j < i + k → zk_ml N → pkM y N → zk_ml (f' j N) ∧ pkM (f j y) (f' j N)) → zk_ml M → pkM x M → zk_ml (zk_it f' k i M) ∧ pkM (itN f k i x) (zk_it f' k i M) := by
  intro k
  induction k with
  | zero => intro i x M _ h1 h2; exact ⟨h1, h2⟩
  | succ k ih =>
    intro i x M hf h1 h2
    have h := hf i x M (Nat.le_refl _) (by omega) h1 h2
    have e : itN f (k + 1) i x = fc (f i x) (fun b => itN f k (i + 1) b) := rfl
    rw [e, fc_e, zk_it_s]
    exact ih (i + 1) _ _ (fun j y N q1 q2 => hf j y N (by omega) (by omega)) h.1 h.2
def ml4 (i j : Nat) : Nat := Nat.add (Nat.mul 4 i) j
noncomputable def efp (S v x : Nat) : Nat := itN (fun i x => itN (fun j x => st1 x (ml4 i j) (pg S (Nat.succ (Nat.add i j)))) (Nat.succ v) 0 x) v 0 x
theorem efp_R {S v x : Nat} {Sl : List Nat} {M : List (List Nat)} (hS : pkR S Sl) (hv : v ≤ 3) (hm : zk_ml M) (h : pkM x M) : zk_ml (eqfill Sl v M) ∧ pkM (efp S v x) (eqfill Sl v M) := by
  refine itN_M v 0 x M (fun i y N h1 h2 n1 n2 => ?_) hm h
  refine itN_M (f' := efF Sl i) (v + 1) 0 y N (fun j y N h3 h4 n1 n2 => ?_) n1 n2
  refine ⟨zk_ml_set n1, ?_⟩
  have e : pg S (i + j + 1) = Sl.getD (i + j + 1) 0 := hS _ (by omega)
  show pkM (st1 y (4 * i + j) (pg S (i + j + 1))) (mset N i j (Sl.getD (i + j + 1) 0))
  rw [← e]
  exact st1_M n1 n2 (by omega) (by omega) (pg_lt _ _)
noncomputable def ec1p (H k v x : Nat) : Nat := fc (pg x (ml4 k k)) (fun b => itN (fun j x => st1 x (ml4 k j) (gx H (pg x (ml4 k j)) b)) (Nat.sub (Nat.succ v) k) k x)
theorem ec1p_R {p k v x : Nat} {M : List (List Nat)} (hv : v ≤ 3) (hk : k < v) (hm : zk_ml M) (h : pkM x M) : zk_ml (ec1 p k v M) ∧ pkM (ec1p (gdT p) k v x) (ec1 p k v M) := by
  unfold ec1p
  rw [fc_e, show pg x (ml4 k k) = mg M k k from h k k (by omega) (by omega)]
  refine itN_M (f' := ecF p k (mg M k k)) (v + 1 - k) k x M (fun j y N h1 h2 n1 n2 => ⟨zk_ml_set n1, ?_⟩) hm h
  show pkM (st1 y (4 * k + j) (gx (gdT p) (pg y (4 * k + j)) (mg M k k))) (mset N k j (gd p (mg N k j) (mg M k k)))
  rw [n2 k j (by omega) (by omega), gx_gd]
  exact st1_M n1 n2 (by omega) (by omega) (by rw [← gx_gd]; exact gx_lt _ _ _)
noncomputable def eip (G k v i x : Nat) : Nat := bz (Nat.add (Nat.sub i k) (Nat.sub k i)) x (fc (pg x (ml4 i k)) (fun tm => itN (fun j x => st1 x (ml4 i j) (Nat.xor (pg x (ml4 i j)) (gx G tm (pg x (ml4 k j))))) (Nat.sub (Nat.succ v) k) k x))
theorem eip_R {p k v i x : Nat} {M : List (List Nat)} (hv : v ≤ 3) (hk : k < v) (hi : i < v) (hm : zk_ml M) (h : pkM x M) : zk_ml (ei p k v i M) ∧ pkM (eip (gmT p) k v i x) (ei p k v i M) := by
  unfold eip ei
  by_cases q : i = k
  · rw [if_pos q, bz_p (by subst q; show i - i + (i - i) = 0; omega)]; exact ⟨hm, h⟩
  · rw [if_neg q, bz_n (by show i - k + (k - i) ≠ 0; omega), fc_e, show pg x (ml4 i k) = mg M i k from h i k (by omega) (by omega)]
    refine itN_M (f' := eiF p k i (mg M i k)) (v + 1 - k) k x M (fun j y N h1 h2 n1 n2 => ⟨zk_ml_set n1, ?_⟩) hm h
    show pkM (st1 y (4 * i + j) (pg y (4 * i + j) ^^^ gx (gmT p) (mg M i k) (pg y (4 * k + j)))) (mset N i j (mg N i j ^^^ gm p (mg M i k) (mg N k j)))
    have hx : mg N i j ^^^ gm p (mg M i k) (mg N k j) < 32 := by
      rw [← n2 i j (by omega) (by omega), ← gx_gm]; exact x32 (pg_lt _ _) (gx_lt _ _ _)
    rw [n2 i j (by omega) (by omega), n2 k j (by omega) (by omega), gx_gm]
    exact st1_M n1 n2 (by omega) (by omega) hx
noncomputable def ecp (G H k v x : Nat) : Nat := fc (ec1p H k v x) (fun x => itN (eip G k v) v 0 x)
theorem ecp_R {p k v x : Nat} {M : List (List Nat)} (hv : v ≤ 3) (hk : k < v) (hm : zk_ml M) (h : pkM x M) : zk_ml (eqclear p k v M) ∧ pkM (ecp (gmT p) (gdT p) k v x) (eqclear p k v M) := by
  unfold ecp
  rw [fc_e]
  have h1 := ec1p_R (p := p) hv hk hm h
  exact itN_M (f' := ei p k v) v 0 _ _ (fun i y N q1 q2 n1 n2 => eip_R hv hk (by omega) n1 n2) h1.1 h1.2
noncomputable def epp (x k f : Nat) : Nat → Nat := Nat.rec (motive := fun _ => Nat → Nat) (fun q => q) (fun _ ih q => bz (pg x (ml4 q k)) (ih (Nat.succ q)) q) f
theorem epp_e {x k : Nat} {M : List (List Nat)} (hk : k < 4) (h : pkM x M) : ∀ (f q : Nat), q + f ≤ 3 → epp x k f q = epv M k f q := by
  intro f
  induction f with
  | zero => intro q _; rfl
  | succ f ih =>
    intro q hq
    have e : epp x k (f + 1) q = bz (pg x (4 * q + k)) (epp x k f (q + 1)) q := rfl
    rw [e, h q k (by omega) hk]
    by_cases z : mg M q k = 0
    · rw [bz_p z, epv_s0 z, ih _ (by omega)]
    · rw [bz_n z, epv_s1 z]
/-- two rows change places -/
def swp (x k q : Nat) : Nat := (fun d => Nat.xor x (Nat.xor (Nat.shiftLeft d (Nat.mul 20 k)) (Nat.shiftLeft d (Nat.mul 20 q)))) (Nat.xor (Nat.mod (Nat.shiftRight x (Nat.mul 20 k)) 1048576) (Nat.mod (Nat.shiftRight x (Nat.mul 20 q)) 1048576))
theorem pg_row (x k j : Nat) : pg ((x >>> (20 * k)) % 1048576) j = if j < 4 then pg x (4 * k + j) else 0 := by
  rw [pg_d, pg_d]
  apply Nat.eq_of_testBit_eq
  intro b
  rw [show (32 : Nat) = 2 ^ 5 from rfl, show (1048576 : Nat) = 2 ^ 20 from rfl, Nat.testBit_mod_two_pow, Nat.testBit_shiftRight, Nat.testBit_mod_two_pow, Nat.testBit_shiftRight]
  by_cases hb : b < 5
  · by_cases hj : j < 4
    · rw [if_pos hj, Nat.testBit_mod_two_pow, Nat.testBit_shiftRight, decide_eq_true hb, decide_eq_true (show 5 * j + b < 20 by omega), Bool.true_and, Bool.true_and, show 20 * k + (5 * j + b) = 5 * (4 * k + j) + b by omega, Bool.true_and]
    · rw [if_neg hj, decide_eq_false (show ¬ 5 * j + b < 20 by omega), Bool.false_and, Bool.and_false, Nat.zero_testBit]
  · rw [decide_eq_false hb, Bool.false_and]
    by_cases hj : j < 4
    · rw [if_pos hj, Nat.testBit_mod_two_pow, decide_eq_false hb, Bool.false_and]
    · rw [if_neg hj, Nat.zero_testBit]
theorem swp_M {x k q : Nat} {M : List (List Nat)} (hm : zk_ml M) (h : pkM x M) (hk : k < 3) (hq : q < 3) : pkM (swp x k q) (zk_sw M k q) := by
  intro a b ha hb
  have hd : ∀ j, pg ((x >>> (20 * k)) % 1048576 ^^^ (x >>> (20 * q)) % 1048576) j = if j < 4 then pg x (4 * k + j) ^^^ pg x (4 * q + j) else 0 := by
    intro j
    rw [pg_xor, pg_row, pg_row]
    by_cases hj : j < 4
    · rw [if_pos hj, if_pos hj, if_pos hj]
    · rw [if_neg hj, if_neg hj, if_neg hj]; rfl
  have hl : ∀ s, pg (((x >>> (20 * k)) % 1048576 ^^^ (x >>> (20 * q)) % 1048576) <<< (20 * s)) (4 * a + b) = if a = s then pg x (4 * k + b) ^^^ pg x (4 * q + b) else 0 := by
    intro s
    rw [show 20 * s = 5 * (4 * s) by omega]
    by_cases e : a = s
    · rw [if_pos e, pg_sl _ _ _ (by omega), hd, show 4 * a + b - 4 * s = b by omega, if_pos hb]
    · rw [if_neg e]
      by_cases e2 : 4 * s ≤ 4 * a + b
      · rw [pg_sl _ _ _ e2, hd, if_neg (by omega)]
      · rw [pg_sl0 _ _ _ (by omega)]
  show pg (x ^^^ (((x >>> (20 * k)) % 1048576 ^^^ (x >>> (20 * q)) % 1048576) <<< (20 * k) ^^^ ((x >>> (20 * k)) % 1048576 ^^^ (x >>> (20 * q)) % 1048576) <<< (20 * q))) (4 * a + b) = _
  rw [pg_xor, pg_xor, hl, hl, mg_sw hm hk hq, ← h k b hk hb, ← h q b hq hb, ← h a b ha hb]
  by_cases e1 : a = q
  · by_cases e2 : a = k
    · rw [if_pos e2, if_pos e1, if_pos e1, Nat.xor_self, Nat.xor_zero, e2]
    · rw [if_neg e2, if_pos e1, if_pos e1, Nat.zero_xor, e1, Nat.xor_comm (pg x (4 * k + b)), ← Nat.xor_assoc, Nat.xor_self, Nat.zero_xor]
  · by_cases e2 : a = k
    · rw [if_pos e2, if_neg e1, if_neg e1, if_pos e2, Nat.xor_zero, e2, ← Nat.xor_assoc, Nat.xor_self, Nat.zero_xor]
    · rw [if_neg e2, if_neg e1, if_neg e1, if_neg e2, Nat.xor_self, Nat.xor_zero]
noncomputable def eslp (G H v r : Nat) : Nat → Nat → (Nat → Nat) → (Nat → Nat) → Nat := Nat.rec (motive := fun _ => Nat → Nat → (Nat → Nat) → (Nat → Nat) → Nat) (fun _ x _ KT => KT x)
  (fun _ ih k x KF KT => fc (epp x k (Nat.sub v k) k) (fun e => bz (Nat.sub v e) (KF x) (fc (ecp G H k v (swp x k e)) (fun y => ih (Nat.succ k) y KF KT)))) r
theorem eslp_R {p v : Nat} (hv : v ≤ 3) {KF KT : Nat → Nat} {LF LT : List (List Nat) → List Nat} (hF : ∀ y N, zk_ml N → pkM y N → pkR (KF y) (LF N)) (hT : ∀ y N, zk_ml N → pkM y N → pkR (KT y) (LT N)) : ∀ (r k x : Nat) (M : List (List Nat)), k + r = v → zk_ml M → pkM x M → pkR (eslp (gmT p) (gdT p) v r k x KF KT) (if (esl p v r k M).1 = true then LT (esl p v r k M).2 else LF (esl p v r k M).2) := by
  intro r
  induction r with
  | zero => intro k x M _ hm h; exact hT x M hm h
  | succ r ih =>
    intro k x M hkr hm h
    have e : eslp (gmT p) (gdT p) v (r + 1) k x KF KT = fc (epp x k (v - k) k) (fun e => bz (v - e) (KF x) (fc (ecp (gmT p) (gdT p) k v (swp x k e)) (fun y => eslp (gmT p) (gdT p) v r (k + 1) y KF KT))) := rfl
    have hl := epv_le (M := M) (k := k) (v - k) k
    rw [e, fc_e, epp_e (by omega) h _ _ (by omega)]
    by_cases q : epv M k (v - k) k = v
    · rw [bz_p (by omega), esl_s0 q]; exact hF x M hm h
    · rw [bz_n (by omega), fc_e, esl_s1 q]
      have h2 := ecp_R (p := p) hv (show k < v by omega) (zk_ml_sw hm (show k < 3 by omega) (show epv M k (v - k) k < 3 by omega)) (swp_M hm h (show k < 3 by omega) (show epv M k (v - k) k < 3 by omega))
      exact ih (k + 1) _ _ (by omega) h2.1 h2.2
noncomputable def egp (v x : Nat) : Nat := itN (fun i c => st1 c (Nat.sub v i) (pg x (ml4 i v))) v 0 1
theorem itN_R {f : Nat → Nat → Nat} {f' : Nat → List Nat → List Nat} : ∀ (k i x : Nat) (c : List Nat), (∀ j y d, i ≤ j → j < i + k → d.length = 8 → pkR y d → (f' j d).length = 8 ∧ pkR (f j y) (f' j d)) → c.length = 8 → pkR x c → pkR (itN f k i x) (zk_it f' k i c) := by
  intro k
  induction k with
  | zero => intro i x c _ h1 h2; exact h2
  | succ k ih =>
    intro i x c hf h1 h2
    have h := hf i x c (Nat.le_refl _) (by omega) h1 h2
    have e : itN f (k + 1) i x = fc (f i x) (fun b => itN f k (i + 1) b) := rfl
    rw [e, fc_e, zk_it_s]
    exact ih (i + 1) _ _ (fun j y N q1 q2 => hf j y N (by omega) (by omega)) h.1 h.2
theorem egp_R {v x : Nat} {M : List (List Nat)} (hv : v ≤ 3) (h : pkM x M) : pkR (egp v x) (zk_it (egF v M) v 0 (([0, 0, 0, 0, 0, 0, 0, 0] : List Nat).set 0 1)) := by
  refine itN_R (f' := egF v M) v 0 1 _ (fun j y d h1 h2 ld hy => ⟨by unfold egF; rw [List.length_set]; exact ld, ?_⟩) rfl pkR_1
  intro i hi
  show pg (st1 y (v - j) (pg x (4 * j + v))) i = (d.set (v - j) (mg M j v)).getD i 0
  rw [st1_g (pg_lt _ _), zk_gs, h j v (by omega) (by omega), hy i hi]
  by_cases e : i = v - j
  · rw [if_pos e, if_pos (by omega)]
  · rw [if_neg e, if_neg (by omega)]
noncomputable def evp (G H S v : Nat) : Nat → Nat := Nat.rec (motive := fun _ => Nat → Nat) (fun _ => 1) (fun v ih x => fc (efp S (Nat.succ v) x) (fun y => eslp G H (Nat.succ v) (Nat.succ v) 0 y ih (egp (Nat.succ v)))) v
theorem evp_R {p S : Nat} {Sl : List Nat} (hS : pkR S Sl) : ∀ (v x : Nat) (M : List (List Nat)), v ≤ 3 → zk_ml M → pkM x M → pkR (evp (gmT p) (gdT p) S v x) (zk_it (egF (eqv p Sl v M).1 (eqv p Sl v M).2) (eqv p Sl v M).1 0 (([0, 0, 0, 0, 0, 0, 0, 0] : List Nat).set 0 1)) := by
  intro v
  induction v with
  | zero => intro x M _ _ _; exact pkR_1
  | succ v ih =>
    intro x M hv hm h
    have e : evp (gmT p) (gdT p) S (v + 1) x = fc (efp S (v + 1) x) (fun y => eslp (gmT p) (gdT p) (v + 1) (v + 1) 0 y (evp (gmT p) (gdT p) S v) (egp (v + 1))) := rfl
    have hf := efp_R hS hv hm h
    rw [e, fc_e]
    have hs := eslp_R (p := p) (v := v + 1) hv (KF := evp (gmT p) (gdT p) S v) (KT := egp (v + 1)) (LF := fun N => zk_it (egF (eqv p Sl v N).1 (eqv p Sl v N).2) (eqv p Sl v N).1 0 (([0, 0, 0, 0, 0, 0, 0, 0] : List Nat).set 0 1)) (LT := fun N => zk_it (egF (v + 1) N) (v + 1) 0 (([0, 0, 0, 0, 0, 0, 0, 0] : List Nat).set 0 1)) (fun y N n1 n2 => ih y N (by omega) n1 n2) (fun y N n1 n2 => egp_R hv n2) (v + 1) 0 _ _ (by omega) hf.1 hf.2
    by_cases q : (eqsolve p (v + 1) Sl M).1 = true
    · rw [eqv_s1 q]
      unfold eqsolve at q ⊢
      rw [if_pos q] at hs
      exact hs
    · rw [eqv_s0 q]
      unfold eqsolve at q ⊢
      rw [if_neg q] at hs
      exact hs
theorem eqP_R {p t S : Nat} {Sl : List Nat} (hS : pkR S Sl) (t3 : t ≤ 3) : pkR (evp (gmT p) (gdT p) S t 0) (equa p t Sl zk_z34) :=
  evp_R hS t 0 zk_z34 t3 zk_z34_ml (by
    intro i j hi hj
    rw [show pg 0 (4 * i + j) = 0 by rw [pg_d, Nat.zero_shiftRight]]
    exact (by decide : ∀ i, i < 3 → ∀ j, j < 4 → 0 = mg zk_z34 i j) i hi j hj)
