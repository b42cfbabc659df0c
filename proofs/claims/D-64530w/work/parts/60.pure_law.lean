/-! ===== PURE LAWS: ones, the encoded word, the syndrome, put ===== -/
set_option maxRecDepth 100000
/-! bitCount is the number of ones -/
def pp : Nat → Nat → Nat
  | 0, _ => 0
  | k + 1, x => x % 2 + pp k (x / 2)
theorem zk_and1 (x : Nat) : x &&& 1 = x % 2 := by rw [show (1 : Nat) = 2 ^ 1 - 1 from rfl, Nat.and_two_pow_sub_one_eq_mod]
theorem on_pp (x : Nat) : ∀ (k i s : Nat), zk_it (onF x) k i s = s + pp k (x >>> i) := by
  intro k
  induction k with
  | zero => intro i s; rfl
  | succ k ih =>
    intro i s
    rw [zk_it_s, ih, onF, zk_and1]
    show _ = s + (x >>> i % 2 + pp k (x >>> i / 2))
    rw [show x >>> (i + 1) = x >>> i / 2 by rw [Nat.shiftRight_succ]]
    omega
theorem pp_add (k : Nat) : ∀ (j x : Nat), pp (j + k) x = pp j x + pp k (x / 2 ^ j) := by
  intro j
  induction j with
  | zero => intro x; simp [pp]
  | succ j ih =>
    intro x
    rw [show j + 1 + k = (j + k) + 1 by omega]
    show x % 2 + pp (j + k) (x / 2) = x % 2 + pp j (x / 2) + _
    rw [ih, Nat.div_div_eq_div_mul, show 2 * 2 ^ j = 2 ^ (j + 1) by rw [Nat.pow_succ]; omega]
    omega
theorem pp_8 (a y : Nat) : pp 8 (a + 256 * y) = pp 8 a := by
  have h : ∀ x, pp 8 x = x % 2 + (x / 2 % 2 + (x / 4 % 2 + (x / 8 % 2 + (x / 16 % 2 + (x / 32 % 2 + (x / 64 % 2 + x / 128 % 2)))))) := by
    intro x
    simp only [pp, Nat.div_div_eq_div_mul, Nat.add_zero]
  rw [h, h]
  have e0 : (a + 256 * y) % 2 = a % 2 := by omega
  have e1 : (a + 256 * y) / 2 % 2 = a / 2 % 2 := by omega
  have e2 : (a + 256 * y) / 4 % 2 = a / 4 % 2 := by omega
  have e3 : (a + 256 * y) / 8 % 2 = a / 8 % 2 := by omega
  have e4 : (a + 256 * y) / 16 % 2 = a / 16 % 2 := by omega
  have e5 : (a + 256 * y) / 32 % 2 = a / 32 % 2 := by omega
  have e6 : (a + 256 * y) / 64 % 2 = a / 64 % 2 := by omega
  have e7 : (a + 256 * y) / 128 % 2 = a / 128 % 2 := by omega
  rw [e0, e1, e2, e3, e4, e5, e6, e7]
theorem zk_and256 (a y m M : Nat) (ha : a < 256) (hm : m < 256) : (a + 256 * y) &&& (m + 256 * M) = (a &&& m) + 256 * (y &&& M) := by
  have h1 := Nat.and_mod_two_pow (a := a + 256 * y) (b := m + 256 * M) (n := 8)
  have h2 := Nat.and_div_two_pow (a := a + 256 * y) (b := m + 256 * M) (n := 8)
  have e1 : (a + 256 * y) % 2 ^ 8 = a := by omega
  have e2 : (m + 256 * M) % 2 ^ 8 = m := by omega
  have e3 : (a + 256 * y) / 2 ^ 8 = y := by omega
  have e4 : (m + 256 * M) / 2 ^ 8 = M := by omega
  rw [e1, e2] at h1
  rw [e3, e4] at h2
  have h3 := Nat.div_add_mod ((a + 256 * y) &&& (m + 256 * M)) (2 ^ 8)
  omega
def b1 (a : Nat) : Nat := a - (a / 2 &&& 85)
def b2 (a : Nat) : Nat := (a &&& 51) + (a / 4 &&& 51)
def b3 (a : Nat) : Nat := (a + a / 16) &&& 15
theorem b1_m : ∀ e, e < 2 → ∀ a, a < 256 → (a / 2 + 128 * e) &&& 85 = a / 2 &&& 85 := by decide +kernel
theorem b2_m : ∀ e, e < 4 → ∀ a, a < 256 → (a / 4 + 64 * e) &&& 51 = a / 4 &&& 51 := by decide +kernel
theorem b_all : ∀ a, a < 256 → b1 a < 256 ∧ b2 (b1 a) ≤ 68 ∧ b2 (b1 a) % 16 ≤ 4 ∧ b3 (b2 (b1 a)) = pp 8 a ∧ pp 8 a ≤ 8 := by decide +kernel
theorem s1 (M a y : Nat) (ha : a < 256) : (a + 256 * y) - ((a + 256 * y) >>> 1 &&& (85 + 256 * M)) = b1 a + 256 * (y - (y >>> 1 &&& M)) := by
  have e : (a + 256 * y) >>> 1 = (a / 2 + 128 * (y % 2)) + 256 * (y >>> 1) := by rw [Nat.shiftRight_eq_div_pow, Nat.shiftRight_eq_div_pow]; omega
  rw [e, zk_and256 _ _ _ _ (by omega) (by decide), b1_m (y % 2) (by omega) a ha]
  have h1 : (a / 2 &&& 85) ≤ a / 2 := Nat.and_le_left
  have h2 : (y >>> 1 &&& M) ≤ y >>> 1 := Nat.and_le_left
  have h3 : y >>> 1 ≤ y := zk_shle y 1
  unfold b1
  omega
theorem s2 (M a y : Nat) (ha : a < 256) : ((a + 256 * y) &&& (51 + 256 * M)) + ((a + 256 * y) >>> 2 &&& (51 + 256 * M)) = b2 a + 256 * ((y &&& M) + (y >>> 2 &&& M)) := by
  have e : (a + 256 * y) >>> 2 = (a / 4 + 64 * (y % 4)) + 256 * (y >>> 2) := by rw [Nat.shiftRight_eq_div_pow, Nat.shiftRight_eq_div_pow]; omega
  rw [e, zk_and256 _ _ _ _ ha (by decide), zk_and256 _ _ _ _ (by omega) (by decide), b2_m (y % 4) (by omega) a ha]
  unfold b2
  omega
theorem s3 (M a y : Nat) (ha : a ≤ 68) (hy : y % 16 ≤ 4) : (((a + 256 * y) + (a + 256 * y) >>> 4) &&& (15 + 256 * M)) = b3 a + 256 * ((y + y >>> 4) &&& M) := by
  have e : (a + 256 * y) + (a + 256 * y) >>> 4 = (a + a / 16 + 16 * (y % 16)) + 256 * (y + y >>> 4) := by rw [Nat.shiftRight_eq_div_pow, Nat.shiftRight_eq_div_pow]; omega
  rw [e, zk_and256 _ _ _ _ (by omega) (by decide)]
  have e2 : (a + a / 16 + 16 * (y % 16)) &&& 15 = (a + a / 16) &&& 15 := by
    rw [show (15 : Nat) = 2 ^ 4 - 1 from rfl, Nat.and_two_pow_sub_one_eq_mod, Nat.and_two_pow_sub_one_eq_mod]
    omega
  rw [e2]
  rfl
theorem s4 {A B C D : Nat} (hA : A ≤ 8) (hB : B ≤ 8) (hC : C ≤ 8) (hD : D ≤ 8) : (bc5 (bc4 (A + 256 * (B + 256 * (C + 256 * D)))) &&& 63) = A + B + C + D := by
  have e1 : bc4 (A + 256 * (B + 256 * (C + 256 * D))) = (A + B) + 256 * (B + C) + 65536 * (C + D) + 16777216 * D := by
    unfold bc4
    rw [Nat.shiftRight_eq_div_pow]
    omega
  have e2 : bc5 ((A + B) + 256 * (B + C) + 65536 * (C + D) + 16777216 * D) = (A + B + C + D) + 64 * (4 * (B + C) + 4 * D + 1024 * (C + D) + 262144 * D) := by
    unfold bc5
    rw [Nat.shiftRight_eq_div_pow]
    omega
  rw [e1, e2, show (63 : Nat) = 2 ^ 6 - 1 from rfl, Nat.and_two_pow_sub_one_eq_mod]
  omega
theorem pp_top {k x : Nat} (h : x < 2 ^ k) : pp (k + 1) x = pp k x := by
  rw [pp_add 1 k, Nat.div_eq_of_lt h]
  show _ + (0 % 2 + 0) = _
  omega
theorem bct_one {x : Nat} (h : x < 2 ^ 31) : bct x = one x := by
  obtain ⟨a, b, c, d, ha, hb, hc, hd, rfl⟩ : ∃ a b c d, a < 256 ∧ b < 256 ∧ c < 256 ∧ d < 256 ∧ x = a + 256 * (b + 256 * (c + 256 * d)) :=
    ⟨x % 256, x / 256 % 256, x / 65536 % 256, x / 16777216, by omega, by omega, by omega, by omega, by omega⟩
  obtain ⟨a1, a2, a3, a4, a5⟩ := b_all a ha
  obtain ⟨b1', b2', b3', b4', b5'⟩ := b_all b hb
  obtain ⟨c1, c2, c3, c4, c5⟩ := b_all c hc
  obtain ⟨d1, d2, d3, d4, d5⟩ := b_all d hd
  have f1 : bc1 (a + 256 * (b + 256 * (c + 256 * d))) = b1 a + 256 * (b1 b + 256 * (b1 c + 256 * b1 d)) := by
    unfold bc1
    rw [show (1431655765 : Nat) = 85 + 256 * (85 + 256 * (85 + 256 * 85)) from rfl, s1 _ _ _ ha, s1 _ _ _ hb, s1 _ _ _ hc]
    rw [show d - (d >>> 1 &&& 85) = b1 d by unfold b1; rw [Nat.shiftRight_eq_div_pow]]
  have f2 : bc2 (b1 a + 256 * (b1 b + 256 * (b1 c + 256 * b1 d))) = b2 (b1 a) + 256 * (b2 (b1 b) + 256 * (b2 (b1 c) + 256 * b2 (b1 d))) := by
    unfold bc2
    rw [show (858993459 : Nat) = 51 + 256 * (51 + 256 * (51 + 256 * 51)) from rfl, s2 _ _ _ a1, s2 _ _ _ b1', s2 _ _ _ c1]
    rw [show (b1 d &&& 51) + (b1 d >>> 2 &&& 51) = b2 (b1 d) by unfold b2; rw [Nat.shiftRight_eq_div_pow]]
  have f3 : bc3 (b2 (b1 a) + 256 * (b2 (b1 b) + 256 * (b2 (b1 c) + 256 * b2 (b1 d)))) = pp 8 a + 256 * (pp 8 b + 256 * (pp 8 c + 256 * pp 8 d)) := by
    unfold bc3
    rw [show (252645135 : Nat) = 15 + 256 * (15 + 256 * (15 + 256 * 15)) from rfl, s3 _ _ _ a2 (by omega), s3 _ _ _ b2' (by omega), s3 _ _ _ c2 (by omega)]
    rw [show (b2 (b1 d) + b2 (b1 d) >>> 4) &&& 15 = b3 (b2 (b1 d)) by unfold b3; rw [Nat.shiftRight_eq_div_pow], a4, b4', c4, d4]
  have f4 : bct (a + 256 * (b + 256 * (c + 256 * d))) = pp 8 a + pp 8 b + pp 8 c + pp 8 d := by
    unfold bct
    rw [f1, f2, f3]
    exact s4 a5 b5' c5 d5
  have g1 : one (a + 256 * (b + 256 * (c + 256 * d))) = pp 31 (a + 256 * (b + 256 * (c + 256 * d))) := by
    unfold one
    rw [on_pp, Nat.shiftRight_zero, Nat.zero_add]
  have g3 : pp (8 + (8 + (8 + 8))) (a + 256 * (b + 256 * (c + 256 * d))) = pp 8 a + (pp 8 b + (pp 8 c + pp 8 d)) := by
    rw [pp_add, pp_8, show (a + 256 * (b + 256 * (c + 256 * d))) / 2 ^ 8 = b + 256 * (c + 256 * d) by omega, pp_add, pp_8, show (b + 256 * (c + 256 * d)) / 2 ^ 8 = c + 256 * d by omega, pp_add, pp_8, show (c + 256 * d) / 2 ^ 8 = d by omega]
  have g4 : 31 + 1 = 8 + (8 + (8 + 8)) := rfl
  rw [f4, g1, ← pp_top h, g4, g3]
  omega
/-! the syndrome -/
theorem atv_sof (p n wd j : Nat) : sof p n wd j = atv p n wd j := by
  refine zk_it_congr _ _ _ (fun i s _ _ => ?_)
  unfold soF atF
  have h := zk_b1 (wd >>> i)
  by_cases q : wd >>> i &&& 1 = 1
  · rw [if_pos q, if_neg (by omega)]
  · rw [if_neg q, if_pos (by omega), Nat.xor_zero]
/-! put -/
theorem zk_ff (i : Nat) : (4294967295 : Nat).testBit i = decide (i < 32) := by
  rw [show (4294967295 : Nat) = 2 ^ 32 - 1 from rfl, Nat.testBit_two_pow_sub_one]
theorem zk_1b (j i : Nat) : (1 <<< j).testBit i = decide (i = j) := by
  rw [Nat.shiftLeft_eq, Nat.one_mul, Nat.testBit_two_pow]
  by_cases h : i = j
  · subst h; simp
  · simp [h, Ne.symm h]
theorem put_eq {m j b : Nat} (hm : m < 2 ^ 31) (hj : j < 31) (hb : b ≤ 1) : puto m j b = putw m j b := by
  unfold puto putw
  by_cases q : b = 1
  · rw [if_pos q, if_neg (by omega)]
    apply Nat.eq_of_testBit_eq
    intro i
    rw [Nat.testBit_or, Nat.testBit_or, Nat.testBit_and, Nat.testBit_xor, zk_1b, zk_ff]
    by_cases h : i = j
    · subst h; simp
    · by_cases h2 : i < 32
      · simp [h, h2]
      · rw [Nat.testBit_lt_two_pow (Nat.lt_of_lt_of_le hm (Nat.pow_le_pow_right (by decide) (by omega)))]; simp [h]
  · rw [if_neg q, if_pos (by omega), Nat.or_zero]
theorem putw_lt {m j b k : Nat} (hm : m < 2 ^ k) (hj : j < k) : putw m j b < 2 ^ k := by
  unfold putw
  refine Nat.or_lt_two_pow (Nat.lt_of_le_of_lt Nat.and_le_left hm) ?_
  split
  · exact Nat.two_pow_pos _
  · rw [Nat.shiftLeft_eq, Nat.one_mul]; exact Nat.pow_lt_pow_right (by decide) hj
/-! the remainder is linear; encoding -/
theorem rm_lin (R : Nat → Nat) (a b : Nat) : ∀ (k i s s' : Nat), zk_it (rmF R (a ^^^ b)) k i (s ^^^ s') = zk_it (rmF R a) k i s ^^^ zk_it (rmF R b) k i s' := by
  intro k
  induction k with
  | zero => intro i s s'; rfl
  | succ k ih =>
    intro i s s'
    rw [zk_it_s, zk_it_s, zk_it_s, ← ih]
    congr 1
    unfold rmF
    have e : (a ^^^ b) >>> i &&& 1 = (a >>> i &&& 1) ^^^ (b >>> i &&& 1) := by rw [Nat.shiftRight_xor_distrib, Nat.and_xor_distrib_right]
    have h1 := zk_b1 (a >>> i)
    have h2 := zk_b1 (b >>> i)
    rw [e]
    have c1 : a >>> i &&& 1 = 0 ∨ a >>> i &&& 1 = 1 := by omega
    have c2 : b >>> i &&& 1 = 0 ∨ b >>> i &&& 1 = 1 := by omega
    rcases c1 with q1 | q1 <;> rcases c2 with q2 | q2 <;> rw [q1, q2]
    · simp
    · simp [Nat.xor_assoc]
    · simp [Nat.xor_assoc, Nat.xor_comm s' (R i)]
    · have : s ^^^ R i ^^^ (s' ^^^ R i) = s ^^^ s' := by
        rw [Nat.xor_assoc, ← Nat.xor_assoc (R i) s' (R i), Nat.xor_comm (R i) s', Nat.xor_assoc s' (R i) (R i), Nat.xor_self, Nat.xor_zero]
      simp [this]
theorem rmd_xor (R : Nat → Nat) (n a b : Nat) : rmd R n (a ^^^ b) = rmd R n a ^^^ rmd R n b := rm_lin R a b n 0 0 0
theorem rm_hi (R : Nat → Nat) {d r : Nat} (hr : r < 2 ^ d) : ∀ (k i s : Nat), d ≤ i → zk_it (rmF R r) k i s = s := by
  intro k
  induction k with
  | zero => intro i s _; rfl
  | succ k ih =>
    intro i s h
    have e : r >>> i &&& 1 = 0 := by
      rw [Nat.shiftRight_eq_div_pow, Nat.div_eq_of_lt (Nat.lt_of_lt_of_le hr (Nat.pow_le_pow_right (by decide) h))]; rfl
    rw [zk_it_s, rmF, e, if_neg (by decide), ih _ _ (by omega)]
theorem rm_lo (R : Nat → Nat) {d r : Nat} (hR : ∀ i, i < d → R i = 2 ^ i) : ∀ (k i s : Nat), i + k ≤ d → s = r % 2 ^ i → zk_it (rmF R r) k i s = r % 2 ^ (i + k) := by
  intro k
  induction k with
  | zero => intro i s _ h; exact h
  | succ k ih =>
    intro i s h hs
    rw [zk_it_s, show i + (k + 1) = (i + 1) + k by omega]
    refine ih _ _ (by omega) ?_
    unfold rmF
    rw [hR i (by omega), hs]
    apply Nat.eq_of_testBit_eq
    intro j
    rw [Nat.testBit_mod_two_pow]
    by_cases q : r >>> i &&& 1 = 1
    · rw [if_pos q, Nat.testBit_xor, Nat.testBit_mod_two_pow, Nat.testBit_two_pow]
      have h1 : r.testBit i = true := (zk_tb r i).mp (by omega)
      by_cases e : i = j
      · subst e; simp [h1]
      · by_cases e2 : j < i
        · simp [e, e2, show j < i + 1 by omega]
        · simp [e, e2, show ¬ j < i + 1 by omega]
    · rw [if_neg q, Nat.testBit_mod_two_pow]
      have h1 : r.testBit i = false := by
        cases hh : r.testBit i with
        | false => rfl
        | true => exact absurd ((zk_tb r i).mpr hh) (by have := zk_b1 (r >>> i); omega)
      by_cases e : i = j
      · subst e; simp [h1]
      · by_cases e2 : j < i
        · simp [e2, show j < i + 1 by omega]
        · simp [e2, show ¬ j < i + 1 by omega]
theorem rmd_small {R : Nat → Nat} {d n r : Nat} (hR : ∀ i, i < d → R i = 2 ^ i) (hd : d ≤ n) (hr : r < 2 ^ d) : rmd R n r = r := by
  have key : ∀ (a b i s : Nat), zk_it (rmF R r) (a + b) i s = zk_it (rmF R r) b (i + a) (zk_it (rmF R r) a i s) := by
    intro a
    induction a with
    | zero => intro b i s; rw [Nat.zero_add]; rfl
    | succ a ih => intro b i s; rw [show a + 1 + b = (a + b) + 1 by omega, zk_it_s, ih, zk_it_s, show i + 1 + a = i + (a + 1) by omega]
  unfold rmd
  rw [show n = d + (n - d) by omega, key, rm_lo R hR d 0 0 (by omega) (by simp [Nat.mod_one]), rm_hi R hr _ _ _ (by omega), Nat.zero_add, Nat.mod_eq_of_lt hr]
theorem rst_lo : ∀ q ∈ zk_pr, ∀ t, t < 4 → 1 ≤ t → (∀ i, i < lgn q.1 q.2 t → rst (gnr q.1 q.2 t) (lgn q.1 q.2 t) i = 2 ^ i) ∧ (∀ s, s < q.2 - lgn q.1 q.2 t → rmd (rst (gnr q.1 q.2 t) (lgn q.1 q.2 t)) q.2 (gnr q.1 q.2 t <<< s) = 0) ∧ gnr q.1 q.2 t < 2 ^ (lgn q.1 q.2 t + 1) ∧ (gnr q.1 q.2 t).testBit (lgn q.1 q.2 t) = true := by decide +kernel
theorem enR_rmd {R : Nat → Nat} {g d n : Nat} (hg : g < 2 ^ (d + 1)) (hb : g.testBit d = true) (h0 : ∀ s, s < n - d → rmd R n (g <<< s) = 0) : ∀ k r, d + k ≤ n → r < 2 ^ (d + k) → rmd R n (enR g d k r) = rmd R n r := by
  intro k
  induction k with
  | zero => intro r _ _; rfl
  | succ k ih =>
    intro r h1 h2
    rw [enR_s, ih _ (by omega) (enF_lt h2 (by omega) hg hb)]
    unfold enF
    split
    · rw [Nat.xor_zero]
    · rw [rmd_xor, show d + k - d = k by omega, h0 k (by omega), Nat.xor_zero]
theorem enc_eno {p n t x : Nat} (hpn : (p, n) ∈ zk_pr) (t1 : 1 ≤ t) (t3 : t ≤ 3) (hx : x < 2 ^ (n - lgn p n t)) : eno (rst (gnr p n t) (lgn p n t)) n (lgn p n t) x = enc (gnr p n t) (lgn p n t) n x := by
  obtain ⟨h1, h2, h3, h4⟩ := rst_lo _ hpn t (by omega) t1
  obtain ⟨-, h5, -, -, -⟩ := rsv_ok _ hpn t (by omega) t1
  dsimp only at h1 h2 h3 h4 h5
  have hb : x <<< lgn p n t < 2 ^ (lgn p n t + (n - lgn p n t)) := zk_shl_lt hx
  unfold eno enc
  congr 1
  have e1 := enR_rmd h3 h4 h2 (n - lgn p n t) (x <<< lgn p n t) (by omega) hb
  have e2 := enR_lt h3 h4 (n - lgn p n t) (x <<< lgn p n t) hb
  rw [← e1, rmd_small h1 (by omega) e2]
