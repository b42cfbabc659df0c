/-! ===== all patterns of one, two, three errors: the three ways find them ===== -/
set_option maxRecDepth 100000
noncomputable def al (f : Nat → Bool) (k : Nat) : Bool := Nat.rec (motive := fun _ => Bool) true (fun k ih => Bool.rec (motive := fun _ => Bool) false ih (f k)) k
theorem al_s {f : Nat → Bool} : ∀ (k : Nat), al f k = true → ∀ i, i < k → f i = true := by
  intro k
  induction k with
  | zero => intro _ i h; exact absurd h (Nat.not_lt_zero i)
  | succ k ih =>
    intro h i hi
    have e : al f (k + 1) = Bool.rec (motive := fun _ => Bool) false (al f k) (f k) := rfl
    rw [e] at h
    cases hf : f k with
    | false => rw [hf] at h; cases h
    | true =>
      rw [hf] at h
      by_cases q : i = k
      · rw [q]; exact hf
      · exact ih h i (by omega)
noncomputable def bn (a b : Bool) : Bool := Bool.rec (motive := fun _ => Bool) false b a
theorem bn_s {a b : Bool} (h : bn a b = true) : a = true ∧ b = true := by
  cases a with
  | false => cases h
  | true => exact ⟨rfl, h⟩
noncomputable def sam (a b : Nat) : Bool := bz (Nat.xor a b) true false
theorem sam_s {a b : Nat} (h : sam a b = true) : a = b := by
  by_cases q : a ^^^ b = 0
  · apply Nat.eq_of_testBit_eq
    intro i
    have h1 : (a ^^^ b).testBit i = false := by rw [q, Nat.zero_testBit]
    rw [Nat.testBit_xor] at h1
    cases ha : a.testBit i <;> cases hb : b.testBit i <;> rw [ha, hb] at h1 <;> first | rfl | cases h1
  · have e : sam a b = false := bz_n q true false
    rw [e] at h; cases h
/-- the syndromes of one place -/
def cl (P n a : Nat) : Nat := Nat.xor (Nat.shiftLeft (pg P (Nat.mod (Nat.mul a 1) n)) 5) (Nat.xor (Nat.shiftLeft (pg P (Nat.mod (Nat.mul a 2) n)) 10) (Nat.xor (Nat.shiftLeft (pg P (Nat.mod (Nat.mul a 3) n)) 15) (Nat.xor (Nat.shiftLeft (pg P (Nat.mod (Nat.mul a 4) n)) 20) (Nat.xor (Nat.shiftLeft (pg P (Nat.mod (Nat.mul a 5) n)) 25) (Nat.shiftLeft (pg P (Nat.mod (Nat.mul a 6) n)) 30)))))
theorem cl_d (P n a : Nat) : cl P n a = pg P (a * 1 % n) <<< (5 * 1) ^^^ (pg P (a * 2 % n) <<< (5 * 2) ^^^ (pg P (a * 3 % n) <<< (5 * 3) ^^^ (pg P (a * 4 % n) <<< (5 * 4) ^^^ (pg P (a * 5 % n) <<< (5 * 5) ^^^ pg P (a * 6 % n) <<< (5 * 6))))) := rfl
theorem cl_g (p n a j : Nat) (h1 : 1 ≤ j) (h6 : j ≤ 6) : pg (cl (pwT p) n a) j = pw p (a * j % n) := by
  rw [cl_d, show pw p (a * j % n) = pg (pwT p) (a * j % n) from rfl]
  simp only [pg_xor, pg_lane (pg_lt (pwT p) _)]
  rcases (show j = 1 ∨ j = 2 ∨ j = 3 ∨ j = 4 ∨ j = 5 ∨ j = 6 by omega) with rfl | rfl | rfl | rfl | rfl | rfl <;> simp
theorem cl_0 (p n a : Nat) : pg (cl (pwT p) n a) 0 = 0 := by
  rw [cl_d]
  simp only [pg_xor, pg_lane (pg_lt (pwT p) _)]
  simp
theorem pg_maskm (y m i : Nat) : pg (y % 2 ^ (5 * m)) i = if i < m then pg y i else 0 := by
  rw [pg_d, pg_d]
  apply Nat.eq_of_testBit_eq
  intro b
  rw [show (32 : Nat) = 2 ^ 5 from rfl, Nat.testBit_mod_two_pow, Nat.testBit_shiftRight, Nat.testBit_mod_two_pow]
  by_cases hb : b < 5
  · by_cases hi : i < m
    · rw [if_pos hi, Nat.testBit_mod_two_pow, Nat.testBit_shiftRight, decide_eq_true (show 5 * i + b < 5 * m by omega), Bool.true_and]
    · rw [if_neg hi, decide_eq_false (show ¬ 5 * i + b < 5 * m by omega), Bool.false_and, Bool.and_false, Nat.zero_testBit]
  · rw [decide_eq_false hb, Bool.false_and]
    by_cases hi : i < m
    · rw [if_pos hi, Nat.testBit_mod_two_pow, decide_eq_false hb, Bool.false_and]
    · rw [if_neg hi, Nat.zero_testBit]
theorem syn_pk {p n t wd X : Nat} (t3 : t ≤ 3) (h0 : pg X 0 = 0) (h : ∀ j, 1 ≤ j → j ≤ 2 * t → atv p n wd j = pg X j) : pkR (X % 2 ^ (5 * (2 * t + 1))) (syn p n t wd zk_z7) := by
  intro i hi
  rw [pg_maskm, syn_g rfl t3]
  by_cases q : 1 ≤ i ∧ i < 1 + 2 * t
  · rw [if_pos (by omega), if_pos q, h i (by omega) (by omega)]
  · rw [if_neg q]
    have hz : zk_z7.getD i 0 = 0 := (by decide : ∀ i, i < 8 → zk_z7.getD i 0 = 0) i hi
    rw [hz]
    by_cases e : i = 0
    · rw [e, if_pos (by omega), h0]
    · rw [if_neg (by omega)]
/-- the three ways answer L -/
noncomputable def ckt (G H t X L : Nat) : Bool := fc (Nat.mod X (Nat.pow 2 (Nat.mul 5 (Nat.succ (Nat.mul 2 t))))) (fun S => bn (sam (gwP G H S t) L) (bn (sam (dvP G H S t) L) (sam (evp G H S t 0) L)))
theorem ckt_s {p n t wd X L : Nat} (t3 : t ≤ 3) (hc : ckt (gmT p) (gdT p) t X L = true) (h0 : pg X 0 = 0) (h : ∀ j, 1 ≤ j → j ≤ 2 * t → atv p n wd j = pg X j) : ∀ w, pkR L (loc w p n t wd) := by
  unfold ckt at hc
  rw [fc_e] at hc
  have e : Nat.mod X (Nat.pow 2 (Nat.mul 5 (Nat.succ (Nat.mul 2 t)))) = X % 2 ^ (5 * (2 * t + 1)) := rfl
  rw [e] at hc
  have hS := syn_pk (n := n) t3 h0 h
  obtain ⟨h1, h2⟩ := bn_s hc
  obtain ⟨h2, h3⟩ := bn_s h2
  have g1 := gwP_R (p := p) hS t3
  have g2 := dvP_R (p := p) hS t3 (Nat.lt_of_lt_of_le (Nat.mod_lt _ (Nat.two_pow_pos _)) (Nat.pow_le_pow_right (by decide) (by omega))) (fun i q1 q2 => by rw [syn_g rfl t3, if_neg (by omega)]; exact (by decide : ∀ i, i < 8 → zk_z7.getD i 0 = 0) i q2)
  have g3 := eqP_R (p := p) hS t3
  rw [sam_s h1] at g1
  rw [sam_s h2] at g2
  rw [sam_s h3] at g3
  intro w
  unfold loc
  by_cases q : w = 0
  · rw [if_pos q]; exact g3
  · rw [if_neg q]
    by_cases q1 : w = 1
    · rw [if_pos q1]; exact g2
    · rw [if_neg q1]; exact g1
/-- the places where L is 0 -/
noncomputable def trm (P n c l i y : Nat) : Nat := bz c 0 (pg P (Nat.mod (Nat.add l (Nat.mul i y)) n))
noncomputable def ersp (P Lg n L : Nat) : Nat := fc (pg L 0) (fun c0 => fc (pg L 1) (fun c1 => fc (pg L 2) (fun c2 => fc (pg L 3) (fun c3 => fc (pg Lg c0) (fun l0 => fc (pg Lg c1) (fun l1 => fc (pg Lg c2) (fun l2 => fc (pg Lg c3) (fun l3 =>
  itN (fun i e => fc (Nat.mod (Nat.sub n i) n) (fun y => Nat.lor e (bz (Nat.xor (Nat.xor (Nat.xor (trm P n c0 l0 0 y) (trm P n c1 l1 1 y)) (trm P n c2 l2 2 y)) (trm P n c3 l3 3 y)) (Nat.shiftLeft 1 i) 0))) n 0 0))))))))
theorem itN_e (f : Nat → Nat → Nat) : ∀ (k i a : Nat), itN f k i a = zk_it f k i a := by
  intro k
  induction k with
  | zero => intro i a; rfl
  | succ k ih =>
    intro i a
    have e : itN f (k + 1) i a = fc (f i a) (fun b => itN f k (i + 1) b) := rfl
    rw [e, fc_e, zk_it_s, ih]
theorem pval_4 {p n y L : Nat} {c : List Nat} (h : pkR L c) (hL : L >>> 20 = 0) : pval p n y c = trm (pwT p) n (pg L 0) (pg (lgT p) (pg L 0)) 0 y ^^^ trm (pwT p) n (pg L 1) (pg (lgT p) (pg L 1)) 1 y ^^^ trm (pwT p) n (pg L 2) (pg (lgT p) (pg L 2)) 2 y ^^^ trm (pwT p) n (pg L 3) (pg (lgT p) (pg L 3)) 3 y := by
  have hz : ∀ i, 4 ≤ i → i < 8 → c.getD i 0 = 0 := by
    intro i h1 h2
    rw [← h i h2, pg_d, show 5 * i = 20 + (5 * i - 20) by omega, Nat.shiftRight_add, hL, Nat.zero_shiftRight]
  have ht : ∀ i, i < 4 → ∀ s, vaF p n y c i s = s ^^^ trm (pwT p) n (pg L i) (pg (lgT p) (pg L i)) i y := by
    intro i hi s
    unfold vaF trm
    rw [h i (by omega)]
    by_cases q : c.getD i 0 = 0
    · rw [if_pos q, bz_p q]
    · rw [if_neg q, bz_n q]; rfl
  have h0 : ∀ i, 4 ≤ i → i < 8 → ∀ s, vaF p n y c i s = s := by
    intro i h1 h2 s
    unfold vaF
    rw [if_pos (hz i h1 h2), Nat.xor_zero]
  have e : pval p n y c = vaF p n y c 7 (vaF p n y c 6 (vaF p n y c 5 (vaF p n y c 4 (vaF p n y c 3 (vaF p n y c 2 (vaF p n y c 1 (vaF p n y c 0 0))))))) := rfl
  rw [e, h0 7 (by decide) (by decide), h0 6 (by decide) (by decide), h0 5 (by decide) (by decide), h0 4 (by decide) (by decide), ht 3 (by decide), ht 2 (by decide), ht 1 (by decide), ht 0 (by decide), Nat.zero_xor]
theorem ersp_e {p n L : Nat} {c : List Nat} (h : pkR L c) (hL : L >>> 20 = 0) : ersp (pwT p) (lgT p) n L = ers p n c := by
  unfold ersp
  simp only [fc_e]
  rw [itN_e]
  refine zk_it_congr _ _ _ (fun i e h1 h2 => ?_)
  unfold erF
  rw [pval_4 h hL]
  show e ||| bz (trm (pwT p) n (pg L 0) (pg (lgT p) (pg L 0)) 0 ((n - i) % n) ^^^ trm (pwT p) n (pg L 1) (pg (lgT p) (pg L 1)) 1 ((n - i) % n) ^^^ trm (pwT p) n (pg L 2) (pg (lgT p) (pg L 2)) 2 ((n - i) % n) ^^^ trm (pwT p) n (pg L 3) (pg (lgT p) (pg L 3)) 3 ((n - i) % n)) (1 <<< i) 0 = _
  generalize trm (pwT p) n (pg L 0) (pg (lgT p) (pg L 0)) 0 ((n - i) % n) ^^^ trm (pwT p) n (pg L 1) (pg (lgT p) (pg L 1)) 1 ((n - i) % n) ^^^ trm (pwT p) n (pg L 2) (pg (lgT p) (pg L 2)) 2 ((n - i) % n) ^^^ trm (pwT p) n (pg L 3) (pg (lgT p) (pg L 3)) 3 ((n - i) % n) = v
  by_cases q : v = 0
  · rw [bz_p q, if_pos q]
  · rw [bz_n q, if_neg q]
noncomputable def rt (P Lg n L e : Nat) : Bool := bz (Nat.shiftRight L 20) (sam (ersp P Lg n L) e) false
theorem rt_s {p n L e : Nat} {c : List Nat} (h : pkR L c) (hr : rt (pwT p) (lgT p) n L e = true) : ers p n c = e := by
  by_cases q : L >>> 20 = 0
  · have e1 : rt (pwT p) (lgT p) n L e = sam (ersp (pwT p) (lgT p) n L) e := bz_p q _ _
    rw [e1] at hr
    rw [← ersp_e h q]; exact sam_s hr
  · have e1 : rt (pwT p) (lgT p) n L e = false := bz_n q _ _
    rw [e1] at hr; cases hr
/-- all of them -/
noncomputable def ck3 (G H P Lg n Xb s1 s2 eb c : Nat) : Bool := fc (Nat.xor Xb (cl P n c)) (fun X => fc (pg P c) (fun x => fc (Nat.xor 1 (Nat.xor (Nat.shiftLeft (Nat.xor s1 x) 5) (Nat.xor (Nat.shiftLeft (Nat.xor s2 (gx G s1 x)) 10) (Nat.shiftLeft (gx G s2 x) 15)))) (fun L => bn (ckt G H 3 X L) (rt P Lg n L (Nat.xor eb (Nat.shiftLeft 1 c))))))
noncomputable def ck2 (G H P Lg n Xa xa ea b : Nat) : Bool := fc (Nat.xor Xa (cl P n b)) (fun X => fc (pg P b) (fun x => fc (Nat.xor xa x) (fun s1 => fc (gx G xa x) (fun s2 => fc (Nat.xor 1 (Nat.xor (Nat.shiftLeft s1 5) (Nat.shiftLeft s2 10))) (fun L => fc (Nat.xor ea (Nat.shiftLeft 1 b)) (fun eb => bn (ckt G H 2 X L) (bn (ckt G H 3 X L) (bn (rt P Lg n L eb) (al (ck3 G H P Lg n X s1 s2 eb) b)))))))))
noncomputable def ck1 (G H P Lg n a : Nat) : Bool := fc (cl P n a) (fun X => fc (pg P a) (fun x => fc (Nat.xor 1 (Nat.shiftLeft x 5)) (fun L => fc (Nat.shiftLeft 1 a) (fun ea => bn (ckt G H 1 X L) (bn (ckt G H 2 X L) (bn (ckt G H 3 X L) (bn (rt P Lg n L ea) (al (ck2 G H P Lg n X x ea) a))))))))
noncomputable def chk (p n : Nat) : Bool := fc (gmT p) (fun G => fc (gdT p) (fun H => fc (pwT p) (fun P => fc (lgT p) (fun Lg => al (ck1 G H P Lg n) n))))
/-- what it gives: t errors' patterns are found -/
def fnd (p n t X e : Nat) : Prop := ∀ wd w, (∀ j, 1 ≤ j → j ≤ 2 * t → atv p n wd j = pg X j) → ers p n (loc w p n t wd) = e
theorem fnd_i {p n t X L e : Nat} (t3 : t ≤ 3) (h0 : pg X 0 = 0) (hc : ckt (gmT p) (gdT p) t X L = true) (hr : rt (pwT p) (lgT p) n L e = true) : fnd p n t X e := fun _ w h => rt_s (ckt_s t3 hc h0 h w) hr
theorem chk_s {p n : Nat} (h : chk p n = true) : ∀ a, a < n → (∀ t, 1 ≤ t → t ≤ 3 → fnd p n t (cl (pwT p) n a) (1 <<< a)) ∧ ∀ b, b < a → (∀ t, 2 ≤ t → t ≤ 3 → fnd p n t (cl (pwT p) n a ^^^ cl (pwT p) n b) (1 <<< a ^^^ 1 <<< b)) ∧ ∀ c, c < b → fnd p n 3 (cl (pwT p) n a ^^^ cl (pwT p) n b ^^^ cl (pwT p) n c) (1 <<< a ^^^ 1 <<< b ^^^ 1 <<< c) := by
  intro a ha
  unfold chk at h
  simp only [fc_e] at h
  have h1 := al_s _ h a ha
  unfold ck1 at h1
  simp only [fc_e] at h1
  obtain ⟨k1, h1⟩ := bn_s h1
  obtain ⟨k2, h1⟩ := bn_s h1
  obtain ⟨k3, h1⟩ := bn_s h1
  obtain ⟨k4, h1⟩ := bn_s h1
  refine ⟨fun t t1 t3 => ?_, fun b hb => ?_⟩
  · rcases (show t = 1 ∨ t = 2 ∨ t = 3 by omega) with rfl | rfl | rfl
    · exact fnd_i t3 (cl_0 p n a) k1 k4
    · exact fnd_i t3 (cl_0 p n a) k2 k4
    · exact fnd_i t3 (cl_0 p n a) k3 k4
  · have h2 := al_s _ h1 b hb
    unfold ck2 at h2
    simp only [fc_e] at h2
    obtain ⟨q2, h2⟩ := bn_s h2
    obtain ⟨q3, h2⟩ := bn_s h2
    obtain ⟨q4, h2⟩ := bn_s h2
    have z2 : pg (cl (pwT p) n a ^^^ cl (pwT p) n b) 0 = 0 := by rw [pg_xor, cl_0, cl_0]; rfl
    refine ⟨fun t t2 t3 => ?_, fun c hc => ?_⟩
    · rcases (show t = 2 ∨ t = 3 by omega) with rfl | rfl
      · exact fnd_i t3 z2 q2 q4
      · exact fnd_i t3 z2 q3 q4
    · have h3 := al_s _ h2 c hc
      unfold ck3 at h3
      simp only [fc_e] at h3
      obtain ⟨r1, r2⟩ := bn_s h3
      exact fnd_i (Nat.le_refl _) (by rw [pg_xor, z2, cl_0]; rfl) r1 r2
