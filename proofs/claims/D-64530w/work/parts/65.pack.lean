/-! ===== eight coefficients in one number (lanes of 5 bits): the ways, for the kernel ===== -/
set_option maxRecDepth 100000
noncomputable def bz {α : Type} (x : Nat) (a b : α) : α := Nat.rec (motive := fun _ => α) a (fun _ _ => b) x
theorem bz_p {α : Type} {x : Nat} (h : x = 0) (a b : α) : bz x a b = a := by subst h; rfl
theorem bz_n {α : Type} {x : Nat} (h : x ≠ 0) (a b : α) : bz x a b = b := by cases x with
  | zero => exact absurd rfl h
  | succ x => rfl
noncomputable def fc {α : Type} (x : Nat) (k : Nat → α) : α := Nat.rec (motive := fun _ => α) (k 0) (fun n _ => k (Nat.succ n)) x
theorem fc_e {α : Type} (x : Nat) (k : Nat → α) : fc x k = k x := by cases x <;> rfl
def pg (x i : Nat) : Nat := Nat.mod (Nat.shiftRight x (Nat.mul 5 i)) 32
theorem pg_d (x i : Nat) : pg x i = (x >>> (5 * i)) % 32 := rfl
def gx (G a b : Nat) : Nat := Nat.mod (Nat.shiftRight G (Nat.mul 5 (Nat.add (Nat.mul 32 a) b))) 32
theorem gx_gm (p a b : Nat) : gx (gmT p) a b = gm p a b := rfl
theorem gx_gd (p a b : Nat) : gx (gdT p) a b = gd p a b := rfl
theorem gx_lt (G a b : Nat) : gx G a b < 32 := Nat.mod_lt _ (by decide)
theorem pg_lt (x i : Nat) : pg x i < 32 := Nat.mod_lt _ (by decide)
theorem pg_xor (a b i : Nat) : pg (a ^^^ b) i = pg a i ^^^ pg b i := by
  rw [pg_d, pg_d, pg_d, Nat.shiftRight_xor_distrib, show (32 : Nat) = 2 ^ 5 from rfl, Nat.xor_mod_two_pow]
theorem pg_sl (y s i : Nat) (h : s ≤ i) : pg (y <<< (5 * s)) i = pg y (i - s) := by
  rw [pg_d, pg_d, show 5 * i = 5 * s + 5 * (i - s) by omega, Nat.shiftRight_add, Nat.shiftLeft_shiftRight]
theorem pg_sl0 (y s i : Nat) (h : i < s) : pg (y <<< (5 * s)) i = 0 := by
  rw [pg_d, show 5 * s = (5 * (s - i - 1) + 5) + 5 * i by omega, Nat.shiftLeft_add, Nat.shiftLeft_shiftRight, Nat.shiftLeft_add, Nat.shiftLeft_eq _ 5, show (2 : Nat) ^ 5 = 32 from rfl, Nat.mul_mod_left]
theorem pg_small {v i : Nat} (hv : v < 32) : pg v i = if i = 0 then v else 0 := by
  rw [pg_d]
  by_cases h : i = 0
  · rw [if_pos h, h]; exact Nat.mod_eq_of_lt hv
  · rw [if_neg h, show 5 * i = 5 + 5 * (i - 1) by omega, Nat.shiftRight_add, Nat.shiftRight_eq_div_pow v 5, Nat.div_eq_of_lt (by exact hv), Nat.zero_shiftRight]
theorem pg_lane {v j i : Nat} (hv : v < 32) : pg (v <<< (5 * j)) i = if i = j then v else 0 := by
  by_cases h : j ≤ i
  · rw [pg_sl _ _ _ h, pg_small hv]
    by_cases e : i = j
    · rw [if_pos e, if_pos (by omega)]
    · rw [if_neg e, if_neg (by omega)]
  · rw [pg_sl0 _ _ _ (by omega), if_neg (by omega)]
theorem pg_mask (y i : Nat) (h : i < 8) : pg (y % 2 ^ 40) i = pg y i := by
  rw [pg_d, pg_d]
  apply Nat.eq_of_testBit_eq
  intro b
  rw [show (32 : Nat) = 2 ^ 5 from rfl, Nat.testBit_mod_two_pow, Nat.testBit_mod_two_pow, Nat.testBit_shiftRight, Nat.testBit_shiftRight, Nat.testBit_mod_two_pow]
  by_cases hb : b < 5
  · rw [decide_eq_true (show 5 * i + b < 40 by omega), Bool.true_and]
  · rw [decide_eq_false hb, Bool.false_and, Bool.false_and]
/-- the list's picture -/
def pkR (x : Nat) (c : List Nat) : Prop := ∀ i, i < 8 → pg x i = c.getD i 0
/-- a scalar multiple -/
def sm (G b x : Nat) : Nat := Nat.xor (gx G (pg x 0) b) (Nat.xor (Nat.shiftLeft (gx G (pg x 1) b) 5) (Nat.xor (Nat.shiftLeft (gx G (pg x 2) b) 10) (Nat.xor (Nat.shiftLeft (gx G (pg x 3) b) 15) (Nat.xor (Nat.shiftLeft (gx G (pg x 4) b) 20) (Nat.xor (Nat.shiftLeft (gx G (pg x 5) b) 25) (Nat.xor (Nat.shiftLeft (gx G (pg x 6) b) 30) (Nat.shiftLeft (gx G (pg x 7) b) 35)))))))
theorem sm_d (G b x : Nat) : sm G b x = gx G (pg x 0) b <<< (5 * 0) ^^^ (gx G (pg x 1) b <<< (5 * 1) ^^^ (gx G (pg x 2) b <<< (5 * 2) ^^^ (gx G (pg x 3) b <<< (5 * 3) ^^^ (gx G (pg x 4) b <<< (5 * 4) ^^^ (gx G (pg x 5) b <<< (5 * 5) ^^^ (gx G (pg x 6) b <<< (5 * 6) ^^^ gx G (pg x 7) b <<< (5 * 7))))))) := rfl
theorem sm_g (G b x i : Nat) (h : i < 8) : pg (sm G b x) i = gx G (pg x i) b := by
  rw [sm_d]
  simp only [pg_xor, pg_lane (gx_lt G _ b)]
  rcases (show i = 0 ∨ i = 1 ∨ i = 2 ∨ i = 3 ∨ i = 4 ∨ i = 5 ∨ i = 6 ∨ i = 7 by omega) with rfl | rfl | rfl | rfl | rfl | rfl | rfl | rfl <;> simp
/-- q times b, shifted, is added to c -/
def pa (G b sh q c : Nat) : Nat := Nat.xor c (Nat.mod (Nat.shiftLeft (sm G b q) (Nat.mul 5 sh)) 1099511627776)
theorem pa_g (G b sh q c i : Nat) (h : i < 8) : pg (pa G b sh q c) i = if sh ≤ i then pg c i ^^^ gx G (pg q (i - sh)) b else pg c i := by
  show pg (c ^^^ ((sm G b q <<< (5 * sh)) % 2 ^ 40)) i = _
  rw [pg_xor, pg_mask _ _ h]
  by_cases e : sh ≤ i
  · rw [if_pos e, pg_sl _ _ _ e, sm_g _ _ _ _ (by omega)]
  · rw [if_neg e, pg_sl0 _ _ _ (by omega), Nat.xor_zero]
theorem pa_R {p b sh x y : Nat} {q c : List Nat} (hc : c.length = 8) (hq : pkR x q) (hR : pkR y c) (hs : sh ≤ 8) : pkR (pa (gmT p) b sh x y) (padd p b sh q c) := by
  intro i hi
  rw [pa_g _ _ _ _ _ _ hi, padd_getD hc hs hi, hR i hi]
  by_cases e : sh ≤ i
  · rw [if_pos e, if_pos e, hq _ (by omega), gx_gm]
  · rw [if_neg e, if_neg e]
/-! Growing -/
def dcF (G S c k i w : Nat) : Nat := Nat.xor w (gx G (pg c i) (pg S (Nat.sub (Nat.succ k) i)))
noncomputable def dc (G S c k len : Nat) : Nat := zk_it (dcF G S c k) (Nat.succ len) 0 0
noncomputable def gwp (G H S f : Nat) : Nat → Nat → Nat → Nat → Nat → Nat → Nat := Nat.rec (motive := fun _ => Nat → Nat → Nat → Nat → Nat → Nat → Nat) (fun _ c _ _ _ _ => c)
  (fun _ ih k c o len sh la => fc (dc G S c k len) (fun w => bz w (ih (Nat.succ k) c o len (Nat.succ sh) la)
    (fc (pa G (gx H w la) sh o c) (fun c1 => bz (Nat.sub (Nat.mul 2 len) k) (ih (Nat.succ k) c1 c (Nat.sub (Nat.succ k) len) 1 w) (ih (Nat.succ k) c1 o len (Nat.succ sh) la))))) f
theorem dc_e {p S x k len : Nat} {Sl c : List Nat} (hS : pkR S Sl) (hc : pkR x c) (hk : k < 7) (hl : len ≤ k) : dc (gmT p) S x k len = grw p Sl c k len := by
  refine zk_it_congr _ _ _ (fun i w h1 h2 => ?_)
  show w ^^^ gx (gmT p) (pg x i) (pg S (k + 1 - i)) = w ^^^ gm p (c.getD i 0) (Sl.getD (k + 1 - i) 0)
  rw [hc i (by omega), hS (k + 1 - i) (by omega), gx_gm]
theorem gwp_R {p S : Nat} {Sl : List Nat} (hS : pkR S Sl) : ∀ (f k x y len sh la : Nat) (c o : List Nat), k + f ≤ 7 → len ≤ k → sh ≤ k + 1 → c.length = 8 → o.length = 8 → pkR x c → pkR y o → pkR (gwp (gmT p) (gdT p) S f k x y len sh la) (zk_it (grF p Sl) f k (c, o, len, sh, la)).1 := by
  intro f
  induction f with
  | zero => intro k x y len sh la c o _ _ _ _ _ hx _; exact hx
  | succ f ih =>
    intro k x y len sh la c o hf hl hs lc lo hx hy
    have hw := dc_e (p := p) hS hx (show k < 7 by omega) hl
    have e : gwp (gmT p) (gdT p) S (f + 1) k x y len sh la = fc (dc (gmT p) S x k len) (fun w => bz w (gwp (gmT p) (gdT p) S f (k + 1) x y len (sh + 1) la) (fc (pa (gmT p) (gx (gdT p) w la) sh y x) (fun c1 => bz (2 * len - k) (gwp (gmT p) (gdT p) S f (k + 1) c1 x (k + 1 - len) 1 w) (gwp (gmT p) (gdT p) S f (k + 1) c1 y len (sh + 1) la)))) := rfl
    rw [e, fc_e, fc_e, hw, zk_it_s]
    by_cases q1 : grw p Sl c k len = 0
    · rw [bz_p q1, ← grF_0 q1]
      exact ih (k + 1) x y len (sh + 1) la c o (by omega) (by omega) (by omega) lc lo hx hy
    · rw [bz_n q1]
      have hp := pa_R (p := p) (b := gd p (grw p Sl c k len) la) (sh := sh) lc hy hx (by omega)
      by_cases q2 : 2 * len ≤ k
      · rw [bz_p (by omega), ← grF_1 q1 q2]
        exact ih (k + 1) _ x (k + 1 - len) 1 _ _ c (by omega) (by omega) (by omega) (by rw [padd_len]; exact lc) lc hp hx
      · rw [bz_n (by omega), ← grF_2 q1 q2]
        exact ih (k + 1) _ y len (sh + 1) la _ o (by omega) (by omega) (by omega) (by rw [padd_len]; exact lc) lo hp hy
noncomputable def gwP (G H S t : Nat) : Nat := gwp G H S (Nat.mul 2 t) 0 1 1 0 1 1
theorem pkR_1 : pkR 1 [1, 0, 0, 0, 0, 0, 0, 0] := by unfold pkR; decide
theorem gwP_R {p t S : Nat} {Sl : List Nat} (hS : pkR S Sl) (t3 : t ≤ 3) : pkR (gwP (gmT p) (gdT p) S t) (grow p t Sl) :=
  gwp_R hS (2 * t) 0 1 1 0 1 1 _ _ (by omega) (Nat.le_refl _) (by omega) rfl rfl pkR_1 pkR_1
