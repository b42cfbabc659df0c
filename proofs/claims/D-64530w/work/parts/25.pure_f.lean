/-! ===== PURE: Division ===== -/
set_option maxRecDepth 100000
theorem paF_getD (p by_ sh : Nat) (q : List Nat) : ∀ (k j : Nat) (c : List Nat) (i : Nat), i < c.length → (zk_it (paF p by_ sh q) k j c).getD i 0 = if j + sh ≤ i ∧ i < j + k + sh then c.getD i 0 ^^^ gm p (q.getD (i - sh) 0) by_ else c.getD i 0 := by
  intro k
  induction k with
  | zero =>
    intro j c i hi
    rw [zk_it_0, if_neg (by omega)]
  | succ k ih =>
    intro j c i hi
    rw [zk_it_s, ih (j + 1) _ i (by rw [paF, List.length_set]; exact hi), paF, zk_gs]
    by_cases e : j + sh = i
    · subst e
      rw [if_neg (by omega), if_pos ⟨rfl, hi⟩, if_pos (by omega), Nat.add_sub_cancel]
    · rw [if_neg (show ¬ (j + sh = i ∧ i < c.length) from fun h => e h.1)]
      by_cases h2 : j + 1 + sh ≤ i ∧ i < j + 1 + k + sh
      · rw [if_pos h2, if_pos (by omega)]
      · rw [if_neg h2, if_neg (by omega)]
theorem padd_getD {p by_ sh : Nat} {q c : List Nat} (hc : c.length = 8) (hsh : sh ≤ 8) {i : Nat} (hi : i < 8) : (padd p by_ sh q c).getD i 0 = if sh ≤ i then c.getD i 0 ^^^ gm p (q.getD (i - sh) 0) by_ else c.getD i 0 := by
  rw [padd, paF_getD _ _ _ _ _ _ _ _ (by omega)]
  by_cases h : sh ≤ i
  · rw [if_pos (by omega), if_pos h]
  · rw [if_neg (by omega), if_neg h]
theorem zk_gmd_all : ∀ q ∈ zk_pr, ∀ a, a < q.2 + 1 → ∀ b, b < q.2 + 1 → b ≠ 0 → gm q.1 b (gd q.1 a b) = a := by decide +kernel
theorem zk_dlt {d t : Nat} (hd : d ≤ 8) (ht : t < 100) : nI d + (-1) < nI t ↔ d ≤ t := by
  cases d with
  | zero =>
    refine ⟨fun _ => Nat.zero_le _, fun _ => ?_⟩
    have h1 : (nI 0 + (-1) : Int32) < 0 := by decide
    have h2 := nI_pos' (n := t) (by omega)
    exact Int32.lt_of_lt_of_le h1 h2
  | succ d => rw [pk_m1, nI_ltI (by omega) (by omega)]; omega
/-- the top coefficient goes -/
theorem dv_dec {p n d k : Nat} {P L xl xh : List Nat} (F : zk_F p n P L) (bl : zk_bd n xl) (bh : zk_bd n xh) (ll : xl.length = 8) (lh : xh.length = 8) (hd : dgn xl 8 = d + 1) (hk : dgn xh 8 = k + 1) (hdk : d ≤ k) : dgn (padd p (gd p (xh.getD k 0) (xl.getD d 0)) (k - d) xl xh) 8 ≤ k := by
  have hk8 := dgn_le xh 8
  have t0 : xl.getD d 0 ≠ 0 := by
    have := dgn_top (c := xl) (j := 8) (by omega)
    rwa [hd, Nat.add_sub_cancel] at this
  have hg := F.gdl (bh k) (bl d) t0
  refine dgn_of (by omega) (fun i h1 h2 => ?_)
  rw [padd_getD lh (by omega) h2, if_pos (by omega)]
  rcases Nat.lt_or_ge k i with q | q
  · rw [dgn_above (c := xh) (j := 8) (i := i) (by omega) h2, dgn_above (c := xl) (j := 8) (i := i - (k - d)) (by omega) (by omega), ← F.gm0l rfl hg]
    rfl
  · have e : i = k := by omega
    subst e
    rw [show i - (i - d) = d by omega, zk_gmd_all _ F.1 _ (Nat.lt_succ_of_le (bh i)) _ (Nat.lt_succ_of_le (bl d)) t0, Nat.xor_self]
/-- Division.divide's loop: high and before -/
noncomputable def dvl (p d tp : Nat) (xl xn : List Nat) (f : Nat) (xh xb : List Nat) : List Nat × List Nat := Nat.rec (motive := fun _ => List Nat → List Nat → List Nat × List Nat) (fun xh xb => (xh, xb)) (fun _ ih xh xb => if dgn xh 8 ≤ d then (xh, xb) else ih (padd p (gd p (xh.getD (dgn xh 8 - 1) 0) tp) (dgn xh 8 - 1 - d) xl xh) (padd p (gd p (xh.getD (dgn xh 8 - 1) 0) tp) (dgn xh 8 - 1 - d) xn xb)) f xh xb
theorem dvl_e {p d tp f : Nat} {xl xn xh xb : List Nat} (h : dgn xh 8 ≤ d) : dvl p d tp xl xn f xh xb = (xh, xb) := by
  cases f with
  | zero => rfl
  | succ f => show (if dgn xh 8 ≤ d then _ else _) = _; rw [if_pos h]
theorem dvl_s {p d tp f k : Nat} {xl xn xh xb : List Nat} (hk : dgn xh 8 = k + 1) (h : d ≤ k) : dvl p d tp xl xn (f + 1) xh xb = dvl p d tp xl xn f (padd p (gd p (xh.getD k 0) tp) (k - d) xl xh) (padd p (gd p (xh.getD k 0) tp) (k - d) xn xb) := by
  show (if dgn xh 8 ≤ d then _ else dvl p d tp xl xn f (padd p (gd p (xh.getD (dgn xh 8 - 1) 0) tp) (dgn xh 8 - 1 - d) xl xh) (padd p (gd p (xh.getD (dgn xh 8 - 1) 0) tp) (dgn xh 8 - 1 - d) xn xb)) = _
  rw [if_neg (by omega), hk, Nat.add_sub_cancel]
/-- Division.find's loop: the polynomial 'now' at its end -/
noncomputable def dvs (p t f : Nat) (xh xl xb xn : List Nat) : List Nat := Nat.rec (motive := fun _ => List Nat → List Nat → List Nat → List Nat → List Nat) (fun _ _ _ xn => xn) (fun _ ih xh xl xb xn => if dgn xl 8 ≤ t then xn else ih xl (dvl p (dgn xl 8 - 1) (xl.getD (dgn xl 8 - 1) 0) xl xn 8 xh xb).1 xn (dvl p (dgn xl 8 - 1) (xl.getD (dgn xl 8 - 1) 0) xl xn 8 xh xb).2) f xh xl xb xn
theorem dvs_e {p t f : Nat} {xh xl xb xn : List Nat} (h : dgn xl 8 ≤ t) : dvs p t f xh xl xb xn = xn := by
  cases f with
  | zero => rfl
  | succ f => show (if dgn xl 8 ≤ t then _ else _) = _; rw [if_pos h]
theorem dvs_s {p t f d : Nat} {xh xl xb xn : List Nat} (hd : dgn xl 8 = d + 1) (h : t ≤ d) : dvs p t (f + 1) xh xl xb xn = dvs p t f xl (dvl p d (xl.getD d 0) xl xn 8 xh xb).1 xn (dvl p d (xl.getD d 0) xl xn 8 xh xb).2 := by
  show (if dgn xl 8 ≤ t then _ else dvs p t f xl (dvl p (dgn xl 8 - 1) (xl.getD (dgn xl 8 - 1) 0) xl xn 8 xh xb).1 xn (dvl p (dgn xl 8 - 1) (xl.getD (dgn xl 8 - 1) 0) xl xn 8 xh xb).2) = _
  rw [if_neg (by omega), hd, Nat.add_sub_cancel]
def dlF (S : List Nat) (j : Nat) (c : List Nat) : List Nat := c.set (j - 1) (S.getD j 0)
noncomputable def dlow (S : List Nat) (t : Nat) : List Nat := zk_it (dlF S) (2 * t) 1 [0, 0, 0, 0, 0, 0, 0, 0]
noncomputable def dnow (p t : Nat) (S : List Nat) : List Nat := dvs p t 8 (([0, 0, 0, 0, 0, 0, 0, 0] : List Nat).set (2 * t) 1) (dlow S t) [0, 0, 0, 0, 0, 0, 0, 0] (([0, 0, 0, 0, 0, 0, 0, 0] : List Nat).set 0 1)
/-- Division.find -/
noncomputable def divi (p t : Nat) (S : List Nat) : List Nat := if (dnow p t S).getD 0 0 = 0 then [0, 0, 0, 0, 0, 0, 0, 0] else padd p (gd p 1 ((dnow p t S).getD 0 0)) 0 (dnow p t S) [0, 0, 0, 0, 0, 0, 0, 0]
