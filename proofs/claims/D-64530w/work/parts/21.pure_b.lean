/-! ===== PURE: Field.at, Field.make, degreeOf ===== -/
set_option maxRecDepth 100000
theorem zk_b1 (x : Nat) : x &&& 1 < 2 := by rw [show (1 : Nat) = 2 ^ 1 - 1 from rfl, Nat.and_two_pow_sub_one_eq_mod]; exact Nat.mod_lt _ (by decide)
theorem zk_lt32 {x : Nat} (h : x < 2) : x < 2 ^ 32 := by omega
/-- a round of Field.at -/
def atF (p n wd x i s : Nat) : Nat := s ^^^ (if wd >>> i &&& 1 = 0 then 0 else pw p (i * x % n))
theorem atF_0 {p n wd x i s : Nat} (h : wd >>> i &&& 1 = 0) : s ^^^ 0 = atF p n wd x i s := by rw [atF, if_pos h]
theorem atF_1 {p n wd x i s : Nat} {P L : List Nat} (F : zk_F p n P L) (hn : 0 < n) (h : wd >>> i &&& 1 ≠ 0) : s ^^^ P.getD (i * x % n) 0 = atF p n wd x i s := by
  rw [atF, if_neg h, F.P (by have := Nat.mod_lt (i * x) hn; omega)]
/-- Field.at -/
noncomputable def atv (p n wd x : Nat) : Nat := zk_it (atF p n wd x) n 0 0
